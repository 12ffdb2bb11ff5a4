/-! the law's own entry -/
set_option maxRecDepth 100000
abbrev cL_law : ByteArray := code
def dkwL_law_113 : List UInt8 := [4, 172]
abbrev dktL_law_113 : List UInt8 := dkwL_law_113 ++ []
def dkwL_law_112 : List UInt8 := [154, 0, 15, 45, 3, 47, 21, 7, 133, 148, 153, 0, 5, 3, 172, 167, 0, 3, 132, 5, 4, 167, 245, 8]
abbrev dktL_law_112 : List UInt8 := dkwL_law_112 ++ dktL_law_113
def dkwL_law_111 : List UInt8 := [184, 1, 84, 54, 6, 44, 182, 1, 86, 54, 7, 44, 182, 0, 168, 21, 6, 159, 0, 5, 3, 172, 21, 6]
abbrev dktL_law_111 : List UInt8 := dkwL_law_111 ++ dktL_law_112
def dkwL_law_110 : List UInt8 := [153, 0, 5, 3, 172, 167, 0, 60, 43, 182, 1, 80, 44, 182, 1, 83, 159, 0, 49, 3, 172, 43, 45]
abbrev dktL_law_110 : List UInt8 := dkwL_law_110 ++ dktL_law_111
def dkwL_law_109 : List UInt8 := [182, 0, 168, 21, 6, 159, 0, 5, 3, 172, 21, 6, 154, 0, 15, 45, 3, 47, 21, 7, 133, 148]
abbrev dktL_law_109 : List UInt8 := dkwL_law_109 ++ dktL_law_110
def dkwL_law_108 : List UInt8 := [153, 0, 5, 3, 172, 167, 0, 104, 43, 45, 184, 1, 77, 54, 6, 44, 182, 1, 79, 54, 7, 44]
abbrev dktL_law_108 : List UInt8 := dkwL_law_108 ++ dktL_law_109
def dkwL_law_107 : List UInt8 := [182, 0, 168, 21, 6, 159, 0, 5, 3, 172, 21, 6, 154, 0, 15, 45, 3, 47, 21, 7, 133, 148]
abbrev dktL_law_107 : List UInt8 := dkwL_law_107 ++ dktL_law_108
def dkwL_law_106 : List UInt8 := [148, 153, 0, 5, 3, 172, 167, 0, 148, 43, 45, 184, 1, 74, 54, 6, 44, 182, 1, 76, 54, 7, 44]
abbrev dktL_law_106 : List UInt8 := dkwL_law_106 ++ dktL_law_107
def dkwL_law_105 : List UInt8 := [54, 7, 44, 182, 0, 168, 21, 6, 159, 0, 5, 3, 172, 21, 6, 154, 0, 15, 45, 3, 47, 21, 7, 133]
abbrev dktL_law_105 : List UInt8 := dkwL_law_105 ++ dktL_law_106
def dkwL_law_104 : List UInt8 := [21, 7, 133, 148, 153, 0, 5, 3, 172, 167, 0, 192, 43, 45, 184, 1, 71, 54, 6, 44, 182, 1, 73]
abbrev dktL_law_104 : List UInt8 := dkwL_law_104 ++ dktL_law_105
def dkwL_law_103 : List UInt8 := [182, 1, 70, 54, 7, 44, 182, 0, 168, 21, 6, 159, 0, 5, 3, 172, 21, 6, 154, 0, 15, 45, 3, 47]
abbrev dktL_law_103 : List UInt8 := dkwL_law_103 ++ dktL_law_104
def dkwL_law_102 : List UInt8 := [172, 43, 42, 21, 5, 4, 96, 46, 146, 45, 184, 1, 68, 54, 6, 44, 42, 21, 5, 4, 96, 46, 146]
abbrev dktL_law_102 : List UInt8 := dkwL_law_102 ++ dktL_law_103
def dkwL_law_101 : List UInt8 := [21, 7, 133, 148, 153, 0, 5, 3, 172, 167, 1, 7, 43, 182, 1, 63, 44, 182, 1, 67, 159, 0, 252, 3]
abbrev dktL_law_101 : List UInt8 := dkwL_law_101 ++ dktL_law_102
def dkwL_law_100 : List UInt8 := [182, 1, 62, 54, 7, 44, 182, 0, 168, 21, 6, 159, 0, 5, 3, 172, 21, 6, 154, 0, 15, 45, 3, 47]
abbrev dktL_law_100 : List UInt8 := dkwL_law_100 ++ dktL_law_101
def dkwL_law_99 : List UInt8 := [167, 1, 63, 43, 42, 21, 5, 4, 96, 46, 45, 184, 1, 60, 54, 6, 44, 42, 21, 5, 4, 96, 46]
abbrev dktL_law_99 : List UInt8 := dkwL_law_99 ++ dktL_law_100
def dkwL_law_98 : List UInt8 := [21, 6, 159, 0, 5, 3, 172, 21, 6, 154, 0, 15, 45, 3, 47, 21, 7, 133, 148, 153, 0, 5, 3, 172]
abbrev dktL_law_98 : List UInt8 := dkwL_law_98 ++ dktL_law_99
def dkwL_law_97 : List UInt8 := [46, 45, 184, 1, 57, 54, 6, 44, 42, 21, 5, 4, 96, 46, 182, 1, 59, 54, 7, 44, 182, 0, 168]
abbrev dktL_law_97 : List UInt8 := dkwL_law_97 ++ dktL_law_98
def dkwL_law_96 : List UInt8 := [154, 0, 15, 45, 3, 47, 21, 7, 133, 148, 153, 0, 5, 3, 172, 167, 1, 119, 43, 42, 21, 5, 4, 96]
abbrev dktL_law_96 : List UInt8 := dkwL_law_96 ++ dktL_law_97
def dkwL_law_95 : List UInt8 := [21, 5, 4, 96, 46, 146, 182, 1, 56, 54, 7, 44, 182, 0, 168, 21, 6, 159, 0, 5, 3, 172, 21, 6]
abbrev dktL_law_95 : List UInt8 := dkwL_law_95 ++ dktL_law_96
def dkwL_law_94 : List UInt8 := [153, 0, 5, 3, 172, 167, 1, 177, 43, 42, 21, 5, 4, 96, 46, 146, 45, 184, 1, 54, 54, 6, 44, 42]
abbrev dktL_law_94 : List UInt8 := dkwL_law_94 ++ dktL_law_95
def dkwL_law_93 : List UInt8 := [182, 0, 168, 21, 6, 159, 0, 5, 3, 172, 21, 6, 154, 0, 15, 45, 3, 47, 21, 7, 133, 148]
abbrev dktL_law_93 : List UInt8 := dkwL_law_93 ++ dktL_law_94
def dkwL_law_92 : List UInt8 := [148, 153, 0, 5, 3, 172, 167, 1, 221, 43, 45, 184, 1, 51, 54, 6, 44, 182, 1, 53, 54, 7, 44]
abbrev dktL_law_92 : List UInt8 := dkwL_law_92 ++ dktL_law_93
def dkwL_law_91 : List UInt8 := [54, 7, 44, 182, 0, 168, 21, 6, 159, 0, 5, 3, 172, 21, 6, 154, 0, 15, 45, 3, 47, 21, 7, 133]
abbrev dktL_law_91 : List UInt8 := dkwL_law_91 ++ dktL_law_92
def dkwL_law_90 : List UInt8 := [21, 7, 133, 148, 153, 0, 5, 3, 172, 167, 2, 9, 43, 45, 184, 1, 48, 54, 6, 44, 182, 1, 50]
abbrev dktL_law_90 : List UInt8 := dkwL_law_90 ++ dktL_law_91
def dkwL_law_89 : List UInt8 := [182, 1, 47, 54, 7, 44, 182, 0, 168, 21, 6, 159, 0, 5, 3, 172, 21, 6, 154, 0, 15, 45, 3, 47]
abbrev dktL_law_89 : List UInt8 := dkwL_law_89 ++ dktL_law_90
def dkwL_law_88 : List UInt8 := [153, 0, 11, 23, 7, 23, 7, 149, 154, 0, 5, 3, 172, 167, 2, 53, 43, 45, 184, 1, 45, 54, 6, 44]
abbrev dktL_law_88 : List UInt8 := dkwL_law_88 ++ dktL_law_89
def dkwL_law_87 : List UInt8 := [154, 0, 36, 25, 4, 3, 49, 23, 7, 141, 151, 153, 0, 25, 25, 4, 3, 49, 25, 4, 3, 49, 151]
abbrev dktL_law_87 : List UInt8 := dkwL_law_87 ++ dktL_law_88
def dkwL_law_86 : List UInt8 := [184, 1, 42, 54, 6, 44, 182, 1, 44, 56, 7, 44, 182, 0, 168, 21, 6, 159, 0, 5, 3, 172, 21, 6]
abbrev dktL_law_86 : List UInt8 := dkwL_law_86 ++ dktL_law_87
def dkwL_law_85 : List UInt8 := [25, 4, 3, 49, 151, 153, 0, 11, 24, 7, 24, 7, 151, 154, 0, 5, 3, 172, 167, 2, 119, 43, 25, 4]
abbrev dktL_law_85 : List UInt8 := dkwL_law_85 ++ dktL_law_86
def dkwL_law_84 : List UInt8 := [159, 0, 5, 3, 172, 21, 6, 154, 0, 35, 25, 4, 3, 49, 24, 7, 151, 153, 0, 25, 25, 4, 3, 49]
abbrev dktL_law_84 : List UInt8 := dkwL_law_84 ++ dktL_law_85
def dkwL_law_83 : List UInt8 := [3, 172, 43, 25, 4, 184, 1, 38, 54, 6, 44, 182, 1, 41, 57, 7, 44, 182, 0, 168, 21, 6]
abbrev dktL_law_83 : List UInt8 := dkwL_law_83 ++ dktL_law_84
def dkwL_law_82 : List UInt8 := [182, 1, 29, 44, 182, 1, 32, 159, 2, 200, 3, 172, 43, 182, 1, 33, 44, 182, 1, 37, 148, 153, 2, 186]
abbrev dktL_law_82 : List UInt8 := dkwL_law_82 ++ dktL_law_83
def dkwL_law_81 : List UInt8 := [182, 1, 24, 159, 2, 226, 3, 172, 43, 182, 1, 25, 44, 182, 1, 28, 159, 2, 213, 3, 172, 43]
abbrev dktL_law_81 : List UInt8 := dkwL_law_81 ++ dktL_law_82
def dkwL_law_80 : List UInt8 := [154, 0, 15, 45, 3, 47, 21, 7, 133, 148, 153, 0, 5, 3, 172, 167, 2, 237, 43, 182, 1, 21, 44]
abbrev dktL_law_80 : List UInt8 := dkwL_law_80 ++ dktL_law_81
def dkwL_law_79 : List UInt8 := [42, 21, 5, 5, 96, 46, 182, 1, 20, 54, 7, 44, 182, 0, 168, 21, 6, 159, 0, 5, 3, 172, 21, 6]
abbrev dktL_law_79 : List UInt8 := dkwL_law_79 ++ dktL_law_80
def dkwL_law_78 : List UInt8 := [21, 5, 4, 96, 46, 42, 21, 5, 5, 96, 46, 45, 184, 1, 17, 54, 6, 44, 42, 21, 5, 4, 96, 46]
abbrev dktL_law_78 : List UInt8 := dkwL_law_78 ++ dktL_law_79
def dkwL_law_77 : List UInt8 := [172, 21, 6, 154, 0, 15, 45, 3, 47, 21, 7, 133, 148, 153, 0, 5, 3, 172, 167, 3, 49, 43, 42]
abbrev dktL_law_77 : List UInt8 := dkwL_law_77 ++ dktL_law_78
def dkwL_law_76 : List UInt8 := [54, 6, 44, 42, 21, 5, 4, 96, 46, 182, 1, 16, 54, 7, 44, 182, 0, 168, 21, 6, 159, 0, 5, 3]
abbrev dktL_law_76 : List UInt8 := dkwL_law_76 ++ dktL_law_77
def dkwL_law_75 : List UInt8 := [21, 7, 133, 148, 153, 0, 5, 3, 172, 167, 3, 105, 43, 42, 21, 5, 4, 96, 46, 45, 184, 1, 14]
abbrev dktL_law_75 : List UInt8 := dkwL_law_75 ++ dktL_law_76
def dkwL_law_74 : List UInt8 := [182, 1, 13, 54, 7, 44, 182, 0, 168, 21, 6, 159, 0, 5, 3, 172, 21, 6, 154, 0, 15, 45, 3, 47]
abbrev dktL_law_74 : List UInt8 := dkwL_law_74 ++ dktL_law_75
def dkwL_law_73 : List UInt8 := [167, 3, 161, 43, 42, 21, 5, 4, 96, 46, 45, 184, 1, 11, 54, 6, 44, 42, 21, 5, 4, 96, 46]
abbrev dktL_law_73 : List UInt8 := dkwL_law_73 ++ dktL_law_74
def dkwL_law_72 : List UInt8 := [154, 0, 22, 45, 3, 47, 21, 7, 153, 0, 7, 10, 167, 0, 4, 9, 148, 153, 0, 5, 3, 172]
abbrev dktL_law_72 : List UInt8 := dkwL_law_72 ++ dktL_law_73
def dkwL_law_71 : List UInt8 := [21, 5, 4, 96, 46, 182, 1, 10, 54, 7, 44, 182, 0, 168, 21, 6, 159, 0, 5, 3, 172, 21, 6]
abbrev dktL_law_71 : List UInt8 := dkwL_law_71 ++ dktL_law_72
def dkwL_law_70 : List UInt8 := [182, 1, 7, 159, 3, 226, 3, 172, 43, 42, 21, 5, 4, 96, 46, 45, 184, 1, 8, 54, 6, 44, 42]
abbrev dktL_law_70 : List UInt8 := dkwL_law_70 ++ dktL_law_71
def dkwL_law_69 : List UInt8 := [154, 0, 15, 45, 3, 47, 21, 7, 133, 148, 153, 0, 5, 3, 172, 167, 3, 237, 43, 182, 1, 4, 44]
abbrev dktL_law_69 : List UInt8 := dkwL_law_69 ++ dktL_law_70
def dkwL_law_68 : List UInt8 := [21, 5, 5, 96, 46, 182, 1, 3, 54, 7, 44, 182, 0, 168, 21, 6, 159, 0, 5, 3, 172, 21, 6]
abbrev dktL_law_68 : List UInt8 := dkwL_law_68 ++ dktL_law_69
def dkwL_law_67 : List UInt8 := [46, 146, 42, 21, 5, 5, 96, 46, 45, 184, 1, 1, 54, 6, 44, 42, 21, 5, 4, 96, 46, 146, 42]
abbrev dktL_law_67 : List UInt8 := dkwL_law_67 ++ dktL_law_68
def dkwL_law_66 : List UInt8 := [154, 0, 15, 45, 3, 47, 21, 7, 133, 148, 153, 0, 5, 3, 172, 167, 4, 51, 43, 42, 21, 5, 4, 96]
abbrev dktL_law_66 : List UInt8 := dkwL_law_66 ++ dktL_law_67
def dkwL_law_65 : List UInt8 := [21, 5, 5, 96, 46, 182, 1, 0, 54, 7, 44, 182, 0, 168, 21, 6, 159, 0, 5, 3, 172, 21, 6]
abbrev dktL_law_65 : List UInt8 := dkwL_law_65 ++ dktL_law_66
def dkwL_law_64 : List UInt8 := [46, 146, 42, 21, 5, 5, 96, 46, 45, 184, 0, 254, 54, 6, 44, 42, 21, 5, 4, 96, 46, 146, 42]
abbrev dktL_law_64 : List UInt8 := dkwL_law_64 ++ dktL_law_65
def dkwL_law_63 : List UInt8 := [154, 0, 15, 45, 3, 47, 21, 7, 133, 148, 153, 0, 5, 3, 172, 167, 4, 121, 43, 42, 21, 5, 4, 96]
abbrev dktL_law_63 : List UInt8 := dkwL_law_63 ++ dktL_law_64
def dkwL_law_62 : List UInt8 := [42, 21, 5, 6, 96, 46, 182, 0, 253, 54, 7, 44, 182, 0, 168, 21, 6, 159, 0, 5, 3, 172, 21, 6]
abbrev dktL_law_62 : List UInt8 := dkwL_law_62 ++ dktL_law_63
def dkwL_law_61 : List UInt8 := [21, 5, 6, 96, 46, 45, 184, 0, 250, 54, 6, 44, 42, 21, 5, 4, 96, 46, 42, 21, 5, 5, 96, 46]
abbrev dktL_law_61 : List UInt8 := dkwL_law_61 ++ dktL_law_62
def dkwL_law_60 : List UInt8 := [148, 153, 0, 5, 3, 172, 167, 4, 201, 43, 42, 21, 5, 4, 96, 46, 42, 21, 5, 5, 96, 46, 42]
abbrev dktL_law_60 : List UInt8 := dkwL_law_60 ++ dktL_law_61
def dkwL_law_59 : List UInt8 := [54, 7, 44, 182, 0, 168, 21, 6, 159, 0, 5, 3, 172, 21, 6, 154, 0, 15, 45, 3, 47, 21, 7, 133]
abbrev dktL_law_59 : List UInt8 := dkwL_law_59 ++ dktL_law_60
def dkwL_law_58 : List UInt8 := [45, 184, 0, 247, 54, 6, 44, 42, 21, 5, 4, 96, 46, 146, 42, 21, 5, 5, 96, 46, 182, 0, 249]
abbrev dktL_law_58 : List UInt8 := dkwL_law_58 ++ dktL_law_59
def dkwL_law_57 : List UInt8 := [9, 148, 153, 0, 5, 3, 172, 167, 5, 15, 43, 42, 21, 5, 4, 96, 46, 146, 42, 21, 5, 5, 96, 46]
abbrev dktL_law_57 : List UInt8 := dkwL_law_57 ++ dktL_law_58
def dkwL_law_56 : List UInt8 := [21, 6, 159, 0, 5, 3, 172, 21, 6, 154, 0, 22, 45, 3, 47, 21, 7, 153, 0, 7, 10, 167, 0, 4]
abbrev dktL_law_56 : List UInt8 := dkwL_law_56 ++ dktL_law_57
def dkwL_law_55 : List UInt8 := [46, 45, 184, 0, 244, 54, 6, 44, 42, 21, 5, 4, 96, 46, 182, 0, 246, 54, 7, 44, 182, 0, 168]
abbrev dktL_law_55 : List UInt8 := dkwL_law_55 ++ dktL_law_56
def dkwL_law_54 : List UInt8 := [154, 0, 15, 45, 3, 47, 21, 7, 133, 148, 153, 0, 5, 3, 172, 167, 5, 78, 43, 42, 21, 5, 4, 96]
abbrev dktL_law_54 : List UInt8 := dkwL_law_54 ++ dktL_law_55
def dkwL_law_53 : List UInt8 := [21, 5, 4, 96, 46, 182, 0, 243, 54, 7, 44, 182, 0, 168, 21, 6, 159, 0, 5, 3, 172, 21, 6]
abbrev dktL_law_53 : List UInt8 := dkwL_law_53 ++ dktL_law_54
def dkwL_law_52 : List UInt8 := [153, 0, 5, 3, 172, 167, 5, 134, 43, 42, 21, 5, 4, 96, 46, 45, 184, 0, 240, 54, 6, 44, 42]
abbrev dktL_law_52 : List UInt8 := dkwL_law_52 ++ dktL_law_53
def dkwL_law_51 : List UInt8 := [182, 0, 168, 21, 6, 159, 0, 5, 3, 172, 21, 6, 154, 0, 15, 45, 3, 47, 21, 7, 133, 148]
abbrev dktL_law_51 : List UInt8 := dkwL_law_51 ++ dktL_law_52
def dkwL_law_50 : List UInt8 := [44, 182, 0, 235, 159, 5, 180, 3, 172, 43, 45, 184, 0, 236, 54, 6, 44, 182, 0, 239, 54, 7, 44]
abbrev dktL_law_50 : List UInt8 := dkwL_law_50 ++ dktL_law_51
def dkwL_law_49 : List UInt8 := [21, 6, 154, 0, 15, 45, 3, 47, 21, 7, 133, 148, 153, 0, 5, 3, 172, 167, 5, 191, 43, 182, 0, 232]
abbrev dktL_law_49 : List UInt8 := dkwL_law_49 ++ dktL_law_50
def dkwL_law_48 : List UInt8 := [42, 21, 5, 4, 96, 46, 146, 182, 0, 231, 54, 7, 44, 182, 0, 168, 21, 6, 159, 0, 5, 3, 172]
abbrev dktL_law_48 : List UInt8 := dkwL_law_48 ++ dktL_law_49
def dkwL_law_47 : List UInt8 := [148, 153, 0, 5, 3, 172, 167, 5, 249, 43, 42, 21, 5, 4, 96, 46, 146, 45, 184, 0, 229, 54, 6, 44]
abbrev dktL_law_47 : List UInt8 := dkwL_law_47 ++ dktL_law_48
def dkwL_law_46 : List UInt8 := [54, 7, 44, 182, 0, 168, 21, 6, 159, 0, 5, 3, 172, 21, 6, 154, 0, 15, 45, 3, 47, 21, 7, 133]
abbrev dktL_law_46 : List UInt8 := dkwL_law_46 ++ dktL_law_47
def dkwL_law_45 : List UInt8 := [21, 5, 4, 96, 46, 146, 45, 184, 0, 226, 54, 6, 44, 42, 21, 5, 4, 96, 46, 146, 182, 0, 228]
abbrev dktL_law_45 : List UInt8 := dkwL_law_45 ++ dktL_law_46
def dkwL_law_44 : List UInt8 := [182, 0, 221, 159, 6, 66, 3, 172, 43, 182, 0, 222, 44, 182, 0, 225, 159, 6, 53, 3, 172, 43, 42]
abbrev dktL_law_44 : List UInt8 := dkwL_law_44 ++ dktL_law_45
def dkwL_law_43 : List UInt8 := [154, 0, 15, 45, 3, 47, 21, 7, 133, 148, 153, 0, 5, 3, 172, 167, 6, 77, 43, 182, 0, 218, 44]
abbrev dktL_law_43 : List UInt8 := dkwL_law_43 ++ dktL_law_44
def dkwL_law_42 : List UInt8 := [21, 5, 4, 96, 46, 146, 182, 0, 217, 54, 7, 44, 182, 0, 168, 21, 6, 159, 0, 5, 3, 172, 21, 6]
abbrev dktL_law_42 : List UInt8 := dkwL_law_42 ++ dktL_law_43
def dkwL_law_41 : List UInt8 := [153, 0, 5, 3, 172, 167, 6, 135, 43, 42, 21, 5, 4, 96, 46, 146, 45, 184, 0, 215, 54, 6, 44, 42]
abbrev dktL_law_41 : List UInt8 := dkwL_law_41 ++ dktL_law_42
def dkwL_law_40 : List UInt8 := [182, 0, 168, 21, 6, 159, 0, 5, 3, 172, 21, 6, 154, 0, 15, 45, 3, 47, 21, 7, 133, 148]
abbrev dktL_law_40 : List UInt8 := dkwL_law_40 ++ dktL_law_41
def dkwL_law_39 : List UInt8 := [46, 146, 45, 184, 0, 212, 54, 6, 44, 42, 21, 5, 4, 96, 46, 146, 182, 0, 214, 54, 7, 44]
abbrev dktL_law_39 : List UInt8 := dkwL_law_39 ++ dktL_law_40
def dkwL_law_38 : List UInt8 := [154, 0, 15, 45, 3, 47, 21, 7, 133, 148, 153, 0, 5, 3, 172, 167, 6, 193, 43, 42, 21, 5, 4, 96]
abbrev dktL_law_38 : List UInt8 := dkwL_law_38 ++ dktL_law_39
def dkwL_law_37 : List UInt8 := [21, 5, 4, 96, 46, 146, 182, 0, 211, 54, 7, 44, 182, 0, 168, 21, 6, 159, 0, 5, 3, 172, 21, 6]
abbrev dktL_law_37 : List UInt8 := dkwL_law_37 ++ dktL_law_38
def dkwL_law_36 : List UInt8 := [153, 0, 5, 3, 172, 167, 6, 251, 43, 42, 21, 5, 4, 96, 46, 146, 45, 184, 0, 209, 54, 6, 44, 42]
abbrev dktL_law_36 : List UInt8 := dkwL_law_36 ++ dktL_law_37
def dkwL_law_35 : List UInt8 := [182, 0, 168, 21, 6, 159, 0, 5, 3, 172, 21, 6, 154, 0, 15, 45, 3, 47, 21, 7, 133, 148]
abbrev dktL_law_35 : List UInt8 := dkwL_law_35 ++ dktL_law_36
def dkwL_law_34 : List UInt8 := [4, 96, 46, 146, 45, 184, 0, 206, 54, 6, 44, 42, 21, 5, 4, 96, 46, 146, 182, 0, 208, 54, 7, 44]
abbrev dktL_law_34 : List UInt8 := dkwL_law_34 ++ dktL_law_35
def dkwL_law_33 : List UInt8 := [21, 6, 154, 0, 15, 45, 3, 47, 21, 7, 133, 148, 153, 0, 5, 3, 172, 167, 7, 53, 43, 42, 21, 5]
abbrev dktL_law_33 : List UInt8 := dkwL_law_33 ++ dktL_law_34
def dkwL_law_32 : List UInt8 := [42, 21, 5, 5, 96, 46, 146, 182, 0, 205, 54, 7, 44, 182, 0, 168, 21, 6, 159, 0, 5, 3, 172]
abbrev dktL_law_32 : List UInt8 := dkwL_law_32 ++ dktL_law_33
def dkwL_law_31 : List UInt8 := [96, 46, 146, 42, 21, 5, 5, 96, 46, 146, 45, 184, 0, 203, 54, 6, 44, 42, 21, 5, 4, 96, 46, 146]
abbrev dktL_law_31 : List UInt8 := dkwL_law_31 ++ dktL_law_32
def dkwL_law_30 : List UInt8 := [21, 7, 153, 0, 7, 10, 167, 0, 4, 9, 148, 153, 0, 5, 3, 172, 167, 7, 125, 43, 42, 21, 5, 4]
abbrev dktL_law_30 : List UInt8 := dkwL_law_30 ++ dktL_law_31
def dkwL_law_29 : List UInt8 := [182, 0, 202, 54, 7, 44, 182, 0, 168, 21, 6, 159, 0, 5, 3, 172, 21, 6, 154, 0, 22, 45, 3, 47]
abbrev dktL_law_29 : List UInt8 := dkwL_law_29 ++ dktL_law_30
def dkwL_law_28 : List UInt8 := [96, 46, 45, 184, 0, 200, 54, 6, 44, 42, 21, 5, 4, 96, 46, 146, 42, 21, 5, 5, 96, 46]
abbrev dktL_law_28 : List UInt8 := dkwL_law_28 ++ dktL_law_29
def dkwL_law_27 : List UInt8 := [21, 7, 133, 148, 153, 0, 5, 3, 172, 167, 7, 202, 43, 42, 21, 5, 4, 96, 46, 146, 42, 21, 5, 5]
abbrev dktL_law_27 : List UInt8 := dkwL_law_27 ++ dktL_law_28
def dkwL_law_26 : List UInt8 := [182, 0, 199, 54, 7, 44, 182, 0, 168, 21, 6, 159, 0, 5, 3, 172, 21, 6, 154, 0, 15, 45, 3, 47]
abbrev dktL_law_26 : List UInt8 := dkwL_law_26 ++ dktL_law_27
def dkwL_law_25 : List UInt8 := [5, 96, 46, 45, 184, 0, 196, 54, 6, 44, 42, 21, 5, 4, 96, 46, 146, 42, 21, 5, 5, 96, 46]
abbrev dktL_law_25 : List UInt8 := dkwL_law_25 ++ dktL_law_26
def dkwL_law_24 : List UInt8 := [47, 21, 7, 133, 148, 153, 0, 5, 3, 172, 167, 8, 16, 43, 42, 21, 5, 4, 96, 46, 146, 42, 21, 5]
abbrev dktL_law_24 : List UInt8 := dkwL_law_24 ++ dktL_law_25
def dkwL_law_23 : List UInt8 := [146, 182, 0, 195, 54, 7, 44, 182, 0, 168, 21, 6, 159, 0, 5, 3, 172, 21, 6, 154, 0, 15, 45, 3]
abbrev dktL_law_23 : List UInt8 := dkwL_law_23 ++ dktL_law_24
def dkwL_law_22 : List UInt8 := [167, 8, 74, 43, 42, 21, 5, 4, 96, 46, 146, 45, 184, 0, 193, 54, 6, 44, 42, 21, 5, 4, 96, 46]
abbrev dktL_law_22 : List UInt8 := dkwL_law_22 ++ dktL_law_23
def dkwL_law_21 : List UInt8 := [21, 6, 159, 0, 5, 3, 172, 21, 6, 154, 0, 15, 45, 3, 47, 21, 7, 133, 148, 153, 0, 5, 3, 172]
abbrev dktL_law_21 : List UInt8 := dkwL_law_21 ++ dktL_law_22
def dkwL_law_20 : List UInt8 := [146, 45, 184, 0, 190, 54, 6, 44, 42, 21, 5, 4, 96, 46, 146, 182, 0, 192, 54, 7, 44, 182, 0, 168]
abbrev dktL_law_20 : List UInt8 := dkwL_law_20 ++ dktL_law_21
def dkwL_law_19 : List UInt8 := [153, 0, 7, 10, 167, 0, 4, 9, 148, 153, 0, 5, 3, 172, 167, 8, 132, 43, 42, 21, 5, 4, 96, 46]
abbrev dktL_law_19 : List UInt8 := dkwL_law_19 ++ dktL_law_20
def dkwL_law_18 : List UInt8 := [54, 7, 44, 182, 0, 168, 21, 6, 159, 0, 5, 3, 172, 21, 6, 154, 0, 22, 45, 3, 47, 21, 7]
abbrev dktL_law_18 : List UInt8 := dkwL_law_18 ++ dktL_law_19
def dkwL_law_17 : List UInt8 := [21, 5, 4, 96, 46, 146, 45, 184, 0, 187, 54, 6, 44, 42, 21, 5, 4, 96, 46, 146, 182, 0, 189]
abbrev dktL_law_17 : List UInt8 := dkwL_law_17 ++ dktL_law_18
def dkwL_law_16 : List UInt8 := [148, 153, 0, 5, 3, 172, 167, 8, 210, 43, 182, 0, 183, 44, 182, 0, 186, 159, 8, 199, 3, 172, 43, 42]
abbrev dktL_law_16 : List UInt8 := dkwL_law_16 ++ dktL_law_17
def dkwL_law_15 : List UInt8 := [54, 7, 44, 182, 0, 168, 21, 6, 159, 0, 5, 3, 172, 21, 6, 154, 0, 15, 45, 3, 47, 21, 7, 133]
abbrev dktL_law_15 : List UInt8 := dkwL_law_15 ++ dktL_law_16
def dkwL_law_14 : List UInt8 := [45, 184, 0, 179, 54, 6, 44, 42, 21, 5, 4, 96, 46, 146, 42, 21, 5, 5, 96, 46, 146, 182, 0, 182]
abbrev dktL_law_14 : List UInt8 := dkwL_law_14 ++ dktL_law_15
def dkwL_law_13 : List UInt8 := [148, 153, 0, 5, 3, 172, 167, 9, 26, 43, 42, 21, 5, 4, 96, 46, 146, 42, 21, 5, 5, 96, 46, 146]
abbrev dktL_law_13 : List UInt8 := dkwL_law_13 ++ dktL_law_14
def dkwL_law_12 : List UInt8 := [54, 7, 44, 182, 0, 168, 21, 6, 159, 0, 5, 3, 172, 21, 6, 154, 0, 15, 45, 3, 47, 21, 7, 133]
abbrev dktL_law_12 : List UInt8 := dkwL_law_12 ++ dktL_law_13
def dkwL_law_11 : List UInt8 := [21, 5, 5, 96, 46, 146, 42, 21, 5, 6, 96, 46, 153, 0, 7, 4, 167, 0, 4, 3, 182, 0, 178]
abbrev dktL_law_11 : List UInt8 := dkwL_law_11 ++ dktL_law_12
def dkwL_law_10 : List UInt8 := [153, 0, 7, 4, 167, 0, 4, 3, 45, 184, 0, 175, 54, 6, 44, 42, 21, 5, 4, 96, 46, 146, 42]
abbrev dktL_law_10 : List UInt8 := dkwL_law_10 ++ dktL_law_11
def dkwL_law_9 : List UInt8 := [167, 9, 126, 43, 42, 21, 5, 4, 96, 46, 146, 42, 21, 5, 5, 96, 46, 146, 42, 21, 5, 6, 96, 46]
abbrev dktL_law_9 : List UInt8 := dkwL_law_9 ++ dktL_law_10
def dkwL_law_8 : List UInt8 := [159, 0, 5, 3, 172, 21, 6, 154, 0, 15, 45, 3, 47, 21, 7, 133, 148, 153, 0, 5, 3, 172]
abbrev dktL_law_8 : List UInt8 := dkwL_law_8 ++ dktL_law_9
def dkwL_law_7 : List UInt8 := [184, 0, 171, 54, 6, 44, 42, 21, 5, 4, 96, 46, 146, 182, 0, 174, 54, 7, 44, 182, 0, 168, 21, 6]
abbrev dktL_law_7 : List UInt8 := dkwL_law_7 ++ dktL_law_8
def dkwL_law_6 : List UInt8 := [3, 47, 21, 7, 133, 148, 153, 0, 5, 3, 172, 167, 9, 184, 43, 42, 21, 5, 4, 96, 46, 146, 45]
abbrev dktL_law_6 : List UInt8 := dkwL_law_6 ++ dktL_law_7
def dkwL_law_5 : List UInt8 := [96, 46, 182, 0, 167, 54, 7, 44, 182, 0, 168, 21, 6, 159, 0, 5, 3, 172, 21, 6, 154, 0, 15, 45]
abbrev dktL_law_5 : List UInt8 := dkwL_law_5 ++ dktL_law_6
def dkwL_law_4 : List UInt8 := [184, 0, 162, 54, 6, 44, 42, 21, 5, 4, 96, 46, 146, 42, 21, 5, 5, 96, 46, 146, 42, 21, 5, 6]
abbrev dktL_law_4 : List UInt8 := dkwL_law_4 ++ dktL_law_5
def dkwL_law_3 : List UInt8 := [43, 42, 21, 5, 4, 96, 46, 146, 42, 21, 5, 5, 96, 46, 146, 42, 21, 5, 6, 96, 46, 45]
abbrev dktL_law_3 : List UInt8 := dkwL_law_3 ++ dktL_law_4
def dkwL_law_2 : List UInt8 := [170, 0, 0, 0, 0, 0, 10, 229, 0, 0, 0, 0, 0, 0, 0, 50, 0, 0, 0, 220, 0, 0, 1, 48, 0, 0, 1, 106, 0, 0, 1, 206, 0, 0, 2, 22, 0, 0, 2, 35, 0, 0, 2, 100, 0, 0, 2, 158, 0, 0, 2, 216, 0, 0, 3, 30, 0, 0, 3, 107, 0, 0, 3, 179, 0, 0, 3, 237, 0, 0, 4, 39, 0, 0, 4, 97, 0, 0, 4, 155, 0, 0, 4, 168, 0, 0, 4, 181, 0, 0, 4, 239, 0, 0, 5, 41, 0, 0, 5, 54, 0, 0, 5, 98, 0, 0, 5, 154, 0, 0, 5, 217, 0, 0, 6, 31, 0, 0, 6, 111, 0, 0, 6, 181, 0, 0, 6, 251, 0, 0, 7, 8, 0, 0, 7, 71, 0, 0, 7, 127, 0, 0, 7, 183, 0, 0, 7, 251, 0, 0, 8, 8, 0, 0, 8, 21, 0, 0, 8, 34, 0, 0, 8, 48, 0, 0, 8, 113, 0, 0, 8, 179, 0, 0, 8, 223, 0, 0, 9, 11, 0, 0, 9, 55, 0, 0, 9, 113, 0, 0, 9, 169, 0, 0, 9, 225, 0, 0, 9, 238, 0, 0, 10, 40, 0, 0, 10, 84, 0, 0, 10, 128, 0, 0, 10, 172, 0, 0, 10, 185]
abbrev dktL_law_2 : List UInt8 := dkwL_law_2 ++ dktL_law_3
def dkwL_law_1 : List UInt8 := [58, 4, 3, 54, 5, 21, 5, 42, 190, 7, 100, 163, 10, 245, 42, 21, 5, 46, 16, 63, 126]
abbrev dktL_law_1 : List UInt8 := dkwL_law_1 ++ dktL_law_2
def dkwL_law_0 : List UInt8 := [187, 0, 8, 89, 183, 0, 158, 76, 187, 0, 159, 89, 183, 0, 161, 77, 4, 188, 11, 78, 4, 188, 7]
abbrev dktL_law_0 : List UInt8 := dkwL_law_0 ++ dktL_law_1
theorem dksL_law_0 : cL_law.data.toList.drop 0 = dktL_law_0 := by decide +kernel
theorem dksL_law_1 : cL_law.data.toList.drop 23 = dktL_law_1 := dk_seg dksL_law_0 23 rfl rfl
theorem dksL_law_2 : cL_law.data.toList.drop 44 = dktL_law_2 := dk_seg dksL_law_1 21 rfl rfl
theorem dksL_law_3 : cL_law.data.toList.drop 264 = dktL_law_3 := dk_seg dksL_law_2 220 rfl rfl
theorem dksL_law_4 : cL_law.data.toList.drop 286 = dktL_law_4 := dk_seg dksL_law_3 22 rfl rfl
theorem dksL_law_5 : cL_law.data.toList.drop 310 = dktL_law_5 := dk_seg dksL_law_4 24 rfl rfl
theorem dksL_law_6 : cL_law.data.toList.drop 334 = dktL_law_6 := dk_seg dksL_law_5 24 rfl rfl
theorem dksL_law_7 : cL_law.data.toList.drop 357 = dktL_law_7 := dk_seg dksL_law_6 23 rfl rfl
theorem dksL_law_8 : cL_law.data.toList.drop 381 = dktL_law_8 := dk_seg dksL_law_7 24 rfl rfl
theorem dksL_law_9 : cL_law.data.toList.drop 403 = dktL_law_9 := dk_seg dksL_law_8 22 rfl rfl
theorem dksL_law_10 : cL_law.data.toList.drop 427 = dktL_law_10 := dk_seg dksL_law_9 24 rfl rfl
theorem dksL_law_11 : cL_law.data.toList.drop 450 = dktL_law_11 := dk_seg dksL_law_10 23 rfl rfl
theorem dksL_law_12 : cL_law.data.toList.drop 473 = dktL_law_12 := dk_seg dksL_law_11 23 rfl rfl
theorem dksL_law_13 : cL_law.data.toList.drop 497 = dktL_law_13 := dk_seg dksL_law_12 24 rfl rfl
theorem dksL_law_14 : cL_law.data.toList.drop 521 = dktL_law_14 := dk_seg dksL_law_13 24 rfl rfl
theorem dksL_law_15 : cL_law.data.toList.drop 545 = dktL_law_15 := dk_seg dksL_law_14 24 rfl rfl
theorem dksL_law_16 : cL_law.data.toList.drop 569 = dktL_law_16 := dk_seg dksL_law_15 24 rfl rfl
theorem dksL_law_17 : cL_law.data.toList.drop 593 = dktL_law_17 := dk_seg dksL_law_16 24 rfl rfl
theorem dksL_law_18 : cL_law.data.toList.drop 616 = dktL_law_18 := dk_seg dksL_law_17 23 rfl rfl
theorem dksL_law_19 : cL_law.data.toList.drop 639 = dktL_law_19 := dk_seg dksL_law_18 23 rfl rfl
theorem dksL_law_20 : cL_law.data.toList.drop 663 = dktL_law_20 := dk_seg dksL_law_19 24 rfl rfl
theorem dksL_law_21 : cL_law.data.toList.drop 687 = dktL_law_21 := dk_seg dksL_law_20 24 rfl rfl
theorem dksL_law_22 : cL_law.data.toList.drop 711 = dktL_law_22 := dk_seg dksL_law_21 24 rfl rfl
theorem dksL_law_23 : cL_law.data.toList.drop 735 = dktL_law_23 := dk_seg dksL_law_22 24 rfl rfl
theorem dksL_law_24 : cL_law.data.toList.drop 759 = dktL_law_24 := dk_seg dksL_law_23 24 rfl rfl
theorem dksL_law_25 : cL_law.data.toList.drop 783 = dktL_law_25 := dk_seg dksL_law_24 24 rfl rfl
theorem dksL_law_26 : cL_law.data.toList.drop 806 = dktL_law_26 := dk_seg dksL_law_25 23 rfl rfl
theorem dksL_law_27 : cL_law.data.toList.drop 830 = dktL_law_27 := dk_seg dksL_law_26 24 rfl rfl
theorem dksL_law_28 : cL_law.data.toList.drop 854 = dktL_law_28 := dk_seg dksL_law_27 24 rfl rfl
theorem dksL_law_29 : cL_law.data.toList.drop 876 = dktL_law_29 := dk_seg dksL_law_28 22 rfl rfl
theorem dksL_law_30 : cL_law.data.toList.drop 900 = dktL_law_30 := dk_seg dksL_law_29 24 rfl rfl
theorem dksL_law_31 : cL_law.data.toList.drop 924 = dktL_law_31 := dk_seg dksL_law_30 24 rfl rfl
theorem dksL_law_32 : cL_law.data.toList.drop 948 = dktL_law_32 := dk_seg dksL_law_31 24 rfl rfl
theorem dksL_law_33 : cL_law.data.toList.drop 971 = dktL_law_33 := dk_seg dksL_law_32 23 rfl rfl
theorem dksL_law_34 : cL_law.data.toList.drop 995 = dktL_law_34 := dk_seg dksL_law_33 24 rfl rfl
theorem dksL_law_35 : cL_law.data.toList.drop 1019 = dktL_law_35 := dk_seg dksL_law_34 24 rfl rfl
theorem dksL_law_36 : cL_law.data.toList.drop 1041 = dktL_law_36 := dk_seg dksL_law_35 22 rfl rfl
theorem dksL_law_37 : cL_law.data.toList.drop 1065 = dktL_law_37 := dk_seg dksL_law_36 24 rfl rfl
theorem dksL_law_38 : cL_law.data.toList.drop 1089 = dktL_law_38 := dk_seg dksL_law_37 24 rfl rfl
theorem dksL_law_39 : cL_law.data.toList.drop 1113 = dktL_law_39 := dk_seg dksL_law_38 24 rfl rfl
theorem dksL_law_40 : cL_law.data.toList.drop 1135 = dktL_law_40 := dk_seg dksL_law_39 22 rfl rfl
theorem dksL_law_41 : cL_law.data.toList.drop 1157 = dktL_law_41 := dk_seg dksL_law_40 22 rfl rfl
theorem dksL_law_42 : cL_law.data.toList.drop 1181 = dktL_law_42 := dk_seg dksL_law_41 24 rfl rfl
theorem dksL_law_43 : cL_law.data.toList.drop 1205 = dktL_law_43 := dk_seg dksL_law_42 24 rfl rfl
theorem dksL_law_44 : cL_law.data.toList.drop 1228 = dktL_law_44 := dk_seg dksL_law_43 23 rfl rfl
theorem dksL_law_45 : cL_law.data.toList.drop 1251 = dktL_law_45 := dk_seg dksL_law_44 23 rfl rfl
theorem dksL_law_46 : cL_law.data.toList.drop 1274 = dktL_law_46 := dk_seg dksL_law_45 23 rfl rfl
theorem dksL_law_47 : cL_law.data.toList.drop 1298 = dktL_law_47 := dk_seg dksL_law_46 24 rfl rfl
theorem dksL_law_48 : cL_law.data.toList.drop 1322 = dktL_law_48 := dk_seg dksL_law_47 24 rfl rfl
theorem dksL_law_49 : cL_law.data.toList.drop 1345 = dktL_law_49 := dk_seg dksL_law_48 23 rfl rfl
theorem dksL_law_50 : cL_law.data.toList.drop 1369 = dktL_law_50 := dk_seg dksL_law_49 24 rfl rfl
theorem dksL_law_51 : cL_law.data.toList.drop 1392 = dktL_law_51 := dk_seg dksL_law_50 23 rfl rfl
theorem dksL_law_52 : cL_law.data.toList.drop 1414 = dktL_law_52 := dk_seg dksL_law_51 22 rfl rfl
theorem dksL_law_53 : cL_law.data.toList.drop 1437 = dktL_law_53 := dk_seg dksL_law_52 23 rfl rfl
theorem dksL_law_54 : cL_law.data.toList.drop 1460 = dktL_law_54 := dk_seg dksL_law_53 23 rfl rfl
theorem dksL_law_55 : cL_law.data.toList.drop 1484 = dktL_law_55 := dk_seg dksL_law_54 24 rfl rfl
theorem dksL_law_56 : cL_law.data.toList.drop 1507 = dktL_law_56 := dk_seg dksL_law_55 23 rfl rfl
theorem dksL_law_57 : cL_law.data.toList.drop 1531 = dktL_law_57 := dk_seg dksL_law_56 24 rfl rfl
theorem dksL_law_58 : cL_law.data.toList.drop 1555 = dktL_law_58 := dk_seg dksL_law_57 24 rfl rfl
theorem dksL_law_59 : cL_law.data.toList.drop 1578 = dktL_law_59 := dk_seg dksL_law_58 23 rfl rfl
theorem dksL_law_60 : cL_law.data.toList.drop 1602 = dktL_law_60 := dk_seg dksL_law_59 24 rfl rfl
theorem dksL_law_61 : cL_law.data.toList.drop 1625 = dktL_law_61 := dk_seg dksL_law_60 23 rfl rfl
theorem dksL_law_62 : cL_law.data.toList.drop 1649 = dktL_law_62 := dk_seg dksL_law_61 24 rfl rfl
theorem dksL_law_63 : cL_law.data.toList.drop 1673 = dktL_law_63 := dk_seg dksL_law_62 24 rfl rfl
theorem dksL_law_64 : cL_law.data.toList.drop 1697 = dktL_law_64 := dk_seg dksL_law_63 24 rfl rfl
theorem dksL_law_65 : cL_law.data.toList.drop 1720 = dktL_law_65 := dk_seg dksL_law_64 23 rfl rfl
theorem dksL_law_66 : cL_law.data.toList.drop 1743 = dktL_law_66 := dk_seg dksL_law_65 23 rfl rfl
theorem dksL_law_67 : cL_law.data.toList.drop 1767 = dktL_law_67 := dk_seg dksL_law_66 24 rfl rfl
theorem dksL_law_68 : cL_law.data.toList.drop 1790 = dktL_law_68 := dk_seg dksL_law_67 23 rfl rfl
theorem dksL_law_69 : cL_law.data.toList.drop 1813 = dktL_law_69 := dk_seg dksL_law_68 23 rfl rfl
theorem dksL_law_70 : cL_law.data.toList.drop 1836 = dktL_law_70 := dk_seg dksL_law_69 23 rfl rfl
theorem dksL_law_71 : cL_law.data.toList.drop 1859 = dktL_law_71 := dk_seg dksL_law_70 23 rfl rfl
theorem dksL_law_72 : cL_law.data.toList.drop 1882 = dktL_law_72 := dk_seg dksL_law_71 23 rfl rfl
theorem dksL_law_73 : cL_law.data.toList.drop 1904 = dktL_law_73 := dk_seg dksL_law_72 22 rfl rfl
theorem dksL_law_74 : cL_law.data.toList.drop 1927 = dktL_law_74 := dk_seg dksL_law_73 23 rfl rfl
theorem dksL_law_75 : cL_law.data.toList.drop 1951 = dktL_law_75 := dk_seg dksL_law_74 24 rfl rfl
theorem dksL_law_76 : cL_law.data.toList.drop 1974 = dktL_law_76 := dk_seg dksL_law_75 23 rfl rfl
theorem dksL_law_77 : cL_law.data.toList.drop 1998 = dktL_law_77 := dk_seg dksL_law_76 24 rfl rfl
theorem dksL_law_78 : cL_law.data.toList.drop 2021 = dktL_law_78 := dk_seg dksL_law_77 23 rfl rfl
theorem dksL_law_79 : cL_law.data.toList.drop 2045 = dktL_law_79 := dk_seg dksL_law_78 24 rfl rfl
theorem dksL_law_80 : cL_law.data.toList.drop 2069 = dktL_law_80 := dk_seg dksL_law_79 24 rfl rfl
theorem dksL_law_81 : cL_law.data.toList.drop 2092 = dktL_law_81 := dk_seg dksL_law_80 23 rfl rfl
theorem dksL_law_82 : cL_law.data.toList.drop 2114 = dktL_law_82 := dk_seg dksL_law_81 22 rfl rfl
theorem dksL_law_83 : cL_law.data.toList.drop 2138 = dktL_law_83 := dk_seg dksL_law_82 24 rfl rfl
theorem dksL_law_84 : cL_law.data.toList.drop 2160 = dktL_law_84 := dk_seg dksL_law_83 22 rfl rfl
theorem dksL_law_85 : cL_law.data.toList.drop 2184 = dktL_law_85 := dk_seg dksL_law_84 24 rfl rfl
theorem dksL_law_86 : cL_law.data.toList.drop 2208 = dktL_law_86 := dk_seg dksL_law_85 24 rfl rfl
theorem dksL_law_87 : cL_law.data.toList.drop 2232 = dktL_law_87 := dk_seg dksL_law_86 24 rfl rfl
theorem dksL_law_88 : cL_law.data.toList.drop 2255 = dktL_law_88 := dk_seg dksL_law_87 23 rfl rfl
theorem dksL_law_89 : cL_law.data.toList.drop 2279 = dktL_law_89 := dk_seg dksL_law_88 24 rfl rfl
theorem dksL_law_90 : cL_law.data.toList.drop 2303 = dktL_law_90 := dk_seg dksL_law_89 24 rfl rfl
theorem dksL_law_91 : cL_law.data.toList.drop 2326 = dktL_law_91 := dk_seg dksL_law_90 23 rfl rfl
theorem dksL_law_92 : cL_law.data.toList.drop 2350 = dktL_law_92 := dk_seg dksL_law_91 24 rfl rfl
theorem dksL_law_93 : cL_law.data.toList.drop 2373 = dktL_law_93 := dk_seg dksL_law_92 23 rfl rfl
theorem dksL_law_94 : cL_law.data.toList.drop 2395 = dktL_law_94 := dk_seg dksL_law_93 22 rfl rfl
theorem dksL_law_95 : cL_law.data.toList.drop 2419 = dktL_law_95 := dk_seg dksL_law_94 24 rfl rfl
theorem dksL_law_96 : cL_law.data.toList.drop 2443 = dktL_law_96 := dk_seg dksL_law_95 24 rfl rfl
theorem dksL_law_97 : cL_law.data.toList.drop 2467 = dktL_law_97 := dk_seg dksL_law_96 24 rfl rfl
theorem dksL_law_98 : cL_law.data.toList.drop 2490 = dktL_law_98 := dk_seg dksL_law_97 23 rfl rfl
theorem dksL_law_99 : cL_law.data.toList.drop 2514 = dktL_law_99 := dk_seg dksL_law_98 24 rfl rfl
theorem dksL_law_100 : cL_law.data.toList.drop 2537 = dktL_law_100 := dk_seg dksL_law_99 23 rfl rfl
theorem dksL_law_101 : cL_law.data.toList.drop 2561 = dktL_law_101 := dk_seg dksL_law_100 24 rfl rfl
theorem dksL_law_102 : cL_law.data.toList.drop 2585 = dktL_law_102 := dk_seg dksL_law_101 24 rfl rfl
theorem dksL_law_103 : cL_law.data.toList.drop 2608 = dktL_law_103 := dk_seg dksL_law_102 23 rfl rfl
theorem dksL_law_104 : cL_law.data.toList.drop 2632 = dktL_law_104 := dk_seg dksL_law_103 24 rfl rfl
theorem dksL_law_105 : cL_law.data.toList.drop 2655 = dktL_law_105 := dk_seg dksL_law_104 23 rfl rfl
theorem dksL_law_106 : cL_law.data.toList.drop 2679 = dktL_law_106 := dk_seg dksL_law_105 24 rfl rfl
theorem dksL_law_107 : cL_law.data.toList.drop 2702 = dktL_law_107 := dk_seg dksL_law_106 23 rfl rfl
theorem dksL_law_108 : cL_law.data.toList.drop 2724 = dktL_law_108 := dk_seg dksL_law_107 22 rfl rfl
theorem dksL_law_109 : cL_law.data.toList.drop 2746 = dktL_law_109 := dk_seg dksL_law_108 22 rfl rfl
theorem dksL_law_110 : cL_law.data.toList.drop 2768 = dktL_law_110 := dk_seg dksL_law_109 22 rfl rfl
theorem dksL_law_111 : cL_law.data.toList.drop 2791 = dktL_law_111 := dk_seg dksL_law_110 23 rfl rfl
theorem dksL_law_112 : cL_law.data.toList.drop 2815 = dktL_law_112 := dk_seg dksL_law_111 24 rfl rfl
theorem dksL_law_113 : cL_law.data.toList.drop 2839 = dktL_law_113 := dk_seg dksL_law_112 24 rfl rfl
theorem dL_law_0 : decode cL_law 0 = .ok (.new 8, 3) := dk_187 0 8 (dk_at dksL_law_0 0 rfl rfl)
theorem dL_law_3 : decode cL_law 3 = .ok (.dup, 1) := dk_89 (dk_at dksL_law_0 3 rfl rfl)
theorem dL_law_4 : decode cL_law 4 = .ok (.invokespecial 158, 3) := dk_183 0 158 (dk_at dksL_law_0 4 rfl rfl)
theorem dL_law_7 : decode cL_law 7 = .ok (.astore_n 1, 1) := dk_76 (dk_at dksL_law_0 7 rfl rfl)
theorem dL_law_8 : decode cL_law 8 = .ok (.new 159, 3) := dk_187 0 159 (dk_at dksL_law_0 8 rfl rfl)
theorem dL_law_11 : decode cL_law 11 = .ok (.dup, 1) := dk_89 (dk_at dksL_law_0 11 rfl rfl)
theorem dL_law_12 : decode cL_law 12 = .ok (.invokespecial 161, 3) := dk_183 0 161 (dk_at dksL_law_0 12 rfl rfl)
theorem dL_law_15 : decode cL_law 15 = .ok (.astore_n 2, 1) := dk_77 (dk_at dksL_law_0 15 rfl rfl)
theorem dL_law_16 : decode cL_law 16 = .ok (.iconst 1, 1) := dk_4 (dk_at dksL_law_0 16 rfl rfl)
theorem dL_law_17 : decode cL_law 17 = .ok (.newarray .long, 2) := dk_188_11 (dk_at dksL_law_0 17 rfl rfl)
theorem dL_law_19 : decode cL_law 19 = .ok (.astore_n 3, 1) := dk_78 (dk_at dksL_law_0 19 rfl rfl)
theorem dL_law_20 : decode cL_law 20 = .ok (.iconst 1, 1) := dk_4 (dk_at dksL_law_0 20 rfl rfl)
theorem dL_law_21 : decode cL_law 21 = .ok (.newarray .double, 2) := dk_188_7 (dk_at dksL_law_0 21 rfl rfl)
theorem dL_law_23 : decode cL_law 23 = .ok (.astore 4, 2) := dk_58 4 (dk_at dksL_law_1 0 rfl rfl)
theorem dL_law_25 : decode cL_law 25 = .ok (.iconst 0, 1) := dk_3 (dk_at dksL_law_1 2 rfl rfl)
theorem dL_law_26 : decode cL_law 26 = .ok (.istore 5, 2) := dk_54 5 (dk_at dksL_law_1 3 rfl rfl)
theorem dL_law_28 : decode cL_law 28 = .ok (.iload 5, 2) := dk_21 5 (dk_at dksL_law_1 5 rfl rfl)
theorem dL_law_30 : decode cL_law 30 = .ok (.aload_n 0, 1) := dk_42 (dk_at dksL_law_1 7 rfl rfl)
theorem dL_law_31 : decode cL_law 31 = .ok (.arraylength, 1) := dk_190 (dk_at dksL_law_1 8 rfl rfl)
theorem dL_law_32 : decode cL_law 32 = .ok (.iconst 4, 1) := dk_7 (dk_at dksL_law_1 9 rfl rfl)
theorem dL_law_33 : decode cL_law 33 = .ok (.isub, 1) := dk_100 (dk_at dksL_law_1 10 rfl rfl)
theorem dL_law_34 : decode cL_law 34 = .ok (.if_icmp .gt 2805, 3) := dk_163 10 245 (dk_at dksL_law_1 11 rfl rfl)
theorem dL_law_37 : decode cL_law 37 = .ok (.aload_n 0, 1) := dk_42 (dk_at dksL_law_1 14 rfl rfl)
theorem dL_law_38 : decode cL_law 38 = .ok (.iload 5, 2) := dk_21 5 (dk_at dksL_law_1 15 rfl rfl)
theorem dL_law_40 : decode cL_law 40 = .ok (.iaload, 1) := dk_46 (dk_at dksL_law_1 17 rfl rfl)
theorem dL_law_41 : decode cL_law 41 = .ok (.bipush 63, 2) := dk_16 63 (dk_at dksL_law_1 18 rfl rfl)
theorem dL_law_43 : decode cL_law 43 = .ok (.iand, 1) := dk_126 (dk_at dksL_law_1 20 rfl rfl)
theorem dL_law_44 : decode cL_law 44 = .ok (.tableswitch 2789 0 50 #[220, 304, 362, 462, 534, 547, 612, 670, 728, 798, 875, 947, 1005, 1063, 1121, 1179, 1192, 1205, 1263, 1321, 1334, 1378, 1434, 1497, 1567, 1647, 1717, 1787, 1800, 1863, 1919, 1975, 2043, 2056, 2069, 2082, 2096, 2161, 2227, 2271, 2315, 2359, 2417, 2473, 2529, 2542, 2600, 2644, 2688, 2732, 2745], 220) := by decide +kernel
theorem dL_law_264 : decode cL_law 264 = .ok (.aload_n 1, 1) := dk_43 (dk_at dksL_law_3 0 rfl rfl)
theorem dL_law_265 : decode cL_law 265 = .ok (.aload_n 0, 1) := dk_42 (dk_at dksL_law_3 1 rfl rfl)
theorem dL_law_266 : decode cL_law 266 = .ok (.iload 5, 2) := dk_21 5 (dk_at dksL_law_3 2 rfl rfl)
theorem dL_law_268 : decode cL_law 268 = .ok (.iconst 1, 1) := dk_4 (dk_at dksL_law_3 4 rfl rfl)
theorem dL_law_269 : decode cL_law 269 = .ok (.iadd, 1) := dk_96 (dk_at dksL_law_3 5 rfl rfl)
theorem dL_law_270 : decode cL_law 270 = .ok (.iaload, 1) := dk_46 (dk_at dksL_law_3 6 rfl rfl)
theorem dL_law_271 : decode cL_law 271 = .ok (.i2c, 1) := dk_146 (dk_at dksL_law_3 7 rfl rfl)
theorem dL_law_272 : decode cL_law 272 = .ok (.aload_n 0, 1) := dk_42 (dk_at dksL_law_3 8 rfl rfl)
theorem dL_law_273 : decode cL_law 273 = .ok (.iload 5, 2) := dk_21 5 (dk_at dksL_law_3 9 rfl rfl)
theorem dL_law_275 : decode cL_law 275 = .ok (.iconst 2, 1) := dk_5 (dk_at dksL_law_3 11 rfl rfl)
theorem dL_law_276 : decode cL_law 276 = .ok (.iadd, 1) := dk_96 (dk_at dksL_law_3 12 rfl rfl)
theorem dL_law_277 : decode cL_law 277 = .ok (.iaload, 1) := dk_46 (dk_at dksL_law_3 13 rfl rfl)
theorem dL_law_278 : decode cL_law 278 = .ok (.i2c, 1) := dk_146 (dk_at dksL_law_3 14 rfl rfl)
theorem dL_law_279 : decode cL_law 279 = .ok (.aload_n 0, 1) := dk_42 (dk_at dksL_law_3 15 rfl rfl)
theorem dL_law_280 : decode cL_law 280 = .ok (.iload 5, 2) := dk_21 5 (dk_at dksL_law_3 16 rfl rfl)
theorem dL_law_282 : decode cL_law 282 = .ok (.iconst 3, 1) := dk_6 (dk_at dksL_law_3 18 rfl rfl)
theorem dL_law_283 : decode cL_law 283 = .ok (.iadd, 1) := dk_96 (dk_at dksL_law_3 19 rfl rfl)
theorem dL_law_284 : decode cL_law 284 = .ok (.iaload, 1) := dk_46 (dk_at dksL_law_3 20 rfl rfl)
theorem dL_law_285 : decode cL_law 285 = .ok (.aload_n 3, 1) := dk_45 (dk_at dksL_law_3 21 rfl rfl)
theorem dL_law_286 : decode cL_law 286 = .ok (.invokestatic 162, 3) := dk_184 0 162 (dk_at dksL_law_4 0 rfl rfl)
theorem dL_law_289 : decode cL_law 289 = .ok (.istore 6, 2) := dk_54 6 (dk_at dksL_law_4 3 rfl rfl)
theorem dL_law_291 : decode cL_law 291 = .ok (.aload_n 2, 1) := dk_44 (dk_at dksL_law_4 5 rfl rfl)
theorem dL_law_292 : decode cL_law 292 = .ok (.aload_n 0, 1) := dk_42 (dk_at dksL_law_4 6 rfl rfl)
theorem dL_law_293 : decode cL_law 293 = .ok (.iload 5, 2) := dk_21 5 (dk_at dksL_law_4 7 rfl rfl)
theorem dL_law_295 : decode cL_law 295 = .ok (.iconst 1, 1) := dk_4 (dk_at dksL_law_4 9 rfl rfl)
theorem dL_law_296 : decode cL_law 296 = .ok (.iadd, 1) := dk_96 (dk_at dksL_law_4 10 rfl rfl)
theorem dL_law_297 : decode cL_law 297 = .ok (.iaload, 1) := dk_46 (dk_at dksL_law_4 11 rfl rfl)
theorem dL_law_298 : decode cL_law 298 = .ok (.i2c, 1) := dk_146 (dk_at dksL_law_4 12 rfl rfl)
theorem dL_law_299 : decode cL_law 299 = .ok (.aload_n 0, 1) := dk_42 (dk_at dksL_law_4 13 rfl rfl)
theorem dL_law_300 : decode cL_law 300 = .ok (.iload 5, 2) := dk_21 5 (dk_at dksL_law_4 14 rfl rfl)
theorem dL_law_302 : decode cL_law 302 = .ok (.iconst 2, 1) := dk_5 (dk_at dksL_law_4 16 rfl rfl)
theorem dL_law_303 : decode cL_law 303 = .ok (.iadd, 1) := dk_96 (dk_at dksL_law_4 17 rfl rfl)
theorem dL_law_304 : decode cL_law 304 = .ok (.iaload, 1) := dk_46 (dk_at dksL_law_4 18 rfl rfl)
theorem dL_law_305 : decode cL_law 305 = .ok (.i2c, 1) := dk_146 (dk_at dksL_law_4 19 rfl rfl)
theorem dL_law_306 : decode cL_law 306 = .ok (.aload_n 0, 1) := dk_42 (dk_at dksL_law_4 20 rfl rfl)
theorem dL_law_307 : decode cL_law 307 = .ok (.iload 5, 2) := dk_21 5 (dk_at dksL_law_4 21 rfl rfl)
theorem dL_law_309 : decode cL_law 309 = .ok (.iconst 3, 1) := dk_6 (dk_at dksL_law_4 23 rfl rfl)
theorem dL_law_310 : decode cL_law 310 = .ok (.iadd, 1) := dk_96 (dk_at dksL_law_5 0 rfl rfl)
theorem dL_law_311 : decode cL_law 311 = .ok (.iaload, 1) := dk_46 (dk_at dksL_law_5 1 rfl rfl)
theorem dL_law_312 : decode cL_law 312 = .ok (.invokevirtual 167, 3) := dk_182 0 167 (dk_at dksL_law_5 2 rfl rfl)
theorem dL_law_315 : decode cL_law 315 = .ok (.istore 7, 2) := dk_54 7 (dk_at dksL_law_5 5 rfl rfl)
theorem dL_law_317 : decode cL_law 317 = .ok (.aload_n 2, 1) := dk_44 (dk_at dksL_law_5 7 rfl rfl)
theorem dL_law_318 : decode cL_law 318 = .ok (.invokevirtual 168, 3) := dk_182 0 168 (dk_at dksL_law_5 8 rfl rfl)
theorem dL_law_321 : decode cL_law 321 = .ok (.iload 6, 2) := dk_21 6 (dk_at dksL_law_5 11 rfl rfl)
theorem dL_law_323 : decode cL_law 323 = .ok (.if_icmp .eq 5, 3) := dk_159 0 5 (dk_at dksL_law_5 13 rfl rfl)
theorem dL_law_326 : decode cL_law 326 = .ok (.iconst 0, 1) := dk_3 (dk_at dksL_law_5 16 rfl rfl)
theorem dL_law_327 : decode cL_law 327 = .ok (.ireturn, 1) := dk_172 (dk_at dksL_law_5 17 rfl rfl)
theorem dL_law_328 : decode cL_law 328 = .ok (.iload 6, 2) := dk_21 6 (dk_at dksL_law_5 18 rfl rfl)
theorem dL_law_330 : decode cL_law 330 = .ok (.ifCond .ne 15, 3) := dk_154 0 15 (dk_at dksL_law_5 20 rfl rfl)
theorem dL_law_333 : decode cL_law 333 = .ok (.aload_n 3, 1) := dk_45 (dk_at dksL_law_5 23 rfl rfl)
theorem dL_law_334 : decode cL_law 334 = .ok (.iconst 0, 1) := dk_3 (dk_at dksL_law_6 0 rfl rfl)
theorem dL_law_335 : decode cL_law 335 = .ok (.laload, 1) := dk_47 (dk_at dksL_law_6 1 rfl rfl)
theorem dL_law_336 : decode cL_law 336 = .ok (.iload 7, 2) := dk_21 7 (dk_at dksL_law_6 2 rfl rfl)
theorem dL_law_338 : decode cL_law 338 = .ok (.i2l, 1) := dk_133 (dk_at dksL_law_6 4 rfl rfl)
theorem dL_law_339 : decode cL_law 339 = .ok (.lcmp, 1) := dk_148 (dk_at dksL_law_6 5 rfl rfl)
theorem dL_law_340 : decode cL_law 340 = .ok (.ifCond .eq 5, 3) := dk_153 0 5 (dk_at dksL_law_6 6 rfl rfl)
theorem dL_law_343 : decode cL_law 343 = .ok (.iconst 0, 1) := dk_3 (dk_at dksL_law_6 9 rfl rfl)
theorem dL_law_344 : decode cL_law 344 = .ok (.ireturn, 1) := dk_172 (dk_at dksL_law_6 10 rfl rfl)
theorem dL_law_345 : decode cL_law 345 = .ok (.goto 2488, 3) := dk_167 9 184 (dk_at dksL_law_6 11 rfl rfl)
theorem dL_law_348 : decode cL_law 348 = .ok (.aload_n 1, 1) := dk_43 (dk_at dksL_law_6 14 rfl rfl)
theorem dL_law_349 : decode cL_law 349 = .ok (.aload_n 0, 1) := dk_42 (dk_at dksL_law_6 15 rfl rfl)
theorem dL_law_350 : decode cL_law 350 = .ok (.iload 5, 2) := dk_21 5 (dk_at dksL_law_6 16 rfl rfl)
theorem dL_law_352 : decode cL_law 352 = .ok (.iconst 1, 1) := dk_4 (dk_at dksL_law_6 18 rfl rfl)
theorem dL_law_353 : decode cL_law 353 = .ok (.iadd, 1) := dk_96 (dk_at dksL_law_6 19 rfl rfl)
theorem dL_law_354 : decode cL_law 354 = .ok (.iaload, 1) := dk_46 (dk_at dksL_law_6 20 rfl rfl)
theorem dL_law_355 : decode cL_law 355 = .ok (.i2c, 1) := dk_146 (dk_at dksL_law_6 21 rfl rfl)
theorem dL_law_356 : decode cL_law 356 = .ok (.aload_n 3, 1) := dk_45 (dk_at dksL_law_6 22 rfl rfl)
theorem dL_law_357 : decode cL_law 357 = .ok (.invokestatic 171, 3) := dk_184 0 171 (dk_at dksL_law_7 0 rfl rfl)
theorem dL_law_360 : decode cL_law 360 = .ok (.istore 6, 2) := dk_54 6 (dk_at dksL_law_7 3 rfl rfl)
theorem dL_law_362 : decode cL_law 362 = .ok (.aload_n 2, 1) := dk_44 (dk_at dksL_law_7 5 rfl rfl)
theorem dL_law_363 : decode cL_law 363 = .ok (.aload_n 0, 1) := dk_42 (dk_at dksL_law_7 6 rfl rfl)
theorem dL_law_364 : decode cL_law 364 = .ok (.iload 5, 2) := dk_21 5 (dk_at dksL_law_7 7 rfl rfl)
theorem dL_law_366 : decode cL_law 366 = .ok (.iconst 1, 1) := dk_4 (dk_at dksL_law_7 9 rfl rfl)
theorem dL_law_367 : decode cL_law 367 = .ok (.iadd, 1) := dk_96 (dk_at dksL_law_7 10 rfl rfl)
theorem dL_law_368 : decode cL_law 368 = .ok (.iaload, 1) := dk_46 (dk_at dksL_law_7 11 rfl rfl)
theorem dL_law_369 : decode cL_law 369 = .ok (.i2c, 1) := dk_146 (dk_at dksL_law_7 12 rfl rfl)
theorem dL_law_370 : decode cL_law 370 = .ok (.invokevirtual 174, 3) := dk_182 0 174 (dk_at dksL_law_7 13 rfl rfl)
theorem dL_law_373 : decode cL_law 373 = .ok (.istore 7, 2) := dk_54 7 (dk_at dksL_law_7 16 rfl rfl)
theorem dL_law_375 : decode cL_law 375 = .ok (.aload_n 2, 1) := dk_44 (dk_at dksL_law_7 18 rfl rfl)
theorem dL_law_376 : decode cL_law 376 = .ok (.invokevirtual 168, 3) := dk_182 0 168 (dk_at dksL_law_7 19 rfl rfl)
theorem dL_law_379 : decode cL_law 379 = .ok (.iload 6, 2) := dk_21 6 (dk_at dksL_law_7 22 rfl rfl)
theorem dL_law_381 : decode cL_law 381 = .ok (.if_icmp .eq 5, 3) := dk_159 0 5 (dk_at dksL_law_8 0 rfl rfl)
theorem dL_law_384 : decode cL_law 384 = .ok (.iconst 0, 1) := dk_3 (dk_at dksL_law_8 3 rfl rfl)
theorem dL_law_385 : decode cL_law 385 = .ok (.ireturn, 1) := dk_172 (dk_at dksL_law_8 4 rfl rfl)
theorem dL_law_386 : decode cL_law 386 = .ok (.iload 6, 2) := dk_21 6 (dk_at dksL_law_8 5 rfl rfl)
theorem dL_law_388 : decode cL_law 388 = .ok (.ifCond .ne 15, 3) := dk_154 0 15 (dk_at dksL_law_8 7 rfl rfl)
theorem dL_law_391 : decode cL_law 391 = .ok (.aload_n 3, 1) := dk_45 (dk_at dksL_law_8 10 rfl rfl)
theorem dL_law_392 : decode cL_law 392 = .ok (.iconst 0, 1) := dk_3 (dk_at dksL_law_8 11 rfl rfl)
theorem dL_law_393 : decode cL_law 393 = .ok (.laload, 1) := dk_47 (dk_at dksL_law_8 12 rfl rfl)
theorem dL_law_394 : decode cL_law 394 = .ok (.iload 7, 2) := dk_21 7 (dk_at dksL_law_8 13 rfl rfl)
theorem dL_law_396 : decode cL_law 396 = .ok (.i2l, 1) := dk_133 (dk_at dksL_law_8 15 rfl rfl)
theorem dL_law_397 : decode cL_law 397 = .ok (.lcmp, 1) := dk_148 (dk_at dksL_law_8 16 rfl rfl)
theorem dL_law_398 : decode cL_law 398 = .ok (.ifCond .eq 5, 3) := dk_153 0 5 (dk_at dksL_law_8 17 rfl rfl)
theorem dL_law_401 : decode cL_law 401 = .ok (.iconst 0, 1) := dk_3 (dk_at dksL_law_8 20 rfl rfl)
theorem dL_law_402 : decode cL_law 402 = .ok (.ireturn, 1) := dk_172 (dk_at dksL_law_8 21 rfl rfl)
theorem dL_law_403 : decode cL_law 403 = .ok (.goto 2430, 3) := dk_167 9 126 (dk_at dksL_law_9 0 rfl rfl)
theorem dL_law_406 : decode cL_law 406 = .ok (.aload_n 1, 1) := dk_43 (dk_at dksL_law_9 3 rfl rfl)
theorem dL_law_407 : decode cL_law 407 = .ok (.aload_n 0, 1) := dk_42 (dk_at dksL_law_9 4 rfl rfl)
theorem dL_law_408 : decode cL_law 408 = .ok (.iload 5, 2) := dk_21 5 (dk_at dksL_law_9 5 rfl rfl)
theorem dL_law_410 : decode cL_law 410 = .ok (.iconst 1, 1) := dk_4 (dk_at dksL_law_9 7 rfl rfl)
theorem dL_law_411 : decode cL_law 411 = .ok (.iadd, 1) := dk_96 (dk_at dksL_law_9 8 rfl rfl)
theorem dL_law_412 : decode cL_law 412 = .ok (.iaload, 1) := dk_46 (dk_at dksL_law_9 9 rfl rfl)
theorem dL_law_413 : decode cL_law 413 = .ok (.i2c, 1) := dk_146 (dk_at dksL_law_9 10 rfl rfl)
theorem dL_law_414 : decode cL_law 414 = .ok (.aload_n 0, 1) := dk_42 (dk_at dksL_law_9 11 rfl rfl)
theorem dL_law_415 : decode cL_law 415 = .ok (.iload 5, 2) := dk_21 5 (dk_at dksL_law_9 12 rfl rfl)
theorem dL_law_417 : decode cL_law 417 = .ok (.iconst 2, 1) := dk_5 (dk_at dksL_law_9 14 rfl rfl)
theorem dL_law_418 : decode cL_law 418 = .ok (.iadd, 1) := dk_96 (dk_at dksL_law_9 15 rfl rfl)
theorem dL_law_419 : decode cL_law 419 = .ok (.iaload, 1) := dk_46 (dk_at dksL_law_9 16 rfl rfl)
theorem dL_law_420 : decode cL_law 420 = .ok (.i2c, 1) := dk_146 (dk_at dksL_law_9 17 rfl rfl)
theorem dL_law_421 : decode cL_law 421 = .ok (.aload_n 0, 1) := dk_42 (dk_at dksL_law_9 18 rfl rfl)
theorem dL_law_422 : decode cL_law 422 = .ok (.iload 5, 2) := dk_21 5 (dk_at dksL_law_9 19 rfl rfl)
theorem dL_law_424 : decode cL_law 424 = .ok (.iconst 3, 1) := dk_6 (dk_at dksL_law_9 21 rfl rfl)
theorem dL_law_425 : decode cL_law 425 = .ok (.iadd, 1) := dk_96 (dk_at dksL_law_9 22 rfl rfl)
theorem dL_law_426 : decode cL_law 426 = .ok (.iaload, 1) := dk_46 (dk_at dksL_law_9 23 rfl rfl)
theorem dL_law_427 : decode cL_law 427 = .ok (.ifCond .eq 7, 3) := dk_153 0 7 (dk_at dksL_law_10 0 rfl rfl)
theorem dL_law_430 : decode cL_law 430 = .ok (.iconst 1, 1) := dk_4 (dk_at dksL_law_10 3 rfl rfl)
theorem dL_law_431 : decode cL_law 431 = .ok (.goto 4, 3) := dk_167 0 4 (dk_at dksL_law_10 4 rfl rfl)
theorem dL_law_434 : decode cL_law 434 = .ok (.iconst 0, 1) := dk_3 (dk_at dksL_law_10 7 rfl rfl)
theorem dL_law_435 : decode cL_law 435 = .ok (.aload_n 3, 1) := dk_45 (dk_at dksL_law_10 8 rfl rfl)
theorem dL_law_436 : decode cL_law 436 = .ok (.invokestatic 175, 3) := dk_184 0 175 (dk_at dksL_law_10 9 rfl rfl)
theorem dL_law_439 : decode cL_law 439 = .ok (.istore 6, 2) := dk_54 6 (dk_at dksL_law_10 12 rfl rfl)
theorem dL_law_441 : decode cL_law 441 = .ok (.aload_n 2, 1) := dk_44 (dk_at dksL_law_10 14 rfl rfl)
theorem dL_law_442 : decode cL_law 442 = .ok (.aload_n 0, 1) := dk_42 (dk_at dksL_law_10 15 rfl rfl)
theorem dL_law_443 : decode cL_law 443 = .ok (.iload 5, 2) := dk_21 5 (dk_at dksL_law_10 16 rfl rfl)
theorem dL_law_445 : decode cL_law 445 = .ok (.iconst 1, 1) := dk_4 (dk_at dksL_law_10 18 rfl rfl)
theorem dL_law_446 : decode cL_law 446 = .ok (.iadd, 1) := dk_96 (dk_at dksL_law_10 19 rfl rfl)
theorem dL_law_447 : decode cL_law 447 = .ok (.iaload, 1) := dk_46 (dk_at dksL_law_10 20 rfl rfl)
theorem dL_law_448 : decode cL_law 448 = .ok (.i2c, 1) := dk_146 (dk_at dksL_law_10 21 rfl rfl)
theorem dL_law_449 : decode cL_law 449 = .ok (.aload_n 0, 1) := dk_42 (dk_at dksL_law_10 22 rfl rfl)
theorem dL_law_450 : decode cL_law 450 = .ok (.iload 5, 2) := dk_21 5 (dk_at dksL_law_11 0 rfl rfl)
theorem dL_law_452 : decode cL_law 452 = .ok (.iconst 2, 1) := dk_5 (dk_at dksL_law_11 2 rfl rfl)
theorem dL_law_453 : decode cL_law 453 = .ok (.iadd, 1) := dk_96 (dk_at dksL_law_11 3 rfl rfl)
theorem dL_law_454 : decode cL_law 454 = .ok (.iaload, 1) := dk_46 (dk_at dksL_law_11 4 rfl rfl)
theorem dL_law_455 : decode cL_law 455 = .ok (.i2c, 1) := dk_146 (dk_at dksL_law_11 5 rfl rfl)
theorem dL_law_456 : decode cL_law 456 = .ok (.aload_n 0, 1) := dk_42 (dk_at dksL_law_11 6 rfl rfl)
theorem dL_law_457 : decode cL_law 457 = .ok (.iload 5, 2) := dk_21 5 (dk_at dksL_law_11 7 rfl rfl)
theorem dL_law_459 : decode cL_law 459 = .ok (.iconst 3, 1) := dk_6 (dk_at dksL_law_11 9 rfl rfl)
theorem dL_law_460 : decode cL_law 460 = .ok (.iadd, 1) := dk_96 (dk_at dksL_law_11 10 rfl rfl)
theorem dL_law_461 : decode cL_law 461 = .ok (.iaload, 1) := dk_46 (dk_at dksL_law_11 11 rfl rfl)
theorem dL_law_462 : decode cL_law 462 = .ok (.ifCond .eq 7, 3) := dk_153 0 7 (dk_at dksL_law_11 12 rfl rfl)
theorem dL_law_465 : decode cL_law 465 = .ok (.iconst 1, 1) := dk_4 (dk_at dksL_law_11 15 rfl rfl)
theorem dL_law_466 : decode cL_law 466 = .ok (.goto 4, 3) := dk_167 0 4 (dk_at dksL_law_11 16 rfl rfl)
theorem dL_law_469 : decode cL_law 469 = .ok (.iconst 0, 1) := dk_3 (dk_at dksL_law_11 19 rfl rfl)
theorem dL_law_470 : decode cL_law 470 = .ok (.invokevirtual 178, 3) := dk_182 0 178 (dk_at dksL_law_11 20 rfl rfl)
theorem dL_law_473 : decode cL_law 473 = .ok (.istore 7, 2) := dk_54 7 (dk_at dksL_law_12 0 rfl rfl)
theorem dL_law_475 : decode cL_law 475 = .ok (.aload_n 2, 1) := dk_44 (dk_at dksL_law_12 2 rfl rfl)
theorem dL_law_476 : decode cL_law 476 = .ok (.invokevirtual 168, 3) := dk_182 0 168 (dk_at dksL_law_12 3 rfl rfl)
theorem dL_law_479 : decode cL_law 479 = .ok (.iload 6, 2) := dk_21 6 (dk_at dksL_law_12 6 rfl rfl)
theorem dL_law_481 : decode cL_law 481 = .ok (.if_icmp .eq 5, 3) := dk_159 0 5 (dk_at dksL_law_12 8 rfl rfl)
theorem dL_law_484 : decode cL_law 484 = .ok (.iconst 0, 1) := dk_3 (dk_at dksL_law_12 11 rfl rfl)
theorem dL_law_485 : decode cL_law 485 = .ok (.ireturn, 1) := dk_172 (dk_at dksL_law_12 12 rfl rfl)
theorem dL_law_486 : decode cL_law 486 = .ok (.iload 6, 2) := dk_21 6 (dk_at dksL_law_12 13 rfl rfl)
theorem dL_law_488 : decode cL_law 488 = .ok (.ifCond .ne 15, 3) := dk_154 0 15 (dk_at dksL_law_12 15 rfl rfl)
theorem dL_law_491 : decode cL_law 491 = .ok (.aload_n 3, 1) := dk_45 (dk_at dksL_law_12 18 rfl rfl)
theorem dL_law_492 : decode cL_law 492 = .ok (.iconst 0, 1) := dk_3 (dk_at dksL_law_12 19 rfl rfl)
theorem dL_law_493 : decode cL_law 493 = .ok (.laload, 1) := dk_47 (dk_at dksL_law_12 20 rfl rfl)
theorem dL_law_494 : decode cL_law 494 = .ok (.iload 7, 2) := dk_21 7 (dk_at dksL_law_12 21 rfl rfl)
theorem dL_law_496 : decode cL_law 496 = .ok (.i2l, 1) := dk_133 (dk_at dksL_law_12 23 rfl rfl)
theorem dL_law_497 : decode cL_law 497 = .ok (.lcmp, 1) := dk_148 (dk_at dksL_law_13 0 rfl rfl)
theorem dL_law_498 : decode cL_law 498 = .ok (.ifCond .eq 5, 3) := dk_153 0 5 (dk_at dksL_law_13 1 rfl rfl)
theorem dL_law_501 : decode cL_law 501 = .ok (.iconst 0, 1) := dk_3 (dk_at dksL_law_13 4 rfl rfl)
theorem dL_law_502 : decode cL_law 502 = .ok (.ireturn, 1) := dk_172 (dk_at dksL_law_13 5 rfl rfl)
theorem dL_law_503 : decode cL_law 503 = .ok (.goto 2330, 3) := dk_167 9 26 (dk_at dksL_law_13 6 rfl rfl)
theorem dL_law_506 : decode cL_law 506 = .ok (.aload_n 1, 1) := dk_43 (dk_at dksL_law_13 9 rfl rfl)
theorem dL_law_507 : decode cL_law 507 = .ok (.aload_n 0, 1) := dk_42 (dk_at dksL_law_13 10 rfl rfl)
theorem dL_law_508 : decode cL_law 508 = .ok (.iload 5, 2) := dk_21 5 (dk_at dksL_law_13 11 rfl rfl)
theorem dL_law_510 : decode cL_law 510 = .ok (.iconst 1, 1) := dk_4 (dk_at dksL_law_13 13 rfl rfl)
theorem dL_law_511 : decode cL_law 511 = .ok (.iadd, 1) := dk_96 (dk_at dksL_law_13 14 rfl rfl)
theorem dL_law_512 : decode cL_law 512 = .ok (.iaload, 1) := dk_46 (dk_at dksL_law_13 15 rfl rfl)
theorem dL_law_513 : decode cL_law 513 = .ok (.i2c, 1) := dk_146 (dk_at dksL_law_13 16 rfl rfl)
theorem dL_law_514 : decode cL_law 514 = .ok (.aload_n 0, 1) := dk_42 (dk_at dksL_law_13 17 rfl rfl)
theorem dL_law_515 : decode cL_law 515 = .ok (.iload 5, 2) := dk_21 5 (dk_at dksL_law_13 18 rfl rfl)
theorem dL_law_517 : decode cL_law 517 = .ok (.iconst 2, 1) := dk_5 (dk_at dksL_law_13 20 rfl rfl)
theorem dL_law_518 : decode cL_law 518 = .ok (.iadd, 1) := dk_96 (dk_at dksL_law_13 21 rfl rfl)
theorem dL_law_519 : decode cL_law 519 = .ok (.iaload, 1) := dk_46 (dk_at dksL_law_13 22 rfl rfl)
theorem dL_law_520 : decode cL_law 520 = .ok (.i2c, 1) := dk_146 (dk_at dksL_law_13 23 rfl rfl)
theorem dL_law_521 : decode cL_law 521 = .ok (.aload_n 3, 1) := dk_45 (dk_at dksL_law_14 0 rfl rfl)
theorem dL_law_522 : decode cL_law 522 = .ok (.invokestatic 179, 3) := dk_184 0 179 (dk_at dksL_law_14 1 rfl rfl)
theorem dL_law_525 : decode cL_law 525 = .ok (.istore 6, 2) := dk_54 6 (dk_at dksL_law_14 4 rfl rfl)
theorem dL_law_527 : decode cL_law 527 = .ok (.aload_n 2, 1) := dk_44 (dk_at dksL_law_14 6 rfl rfl)
theorem dL_law_528 : decode cL_law 528 = .ok (.aload_n 0, 1) := dk_42 (dk_at dksL_law_14 7 rfl rfl)
theorem dL_law_529 : decode cL_law 529 = .ok (.iload 5, 2) := dk_21 5 (dk_at dksL_law_14 8 rfl rfl)
theorem dL_law_531 : decode cL_law 531 = .ok (.iconst 1, 1) := dk_4 (dk_at dksL_law_14 10 rfl rfl)
theorem dL_law_532 : decode cL_law 532 = .ok (.iadd, 1) := dk_96 (dk_at dksL_law_14 11 rfl rfl)
theorem dL_law_533 : decode cL_law 533 = .ok (.iaload, 1) := dk_46 (dk_at dksL_law_14 12 rfl rfl)
theorem dL_law_534 : decode cL_law 534 = .ok (.i2c, 1) := dk_146 (dk_at dksL_law_14 13 rfl rfl)
theorem dL_law_535 : decode cL_law 535 = .ok (.aload_n 0, 1) := dk_42 (dk_at dksL_law_14 14 rfl rfl)
theorem dL_law_536 : decode cL_law 536 = .ok (.iload 5, 2) := dk_21 5 (dk_at dksL_law_14 15 rfl rfl)
theorem dL_law_538 : decode cL_law 538 = .ok (.iconst 2, 1) := dk_5 (dk_at dksL_law_14 17 rfl rfl)
theorem dL_law_539 : decode cL_law 539 = .ok (.iadd, 1) := dk_96 (dk_at dksL_law_14 18 rfl rfl)
theorem dL_law_540 : decode cL_law 540 = .ok (.iaload, 1) := dk_46 (dk_at dksL_law_14 19 rfl rfl)
theorem dL_law_541 : decode cL_law 541 = .ok (.i2c, 1) := dk_146 (dk_at dksL_law_14 20 rfl rfl)
theorem dL_law_542 : decode cL_law 542 = .ok (.invokevirtual 182, 3) := dk_182 0 182 (dk_at dksL_law_14 21 rfl rfl)
theorem dL_law_545 : decode cL_law 545 = .ok (.istore 7, 2) := dk_54 7 (dk_at dksL_law_15 0 rfl rfl)
theorem dL_law_547 : decode cL_law 547 = .ok (.aload_n 2, 1) := dk_44 (dk_at dksL_law_15 2 rfl rfl)
theorem dL_law_548 : decode cL_law 548 = .ok (.invokevirtual 168, 3) := dk_182 0 168 (dk_at dksL_law_15 3 rfl rfl)
theorem dL_law_551 : decode cL_law 551 = .ok (.iload 6, 2) := dk_21 6 (dk_at dksL_law_15 6 rfl rfl)
theorem dL_law_553 : decode cL_law 553 = .ok (.if_icmp .eq 5, 3) := dk_159 0 5 (dk_at dksL_law_15 8 rfl rfl)
theorem dL_law_556 : decode cL_law 556 = .ok (.iconst 0, 1) := dk_3 (dk_at dksL_law_15 11 rfl rfl)
theorem dL_law_557 : decode cL_law 557 = .ok (.ireturn, 1) := dk_172 (dk_at dksL_law_15 12 rfl rfl)
theorem dL_law_558 : decode cL_law 558 = .ok (.iload 6, 2) := dk_21 6 (dk_at dksL_law_15 13 rfl rfl)
theorem dL_law_560 : decode cL_law 560 = .ok (.ifCond .ne 15, 3) := dk_154 0 15 (dk_at dksL_law_15 15 rfl rfl)
theorem dL_law_563 : decode cL_law 563 = .ok (.aload_n 3, 1) := dk_45 (dk_at dksL_law_15 18 rfl rfl)
theorem dL_law_564 : decode cL_law 564 = .ok (.iconst 0, 1) := dk_3 (dk_at dksL_law_15 19 rfl rfl)
theorem dL_law_565 : decode cL_law 565 = .ok (.laload, 1) := dk_47 (dk_at dksL_law_15 20 rfl rfl)
theorem dL_law_566 : decode cL_law 566 = .ok (.iload 7, 2) := dk_21 7 (dk_at dksL_law_15 21 rfl rfl)
theorem dL_law_568 : decode cL_law 568 = .ok (.i2l, 1) := dk_133 (dk_at dksL_law_15 23 rfl rfl)
theorem dL_law_569 : decode cL_law 569 = .ok (.lcmp, 1) := dk_148 (dk_at dksL_law_16 0 rfl rfl)
theorem dL_law_570 : decode cL_law 570 = .ok (.ifCond .eq 5, 3) := dk_153 0 5 (dk_at dksL_law_16 1 rfl rfl)
theorem dL_law_573 : decode cL_law 573 = .ok (.iconst 0, 1) := dk_3 (dk_at dksL_law_16 4 rfl rfl)
theorem dL_law_574 : decode cL_law 574 = .ok (.ireturn, 1) := dk_172 (dk_at dksL_law_16 5 rfl rfl)
theorem dL_law_575 : decode cL_law 575 = .ok (.goto 2258, 3) := dk_167 8 210 (dk_at dksL_law_16 6 rfl rfl)
theorem dL_law_578 : decode cL_law 578 = .ok (.aload_n 1, 1) := dk_43 (dk_at dksL_law_16 9 rfl rfl)
theorem dL_law_579 : decode cL_law 579 = .ok (.invokevirtual 183, 3) := dk_182 0 183 (dk_at dksL_law_16 10 rfl rfl)
theorem dL_law_582 : decode cL_law 582 = .ok (.aload_n 2, 1) := dk_44 (dk_at dksL_law_16 13 rfl rfl)
theorem dL_law_583 : decode cL_law 583 = .ok (.invokevirtual 186, 3) := dk_182 0 186 (dk_at dksL_law_16 14 rfl rfl)
theorem dL_law_586 : decode cL_law 586 = .ok (.if_icmp .eq 2247, 3) := dk_159 8 199 (dk_at dksL_law_16 17 rfl rfl)
theorem dL_law_589 : decode cL_law 589 = .ok (.iconst 0, 1) := dk_3 (dk_at dksL_law_16 20 rfl rfl)
theorem dL_law_590 : decode cL_law 590 = .ok (.ireturn, 1) := dk_172 (dk_at dksL_law_16 21 rfl rfl)
theorem dL_law_591 : decode cL_law 591 = .ok (.aload_n 1, 1) := dk_43 (dk_at dksL_law_16 22 rfl rfl)
theorem dL_law_592 : decode cL_law 592 = .ok (.aload_n 0, 1) := dk_42 (dk_at dksL_law_16 23 rfl rfl)
theorem dL_law_593 : decode cL_law 593 = .ok (.iload 5, 2) := dk_21 5 (dk_at dksL_law_17 0 rfl rfl)
theorem dL_law_595 : decode cL_law 595 = .ok (.iconst 1, 1) := dk_4 (dk_at dksL_law_17 2 rfl rfl)
theorem dL_law_596 : decode cL_law 596 = .ok (.iadd, 1) := dk_96 (dk_at dksL_law_17 3 rfl rfl)
theorem dL_law_597 : decode cL_law 597 = .ok (.iaload, 1) := dk_46 (dk_at dksL_law_17 4 rfl rfl)
theorem dL_law_598 : decode cL_law 598 = .ok (.i2c, 1) := dk_146 (dk_at dksL_law_17 5 rfl rfl)
theorem dL_law_599 : decode cL_law 599 = .ok (.aload_n 3, 1) := dk_45 (dk_at dksL_law_17 6 rfl rfl)
theorem dL_law_600 : decode cL_law 600 = .ok (.invokestatic 187, 3) := dk_184 0 187 (dk_at dksL_law_17 7 rfl rfl)
theorem dL_law_603 : decode cL_law 603 = .ok (.istore 6, 2) := dk_54 6 (dk_at dksL_law_17 10 rfl rfl)
theorem dL_law_605 : decode cL_law 605 = .ok (.aload_n 2, 1) := dk_44 (dk_at dksL_law_17 12 rfl rfl)
theorem dL_law_606 : decode cL_law 606 = .ok (.aload_n 0, 1) := dk_42 (dk_at dksL_law_17 13 rfl rfl)
theorem dL_law_607 : decode cL_law 607 = .ok (.iload 5, 2) := dk_21 5 (dk_at dksL_law_17 14 rfl rfl)
theorem dL_law_609 : decode cL_law 609 = .ok (.iconst 1, 1) := dk_4 (dk_at dksL_law_17 16 rfl rfl)
theorem dL_law_610 : decode cL_law 610 = .ok (.iadd, 1) := dk_96 (dk_at dksL_law_17 17 rfl rfl)
theorem dL_law_611 : decode cL_law 611 = .ok (.iaload, 1) := dk_46 (dk_at dksL_law_17 18 rfl rfl)
theorem dL_law_612 : decode cL_law 612 = .ok (.i2c, 1) := dk_146 (dk_at dksL_law_17 19 rfl rfl)
theorem dL_law_613 : decode cL_law 613 = .ok (.invokevirtual 189, 3) := dk_182 0 189 (dk_at dksL_law_17 20 rfl rfl)
theorem dL_law_616 : decode cL_law 616 = .ok (.istore 7, 2) := dk_54 7 (dk_at dksL_law_18 0 rfl rfl)
theorem dL_law_618 : decode cL_law 618 = .ok (.aload_n 2, 1) := dk_44 (dk_at dksL_law_18 2 rfl rfl)
theorem dL_law_619 : decode cL_law 619 = .ok (.invokevirtual 168, 3) := dk_182 0 168 (dk_at dksL_law_18 3 rfl rfl)
theorem dL_law_622 : decode cL_law 622 = .ok (.iload 6, 2) := dk_21 6 (dk_at dksL_law_18 6 rfl rfl)
theorem dL_law_624 : decode cL_law 624 = .ok (.if_icmp .eq 5, 3) := dk_159 0 5 (dk_at dksL_law_18 8 rfl rfl)
theorem dL_law_627 : decode cL_law 627 = .ok (.iconst 0, 1) := dk_3 (dk_at dksL_law_18 11 rfl rfl)
theorem dL_law_628 : decode cL_law 628 = .ok (.ireturn, 1) := dk_172 (dk_at dksL_law_18 12 rfl rfl)
theorem dL_law_629 : decode cL_law 629 = .ok (.iload 6, 2) := dk_21 6 (dk_at dksL_law_18 13 rfl rfl)
theorem dL_law_631 : decode cL_law 631 = .ok (.ifCond .ne 22, 3) := dk_154 0 22 (dk_at dksL_law_18 15 rfl rfl)
theorem dL_law_634 : decode cL_law 634 = .ok (.aload_n 3, 1) := dk_45 (dk_at dksL_law_18 18 rfl rfl)
theorem dL_law_635 : decode cL_law 635 = .ok (.iconst 0, 1) := dk_3 (dk_at dksL_law_18 19 rfl rfl)
theorem dL_law_636 : decode cL_law 636 = .ok (.laload, 1) := dk_47 (dk_at dksL_law_18 20 rfl rfl)
theorem dL_law_637 : decode cL_law 637 = .ok (.iload 7, 2) := dk_21 7 (dk_at dksL_law_18 21 rfl rfl)
theorem dL_law_639 : decode cL_law 639 = .ok (.ifCond .eq 7, 3) := dk_153 0 7 (dk_at dksL_law_19 0 rfl rfl)
theorem dL_law_642 : decode cL_law 642 = .ok (.lconst 1, 1) := dk_10 (dk_at dksL_law_19 3 rfl rfl)
theorem dL_law_643 : decode cL_law 643 = .ok (.goto 4, 3) := dk_167 0 4 (dk_at dksL_law_19 4 rfl rfl)
theorem dL_law_646 : decode cL_law 646 = .ok (.lconst 0, 1) := dk_9 (dk_at dksL_law_19 7 rfl rfl)
theorem dL_law_647 : decode cL_law 647 = .ok (.lcmp, 1) := dk_148 (dk_at dksL_law_19 8 rfl rfl)
theorem dL_law_648 : decode cL_law 648 = .ok (.ifCond .eq 5, 3) := dk_153 0 5 (dk_at dksL_law_19 9 rfl rfl)
theorem dL_law_651 : decode cL_law 651 = .ok (.iconst 0, 1) := dk_3 (dk_at dksL_law_19 12 rfl rfl)
theorem dL_law_652 : decode cL_law 652 = .ok (.ireturn, 1) := dk_172 (dk_at dksL_law_19 13 rfl rfl)
theorem dL_law_653 : decode cL_law 653 = .ok (.goto 2180, 3) := dk_167 8 132 (dk_at dksL_law_19 14 rfl rfl)
theorem dL_law_656 : decode cL_law 656 = .ok (.aload_n 1, 1) := dk_43 (dk_at dksL_law_19 17 rfl rfl)
theorem dL_law_657 : decode cL_law 657 = .ok (.aload_n 0, 1) := dk_42 (dk_at dksL_law_19 18 rfl rfl)
theorem dL_law_658 : decode cL_law 658 = .ok (.iload 5, 2) := dk_21 5 (dk_at dksL_law_19 19 rfl rfl)
theorem dL_law_660 : decode cL_law 660 = .ok (.iconst 1, 1) := dk_4 (dk_at dksL_law_19 21 rfl rfl)
theorem dL_law_661 : decode cL_law 661 = .ok (.iadd, 1) := dk_96 (dk_at dksL_law_19 22 rfl rfl)
theorem dL_law_662 : decode cL_law 662 = .ok (.iaload, 1) := dk_46 (dk_at dksL_law_19 23 rfl rfl)
theorem dL_law_663 : decode cL_law 663 = .ok (.i2c, 1) := dk_146 (dk_at dksL_law_20 0 rfl rfl)
theorem dL_law_664 : decode cL_law 664 = .ok (.aload_n 3, 1) := dk_45 (dk_at dksL_law_20 1 rfl rfl)
theorem dL_law_665 : decode cL_law 665 = .ok (.invokestatic 190, 3) := dk_184 0 190 (dk_at dksL_law_20 2 rfl rfl)
theorem dL_law_668 : decode cL_law 668 = .ok (.istore 6, 2) := dk_54 6 (dk_at dksL_law_20 5 rfl rfl)
theorem dL_law_670 : decode cL_law 670 = .ok (.aload_n 2, 1) := dk_44 (dk_at dksL_law_20 7 rfl rfl)
theorem dL_law_671 : decode cL_law 671 = .ok (.aload_n 0, 1) := dk_42 (dk_at dksL_law_20 8 rfl rfl)
theorem dL_law_672 : decode cL_law 672 = .ok (.iload 5, 2) := dk_21 5 (dk_at dksL_law_20 9 rfl rfl)
theorem dL_law_674 : decode cL_law 674 = .ok (.iconst 1, 1) := dk_4 (dk_at dksL_law_20 11 rfl rfl)
theorem dL_law_675 : decode cL_law 675 = .ok (.iadd, 1) := dk_96 (dk_at dksL_law_20 12 rfl rfl)
theorem dL_law_676 : decode cL_law 676 = .ok (.iaload, 1) := dk_46 (dk_at dksL_law_20 13 rfl rfl)
theorem dL_law_677 : decode cL_law 677 = .ok (.i2c, 1) := dk_146 (dk_at dksL_law_20 14 rfl rfl)
theorem dL_law_678 : decode cL_law 678 = .ok (.invokevirtual 192, 3) := dk_182 0 192 (dk_at dksL_law_20 15 rfl rfl)
theorem dL_law_681 : decode cL_law 681 = .ok (.istore 7, 2) := dk_54 7 (dk_at dksL_law_20 18 rfl rfl)
theorem dL_law_683 : decode cL_law 683 = .ok (.aload_n 2, 1) := dk_44 (dk_at dksL_law_20 20 rfl rfl)
theorem dL_law_684 : decode cL_law 684 = .ok (.invokevirtual 168, 3) := dk_182 0 168 (dk_at dksL_law_20 21 rfl rfl)
theorem dL_law_687 : decode cL_law 687 = .ok (.iload 6, 2) := dk_21 6 (dk_at dksL_law_21 0 rfl rfl)
theorem dL_law_689 : decode cL_law 689 = .ok (.if_icmp .eq 5, 3) := dk_159 0 5 (dk_at dksL_law_21 2 rfl rfl)
theorem dL_law_692 : decode cL_law 692 = .ok (.iconst 0, 1) := dk_3 (dk_at dksL_law_21 5 rfl rfl)
theorem dL_law_693 : decode cL_law 693 = .ok (.ireturn, 1) := dk_172 (dk_at dksL_law_21 6 rfl rfl)
theorem dL_law_694 : decode cL_law 694 = .ok (.iload 6, 2) := dk_21 6 (dk_at dksL_law_21 7 rfl rfl)
theorem dL_law_696 : decode cL_law 696 = .ok (.ifCond .ne 15, 3) := dk_154 0 15 (dk_at dksL_law_21 9 rfl rfl)
theorem dL_law_699 : decode cL_law 699 = .ok (.aload_n 3, 1) := dk_45 (dk_at dksL_law_21 12 rfl rfl)
theorem dL_law_700 : decode cL_law 700 = .ok (.iconst 0, 1) := dk_3 (dk_at dksL_law_21 13 rfl rfl)
theorem dL_law_701 : decode cL_law 701 = .ok (.laload, 1) := dk_47 (dk_at dksL_law_21 14 rfl rfl)
theorem dL_law_702 : decode cL_law 702 = .ok (.iload 7, 2) := dk_21 7 (dk_at dksL_law_21 15 rfl rfl)
theorem dL_law_704 : decode cL_law 704 = .ok (.i2l, 1) := dk_133 (dk_at dksL_law_21 17 rfl rfl)
theorem dL_law_705 : decode cL_law 705 = .ok (.lcmp, 1) := dk_148 (dk_at dksL_law_21 18 rfl rfl)
theorem dL_law_706 : decode cL_law 706 = .ok (.ifCond .eq 5, 3) := dk_153 0 5 (dk_at dksL_law_21 19 rfl rfl)
theorem dL_law_709 : decode cL_law 709 = .ok (.iconst 0, 1) := dk_3 (dk_at dksL_law_21 22 rfl rfl)
theorem dL_law_710 : decode cL_law 710 = .ok (.ireturn, 1) := dk_172 (dk_at dksL_law_21 23 rfl rfl)
theorem dL_law_711 : decode cL_law 711 = .ok (.goto 2122, 3) := dk_167 8 74 (dk_at dksL_law_22 0 rfl rfl)
theorem dL_law_714 : decode cL_law 714 = .ok (.aload_n 1, 1) := dk_43 (dk_at dksL_law_22 3 rfl rfl)
theorem dL_law_715 : decode cL_law 715 = .ok (.aload_n 0, 1) := dk_42 (dk_at dksL_law_22 4 rfl rfl)
theorem dL_law_716 : decode cL_law 716 = .ok (.iload 5, 2) := dk_21 5 (dk_at dksL_law_22 5 rfl rfl)
theorem dL_law_718 : decode cL_law 718 = .ok (.iconst 1, 1) := dk_4 (dk_at dksL_law_22 7 rfl rfl)
theorem dL_law_719 : decode cL_law 719 = .ok (.iadd, 1) := dk_96 (dk_at dksL_law_22 8 rfl rfl)
theorem dL_law_720 : decode cL_law 720 = .ok (.iaload, 1) := dk_46 (dk_at dksL_law_22 9 rfl rfl)
theorem dL_law_721 : decode cL_law 721 = .ok (.i2c, 1) := dk_146 (dk_at dksL_law_22 10 rfl rfl)
theorem dL_law_722 : decode cL_law 722 = .ok (.aload_n 3, 1) := dk_45 (dk_at dksL_law_22 11 rfl rfl)
theorem dL_law_723 : decode cL_law 723 = .ok (.invokestatic 193, 3) := dk_184 0 193 (dk_at dksL_law_22 12 rfl rfl)
theorem dL_law_726 : decode cL_law 726 = .ok (.istore 6, 2) := dk_54 6 (dk_at dksL_law_22 15 rfl rfl)
theorem dL_law_728 : decode cL_law 728 = .ok (.aload_n 2, 1) := dk_44 (dk_at dksL_law_22 17 rfl rfl)
theorem dL_law_729 : decode cL_law 729 = .ok (.aload_n 0, 1) := dk_42 (dk_at dksL_law_22 18 rfl rfl)
theorem dL_law_730 : decode cL_law 730 = .ok (.iload 5, 2) := dk_21 5 (dk_at dksL_law_22 19 rfl rfl)
theorem dL_law_732 : decode cL_law 732 = .ok (.iconst 1, 1) := dk_4 (dk_at dksL_law_22 21 rfl rfl)
theorem dL_law_733 : decode cL_law 733 = .ok (.iadd, 1) := dk_96 (dk_at dksL_law_22 22 rfl rfl)
theorem dL_law_734 : decode cL_law 734 = .ok (.iaload, 1) := dk_46 (dk_at dksL_law_22 23 rfl rfl)
theorem dL_law_735 : decode cL_law 735 = .ok (.i2c, 1) := dk_146 (dk_at dksL_law_23 0 rfl rfl)
theorem dL_law_736 : decode cL_law 736 = .ok (.invokevirtual 195, 3) := dk_182 0 195 (dk_at dksL_law_23 1 rfl rfl)
theorem dL_law_739 : decode cL_law 739 = .ok (.istore 7, 2) := dk_54 7 (dk_at dksL_law_23 4 rfl rfl)
theorem dL_law_741 : decode cL_law 741 = .ok (.aload_n 2, 1) := dk_44 (dk_at dksL_law_23 6 rfl rfl)
theorem dL_law_742 : decode cL_law 742 = .ok (.invokevirtual 168, 3) := dk_182 0 168 (dk_at dksL_law_23 7 rfl rfl)
theorem dL_law_745 : decode cL_law 745 = .ok (.iload 6, 2) := dk_21 6 (dk_at dksL_law_23 10 rfl rfl)
theorem dL_law_747 : decode cL_law 747 = .ok (.if_icmp .eq 5, 3) := dk_159 0 5 (dk_at dksL_law_23 12 rfl rfl)
theorem dL_law_750 : decode cL_law 750 = .ok (.iconst 0, 1) := dk_3 (dk_at dksL_law_23 15 rfl rfl)
theorem dL_law_751 : decode cL_law 751 = .ok (.ireturn, 1) := dk_172 (dk_at dksL_law_23 16 rfl rfl)
theorem dL_law_752 : decode cL_law 752 = .ok (.iload 6, 2) := dk_21 6 (dk_at dksL_law_23 17 rfl rfl)
theorem dL_law_754 : decode cL_law 754 = .ok (.ifCond .ne 15, 3) := dk_154 0 15 (dk_at dksL_law_23 19 rfl rfl)
theorem dL_law_757 : decode cL_law 757 = .ok (.aload_n 3, 1) := dk_45 (dk_at dksL_law_23 22 rfl rfl)
theorem dL_law_758 : decode cL_law 758 = .ok (.iconst 0, 1) := dk_3 (dk_at dksL_law_23 23 rfl rfl)
theorem dL_law_759 : decode cL_law 759 = .ok (.laload, 1) := dk_47 (dk_at dksL_law_24 0 rfl rfl)
theorem dL_law_760 : decode cL_law 760 = .ok (.iload 7, 2) := dk_21 7 (dk_at dksL_law_24 1 rfl rfl)
theorem dL_law_762 : decode cL_law 762 = .ok (.i2l, 1) := dk_133 (dk_at dksL_law_24 3 rfl rfl)
theorem dL_law_763 : decode cL_law 763 = .ok (.lcmp, 1) := dk_148 (dk_at dksL_law_24 4 rfl rfl)
theorem dL_law_764 : decode cL_law 764 = .ok (.ifCond .eq 5, 3) := dk_153 0 5 (dk_at dksL_law_24 5 rfl rfl)
theorem dL_law_767 : decode cL_law 767 = .ok (.iconst 0, 1) := dk_3 (dk_at dksL_law_24 8 rfl rfl)
theorem dL_law_768 : decode cL_law 768 = .ok (.ireturn, 1) := dk_172 (dk_at dksL_law_24 9 rfl rfl)
theorem dL_law_769 : decode cL_law 769 = .ok (.goto 2064, 3) := dk_167 8 16 (dk_at dksL_law_24 10 rfl rfl)
theorem dL_law_772 : decode cL_law 772 = .ok (.aload_n 1, 1) := dk_43 (dk_at dksL_law_24 13 rfl rfl)
theorem dL_law_773 : decode cL_law 773 = .ok (.aload_n 0, 1) := dk_42 (dk_at dksL_law_24 14 rfl rfl)
theorem dL_law_774 : decode cL_law 774 = .ok (.iload 5, 2) := dk_21 5 (dk_at dksL_law_24 15 rfl rfl)
theorem dL_law_776 : decode cL_law 776 = .ok (.iconst 1, 1) := dk_4 (dk_at dksL_law_24 17 rfl rfl)
theorem dL_law_777 : decode cL_law 777 = .ok (.iadd, 1) := dk_96 (dk_at dksL_law_24 18 rfl rfl)
theorem dL_law_778 : decode cL_law 778 = .ok (.iaload, 1) := dk_46 (dk_at dksL_law_24 19 rfl rfl)
theorem dL_law_779 : decode cL_law 779 = .ok (.i2c, 1) := dk_146 (dk_at dksL_law_24 20 rfl rfl)
theorem dL_law_780 : decode cL_law 780 = .ok (.aload_n 0, 1) := dk_42 (dk_at dksL_law_24 21 rfl rfl)
theorem dL_law_781 : decode cL_law 781 = .ok (.iload 5, 2) := dk_21 5 (dk_at dksL_law_24 22 rfl rfl)
theorem dL_law_783 : decode cL_law 783 = .ok (.iconst 2, 1) := dk_5 (dk_at dksL_law_25 0 rfl rfl)
theorem dL_law_784 : decode cL_law 784 = .ok (.iadd, 1) := dk_96 (dk_at dksL_law_25 1 rfl rfl)
theorem dL_law_785 : decode cL_law 785 = .ok (.iaload, 1) := dk_46 (dk_at dksL_law_25 2 rfl rfl)
theorem dL_law_786 : decode cL_law 786 = .ok (.aload_n 3, 1) := dk_45 (dk_at dksL_law_25 3 rfl rfl)
theorem dL_law_787 : decode cL_law 787 = .ok (.invokestatic 196, 3) := dk_184 0 196 (dk_at dksL_law_25 4 rfl rfl)
theorem dL_law_790 : decode cL_law 790 = .ok (.istore 6, 2) := dk_54 6 (dk_at dksL_law_25 7 rfl rfl)
theorem dL_law_792 : decode cL_law 792 = .ok (.aload_n 2, 1) := dk_44 (dk_at dksL_law_25 9 rfl rfl)
theorem dL_law_793 : decode cL_law 793 = .ok (.aload_n 0, 1) := dk_42 (dk_at dksL_law_25 10 rfl rfl)
theorem dL_law_794 : decode cL_law 794 = .ok (.iload 5, 2) := dk_21 5 (dk_at dksL_law_25 11 rfl rfl)
theorem dL_law_796 : decode cL_law 796 = .ok (.iconst 1, 1) := dk_4 (dk_at dksL_law_25 13 rfl rfl)
theorem dL_law_797 : decode cL_law 797 = .ok (.iadd, 1) := dk_96 (dk_at dksL_law_25 14 rfl rfl)
theorem dL_law_798 : decode cL_law 798 = .ok (.iaload, 1) := dk_46 (dk_at dksL_law_25 15 rfl rfl)
theorem dL_law_799 : decode cL_law 799 = .ok (.i2c, 1) := dk_146 (dk_at dksL_law_25 16 rfl rfl)
theorem dL_law_800 : decode cL_law 800 = .ok (.aload_n 0, 1) := dk_42 (dk_at dksL_law_25 17 rfl rfl)
theorem dL_law_801 : decode cL_law 801 = .ok (.iload 5, 2) := dk_21 5 (dk_at dksL_law_25 18 rfl rfl)
theorem dL_law_803 : decode cL_law 803 = .ok (.iconst 2, 1) := dk_5 (dk_at dksL_law_25 20 rfl rfl)
theorem dL_law_804 : decode cL_law 804 = .ok (.iadd, 1) := dk_96 (dk_at dksL_law_25 21 rfl rfl)
theorem dL_law_805 : decode cL_law 805 = .ok (.iaload, 1) := dk_46 (dk_at dksL_law_25 22 rfl rfl)
theorem dL_law_806 : decode cL_law 806 = .ok (.invokevirtual 199, 3) := dk_182 0 199 (dk_at dksL_law_26 0 rfl rfl)
theorem dL_law_809 : decode cL_law 809 = .ok (.istore 7, 2) := dk_54 7 (dk_at dksL_law_26 3 rfl rfl)
theorem dL_law_811 : decode cL_law 811 = .ok (.aload_n 2, 1) := dk_44 (dk_at dksL_law_26 5 rfl rfl)
theorem dL_law_812 : decode cL_law 812 = .ok (.invokevirtual 168, 3) := dk_182 0 168 (dk_at dksL_law_26 6 rfl rfl)
theorem dL_law_815 : decode cL_law 815 = .ok (.iload 6, 2) := dk_21 6 (dk_at dksL_law_26 9 rfl rfl)
theorem dL_law_817 : decode cL_law 817 = .ok (.if_icmp .eq 5, 3) := dk_159 0 5 (dk_at dksL_law_26 11 rfl rfl)
theorem dL_law_820 : decode cL_law 820 = .ok (.iconst 0, 1) := dk_3 (dk_at dksL_law_26 14 rfl rfl)
theorem dL_law_821 : decode cL_law 821 = .ok (.ireturn, 1) := dk_172 (dk_at dksL_law_26 15 rfl rfl)
theorem dL_law_822 : decode cL_law 822 = .ok (.iload 6, 2) := dk_21 6 (dk_at dksL_law_26 16 rfl rfl)
theorem dL_law_824 : decode cL_law 824 = .ok (.ifCond .ne 15, 3) := dk_154 0 15 (dk_at dksL_law_26 18 rfl rfl)
theorem dL_law_827 : decode cL_law 827 = .ok (.aload_n 3, 1) := dk_45 (dk_at dksL_law_26 21 rfl rfl)
theorem dL_law_828 : decode cL_law 828 = .ok (.iconst 0, 1) := dk_3 (dk_at dksL_law_26 22 rfl rfl)
theorem dL_law_829 : decode cL_law 829 = .ok (.laload, 1) := dk_47 (dk_at dksL_law_26 23 rfl rfl)
theorem dL_law_830 : decode cL_law 830 = .ok (.iload 7, 2) := dk_21 7 (dk_at dksL_law_27 0 rfl rfl)
theorem dL_law_832 : decode cL_law 832 = .ok (.i2l, 1) := dk_133 (dk_at dksL_law_27 2 rfl rfl)
theorem dL_law_833 : decode cL_law 833 = .ok (.lcmp, 1) := dk_148 (dk_at dksL_law_27 3 rfl rfl)
theorem dL_law_834 : decode cL_law 834 = .ok (.ifCond .eq 5, 3) := dk_153 0 5 (dk_at dksL_law_27 4 rfl rfl)
theorem dL_law_837 : decode cL_law 837 = .ok (.iconst 0, 1) := dk_3 (dk_at dksL_law_27 7 rfl rfl)
theorem dL_law_838 : decode cL_law 838 = .ok (.ireturn, 1) := dk_172 (dk_at dksL_law_27 8 rfl rfl)
theorem dL_law_839 : decode cL_law 839 = .ok (.goto 1994, 3) := dk_167 7 202 (dk_at dksL_law_27 9 rfl rfl)
theorem dL_law_842 : decode cL_law 842 = .ok (.aload_n 1, 1) := dk_43 (dk_at dksL_law_27 12 rfl rfl)
theorem dL_law_843 : decode cL_law 843 = .ok (.aload_n 0, 1) := dk_42 (dk_at dksL_law_27 13 rfl rfl)
theorem dL_law_844 : decode cL_law 844 = .ok (.iload 5, 2) := dk_21 5 (dk_at dksL_law_27 14 rfl rfl)
theorem dL_law_846 : decode cL_law 846 = .ok (.iconst 1, 1) := dk_4 (dk_at dksL_law_27 16 rfl rfl)
theorem dL_law_847 : decode cL_law 847 = .ok (.iadd, 1) := dk_96 (dk_at dksL_law_27 17 rfl rfl)
theorem dL_law_848 : decode cL_law 848 = .ok (.iaload, 1) := dk_46 (dk_at dksL_law_27 18 rfl rfl)
theorem dL_law_849 : decode cL_law 849 = .ok (.i2c, 1) := dk_146 (dk_at dksL_law_27 19 rfl rfl)
theorem dL_law_850 : decode cL_law 850 = .ok (.aload_n 0, 1) := dk_42 (dk_at dksL_law_27 20 rfl rfl)
theorem dL_law_851 : decode cL_law 851 = .ok (.iload 5, 2) := dk_21 5 (dk_at dksL_law_27 21 rfl rfl)
theorem dL_law_853 : decode cL_law 853 = .ok (.iconst 2, 1) := dk_5 (dk_at dksL_law_27 23 rfl rfl)
theorem dL_law_854 : decode cL_law 854 = .ok (.iadd, 1) := dk_96 (dk_at dksL_law_28 0 rfl rfl)
theorem dL_law_855 : decode cL_law 855 = .ok (.iaload, 1) := dk_46 (dk_at dksL_law_28 1 rfl rfl)
theorem dL_law_856 : decode cL_law 856 = .ok (.aload_n 3, 1) := dk_45 (dk_at dksL_law_28 2 rfl rfl)
theorem dL_law_857 : decode cL_law 857 = .ok (.invokestatic 200, 3) := dk_184 0 200 (dk_at dksL_law_28 3 rfl rfl)
theorem dL_law_860 : decode cL_law 860 = .ok (.istore 6, 2) := dk_54 6 (dk_at dksL_law_28 6 rfl rfl)
theorem dL_law_862 : decode cL_law 862 = .ok (.aload_n 2, 1) := dk_44 (dk_at dksL_law_28 8 rfl rfl)
theorem dL_law_863 : decode cL_law 863 = .ok (.aload_n 0, 1) := dk_42 (dk_at dksL_law_28 9 rfl rfl)
theorem dL_law_864 : decode cL_law 864 = .ok (.iload 5, 2) := dk_21 5 (dk_at dksL_law_28 10 rfl rfl)
theorem dL_law_866 : decode cL_law 866 = .ok (.iconst 1, 1) := dk_4 (dk_at dksL_law_28 12 rfl rfl)
theorem dL_law_867 : decode cL_law 867 = .ok (.iadd, 1) := dk_96 (dk_at dksL_law_28 13 rfl rfl)
theorem dL_law_868 : decode cL_law 868 = .ok (.iaload, 1) := dk_46 (dk_at dksL_law_28 14 rfl rfl)
theorem dL_law_869 : decode cL_law 869 = .ok (.i2c, 1) := dk_146 (dk_at dksL_law_28 15 rfl rfl)
theorem dL_law_870 : decode cL_law 870 = .ok (.aload_n 0, 1) := dk_42 (dk_at dksL_law_28 16 rfl rfl)
theorem dL_law_871 : decode cL_law 871 = .ok (.iload 5, 2) := dk_21 5 (dk_at dksL_law_28 17 rfl rfl)
theorem dL_law_873 : decode cL_law 873 = .ok (.iconst 2, 1) := dk_5 (dk_at dksL_law_28 19 rfl rfl)
theorem dL_law_874 : decode cL_law 874 = .ok (.iadd, 1) := dk_96 (dk_at dksL_law_28 20 rfl rfl)
theorem dL_law_875 : decode cL_law 875 = .ok (.iaload, 1) := dk_46 (dk_at dksL_law_28 21 rfl rfl)
theorem dL_law_876 : decode cL_law 876 = .ok (.invokevirtual 202, 3) := dk_182 0 202 (dk_at dksL_law_29 0 rfl rfl)
theorem dL_law_879 : decode cL_law 879 = .ok (.istore 7, 2) := dk_54 7 (dk_at dksL_law_29 3 rfl rfl)
theorem dL_law_881 : decode cL_law 881 = .ok (.aload_n 2, 1) := dk_44 (dk_at dksL_law_29 5 rfl rfl)
theorem dL_law_882 : decode cL_law 882 = .ok (.invokevirtual 168, 3) := dk_182 0 168 (dk_at dksL_law_29 6 rfl rfl)
theorem dL_law_885 : decode cL_law 885 = .ok (.iload 6, 2) := dk_21 6 (dk_at dksL_law_29 9 rfl rfl)
theorem dL_law_887 : decode cL_law 887 = .ok (.if_icmp .eq 5, 3) := dk_159 0 5 (dk_at dksL_law_29 11 rfl rfl)
theorem dL_law_890 : decode cL_law 890 = .ok (.iconst 0, 1) := dk_3 (dk_at dksL_law_29 14 rfl rfl)
theorem dL_law_891 : decode cL_law 891 = .ok (.ireturn, 1) := dk_172 (dk_at dksL_law_29 15 rfl rfl)
theorem dL_law_892 : decode cL_law 892 = .ok (.iload 6, 2) := dk_21 6 (dk_at dksL_law_29 16 rfl rfl)
theorem dL_law_894 : decode cL_law 894 = .ok (.ifCond .ne 22, 3) := dk_154 0 22 (dk_at dksL_law_29 18 rfl rfl)
theorem dL_law_897 : decode cL_law 897 = .ok (.aload_n 3, 1) := dk_45 (dk_at dksL_law_29 21 rfl rfl)
theorem dL_law_898 : decode cL_law 898 = .ok (.iconst 0, 1) := dk_3 (dk_at dksL_law_29 22 rfl rfl)
theorem dL_law_899 : decode cL_law 899 = .ok (.laload, 1) := dk_47 (dk_at dksL_law_29 23 rfl rfl)
theorem dL_law_900 : decode cL_law 900 = .ok (.iload 7, 2) := dk_21 7 (dk_at dksL_law_30 0 rfl rfl)
theorem dL_law_902 : decode cL_law 902 = .ok (.ifCond .eq 7, 3) := dk_153 0 7 (dk_at dksL_law_30 2 rfl rfl)
theorem dL_law_905 : decode cL_law 905 = .ok (.lconst 1, 1) := dk_10 (dk_at dksL_law_30 5 rfl rfl)
theorem dL_law_906 : decode cL_law 906 = .ok (.goto 4, 3) := dk_167 0 4 (dk_at dksL_law_30 6 rfl rfl)
theorem dL_law_909 : decode cL_law 909 = .ok (.lconst 0, 1) := dk_9 (dk_at dksL_law_30 9 rfl rfl)
theorem dL_law_910 : decode cL_law 910 = .ok (.lcmp, 1) := dk_148 (dk_at dksL_law_30 10 rfl rfl)
theorem dL_law_911 : decode cL_law 911 = .ok (.ifCond .eq 5, 3) := dk_153 0 5 (dk_at dksL_law_30 11 rfl rfl)
theorem dL_law_914 : decode cL_law 914 = .ok (.iconst 0, 1) := dk_3 (dk_at dksL_law_30 14 rfl rfl)
theorem dL_law_915 : decode cL_law 915 = .ok (.ireturn, 1) := dk_172 (dk_at dksL_law_30 15 rfl rfl)
theorem dL_law_916 : decode cL_law 916 = .ok (.goto 1917, 3) := dk_167 7 125 (dk_at dksL_law_30 16 rfl rfl)
theorem dL_law_919 : decode cL_law 919 = .ok (.aload_n 1, 1) := dk_43 (dk_at dksL_law_30 19 rfl rfl)
theorem dL_law_920 : decode cL_law 920 = .ok (.aload_n 0, 1) := dk_42 (dk_at dksL_law_30 20 rfl rfl)
theorem dL_law_921 : decode cL_law 921 = .ok (.iload 5, 2) := dk_21 5 (dk_at dksL_law_30 21 rfl rfl)
theorem dL_law_923 : decode cL_law 923 = .ok (.iconst 1, 1) := dk_4 (dk_at dksL_law_30 23 rfl rfl)
theorem dL_law_924 : decode cL_law 924 = .ok (.iadd, 1) := dk_96 (dk_at dksL_law_31 0 rfl rfl)
theorem dL_law_925 : decode cL_law 925 = .ok (.iaload, 1) := dk_46 (dk_at dksL_law_31 1 rfl rfl)
theorem dL_law_926 : decode cL_law 926 = .ok (.i2c, 1) := dk_146 (dk_at dksL_law_31 2 rfl rfl)
theorem dL_law_927 : decode cL_law 927 = .ok (.aload_n 0, 1) := dk_42 (dk_at dksL_law_31 3 rfl rfl)
theorem dL_law_928 : decode cL_law 928 = .ok (.iload 5, 2) := dk_21 5 (dk_at dksL_law_31 4 rfl rfl)
theorem dL_law_930 : decode cL_law 930 = .ok (.iconst 2, 1) := dk_5 (dk_at dksL_law_31 6 rfl rfl)
theorem dL_law_931 : decode cL_law 931 = .ok (.iadd, 1) := dk_96 (dk_at dksL_law_31 7 rfl rfl)
theorem dL_law_932 : decode cL_law 932 = .ok (.iaload, 1) := dk_46 (dk_at dksL_law_31 8 rfl rfl)
theorem dL_law_933 : decode cL_law 933 = .ok (.i2c, 1) := dk_146 (dk_at dksL_law_31 9 rfl rfl)
theorem dL_law_934 : decode cL_law 934 = .ok (.aload_n 3, 1) := dk_45 (dk_at dksL_law_31 10 rfl rfl)
theorem dL_law_935 : decode cL_law 935 = .ok (.invokestatic 203, 3) := dk_184 0 203 (dk_at dksL_law_31 11 rfl rfl)
theorem dL_law_938 : decode cL_law 938 = .ok (.istore 6, 2) := dk_54 6 (dk_at dksL_law_31 14 rfl rfl)
theorem dL_law_940 : decode cL_law 940 = .ok (.aload_n 2, 1) := dk_44 (dk_at dksL_law_31 16 rfl rfl)
theorem dL_law_941 : decode cL_law 941 = .ok (.aload_n 0, 1) := dk_42 (dk_at dksL_law_31 17 rfl rfl)
theorem dL_law_942 : decode cL_law 942 = .ok (.iload 5, 2) := dk_21 5 (dk_at dksL_law_31 18 rfl rfl)
theorem dL_law_944 : decode cL_law 944 = .ok (.iconst 1, 1) := dk_4 (dk_at dksL_law_31 20 rfl rfl)
theorem dL_law_945 : decode cL_law 945 = .ok (.iadd, 1) := dk_96 (dk_at dksL_law_31 21 rfl rfl)
theorem dL_law_946 : decode cL_law 946 = .ok (.iaload, 1) := dk_46 (dk_at dksL_law_31 22 rfl rfl)
theorem dL_law_947 : decode cL_law 947 = .ok (.i2c, 1) := dk_146 (dk_at dksL_law_31 23 rfl rfl)
theorem dL_law_948 : decode cL_law 948 = .ok (.aload_n 0, 1) := dk_42 (dk_at dksL_law_32 0 rfl rfl)
theorem dL_law_949 : decode cL_law 949 = .ok (.iload 5, 2) := dk_21 5 (dk_at dksL_law_32 1 rfl rfl)
theorem dL_law_951 : decode cL_law 951 = .ok (.iconst 2, 1) := dk_5 (dk_at dksL_law_32 3 rfl rfl)
theorem dL_law_952 : decode cL_law 952 = .ok (.iadd, 1) := dk_96 (dk_at dksL_law_32 4 rfl rfl)
theorem dL_law_953 : decode cL_law 953 = .ok (.iaload, 1) := dk_46 (dk_at dksL_law_32 5 rfl rfl)
theorem dL_law_954 : decode cL_law 954 = .ok (.i2c, 1) := dk_146 (dk_at dksL_law_32 6 rfl rfl)
theorem dL_law_955 : decode cL_law 955 = .ok (.invokevirtual 205, 3) := dk_182 0 205 (dk_at dksL_law_32 7 rfl rfl)
theorem dL_law_958 : decode cL_law 958 = .ok (.istore 7, 2) := dk_54 7 (dk_at dksL_law_32 10 rfl rfl)
theorem dL_law_960 : decode cL_law 960 = .ok (.aload_n 2, 1) := dk_44 (dk_at dksL_law_32 12 rfl rfl)
theorem dL_law_961 : decode cL_law 961 = .ok (.invokevirtual 168, 3) := dk_182 0 168 (dk_at dksL_law_32 13 rfl rfl)
theorem dL_law_964 : decode cL_law 964 = .ok (.iload 6, 2) := dk_21 6 (dk_at dksL_law_32 16 rfl rfl)
theorem dL_law_966 : decode cL_law 966 = .ok (.if_icmp .eq 5, 3) := dk_159 0 5 (dk_at dksL_law_32 18 rfl rfl)
theorem dL_law_969 : decode cL_law 969 = .ok (.iconst 0, 1) := dk_3 (dk_at dksL_law_32 21 rfl rfl)
theorem dL_law_970 : decode cL_law 970 = .ok (.ireturn, 1) := dk_172 (dk_at dksL_law_32 22 rfl rfl)
theorem dL_law_971 : decode cL_law 971 = .ok (.iload 6, 2) := dk_21 6 (dk_at dksL_law_33 0 rfl rfl)
theorem dL_law_973 : decode cL_law 973 = .ok (.ifCond .ne 15, 3) := dk_154 0 15 (dk_at dksL_law_33 2 rfl rfl)
theorem dL_law_976 : decode cL_law 976 = .ok (.aload_n 3, 1) := dk_45 (dk_at dksL_law_33 5 rfl rfl)
theorem dL_law_977 : decode cL_law 977 = .ok (.iconst 0, 1) := dk_3 (dk_at dksL_law_33 6 rfl rfl)
theorem dL_law_978 : decode cL_law 978 = .ok (.laload, 1) := dk_47 (dk_at dksL_law_33 7 rfl rfl)
theorem dL_law_979 : decode cL_law 979 = .ok (.iload 7, 2) := dk_21 7 (dk_at dksL_law_33 8 rfl rfl)
theorem dL_law_981 : decode cL_law 981 = .ok (.i2l, 1) := dk_133 (dk_at dksL_law_33 10 rfl rfl)
theorem dL_law_982 : decode cL_law 982 = .ok (.lcmp, 1) := dk_148 (dk_at dksL_law_33 11 rfl rfl)
theorem dL_law_983 : decode cL_law 983 = .ok (.ifCond .eq 5, 3) := dk_153 0 5 (dk_at dksL_law_33 12 rfl rfl)
theorem dL_law_986 : decode cL_law 986 = .ok (.iconst 0, 1) := dk_3 (dk_at dksL_law_33 15 rfl rfl)
theorem dL_law_987 : decode cL_law 987 = .ok (.ireturn, 1) := dk_172 (dk_at dksL_law_33 16 rfl rfl)
theorem dL_law_988 : decode cL_law 988 = .ok (.goto 1845, 3) := dk_167 7 53 (dk_at dksL_law_33 17 rfl rfl)
theorem dL_law_991 : decode cL_law 991 = .ok (.aload_n 1, 1) := dk_43 (dk_at dksL_law_33 20 rfl rfl)
theorem dL_law_992 : decode cL_law 992 = .ok (.aload_n 0, 1) := dk_42 (dk_at dksL_law_33 21 rfl rfl)
theorem dL_law_993 : decode cL_law 993 = .ok (.iload 5, 2) := dk_21 5 (dk_at dksL_law_33 22 rfl rfl)
theorem dL_law_995 : decode cL_law 995 = .ok (.iconst 1, 1) := dk_4 (dk_at dksL_law_34 0 rfl rfl)
theorem dL_law_996 : decode cL_law 996 = .ok (.iadd, 1) := dk_96 (dk_at dksL_law_34 1 rfl rfl)
theorem dL_law_997 : decode cL_law 997 = .ok (.iaload, 1) := dk_46 (dk_at dksL_law_34 2 rfl rfl)
theorem dL_law_998 : decode cL_law 998 = .ok (.i2c, 1) := dk_146 (dk_at dksL_law_34 3 rfl rfl)
theorem dL_law_999 : decode cL_law 999 = .ok (.aload_n 3, 1) := dk_45 (dk_at dksL_law_34 4 rfl rfl)
theorem dL_law_1000 : decode cL_law 1000 = .ok (.invokestatic 206, 3) := dk_184 0 206 (dk_at dksL_law_34 5 rfl rfl)
theorem dL_law_1003 : decode cL_law 1003 = .ok (.istore 6, 2) := dk_54 6 (dk_at dksL_law_34 8 rfl rfl)
theorem dL_law_1005 : decode cL_law 1005 = .ok (.aload_n 2, 1) := dk_44 (dk_at dksL_law_34 10 rfl rfl)
theorem dL_law_1006 : decode cL_law 1006 = .ok (.aload_n 0, 1) := dk_42 (dk_at dksL_law_34 11 rfl rfl)
theorem dL_law_1007 : decode cL_law 1007 = .ok (.iload 5, 2) := dk_21 5 (dk_at dksL_law_34 12 rfl rfl)
theorem dL_law_1009 : decode cL_law 1009 = .ok (.iconst 1, 1) := dk_4 (dk_at dksL_law_34 14 rfl rfl)
theorem dL_law_1010 : decode cL_law 1010 = .ok (.iadd, 1) := dk_96 (dk_at dksL_law_34 15 rfl rfl)
theorem dL_law_1011 : decode cL_law 1011 = .ok (.iaload, 1) := dk_46 (dk_at dksL_law_34 16 rfl rfl)
theorem dL_law_1012 : decode cL_law 1012 = .ok (.i2c, 1) := dk_146 (dk_at dksL_law_34 17 rfl rfl)
theorem dL_law_1013 : decode cL_law 1013 = .ok (.invokevirtual 208, 3) := dk_182 0 208 (dk_at dksL_law_34 18 rfl rfl)
theorem dL_law_1016 : decode cL_law 1016 = .ok (.istore 7, 2) := dk_54 7 (dk_at dksL_law_34 21 rfl rfl)
theorem dL_law_1018 : decode cL_law 1018 = .ok (.aload_n 2, 1) := dk_44 (dk_at dksL_law_34 23 rfl rfl)
theorem dL_law_1019 : decode cL_law 1019 = .ok (.invokevirtual 168, 3) := dk_182 0 168 (dk_at dksL_law_35 0 rfl rfl)
theorem dL_law_1022 : decode cL_law 1022 = .ok (.iload 6, 2) := dk_21 6 (dk_at dksL_law_35 3 rfl rfl)
theorem dL_law_1024 : decode cL_law 1024 = .ok (.if_icmp .eq 5, 3) := dk_159 0 5 (dk_at dksL_law_35 5 rfl rfl)
theorem dL_law_1027 : decode cL_law 1027 = .ok (.iconst 0, 1) := dk_3 (dk_at dksL_law_35 8 rfl rfl)
theorem dL_law_1028 : decode cL_law 1028 = .ok (.ireturn, 1) := dk_172 (dk_at dksL_law_35 9 rfl rfl)
theorem dL_law_1029 : decode cL_law 1029 = .ok (.iload 6, 2) := dk_21 6 (dk_at dksL_law_35 10 rfl rfl)
theorem dL_law_1031 : decode cL_law 1031 = .ok (.ifCond .ne 15, 3) := dk_154 0 15 (dk_at dksL_law_35 12 rfl rfl)
theorem dL_law_1034 : decode cL_law 1034 = .ok (.aload_n 3, 1) := dk_45 (dk_at dksL_law_35 15 rfl rfl)
theorem dL_law_1035 : decode cL_law 1035 = .ok (.iconst 0, 1) := dk_3 (dk_at dksL_law_35 16 rfl rfl)
theorem dL_law_1036 : decode cL_law 1036 = .ok (.laload, 1) := dk_47 (dk_at dksL_law_35 17 rfl rfl)
theorem dL_law_1037 : decode cL_law 1037 = .ok (.iload 7, 2) := dk_21 7 (dk_at dksL_law_35 18 rfl rfl)
theorem dL_law_1039 : decode cL_law 1039 = .ok (.i2l, 1) := dk_133 (dk_at dksL_law_35 20 rfl rfl)
theorem dL_law_1040 : decode cL_law 1040 = .ok (.lcmp, 1) := dk_148 (dk_at dksL_law_35 21 rfl rfl)
theorem dL_law_1041 : decode cL_law 1041 = .ok (.ifCond .eq 5, 3) := dk_153 0 5 (dk_at dksL_law_36 0 rfl rfl)
theorem dL_law_1044 : decode cL_law 1044 = .ok (.iconst 0, 1) := dk_3 (dk_at dksL_law_36 3 rfl rfl)
theorem dL_law_1045 : decode cL_law 1045 = .ok (.ireturn, 1) := dk_172 (dk_at dksL_law_36 4 rfl rfl)
theorem dL_law_1046 : decode cL_law 1046 = .ok (.goto 1787, 3) := dk_167 6 251 (dk_at dksL_law_36 5 rfl rfl)
theorem dL_law_1049 : decode cL_law 1049 = .ok (.aload_n 1, 1) := dk_43 (dk_at dksL_law_36 8 rfl rfl)
theorem dL_law_1050 : decode cL_law 1050 = .ok (.aload_n 0, 1) := dk_42 (dk_at dksL_law_36 9 rfl rfl)
theorem dL_law_1051 : decode cL_law 1051 = .ok (.iload 5, 2) := dk_21 5 (dk_at dksL_law_36 10 rfl rfl)
theorem dL_law_1053 : decode cL_law 1053 = .ok (.iconst 1, 1) := dk_4 (dk_at dksL_law_36 12 rfl rfl)
theorem dL_law_1054 : decode cL_law 1054 = .ok (.iadd, 1) := dk_96 (dk_at dksL_law_36 13 rfl rfl)
theorem dL_law_1055 : decode cL_law 1055 = .ok (.iaload, 1) := dk_46 (dk_at dksL_law_36 14 rfl rfl)
theorem dL_law_1056 : decode cL_law 1056 = .ok (.i2c, 1) := dk_146 (dk_at dksL_law_36 15 rfl rfl)
theorem dL_law_1057 : decode cL_law 1057 = .ok (.aload_n 3, 1) := dk_45 (dk_at dksL_law_36 16 rfl rfl)
theorem dL_law_1058 : decode cL_law 1058 = .ok (.invokestatic 209, 3) := dk_184 0 209 (dk_at dksL_law_36 17 rfl rfl)
theorem dL_law_1061 : decode cL_law 1061 = .ok (.istore 6, 2) := dk_54 6 (dk_at dksL_law_36 20 rfl rfl)
theorem dL_law_1063 : decode cL_law 1063 = .ok (.aload_n 2, 1) := dk_44 (dk_at dksL_law_36 22 rfl rfl)
theorem dL_law_1064 : decode cL_law 1064 = .ok (.aload_n 0, 1) := dk_42 (dk_at dksL_law_36 23 rfl rfl)
theorem dL_law_1065 : decode cL_law 1065 = .ok (.iload 5, 2) := dk_21 5 (dk_at dksL_law_37 0 rfl rfl)
theorem dL_law_1067 : decode cL_law 1067 = .ok (.iconst 1, 1) := dk_4 (dk_at dksL_law_37 2 rfl rfl)
theorem dL_law_1068 : decode cL_law 1068 = .ok (.iadd, 1) := dk_96 (dk_at dksL_law_37 3 rfl rfl)
theorem dL_law_1069 : decode cL_law 1069 = .ok (.iaload, 1) := dk_46 (dk_at dksL_law_37 4 rfl rfl)
theorem dL_law_1070 : decode cL_law 1070 = .ok (.i2c, 1) := dk_146 (dk_at dksL_law_37 5 rfl rfl)
theorem dL_law_1071 : decode cL_law 1071 = .ok (.invokevirtual 211, 3) := dk_182 0 211 (dk_at dksL_law_37 6 rfl rfl)
theorem dL_law_1074 : decode cL_law 1074 = .ok (.istore 7, 2) := dk_54 7 (dk_at dksL_law_37 9 rfl rfl)
theorem dL_law_1076 : decode cL_law 1076 = .ok (.aload_n 2, 1) := dk_44 (dk_at dksL_law_37 11 rfl rfl)
theorem dL_law_1077 : decode cL_law 1077 = .ok (.invokevirtual 168, 3) := dk_182 0 168 (dk_at dksL_law_37 12 rfl rfl)
theorem dL_law_1080 : decode cL_law 1080 = .ok (.iload 6, 2) := dk_21 6 (dk_at dksL_law_37 15 rfl rfl)
theorem dL_law_1082 : decode cL_law 1082 = .ok (.if_icmp .eq 5, 3) := dk_159 0 5 (dk_at dksL_law_37 17 rfl rfl)
theorem dL_law_1085 : decode cL_law 1085 = .ok (.iconst 0, 1) := dk_3 (dk_at dksL_law_37 20 rfl rfl)
theorem dL_law_1086 : decode cL_law 1086 = .ok (.ireturn, 1) := dk_172 (dk_at dksL_law_37 21 rfl rfl)
theorem dL_law_1087 : decode cL_law 1087 = .ok (.iload 6, 2) := dk_21 6 (dk_at dksL_law_37 22 rfl rfl)
theorem dL_law_1089 : decode cL_law 1089 = .ok (.ifCond .ne 15, 3) := dk_154 0 15 (dk_at dksL_law_38 0 rfl rfl)
theorem dL_law_1092 : decode cL_law 1092 = .ok (.aload_n 3, 1) := dk_45 (dk_at dksL_law_38 3 rfl rfl)
theorem dL_law_1093 : decode cL_law 1093 = .ok (.iconst 0, 1) := dk_3 (dk_at dksL_law_38 4 rfl rfl)
theorem dL_law_1094 : decode cL_law 1094 = .ok (.laload, 1) := dk_47 (dk_at dksL_law_38 5 rfl rfl)
theorem dL_law_1095 : decode cL_law 1095 = .ok (.iload 7, 2) := dk_21 7 (dk_at dksL_law_38 6 rfl rfl)
theorem dL_law_1097 : decode cL_law 1097 = .ok (.i2l, 1) := dk_133 (dk_at dksL_law_38 8 rfl rfl)
theorem dL_law_1098 : decode cL_law 1098 = .ok (.lcmp, 1) := dk_148 (dk_at dksL_law_38 9 rfl rfl)
theorem dL_law_1099 : decode cL_law 1099 = .ok (.ifCond .eq 5, 3) := dk_153 0 5 (dk_at dksL_law_38 10 rfl rfl)
theorem dL_law_1102 : decode cL_law 1102 = .ok (.iconst 0, 1) := dk_3 (dk_at dksL_law_38 13 rfl rfl)
theorem dL_law_1103 : decode cL_law 1103 = .ok (.ireturn, 1) := dk_172 (dk_at dksL_law_38 14 rfl rfl)
theorem dL_law_1104 : decode cL_law 1104 = .ok (.goto 1729, 3) := dk_167 6 193 (dk_at dksL_law_38 15 rfl rfl)
theorem dL_law_1107 : decode cL_law 1107 = .ok (.aload_n 1, 1) := dk_43 (dk_at dksL_law_38 18 rfl rfl)
theorem dL_law_1108 : decode cL_law 1108 = .ok (.aload_n 0, 1) := dk_42 (dk_at dksL_law_38 19 rfl rfl)
theorem dL_law_1109 : decode cL_law 1109 = .ok (.iload 5, 2) := dk_21 5 (dk_at dksL_law_38 20 rfl rfl)
theorem dL_law_1111 : decode cL_law 1111 = .ok (.iconst 1, 1) := dk_4 (dk_at dksL_law_38 22 rfl rfl)
theorem dL_law_1112 : decode cL_law 1112 = .ok (.iadd, 1) := dk_96 (dk_at dksL_law_38 23 rfl rfl)
theorem dL_law_1113 : decode cL_law 1113 = .ok (.iaload, 1) := dk_46 (dk_at dksL_law_39 0 rfl rfl)
theorem dL_law_1114 : decode cL_law 1114 = .ok (.i2c, 1) := dk_146 (dk_at dksL_law_39 1 rfl rfl)
theorem dL_law_1115 : decode cL_law 1115 = .ok (.aload_n 3, 1) := dk_45 (dk_at dksL_law_39 2 rfl rfl)
theorem dL_law_1116 : decode cL_law 1116 = .ok (.invokestatic 212, 3) := dk_184 0 212 (dk_at dksL_law_39 3 rfl rfl)
theorem dL_law_1119 : decode cL_law 1119 = .ok (.istore 6, 2) := dk_54 6 (dk_at dksL_law_39 6 rfl rfl)
theorem dL_law_1121 : decode cL_law 1121 = .ok (.aload_n 2, 1) := dk_44 (dk_at dksL_law_39 8 rfl rfl)
theorem dL_law_1122 : decode cL_law 1122 = .ok (.aload_n 0, 1) := dk_42 (dk_at dksL_law_39 9 rfl rfl)
theorem dL_law_1123 : decode cL_law 1123 = .ok (.iload 5, 2) := dk_21 5 (dk_at dksL_law_39 10 rfl rfl)
theorem dL_law_1125 : decode cL_law 1125 = .ok (.iconst 1, 1) := dk_4 (dk_at dksL_law_39 12 rfl rfl)
theorem dL_law_1126 : decode cL_law 1126 = .ok (.iadd, 1) := dk_96 (dk_at dksL_law_39 13 rfl rfl)
theorem dL_law_1127 : decode cL_law 1127 = .ok (.iaload, 1) := dk_46 (dk_at dksL_law_39 14 rfl rfl)
theorem dL_law_1128 : decode cL_law 1128 = .ok (.i2c, 1) := dk_146 (dk_at dksL_law_39 15 rfl rfl)
theorem dL_law_1129 : decode cL_law 1129 = .ok (.invokevirtual 214, 3) := dk_182 0 214 (dk_at dksL_law_39 16 rfl rfl)
theorem dL_law_1132 : decode cL_law 1132 = .ok (.istore 7, 2) := dk_54 7 (dk_at dksL_law_39 19 rfl rfl)
theorem dL_law_1134 : decode cL_law 1134 = .ok (.aload_n 2, 1) := dk_44 (dk_at dksL_law_39 21 rfl rfl)
theorem dL_law_1135 : decode cL_law 1135 = .ok (.invokevirtual 168, 3) := dk_182 0 168 (dk_at dksL_law_40 0 rfl rfl)
theorem dL_law_1138 : decode cL_law 1138 = .ok (.iload 6, 2) := dk_21 6 (dk_at dksL_law_40 3 rfl rfl)
theorem dL_law_1140 : decode cL_law 1140 = .ok (.if_icmp .eq 5, 3) := dk_159 0 5 (dk_at dksL_law_40 5 rfl rfl)
theorem dL_law_1143 : decode cL_law 1143 = .ok (.iconst 0, 1) := dk_3 (dk_at dksL_law_40 8 rfl rfl)
theorem dL_law_1144 : decode cL_law 1144 = .ok (.ireturn, 1) := dk_172 (dk_at dksL_law_40 9 rfl rfl)
theorem dL_law_1145 : decode cL_law 1145 = .ok (.iload 6, 2) := dk_21 6 (dk_at dksL_law_40 10 rfl rfl)
theorem dL_law_1147 : decode cL_law 1147 = .ok (.ifCond .ne 15, 3) := dk_154 0 15 (dk_at dksL_law_40 12 rfl rfl)
theorem dL_law_1150 : decode cL_law 1150 = .ok (.aload_n 3, 1) := dk_45 (dk_at dksL_law_40 15 rfl rfl)
theorem dL_law_1151 : decode cL_law 1151 = .ok (.iconst 0, 1) := dk_3 (dk_at dksL_law_40 16 rfl rfl)
theorem dL_law_1152 : decode cL_law 1152 = .ok (.laload, 1) := dk_47 (dk_at dksL_law_40 17 rfl rfl)
theorem dL_law_1153 : decode cL_law 1153 = .ok (.iload 7, 2) := dk_21 7 (dk_at dksL_law_40 18 rfl rfl)
theorem dL_law_1155 : decode cL_law 1155 = .ok (.i2l, 1) := dk_133 (dk_at dksL_law_40 20 rfl rfl)
theorem dL_law_1156 : decode cL_law 1156 = .ok (.lcmp, 1) := dk_148 (dk_at dksL_law_40 21 rfl rfl)
theorem dL_law_1157 : decode cL_law 1157 = .ok (.ifCond .eq 5, 3) := dk_153 0 5 (dk_at dksL_law_41 0 rfl rfl)
theorem dL_law_1160 : decode cL_law 1160 = .ok (.iconst 0, 1) := dk_3 (dk_at dksL_law_41 3 rfl rfl)
theorem dL_law_1161 : decode cL_law 1161 = .ok (.ireturn, 1) := dk_172 (dk_at dksL_law_41 4 rfl rfl)
theorem dL_law_1162 : decode cL_law 1162 = .ok (.goto 1671, 3) := dk_167 6 135 (dk_at dksL_law_41 5 rfl rfl)
theorem dL_law_1165 : decode cL_law 1165 = .ok (.aload_n 1, 1) := dk_43 (dk_at dksL_law_41 8 rfl rfl)
theorem dL_law_1166 : decode cL_law 1166 = .ok (.aload_n 0, 1) := dk_42 (dk_at dksL_law_41 9 rfl rfl)
theorem dL_law_1167 : decode cL_law 1167 = .ok (.iload 5, 2) := dk_21 5 (dk_at dksL_law_41 10 rfl rfl)
theorem dL_law_1169 : decode cL_law 1169 = .ok (.iconst 1, 1) := dk_4 (dk_at dksL_law_41 12 rfl rfl)
theorem dL_law_1170 : decode cL_law 1170 = .ok (.iadd, 1) := dk_96 (dk_at dksL_law_41 13 rfl rfl)
theorem dL_law_1171 : decode cL_law 1171 = .ok (.iaload, 1) := dk_46 (dk_at dksL_law_41 14 rfl rfl)
theorem dL_law_1172 : decode cL_law 1172 = .ok (.i2c, 1) := dk_146 (dk_at dksL_law_41 15 rfl rfl)
theorem dL_law_1173 : decode cL_law 1173 = .ok (.aload_n 3, 1) := dk_45 (dk_at dksL_law_41 16 rfl rfl)
theorem dL_law_1174 : decode cL_law 1174 = .ok (.invokestatic 215, 3) := dk_184 0 215 (dk_at dksL_law_41 17 rfl rfl)
theorem dL_law_1177 : decode cL_law 1177 = .ok (.istore 6, 2) := dk_54 6 (dk_at dksL_law_41 20 rfl rfl)
theorem dL_law_1179 : decode cL_law 1179 = .ok (.aload_n 2, 1) := dk_44 (dk_at dksL_law_41 22 rfl rfl)
theorem dL_law_1180 : decode cL_law 1180 = .ok (.aload_n 0, 1) := dk_42 (dk_at dksL_law_41 23 rfl rfl)
theorem dL_law_1181 : decode cL_law 1181 = .ok (.iload 5, 2) := dk_21 5 (dk_at dksL_law_42 0 rfl rfl)
theorem dL_law_1183 : decode cL_law 1183 = .ok (.iconst 1, 1) := dk_4 (dk_at dksL_law_42 2 rfl rfl)
theorem dL_law_1184 : decode cL_law 1184 = .ok (.iadd, 1) := dk_96 (dk_at dksL_law_42 3 rfl rfl)
theorem dL_law_1185 : decode cL_law 1185 = .ok (.iaload, 1) := dk_46 (dk_at dksL_law_42 4 rfl rfl)
theorem dL_law_1186 : decode cL_law 1186 = .ok (.i2c, 1) := dk_146 (dk_at dksL_law_42 5 rfl rfl)
theorem dL_law_1187 : decode cL_law 1187 = .ok (.invokevirtual 217, 3) := dk_182 0 217 (dk_at dksL_law_42 6 rfl rfl)
theorem dL_law_1190 : decode cL_law 1190 = .ok (.istore 7, 2) := dk_54 7 (dk_at dksL_law_42 9 rfl rfl)
theorem dL_law_1192 : decode cL_law 1192 = .ok (.aload_n 2, 1) := dk_44 (dk_at dksL_law_42 11 rfl rfl)
theorem dL_law_1193 : decode cL_law 1193 = .ok (.invokevirtual 168, 3) := dk_182 0 168 (dk_at dksL_law_42 12 rfl rfl)
theorem dL_law_1196 : decode cL_law 1196 = .ok (.iload 6, 2) := dk_21 6 (dk_at dksL_law_42 15 rfl rfl)
theorem dL_law_1198 : decode cL_law 1198 = .ok (.if_icmp .eq 5, 3) := dk_159 0 5 (dk_at dksL_law_42 17 rfl rfl)
theorem dL_law_1201 : decode cL_law 1201 = .ok (.iconst 0, 1) := dk_3 (dk_at dksL_law_42 20 rfl rfl)
theorem dL_law_1202 : decode cL_law 1202 = .ok (.ireturn, 1) := dk_172 (dk_at dksL_law_42 21 rfl rfl)
theorem dL_law_1203 : decode cL_law 1203 = .ok (.iload 6, 2) := dk_21 6 (dk_at dksL_law_42 22 rfl rfl)
theorem dL_law_1205 : decode cL_law 1205 = .ok (.ifCond .ne 15, 3) := dk_154 0 15 (dk_at dksL_law_43 0 rfl rfl)
theorem dL_law_1208 : decode cL_law 1208 = .ok (.aload_n 3, 1) := dk_45 (dk_at dksL_law_43 3 rfl rfl)
theorem dL_law_1209 : decode cL_law 1209 = .ok (.iconst 0, 1) := dk_3 (dk_at dksL_law_43 4 rfl rfl)
theorem dL_law_1210 : decode cL_law 1210 = .ok (.laload, 1) := dk_47 (dk_at dksL_law_43 5 rfl rfl)
theorem dL_law_1211 : decode cL_law 1211 = .ok (.iload 7, 2) := dk_21 7 (dk_at dksL_law_43 6 rfl rfl)
theorem dL_law_1213 : decode cL_law 1213 = .ok (.i2l, 1) := dk_133 (dk_at dksL_law_43 8 rfl rfl)
theorem dL_law_1214 : decode cL_law 1214 = .ok (.lcmp, 1) := dk_148 (dk_at dksL_law_43 9 rfl rfl)
theorem dL_law_1215 : decode cL_law 1215 = .ok (.ifCond .eq 5, 3) := dk_153 0 5 (dk_at dksL_law_43 10 rfl rfl)
theorem dL_law_1218 : decode cL_law 1218 = .ok (.iconst 0, 1) := dk_3 (dk_at dksL_law_43 13 rfl rfl)
theorem dL_law_1219 : decode cL_law 1219 = .ok (.ireturn, 1) := dk_172 (dk_at dksL_law_43 14 rfl rfl)
theorem dL_law_1220 : decode cL_law 1220 = .ok (.goto 1613, 3) := dk_167 6 77 (dk_at dksL_law_43 15 rfl rfl)
theorem dL_law_1223 : decode cL_law 1223 = .ok (.aload_n 1, 1) := dk_43 (dk_at dksL_law_43 18 rfl rfl)
theorem dL_law_1224 : decode cL_law 1224 = .ok (.invokevirtual 218, 3) := dk_182 0 218 (dk_at dksL_law_43 19 rfl rfl)
theorem dL_law_1227 : decode cL_law 1227 = .ok (.aload_n 2, 1) := dk_44 (dk_at dksL_law_43 22 rfl rfl)
theorem dL_law_1228 : decode cL_law 1228 = .ok (.invokevirtual 221, 3) := dk_182 0 221 (dk_at dksL_law_44 0 rfl rfl)
theorem dL_law_1231 : decode cL_law 1231 = .ok (.if_icmp .eq 1602, 3) := dk_159 6 66 (dk_at dksL_law_44 3 rfl rfl)
theorem dL_law_1234 : decode cL_law 1234 = .ok (.iconst 0, 1) := dk_3 (dk_at dksL_law_44 6 rfl rfl)
theorem dL_law_1235 : decode cL_law 1235 = .ok (.ireturn, 1) := dk_172 (dk_at dksL_law_44 7 rfl rfl)
theorem dL_law_1236 : decode cL_law 1236 = .ok (.aload_n 1, 1) := dk_43 (dk_at dksL_law_44 8 rfl rfl)
theorem dL_law_1237 : decode cL_law 1237 = .ok (.invokevirtual 222, 3) := dk_182 0 222 (dk_at dksL_law_44 9 rfl rfl)
theorem dL_law_1240 : decode cL_law 1240 = .ok (.aload_n 2, 1) := dk_44 (dk_at dksL_law_44 12 rfl rfl)
theorem dL_law_1241 : decode cL_law 1241 = .ok (.invokevirtual 225, 3) := dk_182 0 225 (dk_at dksL_law_44 13 rfl rfl)
theorem dL_law_1244 : decode cL_law 1244 = .ok (.if_icmp .eq 1589, 3) := dk_159 6 53 (dk_at dksL_law_44 16 rfl rfl)
theorem dL_law_1247 : decode cL_law 1247 = .ok (.iconst 0, 1) := dk_3 (dk_at dksL_law_44 19 rfl rfl)
theorem dL_law_1248 : decode cL_law 1248 = .ok (.ireturn, 1) := dk_172 (dk_at dksL_law_44 20 rfl rfl)
theorem dL_law_1249 : decode cL_law 1249 = .ok (.aload_n 1, 1) := dk_43 (dk_at dksL_law_44 21 rfl rfl)
theorem dL_law_1250 : decode cL_law 1250 = .ok (.aload_n 0, 1) := dk_42 (dk_at dksL_law_44 22 rfl rfl)
theorem dL_law_1251 : decode cL_law 1251 = .ok (.iload 5, 2) := dk_21 5 (dk_at dksL_law_45 0 rfl rfl)
theorem dL_law_1253 : decode cL_law 1253 = .ok (.iconst 1, 1) := dk_4 (dk_at dksL_law_45 2 rfl rfl)
theorem dL_law_1254 : decode cL_law 1254 = .ok (.iadd, 1) := dk_96 (dk_at dksL_law_45 3 rfl rfl)
theorem dL_law_1255 : decode cL_law 1255 = .ok (.iaload, 1) := dk_46 (dk_at dksL_law_45 4 rfl rfl)
theorem dL_law_1256 : decode cL_law 1256 = .ok (.i2c, 1) := dk_146 (dk_at dksL_law_45 5 rfl rfl)
theorem dL_law_1257 : decode cL_law 1257 = .ok (.aload_n 3, 1) := dk_45 (dk_at dksL_law_45 6 rfl rfl)
theorem dL_law_1258 : decode cL_law 1258 = .ok (.invokestatic 226, 3) := dk_184 0 226 (dk_at dksL_law_45 7 rfl rfl)
theorem dL_law_1261 : decode cL_law 1261 = .ok (.istore 6, 2) := dk_54 6 (dk_at dksL_law_45 10 rfl rfl)
theorem dL_law_1263 : decode cL_law 1263 = .ok (.aload_n 2, 1) := dk_44 (dk_at dksL_law_45 12 rfl rfl)
theorem dL_law_1264 : decode cL_law 1264 = .ok (.aload_n 0, 1) := dk_42 (dk_at dksL_law_45 13 rfl rfl)
theorem dL_law_1265 : decode cL_law 1265 = .ok (.iload 5, 2) := dk_21 5 (dk_at dksL_law_45 14 rfl rfl)
theorem dL_law_1267 : decode cL_law 1267 = .ok (.iconst 1, 1) := dk_4 (dk_at dksL_law_45 16 rfl rfl)
theorem dL_law_1268 : decode cL_law 1268 = .ok (.iadd, 1) := dk_96 (dk_at dksL_law_45 17 rfl rfl)
theorem dL_law_1269 : decode cL_law 1269 = .ok (.iaload, 1) := dk_46 (dk_at dksL_law_45 18 rfl rfl)
theorem dL_law_1270 : decode cL_law 1270 = .ok (.i2c, 1) := dk_146 (dk_at dksL_law_45 19 rfl rfl)
theorem dL_law_1271 : decode cL_law 1271 = .ok (.invokevirtual 228, 3) := dk_182 0 228 (dk_at dksL_law_45 20 rfl rfl)
theorem dL_law_1274 : decode cL_law 1274 = .ok (.istore 7, 2) := dk_54 7 (dk_at dksL_law_46 0 rfl rfl)
theorem dL_law_1276 : decode cL_law 1276 = .ok (.aload_n 2, 1) := dk_44 (dk_at dksL_law_46 2 rfl rfl)
theorem dL_law_1277 : decode cL_law 1277 = .ok (.invokevirtual 168, 3) := dk_182 0 168 (dk_at dksL_law_46 3 rfl rfl)
theorem dL_law_1280 : decode cL_law 1280 = .ok (.iload 6, 2) := dk_21 6 (dk_at dksL_law_46 6 rfl rfl)
theorem dL_law_1282 : decode cL_law 1282 = .ok (.if_icmp .eq 5, 3) := dk_159 0 5 (dk_at dksL_law_46 8 rfl rfl)
theorem dL_law_1285 : decode cL_law 1285 = .ok (.iconst 0, 1) := dk_3 (dk_at dksL_law_46 11 rfl rfl)
theorem dL_law_1286 : decode cL_law 1286 = .ok (.ireturn, 1) := dk_172 (dk_at dksL_law_46 12 rfl rfl)
theorem dL_law_1287 : decode cL_law 1287 = .ok (.iload 6, 2) := dk_21 6 (dk_at dksL_law_46 13 rfl rfl)
theorem dL_law_1289 : decode cL_law 1289 = .ok (.ifCond .ne 15, 3) := dk_154 0 15 (dk_at dksL_law_46 15 rfl rfl)
theorem dL_law_1292 : decode cL_law 1292 = .ok (.aload_n 3, 1) := dk_45 (dk_at dksL_law_46 18 rfl rfl)
theorem dL_law_1293 : decode cL_law 1293 = .ok (.iconst 0, 1) := dk_3 (dk_at dksL_law_46 19 rfl rfl)
theorem dL_law_1294 : decode cL_law 1294 = .ok (.laload, 1) := dk_47 (dk_at dksL_law_46 20 rfl rfl)
theorem dL_law_1295 : decode cL_law 1295 = .ok (.iload 7, 2) := dk_21 7 (dk_at dksL_law_46 21 rfl rfl)
theorem dL_law_1297 : decode cL_law 1297 = .ok (.i2l, 1) := dk_133 (dk_at dksL_law_46 23 rfl rfl)
theorem dL_law_1298 : decode cL_law 1298 = .ok (.lcmp, 1) := dk_148 (dk_at dksL_law_47 0 rfl rfl)
theorem dL_law_1299 : decode cL_law 1299 = .ok (.ifCond .eq 5, 3) := dk_153 0 5 (dk_at dksL_law_47 1 rfl rfl)
theorem dL_law_1302 : decode cL_law 1302 = .ok (.iconst 0, 1) := dk_3 (dk_at dksL_law_47 4 rfl rfl)
theorem dL_law_1303 : decode cL_law 1303 = .ok (.ireturn, 1) := dk_172 (dk_at dksL_law_47 5 rfl rfl)
theorem dL_law_1304 : decode cL_law 1304 = .ok (.goto 1529, 3) := dk_167 5 249 (dk_at dksL_law_47 6 rfl rfl)
theorem dL_law_1307 : decode cL_law 1307 = .ok (.aload_n 1, 1) := dk_43 (dk_at dksL_law_47 9 rfl rfl)
theorem dL_law_1308 : decode cL_law 1308 = .ok (.aload_n 0, 1) := dk_42 (dk_at dksL_law_47 10 rfl rfl)
theorem dL_law_1309 : decode cL_law 1309 = .ok (.iload 5, 2) := dk_21 5 (dk_at dksL_law_47 11 rfl rfl)
theorem dL_law_1311 : decode cL_law 1311 = .ok (.iconst 1, 1) := dk_4 (dk_at dksL_law_47 13 rfl rfl)
theorem dL_law_1312 : decode cL_law 1312 = .ok (.iadd, 1) := dk_96 (dk_at dksL_law_47 14 rfl rfl)
theorem dL_law_1313 : decode cL_law 1313 = .ok (.iaload, 1) := dk_46 (dk_at dksL_law_47 15 rfl rfl)
theorem dL_law_1314 : decode cL_law 1314 = .ok (.i2c, 1) := dk_146 (dk_at dksL_law_47 16 rfl rfl)
theorem dL_law_1315 : decode cL_law 1315 = .ok (.aload_n 3, 1) := dk_45 (dk_at dksL_law_47 17 rfl rfl)
theorem dL_law_1316 : decode cL_law 1316 = .ok (.invokestatic 229, 3) := dk_184 0 229 (dk_at dksL_law_47 18 rfl rfl)
theorem dL_law_1319 : decode cL_law 1319 = .ok (.istore 6, 2) := dk_54 6 (dk_at dksL_law_47 21 rfl rfl)
theorem dL_law_1321 : decode cL_law 1321 = .ok (.aload_n 2, 1) := dk_44 (dk_at dksL_law_47 23 rfl rfl)
theorem dL_law_1322 : decode cL_law 1322 = .ok (.aload_n 0, 1) := dk_42 (dk_at dksL_law_48 0 rfl rfl)
theorem dL_law_1323 : decode cL_law 1323 = .ok (.iload 5, 2) := dk_21 5 (dk_at dksL_law_48 1 rfl rfl)
theorem dL_law_1325 : decode cL_law 1325 = .ok (.iconst 1, 1) := dk_4 (dk_at dksL_law_48 3 rfl rfl)
theorem dL_law_1326 : decode cL_law 1326 = .ok (.iadd, 1) := dk_96 (dk_at dksL_law_48 4 rfl rfl)
theorem dL_law_1327 : decode cL_law 1327 = .ok (.iaload, 1) := dk_46 (dk_at dksL_law_48 5 rfl rfl)
theorem dL_law_1328 : decode cL_law 1328 = .ok (.i2c, 1) := dk_146 (dk_at dksL_law_48 6 rfl rfl)
theorem dL_law_1329 : decode cL_law 1329 = .ok (.invokevirtual 231, 3) := dk_182 0 231 (dk_at dksL_law_48 7 rfl rfl)
theorem dL_law_1332 : decode cL_law 1332 = .ok (.istore 7, 2) := dk_54 7 (dk_at dksL_law_48 10 rfl rfl)
theorem dL_law_1334 : decode cL_law 1334 = .ok (.aload_n 2, 1) := dk_44 (dk_at dksL_law_48 12 rfl rfl)
theorem dL_law_1335 : decode cL_law 1335 = .ok (.invokevirtual 168, 3) := dk_182 0 168 (dk_at dksL_law_48 13 rfl rfl)
theorem dL_law_1338 : decode cL_law 1338 = .ok (.iload 6, 2) := dk_21 6 (dk_at dksL_law_48 16 rfl rfl)
theorem dL_law_1340 : decode cL_law 1340 = .ok (.if_icmp .eq 5, 3) := dk_159 0 5 (dk_at dksL_law_48 18 rfl rfl)
theorem dL_law_1343 : decode cL_law 1343 = .ok (.iconst 0, 1) := dk_3 (dk_at dksL_law_48 21 rfl rfl)
theorem dL_law_1344 : decode cL_law 1344 = .ok (.ireturn, 1) := dk_172 (dk_at dksL_law_48 22 rfl rfl)
theorem dL_law_1345 : decode cL_law 1345 = .ok (.iload 6, 2) := dk_21 6 (dk_at dksL_law_49 0 rfl rfl)
theorem dL_law_1347 : decode cL_law 1347 = .ok (.ifCond .ne 15, 3) := dk_154 0 15 (dk_at dksL_law_49 2 rfl rfl)
theorem dL_law_1350 : decode cL_law 1350 = .ok (.aload_n 3, 1) := dk_45 (dk_at dksL_law_49 5 rfl rfl)
theorem dL_law_1351 : decode cL_law 1351 = .ok (.iconst 0, 1) := dk_3 (dk_at dksL_law_49 6 rfl rfl)
theorem dL_law_1352 : decode cL_law 1352 = .ok (.laload, 1) := dk_47 (dk_at dksL_law_49 7 rfl rfl)
theorem dL_law_1353 : decode cL_law 1353 = .ok (.iload 7, 2) := dk_21 7 (dk_at dksL_law_49 8 rfl rfl)
theorem dL_law_1355 : decode cL_law 1355 = .ok (.i2l, 1) := dk_133 (dk_at dksL_law_49 10 rfl rfl)
theorem dL_law_1356 : decode cL_law 1356 = .ok (.lcmp, 1) := dk_148 (dk_at dksL_law_49 11 rfl rfl)
theorem dL_law_1357 : decode cL_law 1357 = .ok (.ifCond .eq 5, 3) := dk_153 0 5 (dk_at dksL_law_49 12 rfl rfl)
theorem dL_law_1360 : decode cL_law 1360 = .ok (.iconst 0, 1) := dk_3 (dk_at dksL_law_49 15 rfl rfl)
theorem dL_law_1361 : decode cL_law 1361 = .ok (.ireturn, 1) := dk_172 (dk_at dksL_law_49 16 rfl rfl)
theorem dL_law_1362 : decode cL_law 1362 = .ok (.goto 1471, 3) := dk_167 5 191 (dk_at dksL_law_49 17 rfl rfl)
theorem dL_law_1365 : decode cL_law 1365 = .ok (.aload_n 1, 1) := dk_43 (dk_at dksL_law_49 20 rfl rfl)
theorem dL_law_1366 : decode cL_law 1366 = .ok (.invokevirtual 232, 3) := dk_182 0 232 (dk_at dksL_law_49 21 rfl rfl)
theorem dL_law_1369 : decode cL_law 1369 = .ok (.aload_n 2, 1) := dk_44 (dk_at dksL_law_50 0 rfl rfl)
theorem dL_law_1370 : decode cL_law 1370 = .ok (.invokevirtual 235, 3) := dk_182 0 235 (dk_at dksL_law_50 1 rfl rfl)
theorem dL_law_1373 : decode cL_law 1373 = .ok (.if_icmp .eq 1460, 3) := dk_159 5 180 (dk_at dksL_law_50 4 rfl rfl)
theorem dL_law_1376 : decode cL_law 1376 = .ok (.iconst 0, 1) := dk_3 (dk_at dksL_law_50 7 rfl rfl)
theorem dL_law_1377 : decode cL_law 1377 = .ok (.ireturn, 1) := dk_172 (dk_at dksL_law_50 8 rfl rfl)
theorem dL_law_1378 : decode cL_law 1378 = .ok (.aload_n 1, 1) := dk_43 (dk_at dksL_law_50 9 rfl rfl)
theorem dL_law_1379 : decode cL_law 1379 = .ok (.aload_n 3, 1) := dk_45 (dk_at dksL_law_50 10 rfl rfl)
theorem dL_law_1380 : decode cL_law 1380 = .ok (.invokestatic 236, 3) := dk_184 0 236 (dk_at dksL_law_50 11 rfl rfl)
theorem dL_law_1383 : decode cL_law 1383 = .ok (.istore 6, 2) := dk_54 6 (dk_at dksL_law_50 14 rfl rfl)
theorem dL_law_1385 : decode cL_law 1385 = .ok (.aload_n 2, 1) := dk_44 (dk_at dksL_law_50 16 rfl rfl)
theorem dL_law_1386 : decode cL_law 1386 = .ok (.invokevirtual 239, 3) := dk_182 0 239 (dk_at dksL_law_50 17 rfl rfl)
theorem dL_law_1389 : decode cL_law 1389 = .ok (.istore 7, 2) := dk_54 7 (dk_at dksL_law_50 20 rfl rfl)
theorem dL_law_1391 : decode cL_law 1391 = .ok (.aload_n 2, 1) := dk_44 (dk_at dksL_law_50 22 rfl rfl)
theorem dL_law_1392 : decode cL_law 1392 = .ok (.invokevirtual 168, 3) := dk_182 0 168 (dk_at dksL_law_51 0 rfl rfl)
theorem dL_law_1395 : decode cL_law 1395 = .ok (.iload 6, 2) := dk_21 6 (dk_at dksL_law_51 3 rfl rfl)
theorem dL_law_1397 : decode cL_law 1397 = .ok (.if_icmp .eq 5, 3) := dk_159 0 5 (dk_at dksL_law_51 5 rfl rfl)
theorem dL_law_1400 : decode cL_law 1400 = .ok (.iconst 0, 1) := dk_3 (dk_at dksL_law_51 8 rfl rfl)
theorem dL_law_1401 : decode cL_law 1401 = .ok (.ireturn, 1) := dk_172 (dk_at dksL_law_51 9 rfl rfl)
theorem dL_law_1402 : decode cL_law 1402 = .ok (.iload 6, 2) := dk_21 6 (dk_at dksL_law_51 10 rfl rfl)
theorem dL_law_1404 : decode cL_law 1404 = .ok (.ifCond .ne 15, 3) := dk_154 0 15 (dk_at dksL_law_51 12 rfl rfl)
theorem dL_law_1407 : decode cL_law 1407 = .ok (.aload_n 3, 1) := dk_45 (dk_at dksL_law_51 15 rfl rfl)
theorem dL_law_1408 : decode cL_law 1408 = .ok (.iconst 0, 1) := dk_3 (dk_at dksL_law_51 16 rfl rfl)
theorem dL_law_1409 : decode cL_law 1409 = .ok (.laload, 1) := dk_47 (dk_at dksL_law_51 17 rfl rfl)
theorem dL_law_1410 : decode cL_law 1410 = .ok (.iload 7, 2) := dk_21 7 (dk_at dksL_law_51 18 rfl rfl)
theorem dL_law_1412 : decode cL_law 1412 = .ok (.i2l, 1) := dk_133 (dk_at dksL_law_51 20 rfl rfl)
theorem dL_law_1413 : decode cL_law 1413 = .ok (.lcmp, 1) := dk_148 (dk_at dksL_law_51 21 rfl rfl)
theorem dL_law_1414 : decode cL_law 1414 = .ok (.ifCond .eq 5, 3) := dk_153 0 5 (dk_at dksL_law_52 0 rfl rfl)
theorem dL_law_1417 : decode cL_law 1417 = .ok (.iconst 0, 1) := dk_3 (dk_at dksL_law_52 3 rfl rfl)
theorem dL_law_1418 : decode cL_law 1418 = .ok (.ireturn, 1) := dk_172 (dk_at dksL_law_52 4 rfl rfl)
theorem dL_law_1419 : decode cL_law 1419 = .ok (.goto 1414, 3) := dk_167 5 134 (dk_at dksL_law_52 5 rfl rfl)
theorem dL_law_1422 : decode cL_law 1422 = .ok (.aload_n 1, 1) := dk_43 (dk_at dksL_law_52 8 rfl rfl)
theorem dL_law_1423 : decode cL_law 1423 = .ok (.aload_n 0, 1) := dk_42 (dk_at dksL_law_52 9 rfl rfl)
theorem dL_law_1424 : decode cL_law 1424 = .ok (.iload 5, 2) := dk_21 5 (dk_at dksL_law_52 10 rfl rfl)
theorem dL_law_1426 : decode cL_law 1426 = .ok (.iconst 1, 1) := dk_4 (dk_at dksL_law_52 12 rfl rfl)
theorem dL_law_1427 : decode cL_law 1427 = .ok (.iadd, 1) := dk_96 (dk_at dksL_law_52 13 rfl rfl)
theorem dL_law_1428 : decode cL_law 1428 = .ok (.iaload, 1) := dk_46 (dk_at dksL_law_52 14 rfl rfl)
theorem dL_law_1429 : decode cL_law 1429 = .ok (.aload_n 3, 1) := dk_45 (dk_at dksL_law_52 15 rfl rfl)
theorem dL_law_1430 : decode cL_law 1430 = .ok (.invokestatic 240, 3) := dk_184 0 240 (dk_at dksL_law_52 16 rfl rfl)
theorem dL_law_1433 : decode cL_law 1433 = .ok (.istore 6, 2) := dk_54 6 (dk_at dksL_law_52 19 rfl rfl)
theorem dL_law_1435 : decode cL_law 1435 = .ok (.aload_n 2, 1) := dk_44 (dk_at dksL_law_52 21 rfl rfl)
theorem dL_law_1436 : decode cL_law 1436 = .ok (.aload_n 0, 1) := dk_42 (dk_at dksL_law_52 22 rfl rfl)
theorem dL_law_1437 : decode cL_law 1437 = .ok (.iload 5, 2) := dk_21 5 (dk_at dksL_law_53 0 rfl rfl)
theorem dL_law_1439 : decode cL_law 1439 = .ok (.iconst 1, 1) := dk_4 (dk_at dksL_law_53 2 rfl rfl)
theorem dL_law_1440 : decode cL_law 1440 = .ok (.iadd, 1) := dk_96 (dk_at dksL_law_53 3 rfl rfl)
theorem dL_law_1441 : decode cL_law 1441 = .ok (.iaload, 1) := dk_46 (dk_at dksL_law_53 4 rfl rfl)
theorem dL_law_1442 : decode cL_law 1442 = .ok (.invokevirtual 243, 3) := dk_182 0 243 (dk_at dksL_law_53 5 rfl rfl)
theorem dL_law_1445 : decode cL_law 1445 = .ok (.istore 7, 2) := dk_54 7 (dk_at dksL_law_53 8 rfl rfl)
theorem dL_law_1447 : decode cL_law 1447 = .ok (.aload_n 2, 1) := dk_44 (dk_at dksL_law_53 10 rfl rfl)
theorem dL_law_1448 : decode cL_law 1448 = .ok (.invokevirtual 168, 3) := dk_182 0 168 (dk_at dksL_law_53 11 rfl rfl)
theorem dL_law_1451 : decode cL_law 1451 = .ok (.iload 6, 2) := dk_21 6 (dk_at dksL_law_53 14 rfl rfl)
theorem dL_law_1453 : decode cL_law 1453 = .ok (.if_icmp .eq 5, 3) := dk_159 0 5 (dk_at dksL_law_53 16 rfl rfl)
theorem dL_law_1456 : decode cL_law 1456 = .ok (.iconst 0, 1) := dk_3 (dk_at dksL_law_53 19 rfl rfl)
theorem dL_law_1457 : decode cL_law 1457 = .ok (.ireturn, 1) := dk_172 (dk_at dksL_law_53 20 rfl rfl)
theorem dL_law_1458 : decode cL_law 1458 = .ok (.iload 6, 2) := dk_21 6 (dk_at dksL_law_53 21 rfl rfl)
theorem dL_law_1460 : decode cL_law 1460 = .ok (.ifCond .ne 15, 3) := dk_154 0 15 (dk_at dksL_law_54 0 rfl rfl)
theorem dL_law_1463 : decode cL_law 1463 = .ok (.aload_n 3, 1) := dk_45 (dk_at dksL_law_54 3 rfl rfl)
theorem dL_law_1464 : decode cL_law 1464 = .ok (.iconst 0, 1) := dk_3 (dk_at dksL_law_54 4 rfl rfl)
theorem dL_law_1465 : decode cL_law 1465 = .ok (.laload, 1) := dk_47 (dk_at dksL_law_54 5 rfl rfl)
theorem dL_law_1466 : decode cL_law 1466 = .ok (.iload 7, 2) := dk_21 7 (dk_at dksL_law_54 6 rfl rfl)
theorem dL_law_1468 : decode cL_law 1468 = .ok (.i2l, 1) := dk_133 (dk_at dksL_law_54 8 rfl rfl)
theorem dL_law_1469 : decode cL_law 1469 = .ok (.lcmp, 1) := dk_148 (dk_at dksL_law_54 9 rfl rfl)
theorem dL_law_1470 : decode cL_law 1470 = .ok (.ifCond .eq 5, 3) := dk_153 0 5 (dk_at dksL_law_54 10 rfl rfl)
theorem dL_law_1473 : decode cL_law 1473 = .ok (.iconst 0, 1) := dk_3 (dk_at dksL_law_54 13 rfl rfl)
theorem dL_law_1474 : decode cL_law 1474 = .ok (.ireturn, 1) := dk_172 (dk_at dksL_law_54 14 rfl rfl)
theorem dL_law_1475 : decode cL_law 1475 = .ok (.goto 1358, 3) := dk_167 5 78 (dk_at dksL_law_54 15 rfl rfl)
theorem dL_law_1478 : decode cL_law 1478 = .ok (.aload_n 1, 1) := dk_43 (dk_at dksL_law_54 18 rfl rfl)
theorem dL_law_1479 : decode cL_law 1479 = .ok (.aload_n 0, 1) := dk_42 (dk_at dksL_law_54 19 rfl rfl)
theorem dL_law_1480 : decode cL_law 1480 = .ok (.iload 5, 2) := dk_21 5 (dk_at dksL_law_54 20 rfl rfl)
theorem dL_law_1482 : decode cL_law 1482 = .ok (.iconst 1, 1) := dk_4 (dk_at dksL_law_54 22 rfl rfl)
theorem dL_law_1483 : decode cL_law 1483 = .ok (.iadd, 1) := dk_96 (dk_at dksL_law_54 23 rfl rfl)
theorem dL_law_1484 : decode cL_law 1484 = .ok (.iaload, 1) := dk_46 (dk_at dksL_law_55 0 rfl rfl)
theorem dL_law_1485 : decode cL_law 1485 = .ok (.aload_n 3, 1) := dk_45 (dk_at dksL_law_55 1 rfl rfl)
theorem dL_law_1486 : decode cL_law 1486 = .ok (.invokestatic 244, 3) := dk_184 0 244 (dk_at dksL_law_55 2 rfl rfl)
theorem dL_law_1489 : decode cL_law 1489 = .ok (.istore 6, 2) := dk_54 6 (dk_at dksL_law_55 5 rfl rfl)
theorem dL_law_1491 : decode cL_law 1491 = .ok (.aload_n 2, 1) := dk_44 (dk_at dksL_law_55 7 rfl rfl)
theorem dL_law_1492 : decode cL_law 1492 = .ok (.aload_n 0, 1) := dk_42 (dk_at dksL_law_55 8 rfl rfl)
theorem dL_law_1493 : decode cL_law 1493 = .ok (.iload 5, 2) := dk_21 5 (dk_at dksL_law_55 9 rfl rfl)
theorem dL_law_1495 : decode cL_law 1495 = .ok (.iconst 1, 1) := dk_4 (dk_at dksL_law_55 11 rfl rfl)
theorem dL_law_1496 : decode cL_law 1496 = .ok (.iadd, 1) := dk_96 (dk_at dksL_law_55 12 rfl rfl)
theorem dL_law_1497 : decode cL_law 1497 = .ok (.iaload, 1) := dk_46 (dk_at dksL_law_55 13 rfl rfl)
theorem dL_law_1498 : decode cL_law 1498 = .ok (.invokevirtual 246, 3) := dk_182 0 246 (dk_at dksL_law_55 14 rfl rfl)
theorem dL_law_1501 : decode cL_law 1501 = .ok (.istore 7, 2) := dk_54 7 (dk_at dksL_law_55 17 rfl rfl)
theorem dL_law_1503 : decode cL_law 1503 = .ok (.aload_n 2, 1) := dk_44 (dk_at dksL_law_55 19 rfl rfl)
theorem dL_law_1504 : decode cL_law 1504 = .ok (.invokevirtual 168, 3) := dk_182 0 168 (dk_at dksL_law_55 20 rfl rfl)
theorem dL_law_1507 : decode cL_law 1507 = .ok (.iload 6, 2) := dk_21 6 (dk_at dksL_law_56 0 rfl rfl)
theorem dL_law_1509 : decode cL_law 1509 = .ok (.if_icmp .eq 5, 3) := dk_159 0 5 (dk_at dksL_law_56 2 rfl rfl)
theorem dL_law_1512 : decode cL_law 1512 = .ok (.iconst 0, 1) := dk_3 (dk_at dksL_law_56 5 rfl rfl)
theorem dL_law_1513 : decode cL_law 1513 = .ok (.ireturn, 1) := dk_172 (dk_at dksL_law_56 6 rfl rfl)
theorem dL_law_1514 : decode cL_law 1514 = .ok (.iload 6, 2) := dk_21 6 (dk_at dksL_law_56 7 rfl rfl)
theorem dL_law_1516 : decode cL_law 1516 = .ok (.ifCond .ne 22, 3) := dk_154 0 22 (dk_at dksL_law_56 9 rfl rfl)
theorem dL_law_1519 : decode cL_law 1519 = .ok (.aload_n 3, 1) := dk_45 (dk_at dksL_law_56 12 rfl rfl)
theorem dL_law_1520 : decode cL_law 1520 = .ok (.iconst 0, 1) := dk_3 (dk_at dksL_law_56 13 rfl rfl)
theorem dL_law_1521 : decode cL_law 1521 = .ok (.laload, 1) := dk_47 (dk_at dksL_law_56 14 rfl rfl)
theorem dL_law_1522 : decode cL_law 1522 = .ok (.iload 7, 2) := dk_21 7 (dk_at dksL_law_56 15 rfl rfl)
theorem dL_law_1524 : decode cL_law 1524 = .ok (.ifCond .eq 7, 3) := dk_153 0 7 (dk_at dksL_law_56 17 rfl rfl)
theorem dL_law_1527 : decode cL_law 1527 = .ok (.lconst 1, 1) := dk_10 (dk_at dksL_law_56 20 rfl rfl)
theorem dL_law_1528 : decode cL_law 1528 = .ok (.goto 4, 3) := dk_167 0 4 (dk_at dksL_law_56 21 rfl rfl)
theorem dL_law_1531 : decode cL_law 1531 = .ok (.lconst 0, 1) := dk_9 (dk_at dksL_law_57 0 rfl rfl)
theorem dL_law_1532 : decode cL_law 1532 = .ok (.lcmp, 1) := dk_148 (dk_at dksL_law_57 1 rfl rfl)
theorem dL_law_1533 : decode cL_law 1533 = .ok (.ifCond .eq 5, 3) := dk_153 0 5 (dk_at dksL_law_57 2 rfl rfl)
theorem dL_law_1536 : decode cL_law 1536 = .ok (.iconst 0, 1) := dk_3 (dk_at dksL_law_57 5 rfl rfl)
theorem dL_law_1537 : decode cL_law 1537 = .ok (.ireturn, 1) := dk_172 (dk_at dksL_law_57 6 rfl rfl)
theorem dL_law_1538 : decode cL_law 1538 = .ok (.goto 1295, 3) := dk_167 5 15 (dk_at dksL_law_57 7 rfl rfl)
theorem dL_law_1541 : decode cL_law 1541 = .ok (.aload_n 1, 1) := dk_43 (dk_at dksL_law_57 10 rfl rfl)
theorem dL_law_1542 : decode cL_law 1542 = .ok (.aload_n 0, 1) := dk_42 (dk_at dksL_law_57 11 rfl rfl)
theorem dL_law_1543 : decode cL_law 1543 = .ok (.iload 5, 2) := dk_21 5 (dk_at dksL_law_57 12 rfl rfl)
theorem dL_law_1545 : decode cL_law 1545 = .ok (.iconst 1, 1) := dk_4 (dk_at dksL_law_57 14 rfl rfl)
theorem dL_law_1546 : decode cL_law 1546 = .ok (.iadd, 1) := dk_96 (dk_at dksL_law_57 15 rfl rfl)
theorem dL_law_1547 : decode cL_law 1547 = .ok (.iaload, 1) := dk_46 (dk_at dksL_law_57 16 rfl rfl)
theorem dL_law_1548 : decode cL_law 1548 = .ok (.i2c, 1) := dk_146 (dk_at dksL_law_57 17 rfl rfl)
theorem dL_law_1549 : decode cL_law 1549 = .ok (.aload_n 0, 1) := dk_42 (dk_at dksL_law_57 18 rfl rfl)
theorem dL_law_1550 : decode cL_law 1550 = .ok (.iload 5, 2) := dk_21 5 (dk_at dksL_law_57 19 rfl rfl)
theorem dL_law_1552 : decode cL_law 1552 = .ok (.iconst 2, 1) := dk_5 (dk_at dksL_law_57 21 rfl rfl)
theorem dL_law_1553 : decode cL_law 1553 = .ok (.iadd, 1) := dk_96 (dk_at dksL_law_57 22 rfl rfl)
theorem dL_law_1554 : decode cL_law 1554 = .ok (.iaload, 1) := dk_46 (dk_at dksL_law_57 23 rfl rfl)
theorem dL_law_1555 : decode cL_law 1555 = .ok (.aload_n 3, 1) := dk_45 (dk_at dksL_law_58 0 rfl rfl)
theorem dL_law_1556 : decode cL_law 1556 = .ok (.invokestatic 247, 3) := dk_184 0 247 (dk_at dksL_law_58 1 rfl rfl)
theorem dL_law_1559 : decode cL_law 1559 = .ok (.istore 6, 2) := dk_54 6 (dk_at dksL_law_58 4 rfl rfl)
theorem dL_law_1561 : decode cL_law 1561 = .ok (.aload_n 2, 1) := dk_44 (dk_at dksL_law_58 6 rfl rfl)
theorem dL_law_1562 : decode cL_law 1562 = .ok (.aload_n 0, 1) := dk_42 (dk_at dksL_law_58 7 rfl rfl)
theorem dL_law_1563 : decode cL_law 1563 = .ok (.iload 5, 2) := dk_21 5 (dk_at dksL_law_58 8 rfl rfl)
theorem dL_law_1565 : decode cL_law 1565 = .ok (.iconst 1, 1) := dk_4 (dk_at dksL_law_58 10 rfl rfl)
theorem dL_law_1566 : decode cL_law 1566 = .ok (.iadd, 1) := dk_96 (dk_at dksL_law_58 11 rfl rfl)
theorem dL_law_1567 : decode cL_law 1567 = .ok (.iaload, 1) := dk_46 (dk_at dksL_law_58 12 rfl rfl)
theorem dL_law_1568 : decode cL_law 1568 = .ok (.i2c, 1) := dk_146 (dk_at dksL_law_58 13 rfl rfl)
theorem dL_law_1569 : decode cL_law 1569 = .ok (.aload_n 0, 1) := dk_42 (dk_at dksL_law_58 14 rfl rfl)
theorem dL_law_1570 : decode cL_law 1570 = .ok (.iload 5, 2) := dk_21 5 (dk_at dksL_law_58 15 rfl rfl)
theorem dL_law_1572 : decode cL_law 1572 = .ok (.iconst 2, 1) := dk_5 (dk_at dksL_law_58 17 rfl rfl)
theorem dL_law_1573 : decode cL_law 1573 = .ok (.iadd, 1) := dk_96 (dk_at dksL_law_58 18 rfl rfl)
theorem dL_law_1574 : decode cL_law 1574 = .ok (.iaload, 1) := dk_46 (dk_at dksL_law_58 19 rfl rfl)
theorem dL_law_1575 : decode cL_law 1575 = .ok (.invokevirtual 249, 3) := dk_182 0 249 (dk_at dksL_law_58 20 rfl rfl)
theorem dL_law_1578 : decode cL_law 1578 = .ok (.istore 7, 2) := dk_54 7 (dk_at dksL_law_59 0 rfl rfl)
theorem dL_law_1580 : decode cL_law 1580 = .ok (.aload_n 2, 1) := dk_44 (dk_at dksL_law_59 2 rfl rfl)
theorem dL_law_1581 : decode cL_law 1581 = .ok (.invokevirtual 168, 3) := dk_182 0 168 (dk_at dksL_law_59 3 rfl rfl)
theorem dL_law_1584 : decode cL_law 1584 = .ok (.iload 6, 2) := dk_21 6 (dk_at dksL_law_59 6 rfl rfl)
theorem dL_law_1586 : decode cL_law 1586 = .ok (.if_icmp .eq 5, 3) := dk_159 0 5 (dk_at dksL_law_59 8 rfl rfl)
theorem dL_law_1589 : decode cL_law 1589 = .ok (.iconst 0, 1) := dk_3 (dk_at dksL_law_59 11 rfl rfl)
theorem dL_law_1590 : decode cL_law 1590 = .ok (.ireturn, 1) := dk_172 (dk_at dksL_law_59 12 rfl rfl)
theorem dL_law_1591 : decode cL_law 1591 = .ok (.iload 6, 2) := dk_21 6 (dk_at dksL_law_59 13 rfl rfl)
theorem dL_law_1593 : decode cL_law 1593 = .ok (.ifCond .ne 15, 3) := dk_154 0 15 (dk_at dksL_law_59 15 rfl rfl)
theorem dL_law_1596 : decode cL_law 1596 = .ok (.aload_n 3, 1) := dk_45 (dk_at dksL_law_59 18 rfl rfl)
theorem dL_law_1597 : decode cL_law 1597 = .ok (.iconst 0, 1) := dk_3 (dk_at dksL_law_59 19 rfl rfl)
theorem dL_law_1598 : decode cL_law 1598 = .ok (.laload, 1) := dk_47 (dk_at dksL_law_59 20 rfl rfl)
theorem dL_law_1599 : decode cL_law 1599 = .ok (.iload 7, 2) := dk_21 7 (dk_at dksL_law_59 21 rfl rfl)
theorem dL_law_1601 : decode cL_law 1601 = .ok (.i2l, 1) := dk_133 (dk_at dksL_law_59 23 rfl rfl)
theorem dL_law_1602 : decode cL_law 1602 = .ok (.lcmp, 1) := dk_148 (dk_at dksL_law_60 0 rfl rfl)
theorem dL_law_1603 : decode cL_law 1603 = .ok (.ifCond .eq 5, 3) := dk_153 0 5 (dk_at dksL_law_60 1 rfl rfl)
theorem dL_law_1606 : decode cL_law 1606 = .ok (.iconst 0, 1) := dk_3 (dk_at dksL_law_60 4 rfl rfl)
theorem dL_law_1607 : decode cL_law 1607 = .ok (.ireturn, 1) := dk_172 (dk_at dksL_law_60 5 rfl rfl)
theorem dL_law_1608 : decode cL_law 1608 = .ok (.goto 1225, 3) := dk_167 4 201 (dk_at dksL_law_60 6 rfl rfl)
theorem dL_law_1611 : decode cL_law 1611 = .ok (.aload_n 1, 1) := dk_43 (dk_at dksL_law_60 9 rfl rfl)
theorem dL_law_1612 : decode cL_law 1612 = .ok (.aload_n 0, 1) := dk_42 (dk_at dksL_law_60 10 rfl rfl)
theorem dL_law_1613 : decode cL_law 1613 = .ok (.iload 5, 2) := dk_21 5 (dk_at dksL_law_60 11 rfl rfl)
theorem dL_law_1615 : decode cL_law 1615 = .ok (.iconst 1, 1) := dk_4 (dk_at dksL_law_60 13 rfl rfl)
theorem dL_law_1616 : decode cL_law 1616 = .ok (.iadd, 1) := dk_96 (dk_at dksL_law_60 14 rfl rfl)
theorem dL_law_1617 : decode cL_law 1617 = .ok (.iaload, 1) := dk_46 (dk_at dksL_law_60 15 rfl rfl)
theorem dL_law_1618 : decode cL_law 1618 = .ok (.aload_n 0, 1) := dk_42 (dk_at dksL_law_60 16 rfl rfl)
theorem dL_law_1619 : decode cL_law 1619 = .ok (.iload 5, 2) := dk_21 5 (dk_at dksL_law_60 17 rfl rfl)
theorem dL_law_1621 : decode cL_law 1621 = .ok (.iconst 2, 1) := dk_5 (dk_at dksL_law_60 19 rfl rfl)
theorem dL_law_1622 : decode cL_law 1622 = .ok (.iadd, 1) := dk_96 (dk_at dksL_law_60 20 rfl rfl)
theorem dL_law_1623 : decode cL_law 1623 = .ok (.iaload, 1) := dk_46 (dk_at dksL_law_60 21 rfl rfl)
theorem dL_law_1624 : decode cL_law 1624 = .ok (.aload_n 0, 1) := dk_42 (dk_at dksL_law_60 22 rfl rfl)
theorem dL_law_1625 : decode cL_law 1625 = .ok (.iload 5, 2) := dk_21 5 (dk_at dksL_law_61 0 rfl rfl)
theorem dL_law_1627 : decode cL_law 1627 = .ok (.iconst 3, 1) := dk_6 (dk_at dksL_law_61 2 rfl rfl)
theorem dL_law_1628 : decode cL_law 1628 = .ok (.iadd, 1) := dk_96 (dk_at dksL_law_61 3 rfl rfl)
theorem dL_law_1629 : decode cL_law 1629 = .ok (.iaload, 1) := dk_46 (dk_at dksL_law_61 4 rfl rfl)
theorem dL_law_1630 : decode cL_law 1630 = .ok (.aload_n 3, 1) := dk_45 (dk_at dksL_law_61 5 rfl rfl)
theorem dL_law_1631 : decode cL_law 1631 = .ok (.invokestatic 250, 3) := dk_184 0 250 (dk_at dksL_law_61 6 rfl rfl)
theorem dL_law_1634 : decode cL_law 1634 = .ok (.istore 6, 2) := dk_54 6 (dk_at dksL_law_61 9 rfl rfl)
theorem dL_law_1636 : decode cL_law 1636 = .ok (.aload_n 2, 1) := dk_44 (dk_at dksL_law_61 11 rfl rfl)
theorem dL_law_1637 : decode cL_law 1637 = .ok (.aload_n 0, 1) := dk_42 (dk_at dksL_law_61 12 rfl rfl)
theorem dL_law_1638 : decode cL_law 1638 = .ok (.iload 5, 2) := dk_21 5 (dk_at dksL_law_61 13 rfl rfl)
theorem dL_law_1640 : decode cL_law 1640 = .ok (.iconst 1, 1) := dk_4 (dk_at dksL_law_61 15 rfl rfl)
theorem dL_law_1641 : decode cL_law 1641 = .ok (.iadd, 1) := dk_96 (dk_at dksL_law_61 16 rfl rfl)
theorem dL_law_1642 : decode cL_law 1642 = .ok (.iaload, 1) := dk_46 (dk_at dksL_law_61 17 rfl rfl)
theorem dL_law_1643 : decode cL_law 1643 = .ok (.aload_n 0, 1) := dk_42 (dk_at dksL_law_61 18 rfl rfl)
theorem dL_law_1644 : decode cL_law 1644 = .ok (.iload 5, 2) := dk_21 5 (dk_at dksL_law_61 19 rfl rfl)
theorem dL_law_1646 : decode cL_law 1646 = .ok (.iconst 2, 1) := dk_5 (dk_at dksL_law_61 21 rfl rfl)
theorem dL_law_1647 : decode cL_law 1647 = .ok (.iadd, 1) := dk_96 (dk_at dksL_law_61 22 rfl rfl)
theorem dL_law_1648 : decode cL_law 1648 = .ok (.iaload, 1) := dk_46 (dk_at dksL_law_61 23 rfl rfl)
theorem dL_law_1649 : decode cL_law 1649 = .ok (.aload_n 0, 1) := dk_42 (dk_at dksL_law_62 0 rfl rfl)
theorem dL_law_1650 : decode cL_law 1650 = .ok (.iload 5, 2) := dk_21 5 (dk_at dksL_law_62 1 rfl rfl)
theorem dL_law_1652 : decode cL_law 1652 = .ok (.iconst 3, 1) := dk_6 (dk_at dksL_law_62 3 rfl rfl)
theorem dL_law_1653 : decode cL_law 1653 = .ok (.iadd, 1) := dk_96 (dk_at dksL_law_62 4 rfl rfl)
theorem dL_law_1654 : decode cL_law 1654 = .ok (.iaload, 1) := dk_46 (dk_at dksL_law_62 5 rfl rfl)
theorem dL_law_1655 : decode cL_law 1655 = .ok (.invokevirtual 253, 3) := dk_182 0 253 (dk_at dksL_law_62 6 rfl rfl)
theorem dL_law_1658 : decode cL_law 1658 = .ok (.istore 7, 2) := dk_54 7 (dk_at dksL_law_62 9 rfl rfl)
theorem dL_law_1660 : decode cL_law 1660 = .ok (.aload_n 2, 1) := dk_44 (dk_at dksL_law_62 11 rfl rfl)
theorem dL_law_1661 : decode cL_law 1661 = .ok (.invokevirtual 168, 3) := dk_182 0 168 (dk_at dksL_law_62 12 rfl rfl)
theorem dL_law_1664 : decode cL_law 1664 = .ok (.iload 6, 2) := dk_21 6 (dk_at dksL_law_62 15 rfl rfl)
theorem dL_law_1666 : decode cL_law 1666 = .ok (.if_icmp .eq 5, 3) := dk_159 0 5 (dk_at dksL_law_62 17 rfl rfl)
theorem dL_law_1669 : decode cL_law 1669 = .ok (.iconst 0, 1) := dk_3 (dk_at dksL_law_62 20 rfl rfl)
theorem dL_law_1670 : decode cL_law 1670 = .ok (.ireturn, 1) := dk_172 (dk_at dksL_law_62 21 rfl rfl)
theorem dL_law_1671 : decode cL_law 1671 = .ok (.iload 6, 2) := dk_21 6 (dk_at dksL_law_62 22 rfl rfl)
theorem dL_law_1673 : decode cL_law 1673 = .ok (.ifCond .ne 15, 3) := dk_154 0 15 (dk_at dksL_law_63 0 rfl rfl)
theorem dL_law_1676 : decode cL_law 1676 = .ok (.aload_n 3, 1) := dk_45 (dk_at dksL_law_63 3 rfl rfl)
theorem dL_law_1677 : decode cL_law 1677 = .ok (.iconst 0, 1) := dk_3 (dk_at dksL_law_63 4 rfl rfl)
theorem dL_law_1678 : decode cL_law 1678 = .ok (.laload, 1) := dk_47 (dk_at dksL_law_63 5 rfl rfl)
theorem dL_law_1679 : decode cL_law 1679 = .ok (.iload 7, 2) := dk_21 7 (dk_at dksL_law_63 6 rfl rfl)
theorem dL_law_1681 : decode cL_law 1681 = .ok (.i2l, 1) := dk_133 (dk_at dksL_law_63 8 rfl rfl)
theorem dL_law_1682 : decode cL_law 1682 = .ok (.lcmp, 1) := dk_148 (dk_at dksL_law_63 9 rfl rfl)
theorem dL_law_1683 : decode cL_law 1683 = .ok (.ifCond .eq 5, 3) := dk_153 0 5 (dk_at dksL_law_63 10 rfl rfl)
theorem dL_law_1686 : decode cL_law 1686 = .ok (.iconst 0, 1) := dk_3 (dk_at dksL_law_63 13 rfl rfl)
theorem dL_law_1687 : decode cL_law 1687 = .ok (.ireturn, 1) := dk_172 (dk_at dksL_law_63 14 rfl rfl)
theorem dL_law_1688 : decode cL_law 1688 = .ok (.goto 1145, 3) := dk_167 4 121 (dk_at dksL_law_63 15 rfl rfl)
theorem dL_law_1691 : decode cL_law 1691 = .ok (.aload_n 1, 1) := dk_43 (dk_at dksL_law_63 18 rfl rfl)
theorem dL_law_1692 : decode cL_law 1692 = .ok (.aload_n 0, 1) := dk_42 (dk_at dksL_law_63 19 rfl rfl)
theorem dL_law_1693 : decode cL_law 1693 = .ok (.iload 5, 2) := dk_21 5 (dk_at dksL_law_63 20 rfl rfl)
theorem dL_law_1695 : decode cL_law 1695 = .ok (.iconst 1, 1) := dk_4 (dk_at dksL_law_63 22 rfl rfl)
theorem dL_law_1696 : decode cL_law 1696 = .ok (.iadd, 1) := dk_96 (dk_at dksL_law_63 23 rfl rfl)
theorem dL_law_1697 : decode cL_law 1697 = .ok (.iaload, 1) := dk_46 (dk_at dksL_law_64 0 rfl rfl)
theorem dL_law_1698 : decode cL_law 1698 = .ok (.i2c, 1) := dk_146 (dk_at dksL_law_64 1 rfl rfl)
theorem dL_law_1699 : decode cL_law 1699 = .ok (.aload_n 0, 1) := dk_42 (dk_at dksL_law_64 2 rfl rfl)
theorem dL_law_1700 : decode cL_law 1700 = .ok (.iload 5, 2) := dk_21 5 (dk_at dksL_law_64 3 rfl rfl)
theorem dL_law_1702 : decode cL_law 1702 = .ok (.iconst 2, 1) := dk_5 (dk_at dksL_law_64 5 rfl rfl)
theorem dL_law_1703 : decode cL_law 1703 = .ok (.iadd, 1) := dk_96 (dk_at dksL_law_64 6 rfl rfl)
theorem dL_law_1704 : decode cL_law 1704 = .ok (.iaload, 1) := dk_46 (dk_at dksL_law_64 7 rfl rfl)
theorem dL_law_1705 : decode cL_law 1705 = .ok (.aload_n 3, 1) := dk_45 (dk_at dksL_law_64 8 rfl rfl)
theorem dL_law_1706 : decode cL_law 1706 = .ok (.invokestatic 254, 3) := dk_184 0 254 (dk_at dksL_law_64 9 rfl rfl)
theorem dL_law_1709 : decode cL_law 1709 = .ok (.istore 6, 2) := dk_54 6 (dk_at dksL_law_64 12 rfl rfl)
theorem dL_law_1711 : decode cL_law 1711 = .ok (.aload_n 2, 1) := dk_44 (dk_at dksL_law_64 14 rfl rfl)
theorem dL_law_1712 : decode cL_law 1712 = .ok (.aload_n 0, 1) := dk_42 (dk_at dksL_law_64 15 rfl rfl)
theorem dL_law_1713 : decode cL_law 1713 = .ok (.iload 5, 2) := dk_21 5 (dk_at dksL_law_64 16 rfl rfl)
theorem dL_law_1715 : decode cL_law 1715 = .ok (.iconst 1, 1) := dk_4 (dk_at dksL_law_64 18 rfl rfl)
theorem dL_law_1716 : decode cL_law 1716 = .ok (.iadd, 1) := dk_96 (dk_at dksL_law_64 19 rfl rfl)
theorem dL_law_1717 : decode cL_law 1717 = .ok (.iaload, 1) := dk_46 (dk_at dksL_law_64 20 rfl rfl)
theorem dL_law_1718 : decode cL_law 1718 = .ok (.i2c, 1) := dk_146 (dk_at dksL_law_64 21 rfl rfl)
theorem dL_law_1719 : decode cL_law 1719 = .ok (.aload_n 0, 1) := dk_42 (dk_at dksL_law_64 22 rfl rfl)
theorem dL_law_1720 : decode cL_law 1720 = .ok (.iload 5, 2) := dk_21 5 (dk_at dksL_law_65 0 rfl rfl)
theorem dL_law_1722 : decode cL_law 1722 = .ok (.iconst 2, 1) := dk_5 (dk_at dksL_law_65 2 rfl rfl)
theorem dL_law_1723 : decode cL_law 1723 = .ok (.iadd, 1) := dk_96 (dk_at dksL_law_65 3 rfl rfl)
theorem dL_law_1724 : decode cL_law 1724 = .ok (.iaload, 1) := dk_46 (dk_at dksL_law_65 4 rfl rfl)
theorem dL_law_1725 : decode cL_law 1725 = .ok (.invokevirtual 256, 3) := dk_182 1 0 (dk_at dksL_law_65 5 rfl rfl)
theorem dL_law_1728 : decode cL_law 1728 = .ok (.istore 7, 2) := dk_54 7 (dk_at dksL_law_65 8 rfl rfl)
theorem dL_law_1730 : decode cL_law 1730 = .ok (.aload_n 2, 1) := dk_44 (dk_at dksL_law_65 10 rfl rfl)
theorem dL_law_1731 : decode cL_law 1731 = .ok (.invokevirtual 168, 3) := dk_182 0 168 (dk_at dksL_law_65 11 rfl rfl)
theorem dL_law_1734 : decode cL_law 1734 = .ok (.iload 6, 2) := dk_21 6 (dk_at dksL_law_65 14 rfl rfl)
theorem dL_law_1736 : decode cL_law 1736 = .ok (.if_icmp .eq 5, 3) := dk_159 0 5 (dk_at dksL_law_65 16 rfl rfl)
theorem dL_law_1739 : decode cL_law 1739 = .ok (.iconst 0, 1) := dk_3 (dk_at dksL_law_65 19 rfl rfl)
theorem dL_law_1740 : decode cL_law 1740 = .ok (.ireturn, 1) := dk_172 (dk_at dksL_law_65 20 rfl rfl)
theorem dL_law_1741 : decode cL_law 1741 = .ok (.iload 6, 2) := dk_21 6 (dk_at dksL_law_65 21 rfl rfl)
theorem dL_law_1743 : decode cL_law 1743 = .ok (.ifCond .ne 15, 3) := dk_154 0 15 (dk_at dksL_law_66 0 rfl rfl)
theorem dL_law_1746 : decode cL_law 1746 = .ok (.aload_n 3, 1) := dk_45 (dk_at dksL_law_66 3 rfl rfl)
theorem dL_law_1747 : decode cL_law 1747 = .ok (.iconst 0, 1) := dk_3 (dk_at dksL_law_66 4 rfl rfl)
theorem dL_law_1748 : decode cL_law 1748 = .ok (.laload, 1) := dk_47 (dk_at dksL_law_66 5 rfl rfl)
theorem dL_law_1749 : decode cL_law 1749 = .ok (.iload 7, 2) := dk_21 7 (dk_at dksL_law_66 6 rfl rfl)
theorem dL_law_1751 : decode cL_law 1751 = .ok (.i2l, 1) := dk_133 (dk_at dksL_law_66 8 rfl rfl)
theorem dL_law_1752 : decode cL_law 1752 = .ok (.lcmp, 1) := dk_148 (dk_at dksL_law_66 9 rfl rfl)
theorem dL_law_1753 : decode cL_law 1753 = .ok (.ifCond .eq 5, 3) := dk_153 0 5 (dk_at dksL_law_66 10 rfl rfl)
theorem dL_law_1756 : decode cL_law 1756 = .ok (.iconst 0, 1) := dk_3 (dk_at dksL_law_66 13 rfl rfl)
theorem dL_law_1757 : decode cL_law 1757 = .ok (.ireturn, 1) := dk_172 (dk_at dksL_law_66 14 rfl rfl)
theorem dL_law_1758 : decode cL_law 1758 = .ok (.goto 1075, 3) := dk_167 4 51 (dk_at dksL_law_66 15 rfl rfl)
theorem dL_law_1761 : decode cL_law 1761 = .ok (.aload_n 1, 1) := dk_43 (dk_at dksL_law_66 18 rfl rfl)
theorem dL_law_1762 : decode cL_law 1762 = .ok (.aload_n 0, 1) := dk_42 (dk_at dksL_law_66 19 rfl rfl)
theorem dL_law_1763 : decode cL_law 1763 = .ok (.iload 5, 2) := dk_21 5 (dk_at dksL_law_66 20 rfl rfl)
theorem dL_law_1765 : decode cL_law 1765 = .ok (.iconst 1, 1) := dk_4 (dk_at dksL_law_66 22 rfl rfl)
theorem dL_law_1766 : decode cL_law 1766 = .ok (.iadd, 1) := dk_96 (dk_at dksL_law_66 23 rfl rfl)
theorem dL_law_1767 : decode cL_law 1767 = .ok (.iaload, 1) := dk_46 (dk_at dksL_law_67 0 rfl rfl)
theorem dL_law_1768 : decode cL_law 1768 = .ok (.i2c, 1) := dk_146 (dk_at dksL_law_67 1 rfl rfl)
theorem dL_law_1769 : decode cL_law 1769 = .ok (.aload_n 0, 1) := dk_42 (dk_at dksL_law_67 2 rfl rfl)
theorem dL_law_1770 : decode cL_law 1770 = .ok (.iload 5, 2) := dk_21 5 (dk_at dksL_law_67 3 rfl rfl)
theorem dL_law_1772 : decode cL_law 1772 = .ok (.iconst 2, 1) := dk_5 (dk_at dksL_law_67 5 rfl rfl)
theorem dL_law_1773 : decode cL_law 1773 = .ok (.iadd, 1) := dk_96 (dk_at dksL_law_67 6 rfl rfl)
theorem dL_law_1774 : decode cL_law 1774 = .ok (.iaload, 1) := dk_46 (dk_at dksL_law_67 7 rfl rfl)
theorem dL_law_1775 : decode cL_law 1775 = .ok (.aload_n 3, 1) := dk_45 (dk_at dksL_law_67 8 rfl rfl)
theorem dL_law_1776 : decode cL_law 1776 = .ok (.invokestatic 257, 3) := dk_184 1 1 (dk_at dksL_law_67 9 rfl rfl)
theorem dL_law_1779 : decode cL_law 1779 = .ok (.istore 6, 2) := dk_54 6 (dk_at dksL_law_67 12 rfl rfl)
theorem dL_law_1781 : decode cL_law 1781 = .ok (.aload_n 2, 1) := dk_44 (dk_at dksL_law_67 14 rfl rfl)
theorem dL_law_1782 : decode cL_law 1782 = .ok (.aload_n 0, 1) := dk_42 (dk_at dksL_law_67 15 rfl rfl)
theorem dL_law_1783 : decode cL_law 1783 = .ok (.iload 5, 2) := dk_21 5 (dk_at dksL_law_67 16 rfl rfl)
theorem dL_law_1785 : decode cL_law 1785 = .ok (.iconst 1, 1) := dk_4 (dk_at dksL_law_67 18 rfl rfl)
theorem dL_law_1786 : decode cL_law 1786 = .ok (.iadd, 1) := dk_96 (dk_at dksL_law_67 19 rfl rfl)
theorem dL_law_1787 : decode cL_law 1787 = .ok (.iaload, 1) := dk_46 (dk_at dksL_law_67 20 rfl rfl)
theorem dL_law_1788 : decode cL_law 1788 = .ok (.i2c, 1) := dk_146 (dk_at dksL_law_67 21 rfl rfl)
theorem dL_law_1789 : decode cL_law 1789 = .ok (.aload_n 0, 1) := dk_42 (dk_at dksL_law_67 22 rfl rfl)
theorem dL_law_1790 : decode cL_law 1790 = .ok (.iload 5, 2) := dk_21 5 (dk_at dksL_law_68 0 rfl rfl)
theorem dL_law_1792 : decode cL_law 1792 = .ok (.iconst 2, 1) := dk_5 (dk_at dksL_law_68 2 rfl rfl)
theorem dL_law_1793 : decode cL_law 1793 = .ok (.iadd, 1) := dk_96 (dk_at dksL_law_68 3 rfl rfl)
theorem dL_law_1794 : decode cL_law 1794 = .ok (.iaload, 1) := dk_46 (dk_at dksL_law_68 4 rfl rfl)
theorem dL_law_1795 : decode cL_law 1795 = .ok (.invokevirtual 259, 3) := dk_182 1 3 (dk_at dksL_law_68 5 rfl rfl)
theorem dL_law_1798 : decode cL_law 1798 = .ok (.istore 7, 2) := dk_54 7 (dk_at dksL_law_68 8 rfl rfl)
theorem dL_law_1800 : decode cL_law 1800 = .ok (.aload_n 2, 1) := dk_44 (dk_at dksL_law_68 10 rfl rfl)
theorem dL_law_1801 : decode cL_law 1801 = .ok (.invokevirtual 168, 3) := dk_182 0 168 (dk_at dksL_law_68 11 rfl rfl)
theorem dL_law_1804 : decode cL_law 1804 = .ok (.iload 6, 2) := dk_21 6 (dk_at dksL_law_68 14 rfl rfl)
theorem dL_law_1806 : decode cL_law 1806 = .ok (.if_icmp .eq 5, 3) := dk_159 0 5 (dk_at dksL_law_68 16 rfl rfl)
theorem dL_law_1809 : decode cL_law 1809 = .ok (.iconst 0, 1) := dk_3 (dk_at dksL_law_68 19 rfl rfl)
theorem dL_law_1810 : decode cL_law 1810 = .ok (.ireturn, 1) := dk_172 (dk_at dksL_law_68 20 rfl rfl)
theorem dL_law_1811 : decode cL_law 1811 = .ok (.iload 6, 2) := dk_21 6 (dk_at dksL_law_68 21 rfl rfl)
theorem dL_law_1813 : decode cL_law 1813 = .ok (.ifCond .ne 15, 3) := dk_154 0 15 (dk_at dksL_law_69 0 rfl rfl)
theorem dL_law_1816 : decode cL_law 1816 = .ok (.aload_n 3, 1) := dk_45 (dk_at dksL_law_69 3 rfl rfl)
theorem dL_law_1817 : decode cL_law 1817 = .ok (.iconst 0, 1) := dk_3 (dk_at dksL_law_69 4 rfl rfl)
theorem dL_law_1818 : decode cL_law 1818 = .ok (.laload, 1) := dk_47 (dk_at dksL_law_69 5 rfl rfl)
theorem dL_law_1819 : decode cL_law 1819 = .ok (.iload 7, 2) := dk_21 7 (dk_at dksL_law_69 6 rfl rfl)
theorem dL_law_1821 : decode cL_law 1821 = .ok (.i2l, 1) := dk_133 (dk_at dksL_law_69 8 rfl rfl)
theorem dL_law_1822 : decode cL_law 1822 = .ok (.lcmp, 1) := dk_148 (dk_at dksL_law_69 9 rfl rfl)
theorem dL_law_1823 : decode cL_law 1823 = .ok (.ifCond .eq 5, 3) := dk_153 0 5 (dk_at dksL_law_69 10 rfl rfl)
theorem dL_law_1826 : decode cL_law 1826 = .ok (.iconst 0, 1) := dk_3 (dk_at dksL_law_69 13 rfl rfl)
theorem dL_law_1827 : decode cL_law 1827 = .ok (.ireturn, 1) := dk_172 (dk_at dksL_law_69 14 rfl rfl)
theorem dL_law_1828 : decode cL_law 1828 = .ok (.goto 1005, 3) := dk_167 3 237 (dk_at dksL_law_69 15 rfl rfl)
theorem dL_law_1831 : decode cL_law 1831 = .ok (.aload_n 1, 1) := dk_43 (dk_at dksL_law_69 18 rfl rfl)
theorem dL_law_1832 : decode cL_law 1832 = .ok (.invokevirtual 260, 3) := dk_182 1 4 (dk_at dksL_law_69 19 rfl rfl)
theorem dL_law_1835 : decode cL_law 1835 = .ok (.aload_n 2, 1) := dk_44 (dk_at dksL_law_69 22 rfl rfl)
theorem dL_law_1836 : decode cL_law 1836 = .ok (.invokevirtual 263, 3) := dk_182 1 7 (dk_at dksL_law_70 0 rfl rfl)
theorem dL_law_1839 : decode cL_law 1839 = .ok (.if_icmp .eq 994, 3) := dk_159 3 226 (dk_at dksL_law_70 3 rfl rfl)
theorem dL_law_1842 : decode cL_law 1842 = .ok (.iconst 0, 1) := dk_3 (dk_at dksL_law_70 6 rfl rfl)
theorem dL_law_1843 : decode cL_law 1843 = .ok (.ireturn, 1) := dk_172 (dk_at dksL_law_70 7 rfl rfl)
theorem dL_law_1844 : decode cL_law 1844 = .ok (.aload_n 1, 1) := dk_43 (dk_at dksL_law_70 8 rfl rfl)
theorem dL_law_1845 : decode cL_law 1845 = .ok (.aload_n 0, 1) := dk_42 (dk_at dksL_law_70 9 rfl rfl)
theorem dL_law_1846 : decode cL_law 1846 = .ok (.iload 5, 2) := dk_21 5 (dk_at dksL_law_70 10 rfl rfl)
theorem dL_law_1848 : decode cL_law 1848 = .ok (.iconst 1, 1) := dk_4 (dk_at dksL_law_70 12 rfl rfl)
theorem dL_law_1849 : decode cL_law 1849 = .ok (.iadd, 1) := dk_96 (dk_at dksL_law_70 13 rfl rfl)
theorem dL_law_1850 : decode cL_law 1850 = .ok (.iaload, 1) := dk_46 (dk_at dksL_law_70 14 rfl rfl)
theorem dL_law_1851 : decode cL_law 1851 = .ok (.aload_n 3, 1) := dk_45 (dk_at dksL_law_70 15 rfl rfl)
theorem dL_law_1852 : decode cL_law 1852 = .ok (.invokestatic 264, 3) := dk_184 1 8 (dk_at dksL_law_70 16 rfl rfl)
theorem dL_law_1855 : decode cL_law 1855 = .ok (.istore 6, 2) := dk_54 6 (dk_at dksL_law_70 19 rfl rfl)
theorem dL_law_1857 : decode cL_law 1857 = .ok (.aload_n 2, 1) := dk_44 (dk_at dksL_law_70 21 rfl rfl)
theorem dL_law_1858 : decode cL_law 1858 = .ok (.aload_n 0, 1) := dk_42 (dk_at dksL_law_70 22 rfl rfl)
theorem dL_law_1859 : decode cL_law 1859 = .ok (.iload 5, 2) := dk_21 5 (dk_at dksL_law_71 0 rfl rfl)
theorem dL_law_1861 : decode cL_law 1861 = .ok (.iconst 1, 1) := dk_4 (dk_at dksL_law_71 2 rfl rfl)
theorem dL_law_1862 : decode cL_law 1862 = .ok (.iadd, 1) := dk_96 (dk_at dksL_law_71 3 rfl rfl)
theorem dL_law_1863 : decode cL_law 1863 = .ok (.iaload, 1) := dk_46 (dk_at dksL_law_71 4 rfl rfl)
theorem dL_law_1864 : decode cL_law 1864 = .ok (.invokevirtual 266, 3) := dk_182 1 10 (dk_at dksL_law_71 5 rfl rfl)
theorem dL_law_1867 : decode cL_law 1867 = .ok (.istore 7, 2) := dk_54 7 (dk_at dksL_law_71 8 rfl rfl)
theorem dL_law_1869 : decode cL_law 1869 = .ok (.aload_n 2, 1) := dk_44 (dk_at dksL_law_71 10 rfl rfl)
theorem dL_law_1870 : decode cL_law 1870 = .ok (.invokevirtual 168, 3) := dk_182 0 168 (dk_at dksL_law_71 11 rfl rfl)
theorem dL_law_1873 : decode cL_law 1873 = .ok (.iload 6, 2) := dk_21 6 (dk_at dksL_law_71 14 rfl rfl)
theorem dL_law_1875 : decode cL_law 1875 = .ok (.if_icmp .eq 5, 3) := dk_159 0 5 (dk_at dksL_law_71 16 rfl rfl)
theorem dL_law_1878 : decode cL_law 1878 = .ok (.iconst 0, 1) := dk_3 (dk_at dksL_law_71 19 rfl rfl)
theorem dL_law_1879 : decode cL_law 1879 = .ok (.ireturn, 1) := dk_172 (dk_at dksL_law_71 20 rfl rfl)
theorem dL_law_1880 : decode cL_law 1880 = .ok (.iload 6, 2) := dk_21 6 (dk_at dksL_law_71 21 rfl rfl)
theorem dL_law_1882 : decode cL_law 1882 = .ok (.ifCond .ne 22, 3) := dk_154 0 22 (dk_at dksL_law_72 0 rfl rfl)
theorem dL_law_1885 : decode cL_law 1885 = .ok (.aload_n 3, 1) := dk_45 (dk_at dksL_law_72 3 rfl rfl)
theorem dL_law_1886 : decode cL_law 1886 = .ok (.iconst 0, 1) := dk_3 (dk_at dksL_law_72 4 rfl rfl)
theorem dL_law_1887 : decode cL_law 1887 = .ok (.laload, 1) := dk_47 (dk_at dksL_law_72 5 rfl rfl)
theorem dL_law_1888 : decode cL_law 1888 = .ok (.iload 7, 2) := dk_21 7 (dk_at dksL_law_72 6 rfl rfl)
theorem dL_law_1890 : decode cL_law 1890 = .ok (.ifCond .eq 7, 3) := dk_153 0 7 (dk_at dksL_law_72 8 rfl rfl)
theorem dL_law_1893 : decode cL_law 1893 = .ok (.lconst 1, 1) := dk_10 (dk_at dksL_law_72 11 rfl rfl)
theorem dL_law_1894 : decode cL_law 1894 = .ok (.goto 4, 3) := dk_167 0 4 (dk_at dksL_law_72 12 rfl rfl)
theorem dL_law_1897 : decode cL_law 1897 = .ok (.lconst 0, 1) := dk_9 (dk_at dksL_law_72 15 rfl rfl)
theorem dL_law_1898 : decode cL_law 1898 = .ok (.lcmp, 1) := dk_148 (dk_at dksL_law_72 16 rfl rfl)
theorem dL_law_1899 : decode cL_law 1899 = .ok (.ifCond .eq 5, 3) := dk_153 0 5 (dk_at dksL_law_72 17 rfl rfl)
theorem dL_law_1902 : decode cL_law 1902 = .ok (.iconst 0, 1) := dk_3 (dk_at dksL_law_72 20 rfl rfl)
theorem dL_law_1903 : decode cL_law 1903 = .ok (.ireturn, 1) := dk_172 (dk_at dksL_law_72 21 rfl rfl)
theorem dL_law_1904 : decode cL_law 1904 = .ok (.goto 929, 3) := dk_167 3 161 (dk_at dksL_law_73 0 rfl rfl)
theorem dL_law_1907 : decode cL_law 1907 = .ok (.aload_n 1, 1) := dk_43 (dk_at dksL_law_73 3 rfl rfl)
theorem dL_law_1908 : decode cL_law 1908 = .ok (.aload_n 0, 1) := dk_42 (dk_at dksL_law_73 4 rfl rfl)
theorem dL_law_1909 : decode cL_law 1909 = .ok (.iload 5, 2) := dk_21 5 (dk_at dksL_law_73 5 rfl rfl)
theorem dL_law_1911 : decode cL_law 1911 = .ok (.iconst 1, 1) := dk_4 (dk_at dksL_law_73 7 rfl rfl)
theorem dL_law_1912 : decode cL_law 1912 = .ok (.iadd, 1) := dk_96 (dk_at dksL_law_73 8 rfl rfl)
theorem dL_law_1913 : decode cL_law 1913 = .ok (.iaload, 1) := dk_46 (dk_at dksL_law_73 9 rfl rfl)
theorem dL_law_1914 : decode cL_law 1914 = .ok (.aload_n 3, 1) := dk_45 (dk_at dksL_law_73 10 rfl rfl)
theorem dL_law_1915 : decode cL_law 1915 = .ok (.invokestatic 267, 3) := dk_184 1 11 (dk_at dksL_law_73 11 rfl rfl)
theorem dL_law_1918 : decode cL_law 1918 = .ok (.istore 6, 2) := dk_54 6 (dk_at dksL_law_73 14 rfl rfl)
theorem dL_law_1920 : decode cL_law 1920 = .ok (.aload_n 2, 1) := dk_44 (dk_at dksL_law_73 16 rfl rfl)
theorem dL_law_1921 : decode cL_law 1921 = .ok (.aload_n 0, 1) := dk_42 (dk_at dksL_law_73 17 rfl rfl)
theorem dL_law_1922 : decode cL_law 1922 = .ok (.iload 5, 2) := dk_21 5 (dk_at dksL_law_73 18 rfl rfl)
theorem dL_law_1924 : decode cL_law 1924 = .ok (.iconst 1, 1) := dk_4 (dk_at dksL_law_73 20 rfl rfl)
theorem dL_law_1925 : decode cL_law 1925 = .ok (.iadd, 1) := dk_96 (dk_at dksL_law_73 21 rfl rfl)
theorem dL_law_1926 : decode cL_law 1926 = .ok (.iaload, 1) := dk_46 (dk_at dksL_law_73 22 rfl rfl)
theorem dL_law_1927 : decode cL_law 1927 = .ok (.invokevirtual 269, 3) := dk_182 1 13 (dk_at dksL_law_74 0 rfl rfl)
theorem dL_law_1930 : decode cL_law 1930 = .ok (.istore 7, 2) := dk_54 7 (dk_at dksL_law_74 3 rfl rfl)
theorem dL_law_1932 : decode cL_law 1932 = .ok (.aload_n 2, 1) := dk_44 (dk_at dksL_law_74 5 rfl rfl)
theorem dL_law_1933 : decode cL_law 1933 = .ok (.invokevirtual 168, 3) := dk_182 0 168 (dk_at dksL_law_74 6 rfl rfl)
theorem dL_law_1936 : decode cL_law 1936 = .ok (.iload 6, 2) := dk_21 6 (dk_at dksL_law_74 9 rfl rfl)
theorem dL_law_1938 : decode cL_law 1938 = .ok (.if_icmp .eq 5, 3) := dk_159 0 5 (dk_at dksL_law_74 11 rfl rfl)
theorem dL_law_1941 : decode cL_law 1941 = .ok (.iconst 0, 1) := dk_3 (dk_at dksL_law_74 14 rfl rfl)
theorem dL_law_1942 : decode cL_law 1942 = .ok (.ireturn, 1) := dk_172 (dk_at dksL_law_74 15 rfl rfl)
theorem dL_law_1943 : decode cL_law 1943 = .ok (.iload 6, 2) := dk_21 6 (dk_at dksL_law_74 16 rfl rfl)
theorem dL_law_1945 : decode cL_law 1945 = .ok (.ifCond .ne 15, 3) := dk_154 0 15 (dk_at dksL_law_74 18 rfl rfl)
theorem dL_law_1948 : decode cL_law 1948 = .ok (.aload_n 3, 1) := dk_45 (dk_at dksL_law_74 21 rfl rfl)
theorem dL_law_1949 : decode cL_law 1949 = .ok (.iconst 0, 1) := dk_3 (dk_at dksL_law_74 22 rfl rfl)
theorem dL_law_1950 : decode cL_law 1950 = .ok (.laload, 1) := dk_47 (dk_at dksL_law_74 23 rfl rfl)
theorem dL_law_1951 : decode cL_law 1951 = .ok (.iload 7, 2) := dk_21 7 (dk_at dksL_law_75 0 rfl rfl)
theorem dL_law_1953 : decode cL_law 1953 = .ok (.i2l, 1) := dk_133 (dk_at dksL_law_75 2 rfl rfl)
theorem dL_law_1954 : decode cL_law 1954 = .ok (.lcmp, 1) := dk_148 (dk_at dksL_law_75 3 rfl rfl)
theorem dL_law_1955 : decode cL_law 1955 = .ok (.ifCond .eq 5, 3) := dk_153 0 5 (dk_at dksL_law_75 4 rfl rfl)
theorem dL_law_1958 : decode cL_law 1958 = .ok (.iconst 0, 1) := dk_3 (dk_at dksL_law_75 7 rfl rfl)
theorem dL_law_1959 : decode cL_law 1959 = .ok (.ireturn, 1) := dk_172 (dk_at dksL_law_75 8 rfl rfl)
theorem dL_law_1960 : decode cL_law 1960 = .ok (.goto 873, 3) := dk_167 3 105 (dk_at dksL_law_75 9 rfl rfl)
theorem dL_law_1963 : decode cL_law 1963 = .ok (.aload_n 1, 1) := dk_43 (dk_at dksL_law_75 12 rfl rfl)
theorem dL_law_1964 : decode cL_law 1964 = .ok (.aload_n 0, 1) := dk_42 (dk_at dksL_law_75 13 rfl rfl)
theorem dL_law_1965 : decode cL_law 1965 = .ok (.iload 5, 2) := dk_21 5 (dk_at dksL_law_75 14 rfl rfl)
theorem dL_law_1967 : decode cL_law 1967 = .ok (.iconst 1, 1) := dk_4 (dk_at dksL_law_75 16 rfl rfl)
theorem dL_law_1968 : decode cL_law 1968 = .ok (.iadd, 1) := dk_96 (dk_at dksL_law_75 17 rfl rfl)
theorem dL_law_1969 : decode cL_law 1969 = .ok (.iaload, 1) := dk_46 (dk_at dksL_law_75 18 rfl rfl)
theorem dL_law_1970 : decode cL_law 1970 = .ok (.aload_n 3, 1) := dk_45 (dk_at dksL_law_75 19 rfl rfl)
theorem dL_law_1971 : decode cL_law 1971 = .ok (.invokestatic 270, 3) := dk_184 1 14 (dk_at dksL_law_75 20 rfl rfl)
theorem dL_law_1974 : decode cL_law 1974 = .ok (.istore 6, 2) := dk_54 6 (dk_at dksL_law_76 0 rfl rfl)
theorem dL_law_1976 : decode cL_law 1976 = .ok (.aload_n 2, 1) := dk_44 (dk_at dksL_law_76 2 rfl rfl)
theorem dL_law_1977 : decode cL_law 1977 = .ok (.aload_n 0, 1) := dk_42 (dk_at dksL_law_76 3 rfl rfl)
theorem dL_law_1978 : decode cL_law 1978 = .ok (.iload 5, 2) := dk_21 5 (dk_at dksL_law_76 4 rfl rfl)
theorem dL_law_1980 : decode cL_law 1980 = .ok (.iconst 1, 1) := dk_4 (dk_at dksL_law_76 6 rfl rfl)
theorem dL_law_1981 : decode cL_law 1981 = .ok (.iadd, 1) := dk_96 (dk_at dksL_law_76 7 rfl rfl)
theorem dL_law_1982 : decode cL_law 1982 = .ok (.iaload, 1) := dk_46 (dk_at dksL_law_76 8 rfl rfl)
theorem dL_law_1983 : decode cL_law 1983 = .ok (.invokevirtual 272, 3) := dk_182 1 16 (dk_at dksL_law_76 9 rfl rfl)
theorem dL_law_1986 : decode cL_law 1986 = .ok (.istore 7, 2) := dk_54 7 (dk_at dksL_law_76 12 rfl rfl)
theorem dL_law_1988 : decode cL_law 1988 = .ok (.aload_n 2, 1) := dk_44 (dk_at dksL_law_76 14 rfl rfl)
theorem dL_law_1989 : decode cL_law 1989 = .ok (.invokevirtual 168, 3) := dk_182 0 168 (dk_at dksL_law_76 15 rfl rfl)
theorem dL_law_1992 : decode cL_law 1992 = .ok (.iload 6, 2) := dk_21 6 (dk_at dksL_law_76 18 rfl rfl)
theorem dL_law_1994 : decode cL_law 1994 = .ok (.if_icmp .eq 5, 3) := dk_159 0 5 (dk_at dksL_law_76 20 rfl rfl)
theorem dL_law_1997 : decode cL_law 1997 = .ok (.iconst 0, 1) := dk_3 (dk_at dksL_law_76 23 rfl rfl)
theorem dL_law_1998 : decode cL_law 1998 = .ok (.ireturn, 1) := dk_172 (dk_at dksL_law_77 0 rfl rfl)
theorem dL_law_1999 : decode cL_law 1999 = .ok (.iload 6, 2) := dk_21 6 (dk_at dksL_law_77 1 rfl rfl)
theorem dL_law_2001 : decode cL_law 2001 = .ok (.ifCond .ne 15, 3) := dk_154 0 15 (dk_at dksL_law_77 3 rfl rfl)
theorem dL_law_2004 : decode cL_law 2004 = .ok (.aload_n 3, 1) := dk_45 (dk_at dksL_law_77 6 rfl rfl)
theorem dL_law_2005 : decode cL_law 2005 = .ok (.iconst 0, 1) := dk_3 (dk_at dksL_law_77 7 rfl rfl)
theorem dL_law_2006 : decode cL_law 2006 = .ok (.laload, 1) := dk_47 (dk_at dksL_law_77 8 rfl rfl)
theorem dL_law_2007 : decode cL_law 2007 = .ok (.iload 7, 2) := dk_21 7 (dk_at dksL_law_77 9 rfl rfl)
theorem dL_law_2009 : decode cL_law 2009 = .ok (.i2l, 1) := dk_133 (dk_at dksL_law_77 11 rfl rfl)
theorem dL_law_2010 : decode cL_law 2010 = .ok (.lcmp, 1) := dk_148 (dk_at dksL_law_77 12 rfl rfl)
theorem dL_law_2011 : decode cL_law 2011 = .ok (.ifCond .eq 5, 3) := dk_153 0 5 (dk_at dksL_law_77 13 rfl rfl)
theorem dL_law_2014 : decode cL_law 2014 = .ok (.iconst 0, 1) := dk_3 (dk_at dksL_law_77 16 rfl rfl)
theorem dL_law_2015 : decode cL_law 2015 = .ok (.ireturn, 1) := dk_172 (dk_at dksL_law_77 17 rfl rfl)
theorem dL_law_2016 : decode cL_law 2016 = .ok (.goto 817, 3) := dk_167 3 49 (dk_at dksL_law_77 18 rfl rfl)
theorem dL_law_2019 : decode cL_law 2019 = .ok (.aload_n 1, 1) := dk_43 (dk_at dksL_law_77 21 rfl rfl)
theorem dL_law_2020 : decode cL_law 2020 = .ok (.aload_n 0, 1) := dk_42 (dk_at dksL_law_77 22 rfl rfl)
theorem dL_law_2021 : decode cL_law 2021 = .ok (.iload 5, 2) := dk_21 5 (dk_at dksL_law_78 0 rfl rfl)
theorem dL_law_2023 : decode cL_law 2023 = .ok (.iconst 1, 1) := dk_4 (dk_at dksL_law_78 2 rfl rfl)
theorem dL_law_2024 : decode cL_law 2024 = .ok (.iadd, 1) := dk_96 (dk_at dksL_law_78 3 rfl rfl)
theorem dL_law_2025 : decode cL_law 2025 = .ok (.iaload, 1) := dk_46 (dk_at dksL_law_78 4 rfl rfl)
theorem dL_law_2026 : decode cL_law 2026 = .ok (.aload_n 0, 1) := dk_42 (dk_at dksL_law_78 5 rfl rfl)
theorem dL_law_2027 : decode cL_law 2027 = .ok (.iload 5, 2) := dk_21 5 (dk_at dksL_law_78 6 rfl rfl)
theorem dL_law_2029 : decode cL_law 2029 = .ok (.iconst 2, 1) := dk_5 (dk_at dksL_law_78 8 rfl rfl)
theorem dL_law_2030 : decode cL_law 2030 = .ok (.iadd, 1) := dk_96 (dk_at dksL_law_78 9 rfl rfl)
theorem dL_law_2031 : decode cL_law 2031 = .ok (.iaload, 1) := dk_46 (dk_at dksL_law_78 10 rfl rfl)
theorem dL_law_2032 : decode cL_law 2032 = .ok (.aload_n 3, 1) := dk_45 (dk_at dksL_law_78 11 rfl rfl)
theorem dL_law_2033 : decode cL_law 2033 = .ok (.invokestatic 273, 3) := dk_184 1 17 (dk_at dksL_law_78 12 rfl rfl)
theorem dL_law_2036 : decode cL_law 2036 = .ok (.istore 6, 2) := dk_54 6 (dk_at dksL_law_78 15 rfl rfl)
theorem dL_law_2038 : decode cL_law 2038 = .ok (.aload_n 2, 1) := dk_44 (dk_at dksL_law_78 17 rfl rfl)
theorem dL_law_2039 : decode cL_law 2039 = .ok (.aload_n 0, 1) := dk_42 (dk_at dksL_law_78 18 rfl rfl)
theorem dL_law_2040 : decode cL_law 2040 = .ok (.iload 5, 2) := dk_21 5 (dk_at dksL_law_78 19 rfl rfl)
theorem dL_law_2042 : decode cL_law 2042 = .ok (.iconst 1, 1) := dk_4 (dk_at dksL_law_78 21 rfl rfl)
theorem dL_law_2043 : decode cL_law 2043 = .ok (.iadd, 1) := dk_96 (dk_at dksL_law_78 22 rfl rfl)
theorem dL_law_2044 : decode cL_law 2044 = .ok (.iaload, 1) := dk_46 (dk_at dksL_law_78 23 rfl rfl)
theorem dL_law_2045 : decode cL_law 2045 = .ok (.aload_n 0, 1) := dk_42 (dk_at dksL_law_79 0 rfl rfl)
theorem dL_law_2046 : decode cL_law 2046 = .ok (.iload 5, 2) := dk_21 5 (dk_at dksL_law_79 1 rfl rfl)
theorem dL_law_2048 : decode cL_law 2048 = .ok (.iconst 2, 1) := dk_5 (dk_at dksL_law_79 3 rfl rfl)
theorem dL_law_2049 : decode cL_law 2049 = .ok (.iadd, 1) := dk_96 (dk_at dksL_law_79 4 rfl rfl)
theorem dL_law_2050 : decode cL_law 2050 = .ok (.iaload, 1) := dk_46 (dk_at dksL_law_79 5 rfl rfl)
theorem dL_law_2051 : decode cL_law 2051 = .ok (.invokevirtual 276, 3) := dk_182 1 20 (dk_at dksL_law_79 6 rfl rfl)
theorem dL_law_2054 : decode cL_law 2054 = .ok (.istore 7, 2) := dk_54 7 (dk_at dksL_law_79 9 rfl rfl)
theorem dL_law_2056 : decode cL_law 2056 = .ok (.aload_n 2, 1) := dk_44 (dk_at dksL_law_79 11 rfl rfl)
theorem dL_law_2057 : decode cL_law 2057 = .ok (.invokevirtual 168, 3) := dk_182 0 168 (dk_at dksL_law_79 12 rfl rfl)
theorem dL_law_2060 : decode cL_law 2060 = .ok (.iload 6, 2) := dk_21 6 (dk_at dksL_law_79 15 rfl rfl)
theorem dL_law_2062 : decode cL_law 2062 = .ok (.if_icmp .eq 5, 3) := dk_159 0 5 (dk_at dksL_law_79 17 rfl rfl)
theorem dL_law_2065 : decode cL_law 2065 = .ok (.iconst 0, 1) := dk_3 (dk_at dksL_law_79 20 rfl rfl)
theorem dL_law_2066 : decode cL_law 2066 = .ok (.ireturn, 1) := dk_172 (dk_at dksL_law_79 21 rfl rfl)
theorem dL_law_2067 : decode cL_law 2067 = .ok (.iload 6, 2) := dk_21 6 (dk_at dksL_law_79 22 rfl rfl)
theorem dL_law_2069 : decode cL_law 2069 = .ok (.ifCond .ne 15, 3) := dk_154 0 15 (dk_at dksL_law_80 0 rfl rfl)
theorem dL_law_2072 : decode cL_law 2072 = .ok (.aload_n 3, 1) := dk_45 (dk_at dksL_law_80 3 rfl rfl)
theorem dL_law_2073 : decode cL_law 2073 = .ok (.iconst 0, 1) := dk_3 (dk_at dksL_law_80 4 rfl rfl)
theorem dL_law_2074 : decode cL_law 2074 = .ok (.laload, 1) := dk_47 (dk_at dksL_law_80 5 rfl rfl)
theorem dL_law_2075 : decode cL_law 2075 = .ok (.iload 7, 2) := dk_21 7 (dk_at dksL_law_80 6 rfl rfl)
theorem dL_law_2077 : decode cL_law 2077 = .ok (.i2l, 1) := dk_133 (dk_at dksL_law_80 8 rfl rfl)
theorem dL_law_2078 : decode cL_law 2078 = .ok (.lcmp, 1) := dk_148 (dk_at dksL_law_80 9 rfl rfl)
theorem dL_law_2079 : decode cL_law 2079 = .ok (.ifCond .eq 5, 3) := dk_153 0 5 (dk_at dksL_law_80 10 rfl rfl)
theorem dL_law_2082 : decode cL_law 2082 = .ok (.iconst 0, 1) := dk_3 (dk_at dksL_law_80 13 rfl rfl)
theorem dL_law_2083 : decode cL_law 2083 = .ok (.ireturn, 1) := dk_172 (dk_at dksL_law_80 14 rfl rfl)
theorem dL_law_2084 : decode cL_law 2084 = .ok (.goto 749, 3) := dk_167 2 237 (dk_at dksL_law_80 15 rfl rfl)
theorem dL_law_2087 : decode cL_law 2087 = .ok (.aload_n 1, 1) := dk_43 (dk_at dksL_law_80 18 rfl rfl)
theorem dL_law_2088 : decode cL_law 2088 = .ok (.invokevirtual 277, 3) := dk_182 1 21 (dk_at dksL_law_80 19 rfl rfl)
theorem dL_law_2091 : decode cL_law 2091 = .ok (.aload_n 2, 1) := dk_44 (dk_at dksL_law_80 22 rfl rfl)
theorem dL_law_2092 : decode cL_law 2092 = .ok (.invokevirtual 280, 3) := dk_182 1 24 (dk_at dksL_law_81 0 rfl rfl)
theorem dL_law_2095 : decode cL_law 2095 = .ok (.if_icmp .eq 738, 3) := dk_159 2 226 (dk_at dksL_law_81 3 rfl rfl)
theorem dL_law_2098 : decode cL_law 2098 = .ok (.iconst 0, 1) := dk_3 (dk_at dksL_law_81 6 rfl rfl)
theorem dL_law_2099 : decode cL_law 2099 = .ok (.ireturn, 1) := dk_172 (dk_at dksL_law_81 7 rfl rfl)
theorem dL_law_2100 : decode cL_law 2100 = .ok (.aload_n 1, 1) := dk_43 (dk_at dksL_law_81 8 rfl rfl)
theorem dL_law_2101 : decode cL_law 2101 = .ok (.invokevirtual 281, 3) := dk_182 1 25 (dk_at dksL_law_81 9 rfl rfl)
theorem dL_law_2104 : decode cL_law 2104 = .ok (.aload_n 2, 1) := dk_44 (dk_at dksL_law_81 12 rfl rfl)
theorem dL_law_2105 : decode cL_law 2105 = .ok (.invokevirtual 284, 3) := dk_182 1 28 (dk_at dksL_law_81 13 rfl rfl)
theorem dL_law_2108 : decode cL_law 2108 = .ok (.if_icmp .eq 725, 3) := dk_159 2 213 (dk_at dksL_law_81 16 rfl rfl)
theorem dL_law_2111 : decode cL_law 2111 = .ok (.iconst 0, 1) := dk_3 (dk_at dksL_law_81 19 rfl rfl)
theorem dL_law_2112 : decode cL_law 2112 = .ok (.ireturn, 1) := dk_172 (dk_at dksL_law_81 20 rfl rfl)
theorem dL_law_2113 : decode cL_law 2113 = .ok (.aload_n 1, 1) := dk_43 (dk_at dksL_law_81 21 rfl rfl)
theorem dL_law_2114 : decode cL_law 2114 = .ok (.invokevirtual 285, 3) := dk_182 1 29 (dk_at dksL_law_82 0 rfl rfl)
theorem dL_law_2117 : decode cL_law 2117 = .ok (.aload_n 2, 1) := dk_44 (dk_at dksL_law_82 3 rfl rfl)
theorem dL_law_2118 : decode cL_law 2118 = .ok (.invokevirtual 288, 3) := dk_182 1 32 (dk_at dksL_law_82 4 rfl rfl)
theorem dL_law_2121 : decode cL_law 2121 = .ok (.if_icmp .eq 712, 3) := dk_159 2 200 (dk_at dksL_law_82 7 rfl rfl)
theorem dL_law_2124 : decode cL_law 2124 = .ok (.iconst 0, 1) := dk_3 (dk_at dksL_law_82 10 rfl rfl)
theorem dL_law_2125 : decode cL_law 2125 = .ok (.ireturn, 1) := dk_172 (dk_at dksL_law_82 11 rfl rfl)
theorem dL_law_2126 : decode cL_law 2126 = .ok (.aload_n 1, 1) := dk_43 (dk_at dksL_law_82 12 rfl rfl)
theorem dL_law_2127 : decode cL_law 2127 = .ok (.invokevirtual 289, 3) := dk_182 1 33 (dk_at dksL_law_82 13 rfl rfl)
theorem dL_law_2130 : decode cL_law 2130 = .ok (.aload_n 2, 1) := dk_44 (dk_at dksL_law_82 16 rfl rfl)
theorem dL_law_2131 : decode cL_law 2131 = .ok (.invokevirtual 293, 3) := dk_182 1 37 (dk_at dksL_law_82 17 rfl rfl)
theorem dL_law_2134 : decode cL_law 2134 = .ok (.lcmp, 1) := dk_148 (dk_at dksL_law_82 20 rfl rfl)
theorem dL_law_2135 : decode cL_law 2135 = .ok (.ifCond .eq 698, 3) := dk_153 2 186 (dk_at dksL_law_82 21 rfl rfl)
theorem dL_law_2138 : decode cL_law 2138 = .ok (.iconst 0, 1) := dk_3 (dk_at dksL_law_83 0 rfl rfl)
theorem dL_law_2139 : decode cL_law 2139 = .ok (.ireturn, 1) := dk_172 (dk_at dksL_law_83 1 rfl rfl)
theorem dL_law_2140 : decode cL_law 2140 = .ok (.aload_n 1, 1) := dk_43 (dk_at dksL_law_83 2 rfl rfl)
theorem dL_law_2141 : decode cL_law 2141 = .ok (.aload 4, 2) := dk_25 4 (dk_at dksL_law_83 3 rfl rfl)
theorem dL_law_2143 : decode cL_law 2143 = .ok (.invokestatic 294, 3) := dk_184 1 38 (dk_at dksL_law_83 5 rfl rfl)
theorem dL_law_2146 : decode cL_law 2146 = .ok (.istore 6, 2) := dk_54 6 (dk_at dksL_law_83 8 rfl rfl)
theorem dL_law_2148 : decode cL_law 2148 = .ok (.aload_n 2, 1) := dk_44 (dk_at dksL_law_83 10 rfl rfl)
theorem dL_law_2149 : decode cL_law 2149 = .ok (.invokevirtual 297, 3) := dk_182 1 41 (dk_at dksL_law_83 11 rfl rfl)
theorem dL_law_2152 : decode cL_law 2152 = .ok (.dstore 7, 2) := dk_57 7 (dk_at dksL_law_83 14 rfl rfl)
theorem dL_law_2154 : decode cL_law 2154 = .ok (.aload_n 2, 1) := dk_44 (dk_at dksL_law_83 16 rfl rfl)
theorem dL_law_2155 : decode cL_law 2155 = .ok (.invokevirtual 168, 3) := dk_182 0 168 (dk_at dksL_law_83 17 rfl rfl)
theorem dL_law_2158 : decode cL_law 2158 = .ok (.iload 6, 2) := dk_21 6 (dk_at dksL_law_83 20 rfl rfl)
theorem dL_law_2160 : decode cL_law 2160 = .ok (.if_icmp .eq 5, 3) := dk_159 0 5 (dk_at dksL_law_84 0 rfl rfl)
theorem dL_law_2163 : decode cL_law 2163 = .ok (.iconst 0, 1) := dk_3 (dk_at dksL_law_84 3 rfl rfl)
theorem dL_law_2164 : decode cL_law 2164 = .ok (.ireturn, 1) := dk_172 (dk_at dksL_law_84 4 rfl rfl)
theorem dL_law_2165 : decode cL_law 2165 = .ok (.iload 6, 2) := dk_21 6 (dk_at dksL_law_84 5 rfl rfl)
theorem dL_law_2167 : decode cL_law 2167 = .ok (.ifCond .ne 35, 3) := dk_154 0 35 (dk_at dksL_law_84 7 rfl rfl)
theorem dL_law_2170 : decode cL_law 2170 = .ok (.aload 4, 2) := dk_25 4 (dk_at dksL_law_84 10 rfl rfl)
theorem dL_law_2172 : decode cL_law 2172 = .ok (.iconst 0, 1) := dk_3 (dk_at dksL_law_84 12 rfl rfl)
theorem dL_law_2173 : decode cL_law 2173 = .ok (.daload, 1) := dk_49 (dk_at dksL_law_84 13 rfl rfl)
theorem dL_law_2174 : decode cL_law 2174 = .ok (.dload 7, 2) := dk_24 7 (dk_at dksL_law_84 14 rfl rfl)
theorem dL_law_2176 : decode cL_law 2176 = .ok (.dcmp .l, 1) := dk_151 (dk_at dksL_law_84 16 rfl rfl)
theorem dL_law_2177 : decode cL_law 2177 = .ok (.ifCond .eq 25, 3) := dk_153 0 25 (dk_at dksL_law_84 17 rfl rfl)
theorem dL_law_2180 : decode cL_law 2180 = .ok (.aload 4, 2) := dk_25 4 (dk_at dksL_law_84 20 rfl rfl)
theorem dL_law_2182 : decode cL_law 2182 = .ok (.iconst 0, 1) := dk_3 (dk_at dksL_law_84 22 rfl rfl)
theorem dL_law_2183 : decode cL_law 2183 = .ok (.daload, 1) := dk_49 (dk_at dksL_law_84 23 rfl rfl)
theorem dL_law_2184 : decode cL_law 2184 = .ok (.aload 4, 2) := dk_25 4 (dk_at dksL_law_85 0 rfl rfl)
theorem dL_law_2186 : decode cL_law 2186 = .ok (.iconst 0, 1) := dk_3 (dk_at dksL_law_85 2 rfl rfl)
theorem dL_law_2187 : decode cL_law 2187 = .ok (.daload, 1) := dk_49 (dk_at dksL_law_85 3 rfl rfl)
theorem dL_law_2188 : decode cL_law 2188 = .ok (.dcmp .l, 1) := dk_151 (dk_at dksL_law_85 4 rfl rfl)
theorem dL_law_2189 : decode cL_law 2189 = .ok (.ifCond .eq 11, 3) := dk_153 0 11 (dk_at dksL_law_85 5 rfl rfl)
theorem dL_law_2192 : decode cL_law 2192 = .ok (.dload 7, 2) := dk_24 7 (dk_at dksL_law_85 8 rfl rfl)
theorem dL_law_2194 : decode cL_law 2194 = .ok (.dload 7, 2) := dk_24 7 (dk_at dksL_law_85 10 rfl rfl)
theorem dL_law_2196 : decode cL_law 2196 = .ok (.dcmp .l, 1) := dk_151 (dk_at dksL_law_85 12 rfl rfl)
theorem dL_law_2197 : decode cL_law 2197 = .ok (.ifCond .ne 5, 3) := dk_154 0 5 (dk_at dksL_law_85 13 rfl rfl)
theorem dL_law_2200 : decode cL_law 2200 = .ok (.iconst 0, 1) := dk_3 (dk_at dksL_law_85 16 rfl rfl)
theorem dL_law_2201 : decode cL_law 2201 = .ok (.ireturn, 1) := dk_172 (dk_at dksL_law_85 17 rfl rfl)
theorem dL_law_2202 : decode cL_law 2202 = .ok (.goto 631, 3) := dk_167 2 119 (dk_at dksL_law_85 18 rfl rfl)
theorem dL_law_2205 : decode cL_law 2205 = .ok (.aload_n 1, 1) := dk_43 (dk_at dksL_law_85 21 rfl rfl)
theorem dL_law_2206 : decode cL_law 2206 = .ok (.aload 4, 2) := dk_25 4 (dk_at dksL_law_85 22 rfl rfl)
theorem dL_law_2208 : decode cL_law 2208 = .ok (.invokestatic 298, 3) := dk_184 1 42 (dk_at dksL_law_86 0 rfl rfl)
theorem dL_law_2211 : decode cL_law 2211 = .ok (.istore 6, 2) := dk_54 6 (dk_at dksL_law_86 3 rfl rfl)
theorem dL_law_2213 : decode cL_law 2213 = .ok (.aload_n 2, 1) := dk_44 (dk_at dksL_law_86 5 rfl rfl)
theorem dL_law_2214 : decode cL_law 2214 = .ok (.invokevirtual 300, 3) := dk_182 1 44 (dk_at dksL_law_86 6 rfl rfl)
theorem dL_law_2217 : decode cL_law 2217 = .ok (.fstore 7, 2) := dk_56 7 (dk_at dksL_law_86 9 rfl rfl)
theorem dL_law_2219 : decode cL_law 2219 = .ok (.aload_n 2, 1) := dk_44 (dk_at dksL_law_86 11 rfl rfl)
theorem dL_law_2220 : decode cL_law 2220 = .ok (.invokevirtual 168, 3) := dk_182 0 168 (dk_at dksL_law_86 12 rfl rfl)
theorem dL_law_2223 : decode cL_law 2223 = .ok (.iload 6, 2) := dk_21 6 (dk_at dksL_law_86 15 rfl rfl)
theorem dL_law_2225 : decode cL_law 2225 = .ok (.if_icmp .eq 5, 3) := dk_159 0 5 (dk_at dksL_law_86 17 rfl rfl)
theorem dL_law_2228 : decode cL_law 2228 = .ok (.iconst 0, 1) := dk_3 (dk_at dksL_law_86 20 rfl rfl)
theorem dL_law_2229 : decode cL_law 2229 = .ok (.ireturn, 1) := dk_172 (dk_at dksL_law_86 21 rfl rfl)
theorem dL_law_2230 : decode cL_law 2230 = .ok (.iload 6, 2) := dk_21 6 (dk_at dksL_law_86 22 rfl rfl)
theorem dL_law_2232 : decode cL_law 2232 = .ok (.ifCond .ne 36, 3) := dk_154 0 36 (dk_at dksL_law_87 0 rfl rfl)
theorem dL_law_2235 : decode cL_law 2235 = .ok (.aload 4, 2) := dk_25 4 (dk_at dksL_law_87 3 rfl rfl)
theorem dL_law_2237 : decode cL_law 2237 = .ok (.iconst 0, 1) := dk_3 (dk_at dksL_law_87 5 rfl rfl)
theorem dL_law_2238 : decode cL_law 2238 = .ok (.daload, 1) := dk_49 (dk_at dksL_law_87 6 rfl rfl)
theorem dL_law_2239 : decode cL_law 2239 = .ok (.fload 7, 2) := dk_23 7 (dk_at dksL_law_87 7 rfl rfl)
theorem dL_law_2241 : decode cL_law 2241 = .ok (.f2d, 1) := dk_141 (dk_at dksL_law_87 9 rfl rfl)
theorem dL_law_2242 : decode cL_law 2242 = .ok (.dcmp .l, 1) := dk_151 (dk_at dksL_law_87 10 rfl rfl)
theorem dL_law_2243 : decode cL_law 2243 = .ok (.ifCond .eq 25, 3) := dk_153 0 25 (dk_at dksL_law_87 11 rfl rfl)
theorem dL_law_2246 : decode cL_law 2246 = .ok (.aload 4, 2) := dk_25 4 (dk_at dksL_law_87 14 rfl rfl)
theorem dL_law_2248 : decode cL_law 2248 = .ok (.iconst 0, 1) := dk_3 (dk_at dksL_law_87 16 rfl rfl)
theorem dL_law_2249 : decode cL_law 2249 = .ok (.daload, 1) := dk_49 (dk_at dksL_law_87 17 rfl rfl)
theorem dL_law_2250 : decode cL_law 2250 = .ok (.aload 4, 2) := dk_25 4 (dk_at dksL_law_87 18 rfl rfl)
theorem dL_law_2252 : decode cL_law 2252 = .ok (.iconst 0, 1) := dk_3 (dk_at dksL_law_87 20 rfl rfl)
theorem dL_law_2253 : decode cL_law 2253 = .ok (.daload, 1) := dk_49 (dk_at dksL_law_87 21 rfl rfl)
theorem dL_law_2254 : decode cL_law 2254 = .ok (.dcmp .l, 1) := dk_151 (dk_at dksL_law_87 22 rfl rfl)
theorem dL_law_2255 : decode cL_law 2255 = .ok (.ifCond .eq 11, 3) := dk_153 0 11 (dk_at dksL_law_88 0 rfl rfl)
theorem dL_law_2258 : decode cL_law 2258 = .ok (.fload 7, 2) := dk_23 7 (dk_at dksL_law_88 3 rfl rfl)
theorem dL_law_2260 : decode cL_law 2260 = .ok (.fload 7, 2) := dk_23 7 (dk_at dksL_law_88 5 rfl rfl)
theorem dL_law_2262 : decode cL_law 2262 = .ok (.fcmp .l, 1) := dk_149 (dk_at dksL_law_88 7 rfl rfl)
theorem dL_law_2263 : decode cL_law 2263 = .ok (.ifCond .ne 5, 3) := dk_154 0 5 (dk_at dksL_law_88 8 rfl rfl)
theorem dL_law_2266 : decode cL_law 2266 = .ok (.iconst 0, 1) := dk_3 (dk_at dksL_law_88 11 rfl rfl)
theorem dL_law_2267 : decode cL_law 2267 = .ok (.ireturn, 1) := dk_172 (dk_at dksL_law_88 12 rfl rfl)
theorem dL_law_2268 : decode cL_law 2268 = .ok (.goto 565, 3) := dk_167 2 53 (dk_at dksL_law_88 13 rfl rfl)
theorem dL_law_2271 : decode cL_law 2271 = .ok (.aload_n 1, 1) := dk_43 (dk_at dksL_law_88 16 rfl rfl)
theorem dL_law_2272 : decode cL_law 2272 = .ok (.aload_n 3, 1) := dk_45 (dk_at dksL_law_88 17 rfl rfl)
theorem dL_law_2273 : decode cL_law 2273 = .ok (.invokestatic 301, 3) := dk_184 1 45 (dk_at dksL_law_88 18 rfl rfl)
theorem dL_law_2276 : decode cL_law 2276 = .ok (.istore 6, 2) := dk_54 6 (dk_at dksL_law_88 21 rfl rfl)
theorem dL_law_2278 : decode cL_law 2278 = .ok (.aload_n 2, 1) := dk_44 (dk_at dksL_law_88 23 rfl rfl)
theorem dL_law_2279 : decode cL_law 2279 = .ok (.invokevirtual 303, 3) := dk_182 1 47 (dk_at dksL_law_89 0 rfl rfl)
theorem dL_law_2282 : decode cL_law 2282 = .ok (.istore 7, 2) := dk_54 7 (dk_at dksL_law_89 3 rfl rfl)
theorem dL_law_2284 : decode cL_law 2284 = .ok (.aload_n 2, 1) := dk_44 (dk_at dksL_law_89 5 rfl rfl)
theorem dL_law_2285 : decode cL_law 2285 = .ok (.invokevirtual 168, 3) := dk_182 0 168 (dk_at dksL_law_89 6 rfl rfl)
theorem dL_law_2288 : decode cL_law 2288 = .ok (.iload 6, 2) := dk_21 6 (dk_at dksL_law_89 9 rfl rfl)
theorem dL_law_2290 : decode cL_law 2290 = .ok (.if_icmp .eq 5, 3) := dk_159 0 5 (dk_at dksL_law_89 11 rfl rfl)
theorem dL_law_2293 : decode cL_law 2293 = .ok (.iconst 0, 1) := dk_3 (dk_at dksL_law_89 14 rfl rfl)
theorem dL_law_2294 : decode cL_law 2294 = .ok (.ireturn, 1) := dk_172 (dk_at dksL_law_89 15 rfl rfl)
theorem dL_law_2295 : decode cL_law 2295 = .ok (.iload 6, 2) := dk_21 6 (dk_at dksL_law_89 16 rfl rfl)
theorem dL_law_2297 : decode cL_law 2297 = .ok (.ifCond .ne 15, 3) := dk_154 0 15 (dk_at dksL_law_89 18 rfl rfl)
theorem dL_law_2300 : decode cL_law 2300 = .ok (.aload_n 3, 1) := dk_45 (dk_at dksL_law_89 21 rfl rfl)
theorem dL_law_2301 : decode cL_law 2301 = .ok (.iconst 0, 1) := dk_3 (dk_at dksL_law_89 22 rfl rfl)
theorem dL_law_2302 : decode cL_law 2302 = .ok (.laload, 1) := dk_47 (dk_at dksL_law_89 23 rfl rfl)
theorem dL_law_2303 : decode cL_law 2303 = .ok (.iload 7, 2) := dk_21 7 (dk_at dksL_law_90 0 rfl rfl)
theorem dL_law_2305 : decode cL_law 2305 = .ok (.i2l, 1) := dk_133 (dk_at dksL_law_90 2 rfl rfl)
theorem dL_law_2306 : decode cL_law 2306 = .ok (.lcmp, 1) := dk_148 (dk_at dksL_law_90 3 rfl rfl)
theorem dL_law_2307 : decode cL_law 2307 = .ok (.ifCond .eq 5, 3) := dk_153 0 5 (dk_at dksL_law_90 4 rfl rfl)
theorem dL_law_2310 : decode cL_law 2310 = .ok (.iconst 0, 1) := dk_3 (dk_at dksL_law_90 7 rfl rfl)
theorem dL_law_2311 : decode cL_law 2311 = .ok (.ireturn, 1) := dk_172 (dk_at dksL_law_90 8 rfl rfl)
theorem dL_law_2312 : decode cL_law 2312 = .ok (.goto 521, 3) := dk_167 2 9 (dk_at dksL_law_90 9 rfl rfl)
theorem dL_law_2315 : decode cL_law 2315 = .ok (.aload_n 1, 1) := dk_43 (dk_at dksL_law_90 12 rfl rfl)
theorem dL_law_2316 : decode cL_law 2316 = .ok (.aload_n 3, 1) := dk_45 (dk_at dksL_law_90 13 rfl rfl)
theorem dL_law_2317 : decode cL_law 2317 = .ok (.invokestatic 304, 3) := dk_184 1 48 (dk_at dksL_law_90 14 rfl rfl)
theorem dL_law_2320 : decode cL_law 2320 = .ok (.istore 6, 2) := dk_54 6 (dk_at dksL_law_90 17 rfl rfl)
theorem dL_law_2322 : decode cL_law 2322 = .ok (.aload_n 2, 1) := dk_44 (dk_at dksL_law_90 19 rfl rfl)
theorem dL_law_2323 : decode cL_law 2323 = .ok (.invokevirtual 306, 3) := dk_182 1 50 (dk_at dksL_law_90 20 rfl rfl)
theorem dL_law_2326 : decode cL_law 2326 = .ok (.istore 7, 2) := dk_54 7 (dk_at dksL_law_91 0 rfl rfl)
theorem dL_law_2328 : decode cL_law 2328 = .ok (.aload_n 2, 1) := dk_44 (dk_at dksL_law_91 2 rfl rfl)
theorem dL_law_2329 : decode cL_law 2329 = .ok (.invokevirtual 168, 3) := dk_182 0 168 (dk_at dksL_law_91 3 rfl rfl)
theorem dL_law_2332 : decode cL_law 2332 = .ok (.iload 6, 2) := dk_21 6 (dk_at dksL_law_91 6 rfl rfl)
theorem dL_law_2334 : decode cL_law 2334 = .ok (.if_icmp .eq 5, 3) := dk_159 0 5 (dk_at dksL_law_91 8 rfl rfl)
theorem dL_law_2337 : decode cL_law 2337 = .ok (.iconst 0, 1) := dk_3 (dk_at dksL_law_91 11 rfl rfl)
theorem dL_law_2338 : decode cL_law 2338 = .ok (.ireturn, 1) := dk_172 (dk_at dksL_law_91 12 rfl rfl)
theorem dL_law_2339 : decode cL_law 2339 = .ok (.iload 6, 2) := dk_21 6 (dk_at dksL_law_91 13 rfl rfl)
theorem dL_law_2341 : decode cL_law 2341 = .ok (.ifCond .ne 15, 3) := dk_154 0 15 (dk_at dksL_law_91 15 rfl rfl)
theorem dL_law_2344 : decode cL_law 2344 = .ok (.aload_n 3, 1) := dk_45 (dk_at dksL_law_91 18 rfl rfl)
theorem dL_law_2345 : decode cL_law 2345 = .ok (.iconst 0, 1) := dk_3 (dk_at dksL_law_91 19 rfl rfl)
theorem dL_law_2346 : decode cL_law 2346 = .ok (.laload, 1) := dk_47 (dk_at dksL_law_91 20 rfl rfl)
theorem dL_law_2347 : decode cL_law 2347 = .ok (.iload 7, 2) := dk_21 7 (dk_at dksL_law_91 21 rfl rfl)
theorem dL_law_2349 : decode cL_law 2349 = .ok (.i2l, 1) := dk_133 (dk_at dksL_law_91 23 rfl rfl)
theorem dL_law_2350 : decode cL_law 2350 = .ok (.lcmp, 1) := dk_148 (dk_at dksL_law_92 0 rfl rfl)
theorem dL_law_2351 : decode cL_law 2351 = .ok (.ifCond .eq 5, 3) := dk_153 0 5 (dk_at dksL_law_92 1 rfl rfl)
theorem dL_law_2354 : decode cL_law 2354 = .ok (.iconst 0, 1) := dk_3 (dk_at dksL_law_92 4 rfl rfl)
theorem dL_law_2355 : decode cL_law 2355 = .ok (.ireturn, 1) := dk_172 (dk_at dksL_law_92 5 rfl rfl)
theorem dL_law_2356 : decode cL_law 2356 = .ok (.goto 477, 3) := dk_167 1 221 (dk_at dksL_law_92 6 rfl rfl)
theorem dL_law_2359 : decode cL_law 2359 = .ok (.aload_n 1, 1) := dk_43 (dk_at dksL_law_92 9 rfl rfl)
theorem dL_law_2360 : decode cL_law 2360 = .ok (.aload_n 3, 1) := dk_45 (dk_at dksL_law_92 10 rfl rfl)
theorem dL_law_2361 : decode cL_law 2361 = .ok (.invokestatic 307, 3) := dk_184 1 51 (dk_at dksL_law_92 11 rfl rfl)
theorem dL_law_2364 : decode cL_law 2364 = .ok (.istore 6, 2) := dk_54 6 (dk_at dksL_law_92 14 rfl rfl)
theorem dL_law_2366 : decode cL_law 2366 = .ok (.aload_n 2, 1) := dk_44 (dk_at dksL_law_92 16 rfl rfl)
theorem dL_law_2367 : decode cL_law 2367 = .ok (.invokevirtual 309, 3) := dk_182 1 53 (dk_at dksL_law_92 17 rfl rfl)
theorem dL_law_2370 : decode cL_law 2370 = .ok (.istore 7, 2) := dk_54 7 (dk_at dksL_law_92 20 rfl rfl)
theorem dL_law_2372 : decode cL_law 2372 = .ok (.aload_n 2, 1) := dk_44 (dk_at dksL_law_92 22 rfl rfl)
theorem dL_law_2373 : decode cL_law 2373 = .ok (.invokevirtual 168, 3) := dk_182 0 168 (dk_at dksL_law_93 0 rfl rfl)
theorem dL_law_2376 : decode cL_law 2376 = .ok (.iload 6, 2) := dk_21 6 (dk_at dksL_law_93 3 rfl rfl)
theorem dL_law_2378 : decode cL_law 2378 = .ok (.if_icmp .eq 5, 3) := dk_159 0 5 (dk_at dksL_law_93 5 rfl rfl)
theorem dL_law_2381 : decode cL_law 2381 = .ok (.iconst 0, 1) := dk_3 (dk_at dksL_law_93 8 rfl rfl)
theorem dL_law_2382 : decode cL_law 2382 = .ok (.ireturn, 1) := dk_172 (dk_at dksL_law_93 9 rfl rfl)
theorem dL_law_2383 : decode cL_law 2383 = .ok (.iload 6, 2) := dk_21 6 (dk_at dksL_law_93 10 rfl rfl)
theorem dL_law_2385 : decode cL_law 2385 = .ok (.ifCond .ne 15, 3) := dk_154 0 15 (dk_at dksL_law_93 12 rfl rfl)
theorem dL_law_2388 : decode cL_law 2388 = .ok (.aload_n 3, 1) := dk_45 (dk_at dksL_law_93 15 rfl rfl)
theorem dL_law_2389 : decode cL_law 2389 = .ok (.iconst 0, 1) := dk_3 (dk_at dksL_law_93 16 rfl rfl)
theorem dL_law_2390 : decode cL_law 2390 = .ok (.laload, 1) := dk_47 (dk_at dksL_law_93 17 rfl rfl)
theorem dL_law_2391 : decode cL_law 2391 = .ok (.iload 7, 2) := dk_21 7 (dk_at dksL_law_93 18 rfl rfl)
theorem dL_law_2393 : decode cL_law 2393 = .ok (.i2l, 1) := dk_133 (dk_at dksL_law_93 20 rfl rfl)
theorem dL_law_2394 : decode cL_law 2394 = .ok (.lcmp, 1) := dk_148 (dk_at dksL_law_93 21 rfl rfl)
theorem dL_law_2395 : decode cL_law 2395 = .ok (.ifCond .eq 5, 3) := dk_153 0 5 (dk_at dksL_law_94 0 rfl rfl)
theorem dL_law_2398 : decode cL_law 2398 = .ok (.iconst 0, 1) := dk_3 (dk_at dksL_law_94 3 rfl rfl)
theorem dL_law_2399 : decode cL_law 2399 = .ok (.ireturn, 1) := dk_172 (dk_at dksL_law_94 4 rfl rfl)
theorem dL_law_2400 : decode cL_law 2400 = .ok (.goto 433, 3) := dk_167 1 177 (dk_at dksL_law_94 5 rfl rfl)
theorem dL_law_2403 : decode cL_law 2403 = .ok (.aload_n 1, 1) := dk_43 (dk_at dksL_law_94 8 rfl rfl)
theorem dL_law_2404 : decode cL_law 2404 = .ok (.aload_n 0, 1) := dk_42 (dk_at dksL_law_94 9 rfl rfl)
theorem dL_law_2405 : decode cL_law 2405 = .ok (.iload 5, 2) := dk_21 5 (dk_at dksL_law_94 10 rfl rfl)
theorem dL_law_2407 : decode cL_law 2407 = .ok (.iconst 1, 1) := dk_4 (dk_at dksL_law_94 12 rfl rfl)
theorem dL_law_2408 : decode cL_law 2408 = .ok (.iadd, 1) := dk_96 (dk_at dksL_law_94 13 rfl rfl)
theorem dL_law_2409 : decode cL_law 2409 = .ok (.iaload, 1) := dk_46 (dk_at dksL_law_94 14 rfl rfl)
theorem dL_law_2410 : decode cL_law 2410 = .ok (.i2c, 1) := dk_146 (dk_at dksL_law_94 15 rfl rfl)
theorem dL_law_2411 : decode cL_law 2411 = .ok (.aload_n 3, 1) := dk_45 (dk_at dksL_law_94 16 rfl rfl)
theorem dL_law_2412 : decode cL_law 2412 = .ok (.invokestatic 310, 3) := dk_184 1 54 (dk_at dksL_law_94 17 rfl rfl)
theorem dL_law_2415 : decode cL_law 2415 = .ok (.istore 6, 2) := dk_54 6 (dk_at dksL_law_94 20 rfl rfl)
theorem dL_law_2417 : decode cL_law 2417 = .ok (.aload_n 2, 1) := dk_44 (dk_at dksL_law_94 22 rfl rfl)
theorem dL_law_2418 : decode cL_law 2418 = .ok (.aload_n 0, 1) := dk_42 (dk_at dksL_law_94 23 rfl rfl)
theorem dL_law_2419 : decode cL_law 2419 = .ok (.iload 5, 2) := dk_21 5 (dk_at dksL_law_95 0 rfl rfl)
theorem dL_law_2421 : decode cL_law 2421 = .ok (.iconst 1, 1) := dk_4 (dk_at dksL_law_95 2 rfl rfl)
theorem dL_law_2422 : decode cL_law 2422 = .ok (.iadd, 1) := dk_96 (dk_at dksL_law_95 3 rfl rfl)
theorem dL_law_2423 : decode cL_law 2423 = .ok (.iaload, 1) := dk_46 (dk_at dksL_law_95 4 rfl rfl)
theorem dL_law_2424 : decode cL_law 2424 = .ok (.i2c, 1) := dk_146 (dk_at dksL_law_95 5 rfl rfl)
theorem dL_law_2425 : decode cL_law 2425 = .ok (.invokevirtual 312, 3) := dk_182 1 56 (dk_at dksL_law_95 6 rfl rfl)
theorem dL_law_2428 : decode cL_law 2428 = .ok (.istore 7, 2) := dk_54 7 (dk_at dksL_law_95 9 rfl rfl)
theorem dL_law_2430 : decode cL_law 2430 = .ok (.aload_n 2, 1) := dk_44 (dk_at dksL_law_95 11 rfl rfl)
theorem dL_law_2431 : decode cL_law 2431 = .ok (.invokevirtual 168, 3) := dk_182 0 168 (dk_at dksL_law_95 12 rfl rfl)
theorem dL_law_2434 : decode cL_law 2434 = .ok (.iload 6, 2) := dk_21 6 (dk_at dksL_law_95 15 rfl rfl)
theorem dL_law_2436 : decode cL_law 2436 = .ok (.if_icmp .eq 5, 3) := dk_159 0 5 (dk_at dksL_law_95 17 rfl rfl)
theorem dL_law_2439 : decode cL_law 2439 = .ok (.iconst 0, 1) := dk_3 (dk_at dksL_law_95 20 rfl rfl)
theorem dL_law_2440 : decode cL_law 2440 = .ok (.ireturn, 1) := dk_172 (dk_at dksL_law_95 21 rfl rfl)
theorem dL_law_2441 : decode cL_law 2441 = .ok (.iload 6, 2) := dk_21 6 (dk_at dksL_law_95 22 rfl rfl)
theorem dL_law_2443 : decode cL_law 2443 = .ok (.ifCond .ne 15, 3) := dk_154 0 15 (dk_at dksL_law_96 0 rfl rfl)
theorem dL_law_2446 : decode cL_law 2446 = .ok (.aload_n 3, 1) := dk_45 (dk_at dksL_law_96 3 rfl rfl)
theorem dL_law_2447 : decode cL_law 2447 = .ok (.iconst 0, 1) := dk_3 (dk_at dksL_law_96 4 rfl rfl)
theorem dL_law_2448 : decode cL_law 2448 = .ok (.laload, 1) := dk_47 (dk_at dksL_law_96 5 rfl rfl)
theorem dL_law_2449 : decode cL_law 2449 = .ok (.iload 7, 2) := dk_21 7 (dk_at dksL_law_96 6 rfl rfl)
theorem dL_law_2451 : decode cL_law 2451 = .ok (.i2l, 1) := dk_133 (dk_at dksL_law_96 8 rfl rfl)
theorem dL_law_2452 : decode cL_law 2452 = .ok (.lcmp, 1) := dk_148 (dk_at dksL_law_96 9 rfl rfl)
theorem dL_law_2453 : decode cL_law 2453 = .ok (.ifCond .eq 5, 3) := dk_153 0 5 (dk_at dksL_law_96 10 rfl rfl)
theorem dL_law_2456 : decode cL_law 2456 = .ok (.iconst 0, 1) := dk_3 (dk_at dksL_law_96 13 rfl rfl)
theorem dL_law_2457 : decode cL_law 2457 = .ok (.ireturn, 1) := dk_172 (dk_at dksL_law_96 14 rfl rfl)
theorem dL_law_2458 : decode cL_law 2458 = .ok (.goto 375, 3) := dk_167 1 119 (dk_at dksL_law_96 15 rfl rfl)
theorem dL_law_2461 : decode cL_law 2461 = .ok (.aload_n 1, 1) := dk_43 (dk_at dksL_law_96 18 rfl rfl)
theorem dL_law_2462 : decode cL_law 2462 = .ok (.aload_n 0, 1) := dk_42 (dk_at dksL_law_96 19 rfl rfl)
theorem dL_law_2463 : decode cL_law 2463 = .ok (.iload 5, 2) := dk_21 5 (dk_at dksL_law_96 20 rfl rfl)
theorem dL_law_2465 : decode cL_law 2465 = .ok (.iconst 1, 1) := dk_4 (dk_at dksL_law_96 22 rfl rfl)
theorem dL_law_2466 : decode cL_law 2466 = .ok (.iadd, 1) := dk_96 (dk_at dksL_law_96 23 rfl rfl)
theorem dL_law_2467 : decode cL_law 2467 = .ok (.iaload, 1) := dk_46 (dk_at dksL_law_97 0 rfl rfl)
theorem dL_law_2468 : decode cL_law 2468 = .ok (.aload_n 3, 1) := dk_45 (dk_at dksL_law_97 1 rfl rfl)
theorem dL_law_2469 : decode cL_law 2469 = .ok (.invokestatic 313, 3) := dk_184 1 57 (dk_at dksL_law_97 2 rfl rfl)
theorem dL_law_2472 : decode cL_law 2472 = .ok (.istore 6, 2) := dk_54 6 (dk_at dksL_law_97 5 rfl rfl)
theorem dL_law_2474 : decode cL_law 2474 = .ok (.aload_n 2, 1) := dk_44 (dk_at dksL_law_97 7 rfl rfl)
theorem dL_law_2475 : decode cL_law 2475 = .ok (.aload_n 0, 1) := dk_42 (dk_at dksL_law_97 8 rfl rfl)
theorem dL_law_2476 : decode cL_law 2476 = .ok (.iload 5, 2) := dk_21 5 (dk_at dksL_law_97 9 rfl rfl)
theorem dL_law_2478 : decode cL_law 2478 = .ok (.iconst 1, 1) := dk_4 (dk_at dksL_law_97 11 rfl rfl)
theorem dL_law_2479 : decode cL_law 2479 = .ok (.iadd, 1) := dk_96 (dk_at dksL_law_97 12 rfl rfl)
theorem dL_law_2480 : decode cL_law 2480 = .ok (.iaload, 1) := dk_46 (dk_at dksL_law_97 13 rfl rfl)
theorem dL_law_2481 : decode cL_law 2481 = .ok (.invokevirtual 315, 3) := dk_182 1 59 (dk_at dksL_law_97 14 rfl rfl)
theorem dL_law_2484 : decode cL_law 2484 = .ok (.istore 7, 2) := dk_54 7 (dk_at dksL_law_97 17 rfl rfl)
theorem dL_law_2486 : decode cL_law 2486 = .ok (.aload_n 2, 1) := dk_44 (dk_at dksL_law_97 19 rfl rfl)
theorem dL_law_2487 : decode cL_law 2487 = .ok (.invokevirtual 168, 3) := dk_182 0 168 (dk_at dksL_law_97 20 rfl rfl)
theorem dL_law_2490 : decode cL_law 2490 = .ok (.iload 6, 2) := dk_21 6 (dk_at dksL_law_98 0 rfl rfl)
theorem dL_law_2492 : decode cL_law 2492 = .ok (.if_icmp .eq 5, 3) := dk_159 0 5 (dk_at dksL_law_98 2 rfl rfl)
theorem dL_law_2495 : decode cL_law 2495 = .ok (.iconst 0, 1) := dk_3 (dk_at dksL_law_98 5 rfl rfl)
theorem dL_law_2496 : decode cL_law 2496 = .ok (.ireturn, 1) := dk_172 (dk_at dksL_law_98 6 rfl rfl)
theorem dL_law_2497 : decode cL_law 2497 = .ok (.iload 6, 2) := dk_21 6 (dk_at dksL_law_98 7 rfl rfl)
theorem dL_law_2499 : decode cL_law 2499 = .ok (.ifCond .ne 15, 3) := dk_154 0 15 (dk_at dksL_law_98 9 rfl rfl)
theorem dL_law_2502 : decode cL_law 2502 = .ok (.aload_n 3, 1) := dk_45 (dk_at dksL_law_98 12 rfl rfl)
theorem dL_law_2503 : decode cL_law 2503 = .ok (.iconst 0, 1) := dk_3 (dk_at dksL_law_98 13 rfl rfl)
theorem dL_law_2504 : decode cL_law 2504 = .ok (.laload, 1) := dk_47 (dk_at dksL_law_98 14 rfl rfl)
theorem dL_law_2505 : decode cL_law 2505 = .ok (.iload 7, 2) := dk_21 7 (dk_at dksL_law_98 15 rfl rfl)
theorem dL_law_2507 : decode cL_law 2507 = .ok (.i2l, 1) := dk_133 (dk_at dksL_law_98 17 rfl rfl)
theorem dL_law_2508 : decode cL_law 2508 = .ok (.lcmp, 1) := dk_148 (dk_at dksL_law_98 18 rfl rfl)
theorem dL_law_2509 : decode cL_law 2509 = .ok (.ifCond .eq 5, 3) := dk_153 0 5 (dk_at dksL_law_98 19 rfl rfl)
theorem dL_law_2512 : decode cL_law 2512 = .ok (.iconst 0, 1) := dk_3 (dk_at dksL_law_98 22 rfl rfl)
theorem dL_law_2513 : decode cL_law 2513 = .ok (.ireturn, 1) := dk_172 (dk_at dksL_law_98 23 rfl rfl)
theorem dL_law_2514 : decode cL_law 2514 = .ok (.goto 319, 3) := dk_167 1 63 (dk_at dksL_law_99 0 rfl rfl)
theorem dL_law_2517 : decode cL_law 2517 = .ok (.aload_n 1, 1) := dk_43 (dk_at dksL_law_99 3 rfl rfl)
theorem dL_law_2518 : decode cL_law 2518 = .ok (.aload_n 0, 1) := dk_42 (dk_at dksL_law_99 4 rfl rfl)
theorem dL_law_2519 : decode cL_law 2519 = .ok (.iload 5, 2) := dk_21 5 (dk_at dksL_law_99 5 rfl rfl)
theorem dL_law_2521 : decode cL_law 2521 = .ok (.iconst 1, 1) := dk_4 (dk_at dksL_law_99 7 rfl rfl)
theorem dL_law_2522 : decode cL_law 2522 = .ok (.iadd, 1) := dk_96 (dk_at dksL_law_99 8 rfl rfl)
theorem dL_law_2523 : decode cL_law 2523 = .ok (.iaload, 1) := dk_46 (dk_at dksL_law_99 9 rfl rfl)
theorem dL_law_2524 : decode cL_law 2524 = .ok (.aload_n 3, 1) := dk_45 (dk_at dksL_law_99 10 rfl rfl)
theorem dL_law_2525 : decode cL_law 2525 = .ok (.invokestatic 316, 3) := dk_184 1 60 (dk_at dksL_law_99 11 rfl rfl)
theorem dL_law_2528 : decode cL_law 2528 = .ok (.istore 6, 2) := dk_54 6 (dk_at dksL_law_99 14 rfl rfl)
theorem dL_law_2530 : decode cL_law 2530 = .ok (.aload_n 2, 1) := dk_44 (dk_at dksL_law_99 16 rfl rfl)
theorem dL_law_2531 : decode cL_law 2531 = .ok (.aload_n 0, 1) := dk_42 (dk_at dksL_law_99 17 rfl rfl)
theorem dL_law_2532 : decode cL_law 2532 = .ok (.iload 5, 2) := dk_21 5 (dk_at dksL_law_99 18 rfl rfl)
theorem dL_law_2534 : decode cL_law 2534 = .ok (.iconst 1, 1) := dk_4 (dk_at dksL_law_99 20 rfl rfl)
theorem dL_law_2535 : decode cL_law 2535 = .ok (.iadd, 1) := dk_96 (dk_at dksL_law_99 21 rfl rfl)
theorem dL_law_2536 : decode cL_law 2536 = .ok (.iaload, 1) := dk_46 (dk_at dksL_law_99 22 rfl rfl)
theorem dL_law_2537 : decode cL_law 2537 = .ok (.invokevirtual 318, 3) := dk_182 1 62 (dk_at dksL_law_100 0 rfl rfl)
theorem dL_law_2540 : decode cL_law 2540 = .ok (.istore 7, 2) := dk_54 7 (dk_at dksL_law_100 3 rfl rfl)
theorem dL_law_2542 : decode cL_law 2542 = .ok (.aload_n 2, 1) := dk_44 (dk_at dksL_law_100 5 rfl rfl)
theorem dL_law_2543 : decode cL_law 2543 = .ok (.invokevirtual 168, 3) := dk_182 0 168 (dk_at dksL_law_100 6 rfl rfl)
theorem dL_law_2546 : decode cL_law 2546 = .ok (.iload 6, 2) := dk_21 6 (dk_at dksL_law_100 9 rfl rfl)
theorem dL_law_2548 : decode cL_law 2548 = .ok (.if_icmp .eq 5, 3) := dk_159 0 5 (dk_at dksL_law_100 11 rfl rfl)
theorem dL_law_2551 : decode cL_law 2551 = .ok (.iconst 0, 1) := dk_3 (dk_at dksL_law_100 14 rfl rfl)
theorem dL_law_2552 : decode cL_law 2552 = .ok (.ireturn, 1) := dk_172 (dk_at dksL_law_100 15 rfl rfl)
theorem dL_law_2553 : decode cL_law 2553 = .ok (.iload 6, 2) := dk_21 6 (dk_at dksL_law_100 16 rfl rfl)
theorem dL_law_2555 : decode cL_law 2555 = .ok (.ifCond .ne 15, 3) := dk_154 0 15 (dk_at dksL_law_100 18 rfl rfl)
theorem dL_law_2558 : decode cL_law 2558 = .ok (.aload_n 3, 1) := dk_45 (dk_at dksL_law_100 21 rfl rfl)
theorem dL_law_2559 : decode cL_law 2559 = .ok (.iconst 0, 1) := dk_3 (dk_at dksL_law_100 22 rfl rfl)
theorem dL_law_2560 : decode cL_law 2560 = .ok (.laload, 1) := dk_47 (dk_at dksL_law_100 23 rfl rfl)
theorem dL_law_2561 : decode cL_law 2561 = .ok (.iload 7, 2) := dk_21 7 (dk_at dksL_law_101 0 rfl rfl)
theorem dL_law_2563 : decode cL_law 2563 = .ok (.i2l, 1) := dk_133 (dk_at dksL_law_101 2 rfl rfl)
theorem dL_law_2564 : decode cL_law 2564 = .ok (.lcmp, 1) := dk_148 (dk_at dksL_law_101 3 rfl rfl)
theorem dL_law_2565 : decode cL_law 2565 = .ok (.ifCond .eq 5, 3) := dk_153 0 5 (dk_at dksL_law_101 4 rfl rfl)
theorem dL_law_2568 : decode cL_law 2568 = .ok (.iconst 0, 1) := dk_3 (dk_at dksL_law_101 7 rfl rfl)
theorem dL_law_2569 : decode cL_law 2569 = .ok (.ireturn, 1) := dk_172 (dk_at dksL_law_101 8 rfl rfl)
theorem dL_law_2570 : decode cL_law 2570 = .ok (.goto 263, 3) := dk_167 1 7 (dk_at dksL_law_101 9 rfl rfl)
theorem dL_law_2573 : decode cL_law 2573 = .ok (.aload_n 1, 1) := dk_43 (dk_at dksL_law_101 12 rfl rfl)
theorem dL_law_2574 : decode cL_law 2574 = .ok (.invokevirtual 319, 3) := dk_182 1 63 (dk_at dksL_law_101 13 rfl rfl)
theorem dL_law_2577 : decode cL_law 2577 = .ok (.aload_n 2, 1) := dk_44 (dk_at dksL_law_101 16 rfl rfl)
theorem dL_law_2578 : decode cL_law 2578 = .ok (.invokevirtual 323, 3) := dk_182 1 67 (dk_at dksL_law_101 17 rfl rfl)
theorem dL_law_2581 : decode cL_law 2581 = .ok (.if_icmp .eq 252, 3) := dk_159 0 252 (dk_at dksL_law_101 20 rfl rfl)
theorem dL_law_2584 : decode cL_law 2584 = .ok (.iconst 0, 1) := dk_3 (dk_at dksL_law_101 23 rfl rfl)
theorem dL_law_2585 : decode cL_law 2585 = .ok (.ireturn, 1) := dk_172 (dk_at dksL_law_102 0 rfl rfl)
theorem dL_law_2586 : decode cL_law 2586 = .ok (.aload_n 1, 1) := dk_43 (dk_at dksL_law_102 1 rfl rfl)
theorem dL_law_2587 : decode cL_law 2587 = .ok (.aload_n 0, 1) := dk_42 (dk_at dksL_law_102 2 rfl rfl)
theorem dL_law_2588 : decode cL_law 2588 = .ok (.iload 5, 2) := dk_21 5 (dk_at dksL_law_102 3 rfl rfl)
theorem dL_law_2590 : decode cL_law 2590 = .ok (.iconst 1, 1) := dk_4 (dk_at dksL_law_102 5 rfl rfl)
theorem dL_law_2591 : decode cL_law 2591 = .ok (.iadd, 1) := dk_96 (dk_at dksL_law_102 6 rfl rfl)
theorem dL_law_2592 : decode cL_law 2592 = .ok (.iaload, 1) := dk_46 (dk_at dksL_law_102 7 rfl rfl)
theorem dL_law_2593 : decode cL_law 2593 = .ok (.i2c, 1) := dk_146 (dk_at dksL_law_102 8 rfl rfl)
theorem dL_law_2594 : decode cL_law 2594 = .ok (.aload_n 3, 1) := dk_45 (dk_at dksL_law_102 9 rfl rfl)
theorem dL_law_2595 : decode cL_law 2595 = .ok (.invokestatic 324, 3) := dk_184 1 68 (dk_at dksL_law_102 10 rfl rfl)
theorem dL_law_2598 : decode cL_law 2598 = .ok (.istore 6, 2) := dk_54 6 (dk_at dksL_law_102 13 rfl rfl)
theorem dL_law_2600 : decode cL_law 2600 = .ok (.aload_n 2, 1) := dk_44 (dk_at dksL_law_102 15 rfl rfl)
theorem dL_law_2601 : decode cL_law 2601 = .ok (.aload_n 0, 1) := dk_42 (dk_at dksL_law_102 16 rfl rfl)
theorem dL_law_2602 : decode cL_law 2602 = .ok (.iload 5, 2) := dk_21 5 (dk_at dksL_law_102 17 rfl rfl)
theorem dL_law_2604 : decode cL_law 2604 = .ok (.iconst 1, 1) := dk_4 (dk_at dksL_law_102 19 rfl rfl)
theorem dL_law_2605 : decode cL_law 2605 = .ok (.iadd, 1) := dk_96 (dk_at dksL_law_102 20 rfl rfl)
theorem dL_law_2606 : decode cL_law 2606 = .ok (.iaload, 1) := dk_46 (dk_at dksL_law_102 21 rfl rfl)
theorem dL_law_2607 : decode cL_law 2607 = .ok (.i2c, 1) := dk_146 (dk_at dksL_law_102 22 rfl rfl)
theorem dL_law_2608 : decode cL_law 2608 = .ok (.invokevirtual 326, 3) := dk_182 1 70 (dk_at dksL_law_103 0 rfl rfl)
theorem dL_law_2611 : decode cL_law 2611 = .ok (.istore 7, 2) := dk_54 7 (dk_at dksL_law_103 3 rfl rfl)
theorem dL_law_2613 : decode cL_law 2613 = .ok (.aload_n 2, 1) := dk_44 (dk_at dksL_law_103 5 rfl rfl)
theorem dL_law_2614 : decode cL_law 2614 = .ok (.invokevirtual 168, 3) := dk_182 0 168 (dk_at dksL_law_103 6 rfl rfl)
theorem dL_law_2617 : decode cL_law 2617 = .ok (.iload 6, 2) := dk_21 6 (dk_at dksL_law_103 9 rfl rfl)
theorem dL_law_2619 : decode cL_law 2619 = .ok (.if_icmp .eq 5, 3) := dk_159 0 5 (dk_at dksL_law_103 11 rfl rfl)
theorem dL_law_2622 : decode cL_law 2622 = .ok (.iconst 0, 1) := dk_3 (dk_at dksL_law_103 14 rfl rfl)
theorem dL_law_2623 : decode cL_law 2623 = .ok (.ireturn, 1) := dk_172 (dk_at dksL_law_103 15 rfl rfl)
theorem dL_law_2624 : decode cL_law 2624 = .ok (.iload 6, 2) := dk_21 6 (dk_at dksL_law_103 16 rfl rfl)
theorem dL_law_2626 : decode cL_law 2626 = .ok (.ifCond .ne 15, 3) := dk_154 0 15 (dk_at dksL_law_103 18 rfl rfl)
theorem dL_law_2629 : decode cL_law 2629 = .ok (.aload_n 3, 1) := dk_45 (dk_at dksL_law_103 21 rfl rfl)
theorem dL_law_2630 : decode cL_law 2630 = .ok (.iconst 0, 1) := dk_3 (dk_at dksL_law_103 22 rfl rfl)
theorem dL_law_2631 : decode cL_law 2631 = .ok (.laload, 1) := dk_47 (dk_at dksL_law_103 23 rfl rfl)
theorem dL_law_2632 : decode cL_law 2632 = .ok (.iload 7, 2) := dk_21 7 (dk_at dksL_law_104 0 rfl rfl)
theorem dL_law_2634 : decode cL_law 2634 = .ok (.i2l, 1) := dk_133 (dk_at dksL_law_104 2 rfl rfl)
theorem dL_law_2635 : decode cL_law 2635 = .ok (.lcmp, 1) := dk_148 (dk_at dksL_law_104 3 rfl rfl)
theorem dL_law_2636 : decode cL_law 2636 = .ok (.ifCond .eq 5, 3) := dk_153 0 5 (dk_at dksL_law_104 4 rfl rfl)
theorem dL_law_2639 : decode cL_law 2639 = .ok (.iconst 0, 1) := dk_3 (dk_at dksL_law_104 7 rfl rfl)
theorem dL_law_2640 : decode cL_law 2640 = .ok (.ireturn, 1) := dk_172 (dk_at dksL_law_104 8 rfl rfl)
theorem dL_law_2641 : decode cL_law 2641 = .ok (.goto 192, 3) := dk_167 0 192 (dk_at dksL_law_104 9 rfl rfl)
theorem dL_law_2644 : decode cL_law 2644 = .ok (.aload_n 1, 1) := dk_43 (dk_at dksL_law_104 12 rfl rfl)
theorem dL_law_2645 : decode cL_law 2645 = .ok (.aload_n 3, 1) := dk_45 (dk_at dksL_law_104 13 rfl rfl)
theorem dL_law_2646 : decode cL_law 2646 = .ok (.invokestatic 327, 3) := dk_184 1 71 (dk_at dksL_law_104 14 rfl rfl)
theorem dL_law_2649 : decode cL_law 2649 = .ok (.istore 6, 2) := dk_54 6 (dk_at dksL_law_104 17 rfl rfl)
theorem dL_law_2651 : decode cL_law 2651 = .ok (.aload_n 2, 1) := dk_44 (dk_at dksL_law_104 19 rfl rfl)
theorem dL_law_2652 : decode cL_law 2652 = .ok (.invokevirtual 329, 3) := dk_182 1 73 (dk_at dksL_law_104 20 rfl rfl)
theorem dL_law_2655 : decode cL_law 2655 = .ok (.istore 7, 2) := dk_54 7 (dk_at dksL_law_105 0 rfl rfl)
theorem dL_law_2657 : decode cL_law 2657 = .ok (.aload_n 2, 1) := dk_44 (dk_at dksL_law_105 2 rfl rfl)
theorem dL_law_2658 : decode cL_law 2658 = .ok (.invokevirtual 168, 3) := dk_182 0 168 (dk_at dksL_law_105 3 rfl rfl)
theorem dL_law_2661 : decode cL_law 2661 = .ok (.iload 6, 2) := dk_21 6 (dk_at dksL_law_105 6 rfl rfl)
theorem dL_law_2663 : decode cL_law 2663 = .ok (.if_icmp .eq 5, 3) := dk_159 0 5 (dk_at dksL_law_105 8 rfl rfl)
theorem dL_law_2666 : decode cL_law 2666 = .ok (.iconst 0, 1) := dk_3 (dk_at dksL_law_105 11 rfl rfl)
theorem dL_law_2667 : decode cL_law 2667 = .ok (.ireturn, 1) := dk_172 (dk_at dksL_law_105 12 rfl rfl)
theorem dL_law_2668 : decode cL_law 2668 = .ok (.iload 6, 2) := dk_21 6 (dk_at dksL_law_105 13 rfl rfl)
theorem dL_law_2670 : decode cL_law 2670 = .ok (.ifCond .ne 15, 3) := dk_154 0 15 (dk_at dksL_law_105 15 rfl rfl)
theorem dL_law_2673 : decode cL_law 2673 = .ok (.aload_n 3, 1) := dk_45 (dk_at dksL_law_105 18 rfl rfl)
theorem dL_law_2674 : decode cL_law 2674 = .ok (.iconst 0, 1) := dk_3 (dk_at dksL_law_105 19 rfl rfl)
theorem dL_law_2675 : decode cL_law 2675 = .ok (.laload, 1) := dk_47 (dk_at dksL_law_105 20 rfl rfl)
theorem dL_law_2676 : decode cL_law 2676 = .ok (.iload 7, 2) := dk_21 7 (dk_at dksL_law_105 21 rfl rfl)
theorem dL_law_2678 : decode cL_law 2678 = .ok (.i2l, 1) := dk_133 (dk_at dksL_law_105 23 rfl rfl)
theorem dL_law_2679 : decode cL_law 2679 = .ok (.lcmp, 1) := dk_148 (dk_at dksL_law_106 0 rfl rfl)
theorem dL_law_2680 : decode cL_law 2680 = .ok (.ifCond .eq 5, 3) := dk_153 0 5 (dk_at dksL_law_106 1 rfl rfl)
theorem dL_law_2683 : decode cL_law 2683 = .ok (.iconst 0, 1) := dk_3 (dk_at dksL_law_106 4 rfl rfl)
theorem dL_law_2684 : decode cL_law 2684 = .ok (.ireturn, 1) := dk_172 (dk_at dksL_law_106 5 rfl rfl)
theorem dL_law_2685 : decode cL_law 2685 = .ok (.goto 148, 3) := dk_167 0 148 (dk_at dksL_law_106 6 rfl rfl)
theorem dL_law_2688 : decode cL_law 2688 = .ok (.aload_n 1, 1) := dk_43 (dk_at dksL_law_106 9 rfl rfl)
theorem dL_law_2689 : decode cL_law 2689 = .ok (.aload_n 3, 1) := dk_45 (dk_at dksL_law_106 10 rfl rfl)
theorem dL_law_2690 : decode cL_law 2690 = .ok (.invokestatic 330, 3) := dk_184 1 74 (dk_at dksL_law_106 11 rfl rfl)
theorem dL_law_2693 : decode cL_law 2693 = .ok (.istore 6, 2) := dk_54 6 (dk_at dksL_law_106 14 rfl rfl)
theorem dL_law_2695 : decode cL_law 2695 = .ok (.aload_n 2, 1) := dk_44 (dk_at dksL_law_106 16 rfl rfl)
theorem dL_law_2696 : decode cL_law 2696 = .ok (.invokevirtual 332, 3) := dk_182 1 76 (dk_at dksL_law_106 17 rfl rfl)
theorem dL_law_2699 : decode cL_law 2699 = .ok (.istore 7, 2) := dk_54 7 (dk_at dksL_law_106 20 rfl rfl)
theorem dL_law_2701 : decode cL_law 2701 = .ok (.aload_n 2, 1) := dk_44 (dk_at dksL_law_106 22 rfl rfl)
theorem dL_law_2702 : decode cL_law 2702 = .ok (.invokevirtual 168, 3) := dk_182 0 168 (dk_at dksL_law_107 0 rfl rfl)
theorem dL_law_2705 : decode cL_law 2705 = .ok (.iload 6, 2) := dk_21 6 (dk_at dksL_law_107 3 rfl rfl)
theorem dL_law_2707 : decode cL_law 2707 = .ok (.if_icmp .eq 5, 3) := dk_159 0 5 (dk_at dksL_law_107 5 rfl rfl)
theorem dL_law_2710 : decode cL_law 2710 = .ok (.iconst 0, 1) := dk_3 (dk_at dksL_law_107 8 rfl rfl)
theorem dL_law_2711 : decode cL_law 2711 = .ok (.ireturn, 1) := dk_172 (dk_at dksL_law_107 9 rfl rfl)
theorem dL_law_2712 : decode cL_law 2712 = .ok (.iload 6, 2) := dk_21 6 (dk_at dksL_law_107 10 rfl rfl)
theorem dL_law_2714 : decode cL_law 2714 = .ok (.ifCond .ne 15, 3) := dk_154 0 15 (dk_at dksL_law_107 12 rfl rfl)
theorem dL_law_2717 : decode cL_law 2717 = .ok (.aload_n 3, 1) := dk_45 (dk_at dksL_law_107 15 rfl rfl)
theorem dL_law_2718 : decode cL_law 2718 = .ok (.iconst 0, 1) := dk_3 (dk_at dksL_law_107 16 rfl rfl)
theorem dL_law_2719 : decode cL_law 2719 = .ok (.laload, 1) := dk_47 (dk_at dksL_law_107 17 rfl rfl)
theorem dL_law_2720 : decode cL_law 2720 = .ok (.iload 7, 2) := dk_21 7 (dk_at dksL_law_107 18 rfl rfl)
theorem dL_law_2722 : decode cL_law 2722 = .ok (.i2l, 1) := dk_133 (dk_at dksL_law_107 20 rfl rfl)
theorem dL_law_2723 : decode cL_law 2723 = .ok (.lcmp, 1) := dk_148 (dk_at dksL_law_107 21 rfl rfl)
theorem dL_law_2724 : decode cL_law 2724 = .ok (.ifCond .eq 5, 3) := dk_153 0 5 (dk_at dksL_law_108 0 rfl rfl)
theorem dL_law_2727 : decode cL_law 2727 = .ok (.iconst 0, 1) := dk_3 (dk_at dksL_law_108 3 rfl rfl)
theorem dL_law_2728 : decode cL_law 2728 = .ok (.ireturn, 1) := dk_172 (dk_at dksL_law_108 4 rfl rfl)
theorem dL_law_2729 : decode cL_law 2729 = .ok (.goto 104, 3) := dk_167 0 104 (dk_at dksL_law_108 5 rfl rfl)
theorem dL_law_2732 : decode cL_law 2732 = .ok (.aload_n 1, 1) := dk_43 (dk_at dksL_law_108 8 rfl rfl)
theorem dL_law_2733 : decode cL_law 2733 = .ok (.aload_n 3, 1) := dk_45 (dk_at dksL_law_108 9 rfl rfl)
theorem dL_law_2734 : decode cL_law 2734 = .ok (.invokestatic 333, 3) := dk_184 1 77 (dk_at dksL_law_108 10 rfl rfl)
theorem dL_law_2737 : decode cL_law 2737 = .ok (.istore 6, 2) := dk_54 6 (dk_at dksL_law_108 13 rfl rfl)
theorem dL_law_2739 : decode cL_law 2739 = .ok (.aload_n 2, 1) := dk_44 (dk_at dksL_law_108 15 rfl rfl)
theorem dL_law_2740 : decode cL_law 2740 = .ok (.invokevirtual 335, 3) := dk_182 1 79 (dk_at dksL_law_108 16 rfl rfl)
theorem dL_law_2743 : decode cL_law 2743 = .ok (.istore 7, 2) := dk_54 7 (dk_at dksL_law_108 19 rfl rfl)
theorem dL_law_2745 : decode cL_law 2745 = .ok (.aload_n 2, 1) := dk_44 (dk_at dksL_law_108 21 rfl rfl)
theorem dL_law_2746 : decode cL_law 2746 = .ok (.invokevirtual 168, 3) := dk_182 0 168 (dk_at dksL_law_109 0 rfl rfl)
theorem dL_law_2749 : decode cL_law 2749 = .ok (.iload 6, 2) := dk_21 6 (dk_at dksL_law_109 3 rfl rfl)
theorem dL_law_2751 : decode cL_law 2751 = .ok (.if_icmp .eq 5, 3) := dk_159 0 5 (dk_at dksL_law_109 5 rfl rfl)
theorem dL_law_2754 : decode cL_law 2754 = .ok (.iconst 0, 1) := dk_3 (dk_at dksL_law_109 8 rfl rfl)
theorem dL_law_2755 : decode cL_law 2755 = .ok (.ireturn, 1) := dk_172 (dk_at dksL_law_109 9 rfl rfl)
theorem dL_law_2756 : decode cL_law 2756 = .ok (.iload 6, 2) := dk_21 6 (dk_at dksL_law_109 10 rfl rfl)
theorem dL_law_2758 : decode cL_law 2758 = .ok (.ifCond .ne 15, 3) := dk_154 0 15 (dk_at dksL_law_109 12 rfl rfl)
theorem dL_law_2761 : decode cL_law 2761 = .ok (.aload_n 3, 1) := dk_45 (dk_at dksL_law_109 15 rfl rfl)
theorem dL_law_2762 : decode cL_law 2762 = .ok (.iconst 0, 1) := dk_3 (dk_at dksL_law_109 16 rfl rfl)
theorem dL_law_2763 : decode cL_law 2763 = .ok (.laload, 1) := dk_47 (dk_at dksL_law_109 17 rfl rfl)
theorem dL_law_2764 : decode cL_law 2764 = .ok (.iload 7, 2) := dk_21 7 (dk_at dksL_law_109 18 rfl rfl)
theorem dL_law_2766 : decode cL_law 2766 = .ok (.i2l, 1) := dk_133 (dk_at dksL_law_109 20 rfl rfl)
theorem dL_law_2767 : decode cL_law 2767 = .ok (.lcmp, 1) := dk_148 (dk_at dksL_law_109 21 rfl rfl)
theorem dL_law_2768 : decode cL_law 2768 = .ok (.ifCond .eq 5, 3) := dk_153 0 5 (dk_at dksL_law_110 0 rfl rfl)
theorem dL_law_2771 : decode cL_law 2771 = .ok (.iconst 0, 1) := dk_3 (dk_at dksL_law_110 3 rfl rfl)
theorem dL_law_2772 : decode cL_law 2772 = .ok (.ireturn, 1) := dk_172 (dk_at dksL_law_110 4 rfl rfl)
theorem dL_law_2773 : decode cL_law 2773 = .ok (.goto 60, 3) := dk_167 0 60 (dk_at dksL_law_110 5 rfl rfl)
theorem dL_law_2776 : decode cL_law 2776 = .ok (.aload_n 1, 1) := dk_43 (dk_at dksL_law_110 8 rfl rfl)
theorem dL_law_2777 : decode cL_law 2777 = .ok (.invokevirtual 336, 3) := dk_182 1 80 (dk_at dksL_law_110 9 rfl rfl)
theorem dL_law_2780 : decode cL_law 2780 = .ok (.aload_n 2, 1) := dk_44 (dk_at dksL_law_110 12 rfl rfl)
theorem dL_law_2781 : decode cL_law 2781 = .ok (.invokevirtual 339, 3) := dk_182 1 83 (dk_at dksL_law_110 13 rfl rfl)
theorem dL_law_2784 : decode cL_law 2784 = .ok (.if_icmp .eq 49, 3) := dk_159 0 49 (dk_at dksL_law_110 16 rfl rfl)
theorem dL_law_2787 : decode cL_law 2787 = .ok (.iconst 0, 1) := dk_3 (dk_at dksL_law_110 19 rfl rfl)
theorem dL_law_2788 : decode cL_law 2788 = .ok (.ireturn, 1) := dk_172 (dk_at dksL_law_110 20 rfl rfl)
theorem dL_law_2789 : decode cL_law 2789 = .ok (.aload_n 1, 1) := dk_43 (dk_at dksL_law_110 21 rfl rfl)
theorem dL_law_2790 : decode cL_law 2790 = .ok (.aload_n 3, 1) := dk_45 (dk_at dksL_law_110 22 rfl rfl)
theorem dL_law_2791 : decode cL_law 2791 = .ok (.invokestatic 340, 3) := dk_184 1 84 (dk_at dksL_law_111 0 rfl rfl)
theorem dL_law_2794 : decode cL_law 2794 = .ok (.istore 6, 2) := dk_54 6 (dk_at dksL_law_111 3 rfl rfl)
theorem dL_law_2796 : decode cL_law 2796 = .ok (.aload_n 2, 1) := dk_44 (dk_at dksL_law_111 5 rfl rfl)
theorem dL_law_2797 : decode cL_law 2797 = .ok (.invokevirtual 342, 3) := dk_182 1 86 (dk_at dksL_law_111 6 rfl rfl)
theorem dL_law_2800 : decode cL_law 2800 = .ok (.istore 7, 2) := dk_54 7 (dk_at dksL_law_111 9 rfl rfl)
theorem dL_law_2802 : decode cL_law 2802 = .ok (.aload_n 2, 1) := dk_44 (dk_at dksL_law_111 11 rfl rfl)
theorem dL_law_2803 : decode cL_law 2803 = .ok (.invokevirtual 168, 3) := dk_182 0 168 (dk_at dksL_law_111 12 rfl rfl)
theorem dL_law_2806 : decode cL_law 2806 = .ok (.iload 6, 2) := dk_21 6 (dk_at dksL_law_111 15 rfl rfl)
theorem dL_law_2808 : decode cL_law 2808 = .ok (.if_icmp .eq 5, 3) := dk_159 0 5 (dk_at dksL_law_111 17 rfl rfl)
theorem dL_law_2811 : decode cL_law 2811 = .ok (.iconst 0, 1) := dk_3 (dk_at dksL_law_111 20 rfl rfl)
theorem dL_law_2812 : decode cL_law 2812 = .ok (.ireturn, 1) := dk_172 (dk_at dksL_law_111 21 rfl rfl)
theorem dL_law_2813 : decode cL_law 2813 = .ok (.iload 6, 2) := dk_21 6 (dk_at dksL_law_111 22 rfl rfl)
theorem dL_law_2815 : decode cL_law 2815 = .ok (.ifCond .ne 15, 3) := dk_154 0 15 (dk_at dksL_law_112 0 rfl rfl)
theorem dL_law_2818 : decode cL_law 2818 = .ok (.aload_n 3, 1) := dk_45 (dk_at dksL_law_112 3 rfl rfl)
theorem dL_law_2819 : decode cL_law 2819 = .ok (.iconst 0, 1) := dk_3 (dk_at dksL_law_112 4 rfl rfl)
theorem dL_law_2820 : decode cL_law 2820 = .ok (.laload, 1) := dk_47 (dk_at dksL_law_112 5 rfl rfl)
theorem dL_law_2821 : decode cL_law 2821 = .ok (.iload 7, 2) := dk_21 7 (dk_at dksL_law_112 6 rfl rfl)
theorem dL_law_2823 : decode cL_law 2823 = .ok (.i2l, 1) := dk_133 (dk_at dksL_law_112 8 rfl rfl)
theorem dL_law_2824 : decode cL_law 2824 = .ok (.lcmp, 1) := dk_148 (dk_at dksL_law_112 9 rfl rfl)
theorem dL_law_2825 : decode cL_law 2825 = .ok (.ifCond .eq 5, 3) := dk_153 0 5 (dk_at dksL_law_112 10 rfl rfl)
theorem dL_law_2828 : decode cL_law 2828 = .ok (.iconst 0, 1) := dk_3 (dk_at dksL_law_112 13 rfl rfl)
theorem dL_law_2829 : decode cL_law 2829 = .ok (.ireturn, 1) := dk_172 (dk_at dksL_law_112 14 rfl rfl)
theorem dL_law_2830 : decode cL_law 2830 = .ok (.goto 3, 3) := dk_167 0 3 (dk_at dksL_law_112 15 rfl rfl)
theorem dL_law_2833 : decode cL_law 2833 = .ok (.iinc 5 4, 3) := dk_132 5 4 (dk_at dksL_law_112 18 rfl rfl)
theorem dL_law_2836 : decode cL_law 2836 = .ok (.goto (-2808), 3) := dk_167 245 8 (dk_at dksL_law_112 21 rfl rfl)
theorem dL_law_2839 : decode cL_law 2839 = .ok (.iconst 1, 1) := dk_4 (dk_at dksL_law_113 0 rfl rfl)
theorem dL_law_2840 : decode cL_law 2840 = .ok (.ireturn, 1) := dk_172 (dk_at dksL_law_113 1 rfl rfl)

/-! ClockworkTailorLaw -/
set_option maxRecDepth 100000
def RX0 : String := "ClockworkTailorLaw"
abbrev cX0_define : ByteArray := method_3_code
def yX0_define : MethodName := ⟨RX0, "define", "(LClockworkTailor;CCI[J)I"⟩
def dkwX0_define_1 : List UInt8 := [172]
abbrev dktX0_define_1 : List UInt8 := dkwX0_define_1 ++ []
def dkwX0_define_0 : List UInt8 := [25, 4, 3, 42, 27, 28, 29, 182, 0, 7, 133, 80, 167, 0, 11, 58, 5, 4, 172, 58, 5, 5, 172, 3]
abbrev dktX0_define_0 : List UInt8 := dkwX0_define_0 ++ dktX0_define_1
theorem dksX0_define_0 : cX0_define.data.toList.drop 0 = dktX0_define_0 := by decide +kernel
theorem dksX0_define_1 : cX0_define.data.toList.drop 24 = dktX0_define_1 := dk_seg dksX0_define_0 24 rfl rfl
theorem dX0_define_0 : decode cX0_define 0 = .ok (.aload 4, 2) := dk_25 4 (dk_at dksX0_define_0 0 rfl rfl)
theorem dX0_define_2 : decode cX0_define 2 = .ok (.iconst 0, 1) := dk_3 (dk_at dksX0_define_0 2 rfl rfl)
theorem dX0_define_3 : decode cX0_define 3 = .ok (.aload_n 0, 1) := dk_42 (dk_at dksX0_define_0 3 rfl rfl)
theorem dX0_define_4 : decode cX0_define 4 = .ok (.iload_n 1, 1) := dk_27 (dk_at dksX0_define_0 4 rfl rfl)
theorem dX0_define_5 : decode cX0_define 5 = .ok (.iload_n 2, 1) := dk_28 (dk_at dksX0_define_0 5 rfl rfl)
theorem dX0_define_6 : decode cX0_define 6 = .ok (.iload_n 3, 1) := dk_29 (dk_at dksX0_define_0 6 rfl rfl)
theorem dX0_define_7 : decode cX0_define 7 = .ok (.invokevirtual 7, 3) := dk_182 0 7 (dk_at dksX0_define_0 7 rfl rfl)
theorem dX0_define_10 : decode cX0_define 10 = .ok (.i2l, 1) := dk_133 (dk_at dksX0_define_0 10 rfl rfl)
theorem dX0_define_11 : decode cX0_define 11 = .ok (.lastore, 1) := dk_80 (dk_at dksX0_define_0 11 rfl rfl)
theorem dX0_define_12 : decode cX0_define 12 = .ok (.goto 11, 3) := dk_167 0 11 (dk_at dksX0_define_0 12 rfl rfl)
theorem dX0_define_15 : decode cX0_define 15 = .ok (.astore 5, 2) := dk_58 5 (dk_at dksX0_define_0 15 rfl rfl)
theorem dX0_define_17 : decode cX0_define 17 = .ok (.iconst 1, 1) := dk_4 (dk_at dksX0_define_0 17 rfl rfl)
theorem dX0_define_18 : decode cX0_define 18 = .ok (.ireturn, 1) := dk_172 (dk_at dksX0_define_0 18 rfl rfl)
theorem dX0_define_19 : decode cX0_define 19 = .ok (.astore 5, 2) := dk_58 5 (dk_at dksX0_define_0 19 rfl rfl)
theorem dX0_define_21 : decode cX0_define 21 = .ok (.iconst 2, 1) := dk_5 (dk_at dksX0_define_0 21 rfl rfl)
theorem dX0_define_22 : decode cX0_define 22 = .ok (.ireturn, 1) := dk_172 (dk_at dksX0_define_0 22 rfl rfl)
theorem dX0_define_23 : decode cX0_define 23 = .ok (.iconst 0, 1) := dk_3 (dk_at dksX0_define_0 23 rfl rfl)
theorem dX0_define_24 : decode cX0_define 24 = .ok (.ireturn, 1) := dk_172 (dk_at dksX0_define_1 0 rfl rfl)
abbrev cX0_dropRecipe : ByteArray := method_4_code
def yX0_dropRecipe : MethodName := ⟨RX0, "dropRecipe", "(LClockworkTailor;C[J)I"⟩
def dkwX0_dropRecipe_0 : List UInt8 := [44, 3, 42, 27, 182, 0, 17, 133, 80, 167, 0, 12, 78, 4, 172, 78, 5, 172, 78, 6, 172, 3, 172]
abbrev dktX0_dropRecipe_0 : List UInt8 := dkwX0_dropRecipe_0 ++ []
theorem dksX0_dropRecipe_0 : cX0_dropRecipe.data.toList.drop 0 = dktX0_dropRecipe_0 := by decide +kernel
theorem dX0_dropRecipe_0 : decode cX0_dropRecipe 0 = .ok (.aload_n 2, 1) := dk_44 (dk_at dksX0_dropRecipe_0 0 rfl rfl)
theorem dX0_dropRecipe_1 : decode cX0_dropRecipe 1 = .ok (.iconst 0, 1) := dk_3 (dk_at dksX0_dropRecipe_0 1 rfl rfl)
theorem dX0_dropRecipe_2 : decode cX0_dropRecipe 2 = .ok (.aload_n 0, 1) := dk_42 (dk_at dksX0_dropRecipe_0 2 rfl rfl)
theorem dX0_dropRecipe_3 : decode cX0_dropRecipe 3 = .ok (.iload_n 1, 1) := dk_27 (dk_at dksX0_dropRecipe_0 3 rfl rfl)
theorem dX0_dropRecipe_4 : decode cX0_dropRecipe 4 = .ok (.invokevirtual 17, 3) := dk_182 0 17 (dk_at dksX0_dropRecipe_0 4 rfl rfl)
theorem dX0_dropRecipe_7 : decode cX0_dropRecipe 7 = .ok (.i2l, 1) := dk_133 (dk_at dksX0_dropRecipe_0 7 rfl rfl)
theorem dX0_dropRecipe_8 : decode cX0_dropRecipe 8 = .ok (.lastore, 1) := dk_80 (dk_at dksX0_dropRecipe_0 8 rfl rfl)
theorem dX0_dropRecipe_9 : decode cX0_dropRecipe 9 = .ok (.goto 12, 3) := dk_167 0 12 (dk_at dksX0_dropRecipe_0 9 rfl rfl)
theorem dX0_dropRecipe_12 : decode cX0_dropRecipe 12 = .ok (.astore_n 3, 1) := dk_78 (dk_at dksX0_dropRecipe_0 12 rfl rfl)
theorem dX0_dropRecipe_13 : decode cX0_dropRecipe 13 = .ok (.iconst 1, 1) := dk_4 (dk_at dksX0_dropRecipe_0 13 rfl rfl)
theorem dX0_dropRecipe_14 : decode cX0_dropRecipe 14 = .ok (.ireturn, 1) := dk_172 (dk_at dksX0_dropRecipe_0 14 rfl rfl)
theorem dX0_dropRecipe_15 : decode cX0_dropRecipe 15 = .ok (.astore_n 3, 1) := dk_78 (dk_at dksX0_dropRecipe_0 15 rfl rfl)
theorem dX0_dropRecipe_16 : decode cX0_dropRecipe 16 = .ok (.iconst 2, 1) := dk_5 (dk_at dksX0_dropRecipe_0 16 rfl rfl)
theorem dX0_dropRecipe_17 : decode cX0_dropRecipe 17 = .ok (.ireturn, 1) := dk_172 (dk_at dksX0_dropRecipe_0 17 rfl rfl)
theorem dX0_dropRecipe_18 : decode cX0_dropRecipe 18 = .ok (.astore_n 3, 1) := dk_78 (dk_at dksX0_dropRecipe_0 18 rfl rfl)
theorem dX0_dropRecipe_19 : decode cX0_dropRecipe 19 = .ok (.iconst 3, 1) := dk_6 (dk_at dksX0_dropRecipe_0 19 rfl rfl)
theorem dX0_dropRecipe_20 : decode cX0_dropRecipe 20 = .ok (.ireturn, 1) := dk_172 (dk_at dksX0_dropRecipe_0 20 rfl rfl)
theorem dX0_dropRecipe_21 : decode cX0_dropRecipe 21 = .ok (.iconst 0, 1) := dk_3 (dk_at dksX0_dropRecipe_0 21 rfl rfl)
theorem dX0_dropRecipe_22 : decode cX0_dropRecipe 22 = .ok (.ireturn, 1) := dk_172 (dk_at dksX0_dropRecipe_0 22 rfl rfl)
abbrev cX0_addNeed : ByteArray := method_5_code
def yX0_addNeed : MethodName := ⟨RX0, "addNeed", "(LClockworkTailor;CCZ[J)I"⟩
def dkwX0_addNeed_1 : List UInt8 := [58, 5, 6, 172, 3, 172]
abbrev dktX0_addNeed_1 : List UInt8 := dkwX0_addNeed_1 ++ []
def dkwX0_addNeed_0 : List UInt8 := [25, 4, 3, 42, 27, 28, 29, 182, 0, 23, 133, 80, 167, 0, 15, 58, 5, 4, 172, 58, 5, 5, 172]
abbrev dktX0_addNeed_0 : List UInt8 := dkwX0_addNeed_0 ++ dktX0_addNeed_1
theorem dksX0_addNeed_0 : cX0_addNeed.data.toList.drop 0 = dktX0_addNeed_0 := by decide +kernel
theorem dksX0_addNeed_1 : cX0_addNeed.data.toList.drop 23 = dktX0_addNeed_1 := dk_seg dksX0_addNeed_0 23 rfl rfl
theorem dX0_addNeed_0 : decode cX0_addNeed 0 = .ok (.aload 4, 2) := dk_25 4 (dk_at dksX0_addNeed_0 0 rfl rfl)
theorem dX0_addNeed_2 : decode cX0_addNeed 2 = .ok (.iconst 0, 1) := dk_3 (dk_at dksX0_addNeed_0 2 rfl rfl)
theorem dX0_addNeed_3 : decode cX0_addNeed 3 = .ok (.aload_n 0, 1) := dk_42 (dk_at dksX0_addNeed_0 3 rfl rfl)
theorem dX0_addNeed_4 : decode cX0_addNeed 4 = .ok (.iload_n 1, 1) := dk_27 (dk_at dksX0_addNeed_0 4 rfl rfl)
theorem dX0_addNeed_5 : decode cX0_addNeed 5 = .ok (.iload_n 2, 1) := dk_28 (dk_at dksX0_addNeed_0 5 rfl rfl)
theorem dX0_addNeed_6 : decode cX0_addNeed 6 = .ok (.iload_n 3, 1) := dk_29 (dk_at dksX0_addNeed_0 6 rfl rfl)
theorem dX0_addNeed_7 : decode cX0_addNeed 7 = .ok (.invokevirtual 23, 3) := dk_182 0 23 (dk_at dksX0_addNeed_0 7 rfl rfl)
theorem dX0_addNeed_10 : decode cX0_addNeed 10 = .ok (.i2l, 1) := dk_133 (dk_at dksX0_addNeed_0 10 rfl rfl)
theorem dX0_addNeed_11 : decode cX0_addNeed 11 = .ok (.lastore, 1) := dk_80 (dk_at dksX0_addNeed_0 11 rfl rfl)
theorem dX0_addNeed_12 : decode cX0_addNeed 12 = .ok (.goto 15, 3) := dk_167 0 15 (dk_at dksX0_addNeed_0 12 rfl rfl)
theorem dX0_addNeed_15 : decode cX0_addNeed 15 = .ok (.astore 5, 2) := dk_58 5 (dk_at dksX0_addNeed_0 15 rfl rfl)
theorem dX0_addNeed_17 : decode cX0_addNeed 17 = .ok (.iconst 1, 1) := dk_4 (dk_at dksX0_addNeed_0 17 rfl rfl)
theorem dX0_addNeed_18 : decode cX0_addNeed 18 = .ok (.ireturn, 1) := dk_172 (dk_at dksX0_addNeed_0 18 rfl rfl)
theorem dX0_addNeed_19 : decode cX0_addNeed 19 = .ok (.astore 5, 2) := dk_58 5 (dk_at dksX0_addNeed_0 19 rfl rfl)
theorem dX0_addNeed_21 : decode cX0_addNeed 21 = .ok (.iconst 2, 1) := dk_5 (dk_at dksX0_addNeed_0 21 rfl rfl)
theorem dX0_addNeed_22 : decode cX0_addNeed 22 = .ok (.ireturn, 1) := dk_172 (dk_at dksX0_addNeed_0 22 rfl rfl)
theorem dX0_addNeed_23 : decode cX0_addNeed 23 = .ok (.astore 5, 2) := dk_58 5 (dk_at dksX0_addNeed_1 0 rfl rfl)
theorem dX0_addNeed_25 : decode cX0_addNeed 25 = .ok (.iconst 3, 1) := dk_6 (dk_at dksX0_addNeed_1 2 rfl rfl)
theorem dX0_addNeed_26 : decode cX0_addNeed 26 = .ok (.ireturn, 1) := dk_172 (dk_at dksX0_addNeed_1 3 rfl rfl)
theorem dX0_addNeed_27 : decode cX0_addNeed 27 = .ok (.iconst 0, 1) := dk_3 (dk_at dksX0_addNeed_1 4 rfl rfl)
theorem dX0_addNeed_28 : decode cX0_addNeed 28 = .ok (.ireturn, 1) := dk_172 (dk_at dksX0_addNeed_1 5 rfl rfl)
abbrev cX0_removeNeed : ByteArray := method_6_code
def yX0_removeNeed : MethodName := ⟨RX0, "removeNeed", "(LClockworkTailor;CC[J)I"⟩
def dkwX0_removeNeed_0 : List UInt8 := [45, 3, 42, 27, 28, 182, 0, 29, 133, 80, 167, 0, 11, 58, 4, 4, 172, 58, 4, 5, 172, 3, 172]
abbrev dktX0_removeNeed_0 : List UInt8 := dkwX0_removeNeed_0 ++ []
theorem dksX0_removeNeed_0 : cX0_removeNeed.data.toList.drop 0 = dktX0_removeNeed_0 := by decide +kernel
theorem dX0_removeNeed_0 : decode cX0_removeNeed 0 = .ok (.aload_n 3, 1) := dk_45 (dk_at dksX0_removeNeed_0 0 rfl rfl)
theorem dX0_removeNeed_1 : decode cX0_removeNeed 1 = .ok (.iconst 0, 1) := dk_3 (dk_at dksX0_removeNeed_0 1 rfl rfl)
theorem dX0_removeNeed_2 : decode cX0_removeNeed 2 = .ok (.aload_n 0, 1) := dk_42 (dk_at dksX0_removeNeed_0 2 rfl rfl)
theorem dX0_removeNeed_3 : decode cX0_removeNeed 3 = .ok (.iload_n 1, 1) := dk_27 (dk_at dksX0_removeNeed_0 3 rfl rfl)
theorem dX0_removeNeed_4 : decode cX0_removeNeed 4 = .ok (.iload_n 2, 1) := dk_28 (dk_at dksX0_removeNeed_0 4 rfl rfl)
theorem dX0_removeNeed_5 : decode cX0_removeNeed 5 = .ok (.invokevirtual 29, 3) := dk_182 0 29 (dk_at dksX0_removeNeed_0 5 rfl rfl)
theorem dX0_removeNeed_8 : decode cX0_removeNeed 8 = .ok (.i2l, 1) := dk_133 (dk_at dksX0_removeNeed_0 8 rfl rfl)
theorem dX0_removeNeed_9 : decode cX0_removeNeed 9 = .ok (.lastore, 1) := dk_80 (dk_at dksX0_removeNeed_0 9 rfl rfl)
theorem dX0_removeNeed_10 : decode cX0_removeNeed 10 = .ok (.goto 11, 3) := dk_167 0 11 (dk_at dksX0_removeNeed_0 10 rfl rfl)
theorem dX0_removeNeed_13 : decode cX0_removeNeed 13 = .ok (.astore 4, 2) := dk_58 4 (dk_at dksX0_removeNeed_0 13 rfl rfl)
theorem dX0_removeNeed_15 : decode cX0_removeNeed 15 = .ok (.iconst 1, 1) := dk_4 (dk_at dksX0_removeNeed_0 15 rfl rfl)
theorem dX0_removeNeed_16 : decode cX0_removeNeed 16 = .ok (.ireturn, 1) := dk_172 (dk_at dksX0_removeNeed_0 16 rfl rfl)
theorem dX0_removeNeed_17 : decode cX0_removeNeed 17 = .ok (.astore 4, 2) := dk_58 4 (dk_at dksX0_removeNeed_0 17 rfl rfl)
theorem dX0_removeNeed_19 : decode cX0_removeNeed 19 = .ok (.iconst 2, 1) := dk_5 (dk_at dksX0_removeNeed_0 19 rfl rfl)
theorem dX0_removeNeed_20 : decode cX0_removeNeed 20 = .ok (.ireturn, 1) := dk_172 (dk_at dksX0_removeNeed_0 20 rfl rfl)
theorem dX0_removeNeed_21 : decode cX0_removeNeed 21 = .ok (.iconst 0, 1) := dk_3 (dk_at dksX0_removeNeed_0 21 rfl rfl)
theorem dX0_removeNeed_22 : decode cX0_removeNeed 22 = .ok (.ireturn, 1) := dk_172 (dk_at dksX0_removeNeed_0 22 rfl rfl)
abbrev cX0_hasRecipe : ByteArray := method_7_code
def yX0_hasRecipe : MethodName := ⟨RX0, "hasRecipe", "(LClockworkTailor;C[J)I"⟩
def dkwX0_hasRecipe_0 : List UInt8 := [44, 3, 42, 27, 182, 0, 33, 153, 0, 7, 10, 167, 0, 4, 9, 80, 167, 0, 6, 78, 4, 172, 3, 172]
abbrev dktX0_hasRecipe_0 : List UInt8 := dkwX0_hasRecipe_0 ++ []
theorem dksX0_hasRecipe_0 : cX0_hasRecipe.data.toList.drop 0 = dktX0_hasRecipe_0 := by decide +kernel
theorem dX0_hasRecipe_0 : decode cX0_hasRecipe 0 = .ok (.aload_n 2, 1) := dk_44 (dk_at dksX0_hasRecipe_0 0 rfl rfl)
theorem dX0_hasRecipe_1 : decode cX0_hasRecipe 1 = .ok (.iconst 0, 1) := dk_3 (dk_at dksX0_hasRecipe_0 1 rfl rfl)
theorem dX0_hasRecipe_2 : decode cX0_hasRecipe 2 = .ok (.aload_n 0, 1) := dk_42 (dk_at dksX0_hasRecipe_0 2 rfl rfl)
theorem dX0_hasRecipe_3 : decode cX0_hasRecipe 3 = .ok (.iload_n 1, 1) := dk_27 (dk_at dksX0_hasRecipe_0 3 rfl rfl)
theorem dX0_hasRecipe_4 : decode cX0_hasRecipe 4 = .ok (.invokevirtual 33, 3) := dk_182 0 33 (dk_at dksX0_hasRecipe_0 4 rfl rfl)
theorem dX0_hasRecipe_7 : decode cX0_hasRecipe 7 = .ok (.ifCond .eq 7, 3) := dk_153 0 7 (dk_at dksX0_hasRecipe_0 7 rfl rfl)
theorem dX0_hasRecipe_10 : decode cX0_hasRecipe 10 = .ok (.lconst 1, 1) := dk_10 (dk_at dksX0_hasRecipe_0 10 rfl rfl)
theorem dX0_hasRecipe_11 : decode cX0_hasRecipe 11 = .ok (.goto 4, 3) := dk_167 0 4 (dk_at dksX0_hasRecipe_0 11 rfl rfl)
theorem dX0_hasRecipe_14 : decode cX0_hasRecipe 14 = .ok (.lconst 0, 1) := dk_9 (dk_at dksX0_hasRecipe_0 14 rfl rfl)
theorem dX0_hasRecipe_15 : decode cX0_hasRecipe 15 = .ok (.lastore, 1) := dk_80 (dk_at dksX0_hasRecipe_0 15 rfl rfl)
theorem dX0_hasRecipe_16 : decode cX0_hasRecipe 16 = .ok (.goto 6, 3) := dk_167 0 6 (dk_at dksX0_hasRecipe_0 16 rfl rfl)
theorem dX0_hasRecipe_19 : decode cX0_hasRecipe 19 = .ok (.astore_n 3, 1) := dk_78 (dk_at dksX0_hasRecipe_0 19 rfl rfl)
theorem dX0_hasRecipe_20 : decode cX0_hasRecipe 20 = .ok (.iconst 1, 1) := dk_4 (dk_at dksX0_hasRecipe_0 20 rfl rfl)
theorem dX0_hasRecipe_21 : decode cX0_hasRecipe 21 = .ok (.ireturn, 1) := dk_172 (dk_at dksX0_hasRecipe_0 21 rfl rfl)
theorem dX0_hasRecipe_22 : decode cX0_hasRecipe 22 = .ok (.iconst 0, 1) := dk_3 (dk_at dksX0_hasRecipe_0 22 rfl rfl)
theorem dX0_hasRecipe_23 : decode cX0_hasRecipe 23 = .ok (.ireturn, 1) := dk_172 (dk_at dksX0_hasRecipe_0 23 rfl rfl)
abbrev cX0_scopeOf : ByteArray := method_8_code
def yX0_scopeOf : MethodName := ⟨RX0, "scopeOf", "(LClockworkTailor;C[J)I"⟩
def dkwX0_scopeOf_0 : List UInt8 := [44, 3, 42, 27, 182, 0, 37, 133, 80, 167, 0, 9, 78, 4, 172, 78, 5, 172, 3, 172]
abbrev dktX0_scopeOf_0 : List UInt8 := dkwX0_scopeOf_0 ++ []
theorem dksX0_scopeOf_0 : cX0_scopeOf.data.toList.drop 0 = dktX0_scopeOf_0 := by decide +kernel
theorem dX0_scopeOf_0 : decode cX0_scopeOf 0 = .ok (.aload_n 2, 1) := dk_44 (dk_at dksX0_scopeOf_0 0 rfl rfl)
theorem dX0_scopeOf_1 : decode cX0_scopeOf 1 = .ok (.iconst 0, 1) := dk_3 (dk_at dksX0_scopeOf_0 1 rfl rfl)
theorem dX0_scopeOf_2 : decode cX0_scopeOf 2 = .ok (.aload_n 0, 1) := dk_42 (dk_at dksX0_scopeOf_0 2 rfl rfl)
theorem dX0_scopeOf_3 : decode cX0_scopeOf 3 = .ok (.iload_n 1, 1) := dk_27 (dk_at dksX0_scopeOf_0 3 rfl rfl)
theorem dX0_scopeOf_4 : decode cX0_scopeOf 4 = .ok (.invokevirtual 37, 3) := dk_182 0 37 (dk_at dksX0_scopeOf_0 4 rfl rfl)
theorem dX0_scopeOf_7 : decode cX0_scopeOf 7 = .ok (.i2l, 1) := dk_133 (dk_at dksX0_scopeOf_0 7 rfl rfl)
theorem dX0_scopeOf_8 : decode cX0_scopeOf 8 = .ok (.lastore, 1) := dk_80 (dk_at dksX0_scopeOf_0 8 rfl rfl)
theorem dX0_scopeOf_9 : decode cX0_scopeOf 9 = .ok (.goto 9, 3) := dk_167 0 9 (dk_at dksX0_scopeOf_0 9 rfl rfl)
theorem dX0_scopeOf_12 : decode cX0_scopeOf 12 = .ok (.astore_n 3, 1) := dk_78 (dk_at dksX0_scopeOf_0 12 rfl rfl)
theorem dX0_scopeOf_13 : decode cX0_scopeOf 13 = .ok (.iconst 1, 1) := dk_4 (dk_at dksX0_scopeOf_0 13 rfl rfl)
theorem dX0_scopeOf_14 : decode cX0_scopeOf 14 = .ok (.ireturn, 1) := dk_172 (dk_at dksX0_scopeOf_0 14 rfl rfl)
theorem dX0_scopeOf_15 : decode cX0_scopeOf 15 = .ok (.astore_n 3, 1) := dk_78 (dk_at dksX0_scopeOf_0 15 rfl rfl)
theorem dX0_scopeOf_16 : decode cX0_scopeOf 16 = .ok (.iconst 2, 1) := dk_5 (dk_at dksX0_scopeOf_0 16 rfl rfl)
theorem dX0_scopeOf_17 : decode cX0_scopeOf 17 = .ok (.ireturn, 1) := dk_172 (dk_at dksX0_scopeOf_0 17 rfl rfl)
theorem dX0_scopeOf_18 : decode cX0_scopeOf 18 = .ok (.iconst 0, 1) := dk_3 (dk_at dksX0_scopeOf_0 18 rfl rfl)
theorem dX0_scopeOf_19 : decode cX0_scopeOf 19 = .ok (.ireturn, 1) := dk_172 (dk_at dksX0_scopeOf_0 19 rfl rfl)
abbrev cX0_needCount : ByteArray := method_9_code
def yX0_needCount : MethodName := ⟨RX0, "needCount", "(LClockworkTailor;C[J)I"⟩
def dkwX0_needCount_0 : List UInt8 := [44, 3, 42, 27, 182, 0, 41, 133, 80, 167, 0, 9, 78, 4, 172, 78, 5, 172, 3, 172]
abbrev dktX0_needCount_0 : List UInt8 := dkwX0_needCount_0 ++ []
theorem dksX0_needCount_0 : cX0_needCount.data.toList.drop 0 = dktX0_needCount_0 := by decide +kernel
theorem dX0_needCount_0 : decode cX0_needCount 0 = .ok (.aload_n 2, 1) := dk_44 (dk_at dksX0_needCount_0 0 rfl rfl)
theorem dX0_needCount_1 : decode cX0_needCount 1 = .ok (.iconst 0, 1) := dk_3 (dk_at dksX0_needCount_0 1 rfl rfl)
theorem dX0_needCount_2 : decode cX0_needCount 2 = .ok (.aload_n 0, 1) := dk_42 (dk_at dksX0_needCount_0 2 rfl rfl)
theorem dX0_needCount_3 : decode cX0_needCount 3 = .ok (.iload_n 1, 1) := dk_27 (dk_at dksX0_needCount_0 3 rfl rfl)
theorem dX0_needCount_4 : decode cX0_needCount 4 = .ok (.invokevirtual 41, 3) := dk_182 0 41 (dk_at dksX0_needCount_0 4 rfl rfl)
theorem dX0_needCount_7 : decode cX0_needCount 7 = .ok (.i2l, 1) := dk_133 (dk_at dksX0_needCount_0 7 rfl rfl)
theorem dX0_needCount_8 : decode cX0_needCount 8 = .ok (.lastore, 1) := dk_80 (dk_at dksX0_needCount_0 8 rfl rfl)
theorem dX0_needCount_9 : decode cX0_needCount 9 = .ok (.goto 9, 3) := dk_167 0 9 (dk_at dksX0_needCount_0 9 rfl rfl)
theorem dX0_needCount_12 : decode cX0_needCount 12 = .ok (.astore_n 3, 1) := dk_78 (dk_at dksX0_needCount_0 12 rfl rfl)
theorem dX0_needCount_13 : decode cX0_needCount 13 = .ok (.iconst 1, 1) := dk_4 (dk_at dksX0_needCount_0 13 rfl rfl)
theorem dX0_needCount_14 : decode cX0_needCount 14 = .ok (.ireturn, 1) := dk_172 (dk_at dksX0_needCount_0 14 rfl rfl)
theorem dX0_needCount_15 : decode cX0_needCount 15 = .ok (.astore_n 3, 1) := dk_78 (dk_at dksX0_needCount_0 15 rfl rfl)
theorem dX0_needCount_16 : decode cX0_needCount 16 = .ok (.iconst 2, 1) := dk_5 (dk_at dksX0_needCount_0 16 rfl rfl)
theorem dX0_needCount_17 : decode cX0_needCount 17 = .ok (.ireturn, 1) := dk_172 (dk_at dksX0_needCount_0 17 rfl rfl)
theorem dX0_needCount_18 : decode cX0_needCount 18 = .ok (.iconst 0, 1) := dk_3 (dk_at dksX0_needCount_0 18 rfl rfl)
theorem dX0_needCount_19 : decode cX0_needCount 19 = .ok (.ireturn, 1) := dk_172 (dk_at dksX0_needCount_0 19 rfl rfl)
abbrev cX0_needAt : ByteArray := method_10_code
def yX0_needAt : MethodName := ⟨RX0, "needAt", "(LClockworkTailor;CI[J)I"⟩
def dkwX0_needAt_1 : List UInt8 := [172, 3, 172]
abbrev dktX0_needAt_1 : List UInt8 := dkwX0_needAt_1 ++ []
def dkwX0_needAt_0 : List UInt8 := [45, 3, 42, 27, 28, 182, 0, 44, 133, 80, 167, 0, 15, 58, 4, 4, 172, 58, 4, 5, 172, 58, 4, 6]
abbrev dktX0_needAt_0 : List UInt8 := dkwX0_needAt_0 ++ dktX0_needAt_1
theorem dksX0_needAt_0 : cX0_needAt.data.toList.drop 0 = dktX0_needAt_0 := by decide +kernel
theorem dksX0_needAt_1 : cX0_needAt.data.toList.drop 24 = dktX0_needAt_1 := dk_seg dksX0_needAt_0 24 rfl rfl
theorem dX0_needAt_0 : decode cX0_needAt 0 = .ok (.aload_n 3, 1) := dk_45 (dk_at dksX0_needAt_0 0 rfl rfl)
theorem dX0_needAt_1 : decode cX0_needAt 1 = .ok (.iconst 0, 1) := dk_3 (dk_at dksX0_needAt_0 1 rfl rfl)
theorem dX0_needAt_2 : decode cX0_needAt 2 = .ok (.aload_n 0, 1) := dk_42 (dk_at dksX0_needAt_0 2 rfl rfl)
theorem dX0_needAt_3 : decode cX0_needAt 3 = .ok (.iload_n 1, 1) := dk_27 (dk_at dksX0_needAt_0 3 rfl rfl)
theorem dX0_needAt_4 : decode cX0_needAt 4 = .ok (.iload_n 2, 1) := dk_28 (dk_at dksX0_needAt_0 4 rfl rfl)
theorem dX0_needAt_5 : decode cX0_needAt 5 = .ok (.invokevirtual 44, 3) := dk_182 0 44 (dk_at dksX0_needAt_0 5 rfl rfl)
theorem dX0_needAt_8 : decode cX0_needAt 8 = .ok (.i2l, 1) := dk_133 (dk_at dksX0_needAt_0 8 rfl rfl)
theorem dX0_needAt_9 : decode cX0_needAt 9 = .ok (.lastore, 1) := dk_80 (dk_at dksX0_needAt_0 9 rfl rfl)
theorem dX0_needAt_10 : decode cX0_needAt 10 = .ok (.goto 15, 3) := dk_167 0 15 (dk_at dksX0_needAt_0 10 rfl rfl)
theorem dX0_needAt_13 : decode cX0_needAt 13 = .ok (.astore 4, 2) := dk_58 4 (dk_at dksX0_needAt_0 13 rfl rfl)
theorem dX0_needAt_15 : decode cX0_needAt 15 = .ok (.iconst 1, 1) := dk_4 (dk_at dksX0_needAt_0 15 rfl rfl)
theorem dX0_needAt_16 : decode cX0_needAt 16 = .ok (.ireturn, 1) := dk_172 (dk_at dksX0_needAt_0 16 rfl rfl)
theorem dX0_needAt_17 : decode cX0_needAt 17 = .ok (.astore 4, 2) := dk_58 4 (dk_at dksX0_needAt_0 17 rfl rfl)
theorem dX0_needAt_19 : decode cX0_needAt 19 = .ok (.iconst 2, 1) := dk_5 (dk_at dksX0_needAt_0 19 rfl rfl)
theorem dX0_needAt_20 : decode cX0_needAt 20 = .ok (.ireturn, 1) := dk_172 (dk_at dksX0_needAt_0 20 rfl rfl)
theorem dX0_needAt_21 : decode cX0_needAt 21 = .ok (.astore 4, 2) := dk_58 4 (dk_at dksX0_needAt_0 21 rfl rfl)
theorem dX0_needAt_23 : decode cX0_needAt 23 = .ok (.iconst 3, 1) := dk_6 (dk_at dksX0_needAt_0 23 rfl rfl)
theorem dX0_needAt_24 : decode cX0_needAt 24 = .ok (.ireturn, 1) := dk_172 (dk_at dksX0_needAt_1 0 rfl rfl)
theorem dX0_needAt_25 : decode cX0_needAt 25 = .ok (.iconst 0, 1) := dk_3 (dk_at dksX0_needAt_1 1 rfl rfl)
theorem dX0_needAt_26 : decode cX0_needAt 26 = .ok (.ireturn, 1) := dk_172 (dk_at dksX0_needAt_1 2 rfl rfl)
abbrev cX0_isLazyNeed : ByteArray := method_11_code
def yX0_isLazyNeed : MethodName := ⟨RX0, "isLazyNeed", "(LClockworkTailor;CI[J)I"⟩
def dkwX0_isLazyNeed_1 : List UInt8 := [58, 4, 5, 172, 58, 4, 6, 172, 3, 172]
abbrev dktX0_isLazyNeed_1 : List UInt8 := dkwX0_isLazyNeed_1 ++ []
def dkwX0_isLazyNeed_0 : List UInt8 := [45, 3, 42, 27, 28, 182, 0, 50, 153, 0, 7, 10, 167, 0, 4, 9, 80, 167, 0, 15, 58, 4, 4, 172]
abbrev dktX0_isLazyNeed_0 : List UInt8 := dkwX0_isLazyNeed_0 ++ dktX0_isLazyNeed_1
theorem dksX0_isLazyNeed_0 : cX0_isLazyNeed.data.toList.drop 0 = dktX0_isLazyNeed_0 := by decide +kernel
theorem dksX0_isLazyNeed_1 : cX0_isLazyNeed.data.toList.drop 24 = dktX0_isLazyNeed_1 := dk_seg dksX0_isLazyNeed_0 24 rfl rfl
theorem dX0_isLazyNeed_0 : decode cX0_isLazyNeed 0 = .ok (.aload_n 3, 1) := dk_45 (dk_at dksX0_isLazyNeed_0 0 rfl rfl)
theorem dX0_isLazyNeed_1 : decode cX0_isLazyNeed 1 = .ok (.iconst 0, 1) := dk_3 (dk_at dksX0_isLazyNeed_0 1 rfl rfl)
theorem dX0_isLazyNeed_2 : decode cX0_isLazyNeed 2 = .ok (.aload_n 0, 1) := dk_42 (dk_at dksX0_isLazyNeed_0 2 rfl rfl)
theorem dX0_isLazyNeed_3 : decode cX0_isLazyNeed 3 = .ok (.iload_n 1, 1) := dk_27 (dk_at dksX0_isLazyNeed_0 3 rfl rfl)
theorem dX0_isLazyNeed_4 : decode cX0_isLazyNeed 4 = .ok (.iload_n 2, 1) := dk_28 (dk_at dksX0_isLazyNeed_0 4 rfl rfl)
theorem dX0_isLazyNeed_5 : decode cX0_isLazyNeed 5 = .ok (.invokevirtual 50, 3) := dk_182 0 50 (dk_at dksX0_isLazyNeed_0 5 rfl rfl)
theorem dX0_isLazyNeed_8 : decode cX0_isLazyNeed 8 = .ok (.ifCond .eq 7, 3) := dk_153 0 7 (dk_at dksX0_isLazyNeed_0 8 rfl rfl)
theorem dX0_isLazyNeed_11 : decode cX0_isLazyNeed 11 = .ok (.lconst 1, 1) := dk_10 (dk_at dksX0_isLazyNeed_0 11 rfl rfl)
theorem dX0_isLazyNeed_12 : decode cX0_isLazyNeed 12 = .ok (.goto 4, 3) := dk_167 0 4 (dk_at dksX0_isLazyNeed_0 12 rfl rfl)
theorem dX0_isLazyNeed_15 : decode cX0_isLazyNeed 15 = .ok (.lconst 0, 1) := dk_9 (dk_at dksX0_isLazyNeed_0 15 rfl rfl)
theorem dX0_isLazyNeed_16 : decode cX0_isLazyNeed 16 = .ok (.lastore, 1) := dk_80 (dk_at dksX0_isLazyNeed_0 16 rfl rfl)
theorem dX0_isLazyNeed_17 : decode cX0_isLazyNeed 17 = .ok (.goto 15, 3) := dk_167 0 15 (dk_at dksX0_isLazyNeed_0 17 rfl rfl)
theorem dX0_isLazyNeed_20 : decode cX0_isLazyNeed 20 = .ok (.astore 4, 2) := dk_58 4 (dk_at dksX0_isLazyNeed_0 20 rfl rfl)
theorem dX0_isLazyNeed_22 : decode cX0_isLazyNeed 22 = .ok (.iconst 1, 1) := dk_4 (dk_at dksX0_isLazyNeed_0 22 rfl rfl)
theorem dX0_isLazyNeed_23 : decode cX0_isLazyNeed 23 = .ok (.ireturn, 1) := dk_172 (dk_at dksX0_isLazyNeed_0 23 rfl rfl)
theorem dX0_isLazyNeed_24 : decode cX0_isLazyNeed 24 = .ok (.astore 4, 2) := dk_58 4 (dk_at dksX0_isLazyNeed_1 0 rfl rfl)
theorem dX0_isLazyNeed_26 : decode cX0_isLazyNeed 26 = .ok (.iconst 2, 1) := dk_5 (dk_at dksX0_isLazyNeed_1 2 rfl rfl)
theorem dX0_isLazyNeed_27 : decode cX0_isLazyNeed 27 = .ok (.ireturn, 1) := dk_172 (dk_at dksX0_isLazyNeed_1 3 rfl rfl)
theorem dX0_isLazyNeed_28 : decode cX0_isLazyNeed 28 = .ok (.astore 4, 2) := dk_58 4 (dk_at dksX0_isLazyNeed_1 4 rfl rfl)
theorem dX0_isLazyNeed_30 : decode cX0_isLazyNeed 30 = .ok (.iconst 3, 1) := dk_6 (dk_at dksX0_isLazyNeed_1 6 rfl rfl)
theorem dX0_isLazyNeed_31 : decode cX0_isLazyNeed 31 = .ok (.ireturn, 1) := dk_172 (dk_at dksX0_isLazyNeed_1 7 rfl rfl)
theorem dX0_isLazyNeed_32 : decode cX0_isLazyNeed 32 = .ok (.iconst 0, 1) := dk_3 (dk_at dksX0_isLazyNeed_1 8 rfl rfl)
theorem dX0_isLazyNeed_33 : decode cX0_isLazyNeed 33 = .ok (.ireturn, 1) := dk_172 (dk_at dksX0_isLazyNeed_1 9 rfl rfl)
abbrev cX0_replace : ByteArray := method_12_code
def yX0_replace : MethodName := ⟨RX0, "replace", "(LClockworkTailor;CC[J)I"⟩
def dkwX0_replace_0 : List UInt8 := [45, 3, 42, 27, 28, 182, 0, 54, 133, 80, 167, 0, 11, 58, 4, 4, 172, 58, 4, 5, 172, 3, 172]
abbrev dktX0_replace_0 : List UInt8 := dkwX0_replace_0 ++ []
theorem dksX0_replace_0 : cX0_replace.data.toList.drop 0 = dktX0_replace_0 := by decide +kernel
theorem dX0_replace_0 : decode cX0_replace 0 = .ok (.aload_n 3, 1) := dk_45 (dk_at dksX0_replace_0 0 rfl rfl)
theorem dX0_replace_1 : decode cX0_replace 1 = .ok (.iconst 0, 1) := dk_3 (dk_at dksX0_replace_0 1 rfl rfl)
theorem dX0_replace_2 : decode cX0_replace 2 = .ok (.aload_n 0, 1) := dk_42 (dk_at dksX0_replace_0 2 rfl rfl)
theorem dX0_replace_3 : decode cX0_replace 3 = .ok (.iload_n 1, 1) := dk_27 (dk_at dksX0_replace_0 3 rfl rfl)
theorem dX0_replace_4 : decode cX0_replace 4 = .ok (.iload_n 2, 1) := dk_28 (dk_at dksX0_replace_0 4 rfl rfl)
theorem dX0_replace_5 : decode cX0_replace 5 = .ok (.invokevirtual 54, 3) := dk_182 0 54 (dk_at dksX0_replace_0 5 rfl rfl)
theorem dX0_replace_8 : decode cX0_replace 8 = .ok (.i2l, 1) := dk_133 (dk_at dksX0_replace_0 8 rfl rfl)
theorem dX0_replace_9 : decode cX0_replace 9 = .ok (.lastore, 1) := dk_80 (dk_at dksX0_replace_0 9 rfl rfl)
theorem dX0_replace_10 : decode cX0_replace 10 = .ok (.goto 11, 3) := dk_167 0 11 (dk_at dksX0_replace_0 10 rfl rfl)
theorem dX0_replace_13 : decode cX0_replace 13 = .ok (.astore 4, 2) := dk_58 4 (dk_at dksX0_replace_0 13 rfl rfl)
theorem dX0_replace_15 : decode cX0_replace 15 = .ok (.iconst 1, 1) := dk_4 (dk_at dksX0_replace_0 15 rfl rfl)
theorem dX0_replace_16 : decode cX0_replace 16 = .ok (.ireturn, 1) := dk_172 (dk_at dksX0_replace_0 16 rfl rfl)
theorem dX0_replace_17 : decode cX0_replace 17 = .ok (.astore 4, 2) := dk_58 4 (dk_at dksX0_replace_0 17 rfl rfl)
theorem dX0_replace_19 : decode cX0_replace 19 = .ok (.iconst 2, 1) := dk_5 (dk_at dksX0_replace_0 19 rfl rfl)
theorem dX0_replace_20 : decode cX0_replace 20 = .ok (.ireturn, 1) := dk_172 (dk_at dksX0_replace_0 20 rfl rfl)
theorem dX0_replace_21 : decode cX0_replace 21 = .ok (.iconst 0, 1) := dk_3 (dk_at dksX0_replace_0 21 rfl rfl)
theorem dX0_replace_22 : decode cX0_replace 22 = .ok (.ireturn, 1) := dk_172 (dk_at dksX0_replace_0 22 rfl rfl)
abbrev cX0_putBack : ByteArray := method_13_code
def yX0_putBack : MethodName := ⟨RX0, "putBack", "(LClockworkTailor;C[J)I"⟩
def dkwX0_putBack_0 : List UInt8 := [44, 3, 42, 27, 182, 0, 57, 133, 80, 167, 0, 12, 78, 4, 172, 78, 5, 172, 78, 6, 172, 3, 172]
abbrev dktX0_putBack_0 : List UInt8 := dkwX0_putBack_0 ++ []
theorem dksX0_putBack_0 : cX0_putBack.data.toList.drop 0 = dktX0_putBack_0 := by decide +kernel
theorem dX0_putBack_0 : decode cX0_putBack 0 = .ok (.aload_n 2, 1) := dk_44 (dk_at dksX0_putBack_0 0 rfl rfl)
theorem dX0_putBack_1 : decode cX0_putBack 1 = .ok (.iconst 0, 1) := dk_3 (dk_at dksX0_putBack_0 1 rfl rfl)
theorem dX0_putBack_2 : decode cX0_putBack 2 = .ok (.aload_n 0, 1) := dk_42 (dk_at dksX0_putBack_0 2 rfl rfl)
theorem dX0_putBack_3 : decode cX0_putBack 3 = .ok (.iload_n 1, 1) := dk_27 (dk_at dksX0_putBack_0 3 rfl rfl)
theorem dX0_putBack_4 : decode cX0_putBack 4 = .ok (.invokevirtual 57, 3) := dk_182 0 57 (dk_at dksX0_putBack_0 4 rfl rfl)
theorem dX0_putBack_7 : decode cX0_putBack 7 = .ok (.i2l, 1) := dk_133 (dk_at dksX0_putBack_0 7 rfl rfl)
theorem dX0_putBack_8 : decode cX0_putBack 8 = .ok (.lastore, 1) := dk_80 (dk_at dksX0_putBack_0 8 rfl rfl)
theorem dX0_putBack_9 : decode cX0_putBack 9 = .ok (.goto 12, 3) := dk_167 0 12 (dk_at dksX0_putBack_0 9 rfl rfl)
theorem dX0_putBack_12 : decode cX0_putBack 12 = .ok (.astore_n 3, 1) := dk_78 (dk_at dksX0_putBack_0 12 rfl rfl)
theorem dX0_putBack_13 : decode cX0_putBack 13 = .ok (.iconst 1, 1) := dk_4 (dk_at dksX0_putBack_0 13 rfl rfl)
theorem dX0_putBack_14 : decode cX0_putBack 14 = .ok (.ireturn, 1) := dk_172 (dk_at dksX0_putBack_0 14 rfl rfl)
theorem dX0_putBack_15 : decode cX0_putBack 15 = .ok (.astore_n 3, 1) := dk_78 (dk_at dksX0_putBack_0 15 rfl rfl)
theorem dX0_putBack_16 : decode cX0_putBack 16 = .ok (.iconst 2, 1) := dk_5 (dk_at dksX0_putBack_0 16 rfl rfl)
theorem dX0_putBack_17 : decode cX0_putBack 17 = .ok (.ireturn, 1) := dk_172 (dk_at dksX0_putBack_0 17 rfl rfl)
theorem dX0_putBack_18 : decode cX0_putBack 18 = .ok (.astore_n 3, 1) := dk_78 (dk_at dksX0_putBack_0 18 rfl rfl)
theorem dX0_putBack_19 : decode cX0_putBack 19 = .ok (.iconst 3, 1) := dk_6 (dk_at dksX0_putBack_0 19 rfl rfl)
theorem dX0_putBack_20 : decode cX0_putBack 20 = .ok (.ireturn, 1) := dk_172 (dk_at dksX0_putBack_0 20 rfl rfl)
theorem dX0_putBack_21 : decode cX0_putBack 21 = .ok (.iconst 0, 1) := dk_3 (dk_at dksX0_putBack_0 21 rfl rfl)
theorem dX0_putBack_22 : decode cX0_putBack 22 = .ok (.ireturn, 1) := dk_172 (dk_at dksX0_putBack_0 22 rfl rfl)
abbrev cX0_standInFor : ByteArray := method_14_code
def yX0_standInFor : MethodName := ⟨RX0, "standInFor", "(LClockworkTailor;C[J)I"⟩
def dkwX0_standInFor_0 : List UInt8 := [44, 3, 42, 27, 182, 0, 60, 133, 80, 167, 0, 6, 78, 4, 172, 3, 172]
abbrev dktX0_standInFor_0 : List UInt8 := dkwX0_standInFor_0 ++ []
theorem dksX0_standInFor_0 : cX0_standInFor.data.toList.drop 0 = dktX0_standInFor_0 := by decide +kernel
theorem dX0_standInFor_0 : decode cX0_standInFor 0 = .ok (.aload_n 2, 1) := dk_44 (dk_at dksX0_standInFor_0 0 rfl rfl)
theorem dX0_standInFor_1 : decode cX0_standInFor 1 = .ok (.iconst 0, 1) := dk_3 (dk_at dksX0_standInFor_0 1 rfl rfl)
theorem dX0_standInFor_2 : decode cX0_standInFor 2 = .ok (.aload_n 0, 1) := dk_42 (dk_at dksX0_standInFor_0 2 rfl rfl)
theorem dX0_standInFor_3 : decode cX0_standInFor 3 = .ok (.iload_n 1, 1) := dk_27 (dk_at dksX0_standInFor_0 3 rfl rfl)
theorem dX0_standInFor_4 : decode cX0_standInFor 4 = .ok (.invokevirtual 60, 3) := dk_182 0 60 (dk_at dksX0_standInFor_0 4 rfl rfl)
theorem dX0_standInFor_7 : decode cX0_standInFor 7 = .ok (.i2l, 1) := dk_133 (dk_at dksX0_standInFor_0 7 rfl rfl)
theorem dX0_standInFor_8 : decode cX0_standInFor 8 = .ok (.lastore, 1) := dk_80 (dk_at dksX0_standInFor_0 8 rfl rfl)
theorem dX0_standInFor_9 : decode cX0_standInFor 9 = .ok (.goto 6, 3) := dk_167 0 6 (dk_at dksX0_standInFor_0 9 rfl rfl)
theorem dX0_standInFor_12 : decode cX0_standInFor 12 = .ok (.astore_n 3, 1) := dk_78 (dk_at dksX0_standInFor_0 12 rfl rfl)
theorem dX0_standInFor_13 : decode cX0_standInFor 13 = .ok (.iconst 1, 1) := dk_4 (dk_at dksX0_standInFor_0 13 rfl rfl)
theorem dX0_standInFor_14 : decode cX0_standInFor 14 = .ok (.ireturn, 1) := dk_172 (dk_at dksX0_standInFor_0 14 rfl rfl)
theorem dX0_standInFor_15 : decode cX0_standInFor 15 = .ok (.iconst 0, 1) := dk_3 (dk_at dksX0_standInFor_0 15 rfl rfl)
theorem dX0_standInFor_16 : decode cX0_standInFor 16 = .ok (.ireturn, 1) := dk_172 (dk_at dksX0_standInFor_0 16 rfl rfl)
abbrev cX0_leadsToCount : ByteArray := method_15_code
def yX0_leadsToCount : MethodName := ⟨RX0, "leadsToCount", "(LClockworkTailor;C[J)I"⟩
def dkwX0_leadsToCount_0 : List UInt8 := [44, 3, 42, 27, 182, 0, 63, 133, 80, 167, 0, 6, 78, 4, 172, 3, 172]
abbrev dktX0_leadsToCount_0 : List UInt8 := dkwX0_leadsToCount_0 ++ []
theorem dksX0_leadsToCount_0 : cX0_leadsToCount.data.toList.drop 0 = dktX0_leadsToCount_0 := by decide +kernel
theorem dX0_leadsToCount_0 : decode cX0_leadsToCount 0 = .ok (.aload_n 2, 1) := dk_44 (dk_at dksX0_leadsToCount_0 0 rfl rfl)
theorem dX0_leadsToCount_1 : decode cX0_leadsToCount 1 = .ok (.iconst 0, 1) := dk_3 (dk_at dksX0_leadsToCount_0 1 rfl rfl)
theorem dX0_leadsToCount_2 : decode cX0_leadsToCount 2 = .ok (.aload_n 0, 1) := dk_42 (dk_at dksX0_leadsToCount_0 2 rfl rfl)
theorem dX0_leadsToCount_3 : decode cX0_leadsToCount 3 = .ok (.iload_n 1, 1) := dk_27 (dk_at dksX0_leadsToCount_0 3 rfl rfl)
theorem dX0_leadsToCount_4 : decode cX0_leadsToCount 4 = .ok (.invokevirtual 63, 3) := dk_182 0 63 (dk_at dksX0_leadsToCount_0 4 rfl rfl)
theorem dX0_leadsToCount_7 : decode cX0_leadsToCount 7 = .ok (.i2l, 1) := dk_133 (dk_at dksX0_leadsToCount_0 7 rfl rfl)
theorem dX0_leadsToCount_8 : decode cX0_leadsToCount 8 = .ok (.lastore, 1) := dk_80 (dk_at dksX0_leadsToCount_0 8 rfl rfl)
theorem dX0_leadsToCount_9 : decode cX0_leadsToCount 9 = .ok (.goto 6, 3) := dk_167 0 6 (dk_at dksX0_leadsToCount_0 9 rfl rfl)
theorem dX0_leadsToCount_12 : decode cX0_leadsToCount 12 = .ok (.astore_n 3, 1) := dk_78 (dk_at dksX0_leadsToCount_0 12 rfl rfl)
theorem dX0_leadsToCount_13 : decode cX0_leadsToCount 13 = .ok (.iconst 1, 1) := dk_4 (dk_at dksX0_leadsToCount_0 13 rfl rfl)
theorem dX0_leadsToCount_14 : decode cX0_leadsToCount 14 = .ok (.ireturn, 1) := dk_172 (dk_at dksX0_leadsToCount_0 14 rfl rfl)
theorem dX0_leadsToCount_15 : decode cX0_leadsToCount 15 = .ok (.iconst 0, 1) := dk_3 (dk_at dksX0_leadsToCount_0 15 rfl rfl)
theorem dX0_leadsToCount_16 : decode cX0_leadsToCount 16 = .ok (.ireturn, 1) := dk_172 (dk_at dksX0_leadsToCount_0 16 rfl rfl)
abbrev cX0_leadsToByTable : ByteArray := method_16_code
def yX0_leadsToByTable : MethodName := ⟨RX0, "leadsToByTable", "(LClockworkTailor;C[J)I"⟩
def dkwX0_leadsToByTable_0 : List UInt8 := [44, 3, 42, 27, 182, 0, 66, 133, 80, 167, 0, 6, 78, 4, 172, 3, 172]
abbrev dktX0_leadsToByTable_0 : List UInt8 := dkwX0_leadsToByTable_0 ++ []
theorem dksX0_leadsToByTable_0 : cX0_leadsToByTable.data.toList.drop 0 = dktX0_leadsToByTable_0 := by decide +kernel
theorem dX0_leadsToByTable_0 : decode cX0_leadsToByTable 0 = .ok (.aload_n 2, 1) := dk_44 (dk_at dksX0_leadsToByTable_0 0 rfl rfl)
theorem dX0_leadsToByTable_1 : decode cX0_leadsToByTable 1 = .ok (.iconst 0, 1) := dk_3 (dk_at dksX0_leadsToByTable_0 1 rfl rfl)
theorem dX0_leadsToByTable_2 : decode cX0_leadsToByTable 2 = .ok (.aload_n 0, 1) := dk_42 (dk_at dksX0_leadsToByTable_0 2 rfl rfl)
theorem dX0_leadsToByTable_3 : decode cX0_leadsToByTable 3 = .ok (.iload_n 1, 1) := dk_27 (dk_at dksX0_leadsToByTable_0 3 rfl rfl)
theorem dX0_leadsToByTable_4 : decode cX0_leadsToByTable 4 = .ok (.invokevirtual 66, 3) := dk_182 0 66 (dk_at dksX0_leadsToByTable_0 4 rfl rfl)
theorem dX0_leadsToByTable_7 : decode cX0_leadsToByTable 7 = .ok (.i2l, 1) := dk_133 (dk_at dksX0_leadsToByTable_0 7 rfl rfl)
theorem dX0_leadsToByTable_8 : decode cX0_leadsToByTable 8 = .ok (.lastore, 1) := dk_80 (dk_at dksX0_leadsToByTable_0 8 rfl rfl)
theorem dX0_leadsToByTable_9 : decode cX0_leadsToByTable 9 = .ok (.goto 6, 3) := dk_167 0 6 (dk_at dksX0_leadsToByTable_0 9 rfl rfl)
theorem dX0_leadsToByTable_12 : decode cX0_leadsToByTable 12 = .ok (.astore_n 3, 1) := dk_78 (dk_at dksX0_leadsToByTable_0 12 rfl rfl)
theorem dX0_leadsToByTable_13 : decode cX0_leadsToByTable 13 = .ok (.iconst 1, 1) := dk_4 (dk_at dksX0_leadsToByTable_0 13 rfl rfl)
theorem dX0_leadsToByTable_14 : decode cX0_leadsToByTable 14 = .ok (.ireturn, 1) := dk_172 (dk_at dksX0_leadsToByTable_0 14 rfl rfl)
theorem dX0_leadsToByTable_15 : decode cX0_leadsToByTable 15 = .ok (.iconst 0, 1) := dk_3 (dk_at dksX0_leadsToByTable_0 15 rfl rfl)
theorem dX0_leadsToByTable_16 : decode cX0_leadsToByTable 16 = .ok (.ireturn, 1) := dk_172 (dk_at dksX0_leadsToByTable_0 16 rfl rfl)
abbrev cX0_longestWay : ByteArray := method_17_code
def yX0_longestWay : MethodName := ⟨RX0, "longestWay", "(LClockworkTailor;C[J)I"⟩
def dkwX0_longestWay_0 : List UInt8 := [44, 3, 42, 27, 182, 0, 69, 133, 80, 167, 0, 9, 78, 4, 172, 78, 5, 172, 3, 172]
abbrev dktX0_longestWay_0 : List UInt8 := dkwX0_longestWay_0 ++ []
theorem dksX0_longestWay_0 : cX0_longestWay.data.toList.drop 0 = dktX0_longestWay_0 := by decide +kernel
theorem dX0_longestWay_0 : decode cX0_longestWay 0 = .ok (.aload_n 2, 1) := dk_44 (dk_at dksX0_longestWay_0 0 rfl rfl)
theorem dX0_longestWay_1 : decode cX0_longestWay 1 = .ok (.iconst 0, 1) := dk_3 (dk_at dksX0_longestWay_0 1 rfl rfl)
theorem dX0_longestWay_2 : decode cX0_longestWay 2 = .ok (.aload_n 0, 1) := dk_42 (dk_at dksX0_longestWay_0 2 rfl rfl)
theorem dX0_longestWay_3 : decode cX0_longestWay 3 = .ok (.iload_n 1, 1) := dk_27 (dk_at dksX0_longestWay_0 3 rfl rfl)
theorem dX0_longestWay_4 : decode cX0_longestWay 4 = .ok (.invokevirtual 69, 3) := dk_182 0 69 (dk_at dksX0_longestWay_0 4 rfl rfl)
theorem dX0_longestWay_7 : decode cX0_longestWay 7 = .ok (.i2l, 1) := dk_133 (dk_at dksX0_longestWay_0 7 rfl rfl)
theorem dX0_longestWay_8 : decode cX0_longestWay 8 = .ok (.lastore, 1) := dk_80 (dk_at dksX0_longestWay_0 8 rfl rfl)
theorem dX0_longestWay_9 : decode cX0_longestWay 9 = .ok (.goto 9, 3) := dk_167 0 9 (dk_at dksX0_longestWay_0 9 rfl rfl)
theorem dX0_longestWay_12 : decode cX0_longestWay 12 = .ok (.astore_n 3, 1) := dk_78 (dk_at dksX0_longestWay_0 12 rfl rfl)
theorem dX0_longestWay_13 : decode cX0_longestWay 13 = .ok (.iconst 1, 1) := dk_4 (dk_at dksX0_longestWay_0 13 rfl rfl)
theorem dX0_longestWay_14 : decode cX0_longestWay 14 = .ok (.ireturn, 1) := dk_172 (dk_at dksX0_longestWay_0 14 rfl rfl)
theorem dX0_longestWay_15 : decode cX0_longestWay 15 = .ok (.astore_n 3, 1) := dk_78 (dk_at dksX0_longestWay_0 15 rfl rfl)
theorem dX0_longestWay_16 : decode cX0_longestWay 16 = .ok (.iconst 2, 1) := dk_5 (dk_at dksX0_longestWay_0 16 rfl rfl)
theorem dX0_longestWay_17 : decode cX0_longestWay 17 = .ok (.ireturn, 1) := dk_172 (dk_at dksX0_longestWay_0 17 rfl rfl)
theorem dX0_longestWay_18 : decode cX0_longestWay 18 = .ok (.iconst 0, 1) := dk_3 (dk_at dksX0_longestWay_0 18 rfl rfl)
theorem dX0_longestWay_19 : decode cX0_longestWay 19 = .ok (.ireturn, 1) := dk_172 (dk_at dksX0_longestWay_0 19 rfl rfl)
abbrev cX0_longestByRounds : ByteArray := method_18_code
def yX0_longestByRounds : MethodName := ⟨RX0, "longestByRounds", "(LClockworkTailor;C[J)I"⟩
def dkwX0_longestByRounds_0 : List UInt8 := [44, 3, 42, 27, 182, 0, 72, 133, 80, 167, 0, 9, 78, 4, 172, 78, 5, 172, 3, 172]
abbrev dktX0_longestByRounds_0 : List UInt8 := dkwX0_longestByRounds_0 ++ []
theorem dksX0_longestByRounds_0 : cX0_longestByRounds.data.toList.drop 0 = dktX0_longestByRounds_0 := by decide +kernel
theorem dX0_longestByRounds_0 : decode cX0_longestByRounds 0 = .ok (.aload_n 2, 1) := dk_44 (dk_at dksX0_longestByRounds_0 0 rfl rfl)
theorem dX0_longestByRounds_1 : decode cX0_longestByRounds 1 = .ok (.iconst 0, 1) := dk_3 (dk_at dksX0_longestByRounds_0 1 rfl rfl)
theorem dX0_longestByRounds_2 : decode cX0_longestByRounds 2 = .ok (.aload_n 0, 1) := dk_42 (dk_at dksX0_longestByRounds_0 2 rfl rfl)
theorem dX0_longestByRounds_3 : decode cX0_longestByRounds 3 = .ok (.iload_n 1, 1) := dk_27 (dk_at dksX0_longestByRounds_0 3 rfl rfl)
theorem dX0_longestByRounds_4 : decode cX0_longestByRounds 4 = .ok (.invokevirtual 72, 3) := dk_182 0 72 (dk_at dksX0_longestByRounds_0 4 rfl rfl)
theorem dX0_longestByRounds_7 : decode cX0_longestByRounds 7 = .ok (.i2l, 1) := dk_133 (dk_at dksX0_longestByRounds_0 7 rfl rfl)
theorem dX0_longestByRounds_8 : decode cX0_longestByRounds 8 = .ok (.lastore, 1) := dk_80 (dk_at dksX0_longestByRounds_0 8 rfl rfl)
theorem dX0_longestByRounds_9 : decode cX0_longestByRounds 9 = .ok (.goto 9, 3) := dk_167 0 9 (dk_at dksX0_longestByRounds_0 9 rfl rfl)
theorem dX0_longestByRounds_12 : decode cX0_longestByRounds 12 = .ok (.astore_n 3, 1) := dk_78 (dk_at dksX0_longestByRounds_0 12 rfl rfl)
theorem dX0_longestByRounds_13 : decode cX0_longestByRounds 13 = .ok (.iconst 1, 1) := dk_4 (dk_at dksX0_longestByRounds_0 13 rfl rfl)
theorem dX0_longestByRounds_14 : decode cX0_longestByRounds 14 = .ok (.ireturn, 1) := dk_172 (dk_at dksX0_longestByRounds_0 14 rfl rfl)
theorem dX0_longestByRounds_15 : decode cX0_longestByRounds 15 = .ok (.astore_n 3, 1) := dk_78 (dk_at dksX0_longestByRounds_0 15 rfl rfl)
theorem dX0_longestByRounds_16 : decode cX0_longestByRounds 16 = .ok (.iconst 2, 1) := dk_5 (dk_at dksX0_longestByRounds_0 16 rfl rfl)
theorem dX0_longestByRounds_17 : decode cX0_longestByRounds 17 = .ok (.ireturn, 1) := dk_172 (dk_at dksX0_longestByRounds_0 17 rfl rfl)
theorem dX0_longestByRounds_18 : decode cX0_longestByRounds 18 = .ok (.iconst 0, 1) := dk_3 (dk_at dksX0_longestByRounds_0 18 rfl rfl)
theorem dX0_longestByRounds_19 : decode cX0_longestByRounds 19 = .ok (.ireturn, 1) := dk_172 (dk_at dksX0_longestByRounds_0 19 rfl rfl)
abbrev cX0_openThread : ByteArray := method_19_code
def yX0_openThread : MethodName := ⟨RX0, "openThread", "(LClockworkTailor;[J)I"⟩
def dkwX0_openThread_0 : List UInt8 := [43, 3, 42, 182, 0, 75, 133, 80, 167, 0, 6, 77, 4, 172, 3, 172]
abbrev dktX0_openThread_0 : List UInt8 := dkwX0_openThread_0 ++ []
theorem dksX0_openThread_0 : cX0_openThread.data.toList.drop 0 = dktX0_openThread_0 := by decide +kernel
theorem dX0_openThread_0 : decode cX0_openThread 0 = .ok (.aload_n 1, 1) := dk_43 (dk_at dksX0_openThread_0 0 rfl rfl)
theorem dX0_openThread_1 : decode cX0_openThread 1 = .ok (.iconst 0, 1) := dk_3 (dk_at dksX0_openThread_0 1 rfl rfl)
theorem dX0_openThread_2 : decode cX0_openThread 2 = .ok (.aload_n 0, 1) := dk_42 (dk_at dksX0_openThread_0 2 rfl rfl)
theorem dX0_openThread_3 : decode cX0_openThread 3 = .ok (.invokevirtual 75, 3) := dk_182 0 75 (dk_at dksX0_openThread_0 3 rfl rfl)
theorem dX0_openThread_6 : decode cX0_openThread 6 = .ok (.i2l, 1) := dk_133 (dk_at dksX0_openThread_0 6 rfl rfl)
theorem dX0_openThread_7 : decode cX0_openThread 7 = .ok (.lastore, 1) := dk_80 (dk_at dksX0_openThread_0 7 rfl rfl)
theorem dX0_openThread_8 : decode cX0_openThread 8 = .ok (.goto 6, 3) := dk_167 0 6 (dk_at dksX0_openThread_0 8 rfl rfl)
theorem dX0_openThread_11 : decode cX0_openThread 11 = .ok (.astore_n 2, 1) := dk_77 (dk_at dksX0_openThread_0 11 rfl rfl)
theorem dX0_openThread_12 : decode cX0_openThread 12 = .ok (.iconst 1, 1) := dk_4 (dk_at dksX0_openThread_0 12 rfl rfl)
theorem dX0_openThread_13 : decode cX0_openThread 13 = .ok (.ireturn, 1) := dk_172 (dk_at dksX0_openThread_0 13 rfl rfl)
theorem dX0_openThread_14 : decode cX0_openThread 14 = .ok (.iconst 0, 1) := dk_3 (dk_at dksX0_openThread_0 14 rfl rfl)
theorem dX0_openThread_15 : decode cX0_openThread 15 = .ok (.ireturn, 1) := dk_172 (dk_at dksX0_openThread_0 15 rfl rfl)
abbrev cX0_closeThread : ByteArray := method_20_code
def yX0_closeThread : MethodName := ⟨RX0, "closeThread", "(LClockworkTailor;I[J)I"⟩
def dkwX0_closeThread_0 : List UInt8 := [44, 3, 42, 27, 182, 0, 79, 133, 80, 167, 0, 6, 78, 4, 172, 3, 172]
abbrev dktX0_closeThread_0 : List UInt8 := dkwX0_closeThread_0 ++ []
theorem dksX0_closeThread_0 : cX0_closeThread.data.toList.drop 0 = dktX0_closeThread_0 := by decide +kernel
theorem dX0_closeThread_0 : decode cX0_closeThread 0 = .ok (.aload_n 2, 1) := dk_44 (dk_at dksX0_closeThread_0 0 rfl rfl)
theorem dX0_closeThread_1 : decode cX0_closeThread 1 = .ok (.iconst 0, 1) := dk_3 (dk_at dksX0_closeThread_0 1 rfl rfl)
theorem dX0_closeThread_2 : decode cX0_closeThread 2 = .ok (.aload_n 0, 1) := dk_42 (dk_at dksX0_closeThread_0 2 rfl rfl)
theorem dX0_closeThread_3 : decode cX0_closeThread 3 = .ok (.iload_n 1, 1) := dk_27 (dk_at dksX0_closeThread_0 3 rfl rfl)
theorem dX0_closeThread_4 : decode cX0_closeThread 4 = .ok (.invokevirtual 79, 3) := dk_182 0 79 (dk_at dksX0_closeThread_0 4 rfl rfl)
theorem dX0_closeThread_7 : decode cX0_closeThread 7 = .ok (.i2l, 1) := dk_133 (dk_at dksX0_closeThread_0 7 rfl rfl)
theorem dX0_closeThread_8 : decode cX0_closeThread 8 = .ok (.lastore, 1) := dk_80 (dk_at dksX0_closeThread_0 8 rfl rfl)
theorem dX0_closeThread_9 : decode cX0_closeThread 9 = .ok (.goto 6, 3) := dk_167 0 6 (dk_at dksX0_closeThread_0 9 rfl rfl)
theorem dX0_closeThread_12 : decode cX0_closeThread 12 = .ok (.astore_n 3, 1) := dk_78 (dk_at dksX0_closeThread_0 12 rfl rfl)
theorem dX0_closeThread_13 : decode cX0_closeThread 13 = .ok (.iconst 1, 1) := dk_4 (dk_at dksX0_closeThread_0 13 rfl rfl)
theorem dX0_closeThread_14 : decode cX0_closeThread 14 = .ok (.ireturn, 1) := dk_172 (dk_at dksX0_closeThread_0 14 rfl rfl)
theorem dX0_closeThread_15 : decode cX0_closeThread 15 = .ok (.iconst 0, 1) := dk_3 (dk_at dksX0_closeThread_0 15 rfl rfl)
theorem dX0_closeThread_16 : decode cX0_closeThread 16 = .ok (.ireturn, 1) := dk_172 (dk_at dksX0_closeThread_0 16 rfl rfl)
abbrev cX0_isOpen : ByteArray := method_21_code
def yX0_isOpen : MethodName := ⟨RX0, "isOpen", "(LClockworkTailor;I[J)I"⟩
def dkwX0_isOpen_0 : List UInt8 := [44, 3, 42, 27, 182, 0, 83, 153, 0, 7, 10, 167, 0, 4, 9, 80, 167, 0, 6, 78, 4, 172, 3, 172]
abbrev dktX0_isOpen_0 : List UInt8 := dkwX0_isOpen_0 ++ []
theorem dksX0_isOpen_0 : cX0_isOpen.data.toList.drop 0 = dktX0_isOpen_0 := by decide +kernel
theorem dX0_isOpen_0 : decode cX0_isOpen 0 = .ok (.aload_n 2, 1) := dk_44 (dk_at dksX0_isOpen_0 0 rfl rfl)
theorem dX0_isOpen_1 : decode cX0_isOpen 1 = .ok (.iconst 0, 1) := dk_3 (dk_at dksX0_isOpen_0 1 rfl rfl)
theorem dX0_isOpen_2 : decode cX0_isOpen 2 = .ok (.aload_n 0, 1) := dk_42 (dk_at dksX0_isOpen_0 2 rfl rfl)
theorem dX0_isOpen_3 : decode cX0_isOpen 3 = .ok (.iload_n 1, 1) := dk_27 (dk_at dksX0_isOpen_0 3 rfl rfl)
theorem dX0_isOpen_4 : decode cX0_isOpen 4 = .ok (.invokevirtual 83, 3) := dk_182 0 83 (dk_at dksX0_isOpen_0 4 rfl rfl)
theorem dX0_isOpen_7 : decode cX0_isOpen 7 = .ok (.ifCond .eq 7, 3) := dk_153 0 7 (dk_at dksX0_isOpen_0 7 rfl rfl)
theorem dX0_isOpen_10 : decode cX0_isOpen 10 = .ok (.lconst 1, 1) := dk_10 (dk_at dksX0_isOpen_0 10 rfl rfl)
theorem dX0_isOpen_11 : decode cX0_isOpen 11 = .ok (.goto 4, 3) := dk_167 0 4 (dk_at dksX0_isOpen_0 11 rfl rfl)
theorem dX0_isOpen_14 : decode cX0_isOpen 14 = .ok (.lconst 0, 1) := dk_9 (dk_at dksX0_isOpen_0 14 rfl rfl)
theorem dX0_isOpen_15 : decode cX0_isOpen 15 = .ok (.lastore, 1) := dk_80 (dk_at dksX0_isOpen_0 15 rfl rfl)
theorem dX0_isOpen_16 : decode cX0_isOpen 16 = .ok (.goto 6, 3) := dk_167 0 6 (dk_at dksX0_isOpen_0 16 rfl rfl)
theorem dX0_isOpen_19 : decode cX0_isOpen 19 = .ok (.astore_n 3, 1) := dk_78 (dk_at dksX0_isOpen_0 19 rfl rfl)
theorem dX0_isOpen_20 : decode cX0_isOpen 20 = .ok (.iconst 1, 1) := dk_4 (dk_at dksX0_isOpen_0 20 rfl rfl)
theorem dX0_isOpen_21 : decode cX0_isOpen 21 = .ok (.ireturn, 1) := dk_172 (dk_at dksX0_isOpen_0 21 rfl rfl)
theorem dX0_isOpen_22 : decode cX0_isOpen 22 = .ok (.iconst 0, 1) := dk_3 (dk_at dksX0_isOpen_0 22 rfl rfl)
theorem dX0_isOpen_23 : decode cX0_isOpen 23 = .ok (.ireturn, 1) := dk_172 (dk_at dksX0_isOpen_0 23 rfl rfl)
abbrev cX0_make : ByteArray := method_22_code
def yX0_make : MethodName := ⟨RX0, "make", "(LClockworkTailor;CI[J)I"⟩
def dkwX0_make_1 : List UInt8 := [172, 3, 172]
abbrev dktX0_make_1 : List UInt8 := dkwX0_make_1 ++ []
def dkwX0_make_0 : List UInt8 := [45, 3, 42, 27, 28, 182, 0, 87, 133, 80, 167, 0, 15, 58, 4, 4, 172, 58, 4, 5, 172, 58, 4, 6]
abbrev dktX0_make_0 : List UInt8 := dkwX0_make_0 ++ dktX0_make_1
theorem dksX0_make_0 : cX0_make.data.toList.drop 0 = dktX0_make_0 := by decide +kernel
theorem dksX0_make_1 : cX0_make.data.toList.drop 24 = dktX0_make_1 := dk_seg dksX0_make_0 24 rfl rfl
theorem dX0_make_0 : decode cX0_make 0 = .ok (.aload_n 3, 1) := dk_45 (dk_at dksX0_make_0 0 rfl rfl)
theorem dX0_make_1 : decode cX0_make 1 = .ok (.iconst 0, 1) := dk_3 (dk_at dksX0_make_0 1 rfl rfl)
theorem dX0_make_2 : decode cX0_make 2 = .ok (.aload_n 0, 1) := dk_42 (dk_at dksX0_make_0 2 rfl rfl)
theorem dX0_make_3 : decode cX0_make 3 = .ok (.iload_n 1, 1) := dk_27 (dk_at dksX0_make_0 3 rfl rfl)
theorem dX0_make_4 : decode cX0_make 4 = .ok (.iload_n 2, 1) := dk_28 (dk_at dksX0_make_0 4 rfl rfl)
theorem dX0_make_5 : decode cX0_make 5 = .ok (.invokevirtual 87, 3) := dk_182 0 87 (dk_at dksX0_make_0 5 rfl rfl)
theorem dX0_make_8 : decode cX0_make 8 = .ok (.i2l, 1) := dk_133 (dk_at dksX0_make_0 8 rfl rfl)
theorem dX0_make_9 : decode cX0_make 9 = .ok (.lastore, 1) := dk_80 (dk_at dksX0_make_0 9 rfl rfl)
theorem dX0_make_10 : decode cX0_make 10 = .ok (.goto 15, 3) := dk_167 0 15 (dk_at dksX0_make_0 10 rfl rfl)
theorem dX0_make_13 : decode cX0_make 13 = .ok (.astore 4, 2) := dk_58 4 (dk_at dksX0_make_0 13 rfl rfl)
theorem dX0_make_15 : decode cX0_make 15 = .ok (.iconst 1, 1) := dk_4 (dk_at dksX0_make_0 15 rfl rfl)
theorem dX0_make_16 : decode cX0_make 16 = .ok (.ireturn, 1) := dk_172 (dk_at dksX0_make_0 16 rfl rfl)
theorem dX0_make_17 : decode cX0_make 17 = .ok (.astore 4, 2) := dk_58 4 (dk_at dksX0_make_0 17 rfl rfl)
theorem dX0_make_19 : decode cX0_make 19 = .ok (.iconst 2, 1) := dk_5 (dk_at dksX0_make_0 19 rfl rfl)
theorem dX0_make_20 : decode cX0_make 20 = .ok (.ireturn, 1) := dk_172 (dk_at dksX0_make_0 20 rfl rfl)
theorem dX0_make_21 : decode cX0_make 21 = .ok (.astore 4, 2) := dk_58 4 (dk_at dksX0_make_0 21 rfl rfl)
theorem dX0_make_23 : decode cX0_make 23 = .ok (.iconst 3, 1) := dk_6 (dk_at dksX0_make_0 23 rfl rfl)
theorem dX0_make_24 : decode cX0_make 24 = .ok (.ireturn, 1) := dk_172 (dk_at dksX0_make_1 0 rfl rfl)
theorem dX0_make_25 : decode cX0_make 25 = .ok (.iconst 0, 1) := dk_3 (dk_at dksX0_make_1 1 rfl rfl)
theorem dX0_make_26 : decode cX0_make 26 = .ok (.ireturn, 1) := dk_172 (dk_at dksX0_make_1 2 rfl rfl)
abbrev cX0_touch : ByteArray := method_23_code
def yX0_touch : MethodName := ⟨RX0, "touch", "(LClockworkTailor;III[J)I"⟩
def dkwX0_touch_1 : List UInt8 := [172]
abbrev dktX0_touch_1 : List UInt8 := dkwX0_touch_1 ++ []
def dkwX0_touch_0 : List UInt8 := [25, 4, 3, 42, 27, 28, 29, 182, 0, 91, 133, 80, 167, 0, 11, 58, 5, 4, 172, 58, 5, 5, 172, 3]
abbrev dktX0_touch_0 : List UInt8 := dkwX0_touch_0 ++ dktX0_touch_1
theorem dksX0_touch_0 : cX0_touch.data.toList.drop 0 = dktX0_touch_0 := by decide +kernel
theorem dksX0_touch_1 : cX0_touch.data.toList.drop 24 = dktX0_touch_1 := dk_seg dksX0_touch_0 24 rfl rfl
theorem dX0_touch_0 : decode cX0_touch 0 = .ok (.aload 4, 2) := dk_25 4 (dk_at dksX0_touch_0 0 rfl rfl)
theorem dX0_touch_2 : decode cX0_touch 2 = .ok (.iconst 0, 1) := dk_3 (dk_at dksX0_touch_0 2 rfl rfl)
theorem dX0_touch_3 : decode cX0_touch 3 = .ok (.aload_n 0, 1) := dk_42 (dk_at dksX0_touch_0 3 rfl rfl)
theorem dX0_touch_4 : decode cX0_touch 4 = .ok (.iload_n 1, 1) := dk_27 (dk_at dksX0_touch_0 4 rfl rfl)
theorem dX0_touch_5 : decode cX0_touch 5 = .ok (.iload_n 2, 1) := dk_28 (dk_at dksX0_touch_0 5 rfl rfl)
theorem dX0_touch_6 : decode cX0_touch 6 = .ok (.iload_n 3, 1) := dk_29 (dk_at dksX0_touch_0 6 rfl rfl)
theorem dX0_touch_7 : decode cX0_touch 7 = .ok (.invokevirtual 91, 3) := dk_182 0 91 (dk_at dksX0_touch_0 7 rfl rfl)
theorem dX0_touch_10 : decode cX0_touch 10 = .ok (.i2l, 1) := dk_133 (dk_at dksX0_touch_0 10 rfl rfl)
theorem dX0_touch_11 : decode cX0_touch 11 = .ok (.lastore, 1) := dk_80 (dk_at dksX0_touch_0 11 rfl rfl)
theorem dX0_touch_12 : decode cX0_touch 12 = .ok (.goto 11, 3) := dk_167 0 11 (dk_at dksX0_touch_0 12 rfl rfl)
theorem dX0_touch_15 : decode cX0_touch 15 = .ok (.astore 5, 2) := dk_58 5 (dk_at dksX0_touch_0 15 rfl rfl)
theorem dX0_touch_17 : decode cX0_touch 17 = .ok (.iconst 1, 1) := dk_4 (dk_at dksX0_touch_0 17 rfl rfl)
theorem dX0_touch_18 : decode cX0_touch 18 = .ok (.ireturn, 1) := dk_172 (dk_at dksX0_touch_0 18 rfl rfl)
theorem dX0_touch_19 : decode cX0_touch 19 = .ok (.astore 5, 2) := dk_58 5 (dk_at dksX0_touch_0 19 rfl rfl)
theorem dX0_touch_21 : decode cX0_touch 21 = .ok (.iconst 2, 1) := dk_5 (dk_at dksX0_touch_0 21 rfl rfl)
theorem dX0_touch_22 : decode cX0_touch 22 = .ok (.ireturn, 1) := dk_172 (dk_at dksX0_touch_0 22 rfl rfl)
theorem dX0_touch_23 : decode cX0_touch 23 = .ok (.iconst 0, 1) := dk_3 (dk_at dksX0_touch_0 23 rfl rfl)
theorem dX0_touch_24 : decode cX0_touch 24 = .ok (.ireturn, 1) := dk_172 (dk_at dksX0_touch_1 0 rfl rfl)
abbrev cX0_wouldMake : ByteArray := method_24_code
def yX0_wouldMake : MethodName := ⟨RX0, "wouldMake", "(LClockworkTailor;CI[J)I"⟩
def dkwX0_wouldMake_1 : List UInt8 := [172, 3, 172]
abbrev dktX0_wouldMake_1 : List UInt8 := dkwX0_wouldMake_1 ++ []
def dkwX0_wouldMake_0 : List UInt8 := [45, 3, 42, 27, 28, 182, 0, 95, 133, 80, 167, 0, 15, 58, 4, 4, 172, 58, 4, 5, 172, 58, 4, 6]
abbrev dktX0_wouldMake_0 : List UInt8 := dkwX0_wouldMake_0 ++ dktX0_wouldMake_1
theorem dksX0_wouldMake_0 : cX0_wouldMake.data.toList.drop 0 = dktX0_wouldMake_0 := by decide +kernel
theorem dksX0_wouldMake_1 : cX0_wouldMake.data.toList.drop 24 = dktX0_wouldMake_1 := dk_seg dksX0_wouldMake_0 24 rfl rfl
theorem dX0_wouldMake_0 : decode cX0_wouldMake 0 = .ok (.aload_n 3, 1) := dk_45 (dk_at dksX0_wouldMake_0 0 rfl rfl)
theorem dX0_wouldMake_1 : decode cX0_wouldMake 1 = .ok (.iconst 0, 1) := dk_3 (dk_at dksX0_wouldMake_0 1 rfl rfl)
theorem dX0_wouldMake_2 : decode cX0_wouldMake 2 = .ok (.aload_n 0, 1) := dk_42 (dk_at dksX0_wouldMake_0 2 rfl rfl)
theorem dX0_wouldMake_3 : decode cX0_wouldMake 3 = .ok (.iload_n 1, 1) := dk_27 (dk_at dksX0_wouldMake_0 3 rfl rfl)
theorem dX0_wouldMake_4 : decode cX0_wouldMake 4 = .ok (.iload_n 2, 1) := dk_28 (dk_at dksX0_wouldMake_0 4 rfl rfl)
theorem dX0_wouldMake_5 : decode cX0_wouldMake 5 = .ok (.invokevirtual 95, 3) := dk_182 0 95 (dk_at dksX0_wouldMake_0 5 rfl rfl)
theorem dX0_wouldMake_8 : decode cX0_wouldMake 8 = .ok (.i2l, 1) := dk_133 (dk_at dksX0_wouldMake_0 8 rfl rfl)
theorem dX0_wouldMake_9 : decode cX0_wouldMake 9 = .ok (.lastore, 1) := dk_80 (dk_at dksX0_wouldMake_0 9 rfl rfl)
theorem dX0_wouldMake_10 : decode cX0_wouldMake 10 = .ok (.goto 15, 3) := dk_167 0 15 (dk_at dksX0_wouldMake_0 10 rfl rfl)
theorem dX0_wouldMake_13 : decode cX0_wouldMake 13 = .ok (.astore 4, 2) := dk_58 4 (dk_at dksX0_wouldMake_0 13 rfl rfl)
theorem dX0_wouldMake_15 : decode cX0_wouldMake 15 = .ok (.iconst 1, 1) := dk_4 (dk_at dksX0_wouldMake_0 15 rfl rfl)
theorem dX0_wouldMake_16 : decode cX0_wouldMake 16 = .ok (.ireturn, 1) := dk_172 (dk_at dksX0_wouldMake_0 16 rfl rfl)
theorem dX0_wouldMake_17 : decode cX0_wouldMake 17 = .ok (.astore 4, 2) := dk_58 4 (dk_at dksX0_wouldMake_0 17 rfl rfl)
theorem dX0_wouldMake_19 : decode cX0_wouldMake 19 = .ok (.iconst 2, 1) := dk_5 (dk_at dksX0_wouldMake_0 19 rfl rfl)
theorem dX0_wouldMake_20 : decode cX0_wouldMake 20 = .ok (.ireturn, 1) := dk_172 (dk_at dksX0_wouldMake_0 20 rfl rfl)
theorem dX0_wouldMake_21 : decode cX0_wouldMake 21 = .ok (.astore 4, 2) := dk_58 4 (dk_at dksX0_wouldMake_0 21 rfl rfl)
theorem dX0_wouldMake_23 : decode cX0_wouldMake 23 = .ok (.iconst 3, 1) := dk_6 (dk_at dksX0_wouldMake_0 23 rfl rfl)
theorem dX0_wouldMake_24 : decode cX0_wouldMake 24 = .ok (.ireturn, 1) := dk_172 (dk_at dksX0_wouldMake_1 0 rfl rfl)
theorem dX0_wouldMake_25 : decode cX0_wouldMake 25 = .ok (.iconst 0, 1) := dk_3 (dk_at dksX0_wouldMake_1 1 rfl rfl)
theorem dX0_wouldMake_26 : decode cX0_wouldMake 26 = .ok (.ireturn, 1) := dk_172 (dk_at dksX0_wouldMake_1 2 rfl rfl)
abbrev cX0_wouldMakeByCounting : ByteArray := method_25_code
def yX0_wouldMakeByCounting : MethodName := ⟨RX0, "wouldMakeByCounting", "(LClockworkTailor;CI[J)I"⟩
def dkwX0_wouldMakeByCounting_1 : List UInt8 := [172, 3, 172]
abbrev dktX0_wouldMakeByCounting_1 : List UInt8 := dkwX0_wouldMakeByCounting_1 ++ []
def dkwX0_wouldMakeByCounting_0 : List UInt8 := [45, 3, 42, 27, 28, 182, 0, 98, 133, 80, 167, 0, 15, 58, 4, 4, 172, 58, 4, 5, 172, 58, 4, 6]
abbrev dktX0_wouldMakeByCounting_0 : List UInt8 := dkwX0_wouldMakeByCounting_0 ++ dktX0_wouldMakeByCounting_1
theorem dksX0_wouldMakeByCounting_0 : cX0_wouldMakeByCounting.data.toList.drop 0 = dktX0_wouldMakeByCounting_0 := by decide +kernel
theorem dksX0_wouldMakeByCounting_1 : cX0_wouldMakeByCounting.data.toList.drop 24 = dktX0_wouldMakeByCounting_1 := dk_seg dksX0_wouldMakeByCounting_0 24 rfl rfl
theorem dX0_wouldMakeByCounting_0 : decode cX0_wouldMakeByCounting 0 = .ok (.aload_n 3, 1) := dk_45 (dk_at dksX0_wouldMakeByCounting_0 0 rfl rfl)
theorem dX0_wouldMakeByCounting_1 : decode cX0_wouldMakeByCounting 1 = .ok (.iconst 0, 1) := dk_3 (dk_at dksX0_wouldMakeByCounting_0 1 rfl rfl)
theorem dX0_wouldMakeByCounting_2 : decode cX0_wouldMakeByCounting 2 = .ok (.aload_n 0, 1) := dk_42 (dk_at dksX0_wouldMakeByCounting_0 2 rfl rfl)
theorem dX0_wouldMakeByCounting_3 : decode cX0_wouldMakeByCounting 3 = .ok (.iload_n 1, 1) := dk_27 (dk_at dksX0_wouldMakeByCounting_0 3 rfl rfl)
theorem dX0_wouldMakeByCounting_4 : decode cX0_wouldMakeByCounting 4 = .ok (.iload_n 2, 1) := dk_28 (dk_at dksX0_wouldMakeByCounting_0 4 rfl rfl)
theorem dX0_wouldMakeByCounting_5 : decode cX0_wouldMakeByCounting 5 = .ok (.invokevirtual 98, 3) := dk_182 0 98 (dk_at dksX0_wouldMakeByCounting_0 5 rfl rfl)
theorem dX0_wouldMakeByCounting_8 : decode cX0_wouldMakeByCounting 8 = .ok (.i2l, 1) := dk_133 (dk_at dksX0_wouldMakeByCounting_0 8 rfl rfl)
theorem dX0_wouldMakeByCounting_9 : decode cX0_wouldMakeByCounting 9 = .ok (.lastore, 1) := dk_80 (dk_at dksX0_wouldMakeByCounting_0 9 rfl rfl)
theorem dX0_wouldMakeByCounting_10 : decode cX0_wouldMakeByCounting 10 = .ok (.goto 15, 3) := dk_167 0 15 (dk_at dksX0_wouldMakeByCounting_0 10 rfl rfl)
theorem dX0_wouldMakeByCounting_13 : decode cX0_wouldMakeByCounting 13 = .ok (.astore 4, 2) := dk_58 4 (dk_at dksX0_wouldMakeByCounting_0 13 rfl rfl)
theorem dX0_wouldMakeByCounting_15 : decode cX0_wouldMakeByCounting 15 = .ok (.iconst 1, 1) := dk_4 (dk_at dksX0_wouldMakeByCounting_0 15 rfl rfl)
theorem dX0_wouldMakeByCounting_16 : decode cX0_wouldMakeByCounting 16 = .ok (.ireturn, 1) := dk_172 (dk_at dksX0_wouldMakeByCounting_0 16 rfl rfl)
theorem dX0_wouldMakeByCounting_17 : decode cX0_wouldMakeByCounting 17 = .ok (.astore 4, 2) := dk_58 4 (dk_at dksX0_wouldMakeByCounting_0 17 rfl rfl)
theorem dX0_wouldMakeByCounting_19 : decode cX0_wouldMakeByCounting 19 = .ok (.iconst 2, 1) := dk_5 (dk_at dksX0_wouldMakeByCounting_0 19 rfl rfl)
theorem dX0_wouldMakeByCounting_20 : decode cX0_wouldMakeByCounting 20 = .ok (.ireturn, 1) := dk_172 (dk_at dksX0_wouldMakeByCounting_0 20 rfl rfl)
theorem dX0_wouldMakeByCounting_21 : decode cX0_wouldMakeByCounting 21 = .ok (.astore 4, 2) := dk_58 4 (dk_at dksX0_wouldMakeByCounting_0 21 rfl rfl)
theorem dX0_wouldMakeByCounting_23 : decode cX0_wouldMakeByCounting 23 = .ok (.iconst 3, 1) := dk_6 (dk_at dksX0_wouldMakeByCounting_0 23 rfl rfl)
theorem dX0_wouldMakeByCounting_24 : decode cX0_wouldMakeByCounting 24 = .ok (.ireturn, 1) := dk_172 (dk_at dksX0_wouldMakeByCounting_1 0 rfl rfl)
theorem dX0_wouldMakeByCounting_25 : decode cX0_wouldMakeByCounting 25 = .ok (.iconst 0, 1) := dk_3 (dk_at dksX0_wouldMakeByCounting_1 1 rfl rfl)
theorem dX0_wouldMakeByCounting_26 : decode cX0_wouldMakeByCounting 26 = .ok (.ireturn, 1) := dk_172 (dk_at dksX0_wouldMakeByCounting_1 2 rfl rfl)
abbrev cX0_isThere : ByteArray := method_26_code
def yX0_isThere : MethodName := ⟨RX0, "isThere", "(LClockworkTailor;I[J)I"⟩
def dkwX0_isThere_0 : List UInt8 := [44, 3, 42, 27, 182, 0, 101, 153, 0, 7, 10, 167, 0, 4, 9, 80, 167, 0, 6, 78, 4, 172, 3, 172]
abbrev dktX0_isThere_0 : List UInt8 := dkwX0_isThere_0 ++ []
theorem dksX0_isThere_0 : cX0_isThere.data.toList.drop 0 = dktX0_isThere_0 := by decide +kernel
theorem dX0_isThere_0 : decode cX0_isThere 0 = .ok (.aload_n 2, 1) := dk_44 (dk_at dksX0_isThere_0 0 rfl rfl)
theorem dX0_isThere_1 : decode cX0_isThere 1 = .ok (.iconst 0, 1) := dk_3 (dk_at dksX0_isThere_0 1 rfl rfl)
theorem dX0_isThere_2 : decode cX0_isThere 2 = .ok (.aload_n 0, 1) := dk_42 (dk_at dksX0_isThere_0 2 rfl rfl)
theorem dX0_isThere_3 : decode cX0_isThere 3 = .ok (.iload_n 1, 1) := dk_27 (dk_at dksX0_isThere_0 3 rfl rfl)
theorem dX0_isThere_4 : decode cX0_isThere 4 = .ok (.invokevirtual 101, 3) := dk_182 0 101 (dk_at dksX0_isThere_0 4 rfl rfl)
theorem dX0_isThere_7 : decode cX0_isThere 7 = .ok (.ifCond .eq 7, 3) := dk_153 0 7 (dk_at dksX0_isThere_0 7 rfl rfl)
theorem dX0_isThere_10 : decode cX0_isThere 10 = .ok (.lconst 1, 1) := dk_10 (dk_at dksX0_isThere_0 10 rfl rfl)
theorem dX0_isThere_11 : decode cX0_isThere 11 = .ok (.goto 4, 3) := dk_167 0 4 (dk_at dksX0_isThere_0 11 rfl rfl)
theorem dX0_isThere_14 : decode cX0_isThere 14 = .ok (.lconst 0, 1) := dk_9 (dk_at dksX0_isThere_0 14 rfl rfl)
theorem dX0_isThere_15 : decode cX0_isThere 15 = .ok (.lastore, 1) := dk_80 (dk_at dksX0_isThere_0 15 rfl rfl)
theorem dX0_isThere_16 : decode cX0_isThere 16 = .ok (.goto 6, 3) := dk_167 0 6 (dk_at dksX0_isThere_0 16 rfl rfl)
theorem dX0_isThere_19 : decode cX0_isThere 19 = .ok (.astore_n 3, 1) := dk_78 (dk_at dksX0_isThere_0 19 rfl rfl)
theorem dX0_isThere_20 : decode cX0_isThere 20 = .ok (.iconst 1, 1) := dk_4 (dk_at dksX0_isThere_0 20 rfl rfl)
theorem dX0_isThere_21 : decode cX0_isThere 21 = .ok (.ireturn, 1) := dk_172 (dk_at dksX0_isThere_0 21 rfl rfl)
theorem dX0_isThere_22 : decode cX0_isThere 22 = .ok (.iconst 0, 1) := dk_3 (dk_at dksX0_isThere_0 22 rfl rfl)
theorem dX0_isThere_23 : decode cX0_isThere 23 = .ok (.ireturn, 1) := dk_172 (dk_at dksX0_isThere_0 23 rfl rfl)
abbrev cX0_toolOf : ByteArray := method_27_code
def yX0_toolOf : MethodName := ⟨RX0, "toolOf", "(LClockworkTailor;I[J)I"⟩
def dkwX0_toolOf_0 : List UInt8 := [44, 3, 42, 27, 182, 0, 104, 133, 80, 167, 0, 6, 78, 4, 172, 3, 172]
abbrev dktX0_toolOf_0 : List UInt8 := dkwX0_toolOf_0 ++ []
theorem dksX0_toolOf_0 : cX0_toolOf.data.toList.drop 0 = dktX0_toolOf_0 := by decide +kernel
theorem dX0_toolOf_0 : decode cX0_toolOf 0 = .ok (.aload_n 2, 1) := dk_44 (dk_at dksX0_toolOf_0 0 rfl rfl)
theorem dX0_toolOf_1 : decode cX0_toolOf 1 = .ok (.iconst 0, 1) := dk_3 (dk_at dksX0_toolOf_0 1 rfl rfl)
theorem dX0_toolOf_2 : decode cX0_toolOf 2 = .ok (.aload_n 0, 1) := dk_42 (dk_at dksX0_toolOf_0 2 rfl rfl)
theorem dX0_toolOf_3 : decode cX0_toolOf 3 = .ok (.iload_n 1, 1) := dk_27 (dk_at dksX0_toolOf_0 3 rfl rfl)
theorem dX0_toolOf_4 : decode cX0_toolOf 4 = .ok (.invokevirtual 104, 3) := dk_182 0 104 (dk_at dksX0_toolOf_0 4 rfl rfl)
theorem dX0_toolOf_7 : decode cX0_toolOf 7 = .ok (.i2l, 1) := dk_133 (dk_at dksX0_toolOf_0 7 rfl rfl)
theorem dX0_toolOf_8 : decode cX0_toolOf 8 = .ok (.lastore, 1) := dk_80 (dk_at dksX0_toolOf_0 8 rfl rfl)
theorem dX0_toolOf_9 : decode cX0_toolOf 9 = .ok (.goto 6, 3) := dk_167 0 6 (dk_at dksX0_toolOf_0 9 rfl rfl)
theorem dX0_toolOf_12 : decode cX0_toolOf 12 = .ok (.astore_n 3, 1) := dk_78 (dk_at dksX0_toolOf_0 12 rfl rfl)
theorem dX0_toolOf_13 : decode cX0_toolOf 13 = .ok (.iconst 1, 1) := dk_4 (dk_at dksX0_toolOf_0 13 rfl rfl)
theorem dX0_toolOf_14 : decode cX0_toolOf 14 = .ok (.ireturn, 1) := dk_172 (dk_at dksX0_toolOf_0 14 rfl rfl)
theorem dX0_toolOf_15 : decode cX0_toolOf 15 = .ok (.iconst 0, 1) := dk_3 (dk_at dksX0_toolOf_0 15 rfl rfl)
theorem dX0_toolOf_16 : decode cX0_toolOf 16 = .ok (.ireturn, 1) := dk_172 (dk_at dksX0_toolOf_0 16 rfl rfl)
abbrev cX0_threadOf : ByteArray := method_28_code
def yX0_threadOf : MethodName := ⟨RX0, "threadOf", "(LClockworkTailor;I[J)I"⟩
def dkwX0_threadOf_0 : List UInt8 := [44, 3, 42, 27, 182, 0, 108, 133, 80, 167, 0, 6, 78, 4, 172, 3, 172]
abbrev dktX0_threadOf_0 : List UInt8 := dkwX0_threadOf_0 ++ []
theorem dksX0_threadOf_0 : cX0_threadOf.data.toList.drop 0 = dktX0_threadOf_0 := by decide +kernel
theorem dX0_threadOf_0 : decode cX0_threadOf 0 = .ok (.aload_n 2, 1) := dk_44 (dk_at dksX0_threadOf_0 0 rfl rfl)
theorem dX0_threadOf_1 : decode cX0_threadOf 1 = .ok (.iconst 0, 1) := dk_3 (dk_at dksX0_threadOf_0 1 rfl rfl)
theorem dX0_threadOf_2 : decode cX0_threadOf 2 = .ok (.aload_n 0, 1) := dk_42 (dk_at dksX0_threadOf_0 2 rfl rfl)
theorem dX0_threadOf_3 : decode cX0_threadOf 3 = .ok (.iload_n 1, 1) := dk_27 (dk_at dksX0_threadOf_0 3 rfl rfl)
theorem dX0_threadOf_4 : decode cX0_threadOf 4 = .ok (.invokevirtual 108, 3) := dk_182 0 108 (dk_at dksX0_threadOf_0 4 rfl rfl)
theorem dX0_threadOf_7 : decode cX0_threadOf 7 = .ok (.i2l, 1) := dk_133 (dk_at dksX0_threadOf_0 7 rfl rfl)
theorem dX0_threadOf_8 : decode cX0_threadOf 8 = .ok (.lastore, 1) := dk_80 (dk_at dksX0_threadOf_0 8 rfl rfl)
theorem dX0_threadOf_9 : decode cX0_threadOf 9 = .ok (.goto 6, 3) := dk_167 0 6 (dk_at dksX0_threadOf_0 9 rfl rfl)
theorem dX0_threadOf_12 : decode cX0_threadOf 12 = .ok (.astore_n 3, 1) := dk_78 (dk_at dksX0_threadOf_0 12 rfl rfl)
theorem dX0_threadOf_13 : decode cX0_threadOf 13 = .ok (.iconst 1, 1) := dk_4 (dk_at dksX0_threadOf_0 13 rfl rfl)
theorem dX0_threadOf_14 : decode cX0_threadOf 14 = .ok (.ireturn, 1) := dk_172 (dk_at dksX0_threadOf_0 14 rfl rfl)
theorem dX0_threadOf_15 : decode cX0_threadOf 15 = .ok (.iconst 0, 1) := dk_3 (dk_at dksX0_threadOf_0 15 rfl rfl)
theorem dX0_threadOf_16 : decode cX0_threadOf 16 = .ok (.ireturn, 1) := dk_172 (dk_at dksX0_threadOf_0 16 rfl rfl)
abbrev cX0_filledBy : ByteArray := method_29_code
def yX0_filledBy : MethodName := ⟨RX0, "filledBy", "(LClockworkTailor;II[J)I"⟩
def dkwX0_filledBy_0 : List UInt8 := [45, 3, 42, 27, 28, 182, 0, 111, 133, 80, 167, 0, 11, 58, 4, 4, 172, 58, 4, 5, 172, 3, 172]
abbrev dktX0_filledBy_0 : List UInt8 := dkwX0_filledBy_0 ++ []
theorem dksX0_filledBy_0 : cX0_filledBy.data.toList.drop 0 = dktX0_filledBy_0 := by decide +kernel
theorem dX0_filledBy_0 : decode cX0_filledBy 0 = .ok (.aload_n 3, 1) := dk_45 (dk_at dksX0_filledBy_0 0 rfl rfl)
theorem dX0_filledBy_1 : decode cX0_filledBy 1 = .ok (.iconst 0, 1) := dk_3 (dk_at dksX0_filledBy_0 1 rfl rfl)
theorem dX0_filledBy_2 : decode cX0_filledBy 2 = .ok (.aload_n 0, 1) := dk_42 (dk_at dksX0_filledBy_0 2 rfl rfl)
theorem dX0_filledBy_3 : decode cX0_filledBy 3 = .ok (.iload_n 1, 1) := dk_27 (dk_at dksX0_filledBy_0 3 rfl rfl)
theorem dX0_filledBy_4 : decode cX0_filledBy 4 = .ok (.iload_n 2, 1) := dk_28 (dk_at dksX0_filledBy_0 4 rfl rfl)
theorem dX0_filledBy_5 : decode cX0_filledBy 5 = .ok (.invokevirtual 111, 3) := dk_182 0 111 (dk_at dksX0_filledBy_0 5 rfl rfl)
theorem dX0_filledBy_8 : decode cX0_filledBy 8 = .ok (.i2l, 1) := dk_133 (dk_at dksX0_filledBy_0 8 rfl rfl)
theorem dX0_filledBy_9 : decode cX0_filledBy 9 = .ok (.lastore, 1) := dk_80 (dk_at dksX0_filledBy_0 9 rfl rfl)
theorem dX0_filledBy_10 : decode cX0_filledBy 10 = .ok (.goto 11, 3) := dk_167 0 11 (dk_at dksX0_filledBy_0 10 rfl rfl)
theorem dX0_filledBy_13 : decode cX0_filledBy 13 = .ok (.astore 4, 2) := dk_58 4 (dk_at dksX0_filledBy_0 13 rfl rfl)
theorem dX0_filledBy_15 : decode cX0_filledBy 15 = .ok (.iconst 1, 1) := dk_4 (dk_at dksX0_filledBy_0 15 rfl rfl)
theorem dX0_filledBy_16 : decode cX0_filledBy 16 = .ok (.ireturn, 1) := dk_172 (dk_at dksX0_filledBy_0 16 rfl rfl)
theorem dX0_filledBy_17 : decode cX0_filledBy 17 = .ok (.astore 4, 2) := dk_58 4 (dk_at dksX0_filledBy_0 17 rfl rfl)
theorem dX0_filledBy_19 : decode cX0_filledBy 19 = .ok (.iconst 2, 1) := dk_5 (dk_at dksX0_filledBy_0 19 rfl rfl)
theorem dX0_filledBy_20 : decode cX0_filledBy 20 = .ok (.ireturn, 1) := dk_172 (dk_at dksX0_filledBy_0 20 rfl rfl)
theorem dX0_filledBy_21 : decode cX0_filledBy 21 = .ok (.iconst 0, 1) := dk_3 (dk_at dksX0_filledBy_0 21 rfl rfl)
theorem dX0_filledBy_22 : decode cX0_filledBy 22 = .ok (.ireturn, 1) := dk_172 (dk_at dksX0_filledBy_0 22 rfl rfl)
abbrev cX0_meanMinutes : ByteArray := method_30_code
def yX0_meanMinutes : MethodName := ⟨RX0, "meanMinutes", "(LClockworkTailor;[D)I"⟩
def dkwX0_meanMinutes_0 : List UInt8 := [43, 3, 42, 182, 0, 115, 82, 167, 0, 6, 77, 4, 172, 3, 172]
abbrev dktX0_meanMinutes_0 : List UInt8 := dkwX0_meanMinutes_0 ++ []
theorem dksX0_meanMinutes_0 : cX0_meanMinutes.data.toList.drop 0 = dktX0_meanMinutes_0 := by decide +kernel
theorem dX0_meanMinutes_0 : decode cX0_meanMinutes 0 = .ok (.aload_n 1, 1) := dk_43 (dk_at dksX0_meanMinutes_0 0 rfl rfl)
theorem dX0_meanMinutes_1 : decode cX0_meanMinutes 1 = .ok (.iconst 0, 1) := dk_3 (dk_at dksX0_meanMinutes_0 1 rfl rfl)
theorem dX0_meanMinutes_2 : decode cX0_meanMinutes 2 = .ok (.aload_n 0, 1) := dk_42 (dk_at dksX0_meanMinutes_0 2 rfl rfl)
theorem dX0_meanMinutes_3 : decode cX0_meanMinutes 3 = .ok (.invokevirtual 115, 3) := dk_182 0 115 (dk_at dksX0_meanMinutes_0 3 rfl rfl)
theorem dX0_meanMinutes_6 : decode cX0_meanMinutes 6 = .ok (.dastore, 1) := dk_82 (dk_at dksX0_meanMinutes_0 6 rfl rfl)
theorem dX0_meanMinutes_7 : decode cX0_meanMinutes 7 = .ok (.goto 6, 3) := dk_167 0 6 (dk_at dksX0_meanMinutes_0 7 rfl rfl)
theorem dX0_meanMinutes_10 : decode cX0_meanMinutes 10 = .ok (.astore_n 2, 1) := dk_77 (dk_at dksX0_meanMinutes_0 10 rfl rfl)
theorem dX0_meanMinutes_11 : decode cX0_meanMinutes 11 = .ok (.iconst 1, 1) := dk_4 (dk_at dksX0_meanMinutes_0 11 rfl rfl)
theorem dX0_meanMinutes_12 : decode cX0_meanMinutes 12 = .ok (.ireturn, 1) := dk_172 (dk_at dksX0_meanMinutes_0 12 rfl rfl)
theorem dX0_meanMinutes_13 : decode cX0_meanMinutes 13 = .ok (.iconst 0, 1) := dk_3 (dk_at dksX0_meanMinutes_0 13 rfl rfl)
theorem dX0_meanMinutes_14 : decode cX0_meanMinutes 14 = .ok (.ireturn, 1) := dk_172 (dk_at dksX0_meanMinutes_0 14 rfl rfl)
abbrev cX0_reuseShare : ByteArray := method_31_code
def yX0_reuseShare : MethodName := ⟨RX0, "reuseShare", "(LClockworkTailor;[D)I"⟩
def dkwX0_reuseShare_0 : List UInt8 := [43, 3, 42, 182, 0, 121, 141, 82, 167, 0, 6, 77, 4, 172, 3, 172]
abbrev dktX0_reuseShare_0 : List UInt8 := dkwX0_reuseShare_0 ++ []
theorem dksX0_reuseShare_0 : cX0_reuseShare.data.toList.drop 0 = dktX0_reuseShare_0 := by decide +kernel
theorem dX0_reuseShare_0 : decode cX0_reuseShare 0 = .ok (.aload_n 1, 1) := dk_43 (dk_at dksX0_reuseShare_0 0 rfl rfl)
theorem dX0_reuseShare_1 : decode cX0_reuseShare 1 = .ok (.iconst 0, 1) := dk_3 (dk_at dksX0_reuseShare_0 1 rfl rfl)
theorem dX0_reuseShare_2 : decode cX0_reuseShare 2 = .ok (.aload_n 0, 1) := dk_42 (dk_at dksX0_reuseShare_0 2 rfl rfl)
theorem dX0_reuseShare_3 : decode cX0_reuseShare 3 = .ok (.invokevirtual 121, 3) := dk_182 0 121 (dk_at dksX0_reuseShare_0 3 rfl rfl)
theorem dX0_reuseShare_6 : decode cX0_reuseShare 6 = .ok (.f2d, 1) := dk_141 (dk_at dksX0_reuseShare_0 6 rfl rfl)
theorem dX0_reuseShare_7 : decode cX0_reuseShare 7 = .ok (.dastore, 1) := dk_82 (dk_at dksX0_reuseShare_0 7 rfl rfl)
theorem dX0_reuseShare_8 : decode cX0_reuseShare 8 = .ok (.goto 6, 3) := dk_167 0 6 (dk_at dksX0_reuseShare_0 8 rfl rfl)
theorem dX0_reuseShare_11 : decode cX0_reuseShare 11 = .ok (.astore_n 2, 1) := dk_77 (dk_at dksX0_reuseShare_0 11 rfl rfl)
theorem dX0_reuseShare_12 : decode cX0_reuseShare 12 = .ok (.iconst 1, 1) := dk_4 (dk_at dksX0_reuseShare_0 12 rfl rfl)
theorem dX0_reuseShare_13 : decode cX0_reuseShare 13 = .ok (.ireturn, 1) := dk_172 (dk_at dksX0_reuseShare_0 13 rfl rfl)
theorem dX0_reuseShare_14 : decode cX0_reuseShare 14 = .ok (.iconst 0, 1) := dk_3 (dk_at dksX0_reuseShare_0 14 rfl rfl)
theorem dX0_reuseShare_15 : decode cX0_reuseShare 15 = .ok (.ireturn, 1) := dk_172 (dk_at dksX0_reuseShare_0 15 rfl rfl)
abbrev cX0_refusalReason : ByteArray := method_32_code
def yX0_refusalReason : MethodName := ⟨RX0, "refusalReason", "(LClockworkTailor;[J)I"⟩
def dkwX0_refusalReason_0 : List UInt8 := [43, 3, 42, 182, 0, 125, 133, 80, 167, 0, 6, 77, 4, 172, 3, 172]
abbrev dktX0_refusalReason_0 : List UInt8 := dkwX0_refusalReason_0 ++ []
theorem dksX0_refusalReason_0 : cX0_refusalReason.data.toList.drop 0 = dktX0_refusalReason_0 := by decide +kernel
theorem dX0_refusalReason_0 : decode cX0_refusalReason 0 = .ok (.aload_n 1, 1) := dk_43 (dk_at dksX0_refusalReason_0 0 rfl rfl)
theorem dX0_refusalReason_1 : decode cX0_refusalReason 1 = .ok (.iconst 0, 1) := dk_3 (dk_at dksX0_refusalReason_0 1 rfl rfl)
theorem dX0_refusalReason_2 : decode cX0_refusalReason 2 = .ok (.aload_n 0, 1) := dk_42 (dk_at dksX0_refusalReason_0 2 rfl rfl)
theorem dX0_refusalReason_3 : decode cX0_refusalReason 3 = .ok (.invokevirtual 125, 3) := dk_182 0 125 (dk_at dksX0_refusalReason_0 3 rfl rfl)
theorem dX0_refusalReason_6 : decode cX0_refusalReason 6 = .ok (.i2l, 1) := dk_133 (dk_at dksX0_refusalReason_0 6 rfl rfl)
theorem dX0_refusalReason_7 : decode cX0_refusalReason 7 = .ok (.lastore, 1) := dk_80 (dk_at dksX0_refusalReason_0 7 rfl rfl)
theorem dX0_refusalReason_8 : decode cX0_refusalReason 8 = .ok (.goto 6, 3) := dk_167 0 6 (dk_at dksX0_refusalReason_0 8 rfl rfl)
theorem dX0_refusalReason_11 : decode cX0_refusalReason 11 = .ok (.astore_n 2, 1) := dk_77 (dk_at dksX0_refusalReason_0 11 rfl rfl)
theorem dX0_refusalReason_12 : decode cX0_refusalReason 12 = .ok (.iconst 1, 1) := dk_4 (dk_at dksX0_refusalReason_0 12 rfl rfl)
theorem dX0_refusalReason_13 : decode cX0_refusalReason 13 = .ok (.ireturn, 1) := dk_172 (dk_at dksX0_refusalReason_0 13 rfl rfl)
theorem dX0_refusalReason_14 : decode cX0_refusalReason 14 = .ok (.iconst 0, 1) := dk_3 (dk_at dksX0_refusalReason_0 14 rfl rfl)
theorem dX0_refusalReason_15 : decode cX0_refusalReason 15 = .ok (.ireturn, 1) := dk_172 (dk_at dksX0_refusalReason_0 15 rfl rfl)
abbrev cX0_refusalDetail : ByteArray := method_33_code
def yX0_refusalDetail : MethodName := ⟨RX0, "refusalDetail", "(LClockworkTailor;[J)I"⟩
def dkwX0_refusalDetail_0 : List UInt8 := [43, 3, 42, 182, 0, 128, 133, 80, 167, 0, 6, 77, 4, 172, 3, 172]
abbrev dktX0_refusalDetail_0 : List UInt8 := dkwX0_refusalDetail_0 ++ []
theorem dksX0_refusalDetail_0 : cX0_refusalDetail.data.toList.drop 0 = dktX0_refusalDetail_0 := by decide +kernel
theorem dX0_refusalDetail_0 : decode cX0_refusalDetail 0 = .ok (.aload_n 1, 1) := dk_43 (dk_at dksX0_refusalDetail_0 0 rfl rfl)
theorem dX0_refusalDetail_1 : decode cX0_refusalDetail 1 = .ok (.iconst 0, 1) := dk_3 (dk_at dksX0_refusalDetail_0 1 rfl rfl)
theorem dX0_refusalDetail_2 : decode cX0_refusalDetail 2 = .ok (.aload_n 0, 1) := dk_42 (dk_at dksX0_refusalDetail_0 2 rfl rfl)
theorem dX0_refusalDetail_3 : decode cX0_refusalDetail 3 = .ok (.invokevirtual 128, 3) := dk_182 0 128 (dk_at dksX0_refusalDetail_0 3 rfl rfl)
theorem dX0_refusalDetail_6 : decode cX0_refusalDetail 6 = .ok (.i2l, 1) := dk_133 (dk_at dksX0_refusalDetail_0 6 rfl rfl)
theorem dX0_refusalDetail_7 : decode cX0_refusalDetail 7 = .ok (.lastore, 1) := dk_80 (dk_at dksX0_refusalDetail_0 7 rfl rfl)
theorem dX0_refusalDetail_8 : decode cX0_refusalDetail 8 = .ok (.goto 6, 3) := dk_167 0 6 (dk_at dksX0_refusalDetail_0 8 rfl rfl)
theorem dX0_refusalDetail_11 : decode cX0_refusalDetail 11 = .ok (.astore_n 2, 1) := dk_77 (dk_at dksX0_refusalDetail_0 11 rfl rfl)
theorem dX0_refusalDetail_12 : decode cX0_refusalDetail 12 = .ok (.iconst 1, 1) := dk_4 (dk_at dksX0_refusalDetail_0 12 rfl rfl)
theorem dX0_refusalDetail_13 : decode cX0_refusalDetail 13 = .ok (.ireturn, 1) := dk_172 (dk_at dksX0_refusalDetail_0 13 rfl rfl)
theorem dX0_refusalDetail_14 : decode cX0_refusalDetail 14 = .ok (.iconst 0, 1) := dk_3 (dk_at dksX0_refusalDetail_0 14 rfl rfl)
theorem dX0_refusalDetail_15 : decode cX0_refusalDetail 15 = .ok (.ireturn, 1) := dk_172 (dk_at dksX0_refusalDetail_0 15 rfl rfl)
abbrev cX0_refusalCause : ByteArray := method_34_code
def yX0_refusalCause : MethodName := ⟨RX0, "refusalCause", "(LClockworkTailor;[J)I"⟩
def dkwX0_refusalCause_0 : List UInt8 := [43, 3, 42, 182, 0, 131, 133, 80, 167, 0, 6, 77, 4, 172, 3, 172]
abbrev dktX0_refusalCause_0 : List UInt8 := dkwX0_refusalCause_0 ++ []
theorem dksX0_refusalCause_0 : cX0_refusalCause.data.toList.drop 0 = dktX0_refusalCause_0 := by decide +kernel
theorem dX0_refusalCause_0 : decode cX0_refusalCause 0 = .ok (.aload_n 1, 1) := dk_43 (dk_at dksX0_refusalCause_0 0 rfl rfl)
theorem dX0_refusalCause_1 : decode cX0_refusalCause 1 = .ok (.iconst 0, 1) := dk_3 (dk_at dksX0_refusalCause_0 1 rfl rfl)
theorem dX0_refusalCause_2 : decode cX0_refusalCause 2 = .ok (.aload_n 0, 1) := dk_42 (dk_at dksX0_refusalCause_0 2 rfl rfl)
theorem dX0_refusalCause_3 : decode cX0_refusalCause 3 = .ok (.invokevirtual 131, 3) := dk_182 0 131 (dk_at dksX0_refusalCause_0 3 rfl rfl)
theorem dX0_refusalCause_6 : decode cX0_refusalCause 6 = .ok (.i2l, 1) := dk_133 (dk_at dksX0_refusalCause_0 6 rfl rfl)
theorem dX0_refusalCause_7 : decode cX0_refusalCause 7 = .ok (.lastore, 1) := dk_80 (dk_at dksX0_refusalCause_0 7 rfl rfl)
theorem dX0_refusalCause_8 : decode cX0_refusalCause 8 = .ok (.goto 6, 3) := dk_167 0 6 (dk_at dksX0_refusalCause_0 8 rfl rfl)
theorem dX0_refusalCause_11 : decode cX0_refusalCause 11 = .ok (.astore_n 2, 1) := dk_77 (dk_at dksX0_refusalCause_0 11 rfl rfl)
theorem dX0_refusalCause_12 : decode cX0_refusalCause 12 = .ok (.iconst 1, 1) := dk_4 (dk_at dksX0_refusalCause_0 12 rfl rfl)
theorem dX0_refusalCause_13 : decode cX0_refusalCause 13 = .ok (.ireturn, 1) := dk_172 (dk_at dksX0_refusalCause_0 13 rfl rfl)
theorem dX0_refusalCause_14 : decode cX0_refusalCause 14 = .ok (.iconst 0, 1) := dk_3 (dk_at dksX0_refusalCause_0 14 rfl rfl)
theorem dX0_refusalCause_15 : decode cX0_refusalCause 15 = .ok (.ireturn, 1) := dk_172 (dk_at dksX0_refusalCause_0 15 rfl rfl)
abbrev cX0_writeRecipe : ByteArray := method_35_code
def yX0_writeRecipe : MethodName := ⟨RX0, "writeRecipe", "(LClockworkTailor;C[J)I"⟩
def dkwX0_writeRecipe_0 : List UInt8 := [44, 3, 42, 27, 182, 0, 134, 133, 80, 167, 0, 9, 78, 4, 172, 78, 5, 172, 3, 172]
abbrev dktX0_writeRecipe_0 : List UInt8 := dkwX0_writeRecipe_0 ++ []
theorem dksX0_writeRecipe_0 : cX0_writeRecipe.data.toList.drop 0 = dktX0_writeRecipe_0 := by decide +kernel
theorem dX0_writeRecipe_0 : decode cX0_writeRecipe 0 = .ok (.aload_n 2, 1) := dk_44 (dk_at dksX0_writeRecipe_0 0 rfl rfl)
theorem dX0_writeRecipe_1 : decode cX0_writeRecipe 1 = .ok (.iconst 0, 1) := dk_3 (dk_at dksX0_writeRecipe_0 1 rfl rfl)
theorem dX0_writeRecipe_2 : decode cX0_writeRecipe 2 = .ok (.aload_n 0, 1) := dk_42 (dk_at dksX0_writeRecipe_0 2 rfl rfl)
theorem dX0_writeRecipe_3 : decode cX0_writeRecipe 3 = .ok (.iload_n 1, 1) := dk_27 (dk_at dksX0_writeRecipe_0 3 rfl rfl)
theorem dX0_writeRecipe_4 : decode cX0_writeRecipe 4 = .ok (.invokevirtual 134, 3) := dk_182 0 134 (dk_at dksX0_writeRecipe_0 4 rfl rfl)
theorem dX0_writeRecipe_7 : decode cX0_writeRecipe 7 = .ok (.i2l, 1) := dk_133 (dk_at dksX0_writeRecipe_0 7 rfl rfl)
theorem dX0_writeRecipe_8 : decode cX0_writeRecipe 8 = .ok (.lastore, 1) := dk_80 (dk_at dksX0_writeRecipe_0 8 rfl rfl)
theorem dX0_writeRecipe_9 : decode cX0_writeRecipe 9 = .ok (.goto 9, 3) := dk_167 0 9 (dk_at dksX0_writeRecipe_0 9 rfl rfl)
theorem dX0_writeRecipe_12 : decode cX0_writeRecipe 12 = .ok (.astore_n 3, 1) := dk_78 (dk_at dksX0_writeRecipe_0 12 rfl rfl)
theorem dX0_writeRecipe_13 : decode cX0_writeRecipe 13 = .ok (.iconst 1, 1) := dk_4 (dk_at dksX0_writeRecipe_0 13 rfl rfl)
theorem dX0_writeRecipe_14 : decode cX0_writeRecipe 14 = .ok (.ireturn, 1) := dk_172 (dk_at dksX0_writeRecipe_0 14 rfl rfl)
theorem dX0_writeRecipe_15 : decode cX0_writeRecipe 15 = .ok (.astore_n 3, 1) := dk_78 (dk_at dksX0_writeRecipe_0 15 rfl rfl)
theorem dX0_writeRecipe_16 : decode cX0_writeRecipe 16 = .ok (.iconst 2, 1) := dk_5 (dk_at dksX0_writeRecipe_0 16 rfl rfl)
theorem dX0_writeRecipe_17 : decode cX0_writeRecipe 17 = .ok (.ireturn, 1) := dk_172 (dk_at dksX0_writeRecipe_0 17 rfl rfl)
theorem dX0_writeRecipe_18 : decode cX0_writeRecipe 18 = .ok (.iconst 0, 1) := dk_3 (dk_at dksX0_writeRecipe_0 18 rfl rfl)
theorem dX0_writeRecipe_19 : decode cX0_writeRecipe 19 = .ok (.ireturn, 1) := dk_172 (dk_at dksX0_writeRecipe_0 19 rfl rfl)
abbrev cX0_writeObject : ByteArray := method_36_code
def yX0_writeObject : MethodName := ⟨RX0, "writeObject", "(LClockworkTailor;I[J)I"⟩
def dkwX0_writeObject_0 : List UInt8 := [44, 3, 42, 27, 182, 0, 137, 133, 80, 167, 0, 6, 78, 4, 172, 3, 172]
abbrev dktX0_writeObject_0 : List UInt8 := dkwX0_writeObject_0 ++ []
theorem dksX0_writeObject_0 : cX0_writeObject.data.toList.drop 0 = dktX0_writeObject_0 := by decide +kernel
theorem dX0_writeObject_0 : decode cX0_writeObject 0 = .ok (.aload_n 2, 1) := dk_44 (dk_at dksX0_writeObject_0 0 rfl rfl)
theorem dX0_writeObject_1 : decode cX0_writeObject 1 = .ok (.iconst 0, 1) := dk_3 (dk_at dksX0_writeObject_0 1 rfl rfl)
theorem dX0_writeObject_2 : decode cX0_writeObject 2 = .ok (.aload_n 0, 1) := dk_42 (dk_at dksX0_writeObject_0 2 rfl rfl)
theorem dX0_writeObject_3 : decode cX0_writeObject 3 = .ok (.iload_n 1, 1) := dk_27 (dk_at dksX0_writeObject_0 3 rfl rfl)
theorem dX0_writeObject_4 : decode cX0_writeObject 4 = .ok (.invokevirtual 137, 3) := dk_182 0 137 (dk_at dksX0_writeObject_0 4 rfl rfl)
theorem dX0_writeObject_7 : decode cX0_writeObject 7 = .ok (.i2l, 1) := dk_133 (dk_at dksX0_writeObject_0 7 rfl rfl)
theorem dX0_writeObject_8 : decode cX0_writeObject 8 = .ok (.lastore, 1) := dk_80 (dk_at dksX0_writeObject_0 8 rfl rfl)
theorem dX0_writeObject_9 : decode cX0_writeObject 9 = .ok (.goto 6, 3) := dk_167 0 6 (dk_at dksX0_writeObject_0 9 rfl rfl)
theorem dX0_writeObject_12 : decode cX0_writeObject 12 = .ok (.astore_n 3, 1) := dk_78 (dk_at dksX0_writeObject_0 12 rfl rfl)
theorem dX0_writeObject_13 : decode cX0_writeObject 13 = .ok (.iconst 1, 1) := dk_4 (dk_at dksX0_writeObject_0 13 rfl rfl)
theorem dX0_writeObject_14 : decode cX0_writeObject 14 = .ok (.ireturn, 1) := dk_172 (dk_at dksX0_writeObject_0 14 rfl rfl)
theorem dX0_writeObject_15 : decode cX0_writeObject 15 = .ok (.iconst 0, 1) := dk_3 (dk_at dksX0_writeObject_0 15 rfl rfl)
theorem dX0_writeObject_16 : decode cX0_writeObject 16 = .ok (.ireturn, 1) := dk_172 (dk_at dksX0_writeObject_0 16 rfl rfl)
abbrev cX0_lineAt : ByteArray := method_37_code
def yX0_lineAt : MethodName := ⟨RX0, "lineAt", "(LClockworkTailor;I[J)I"⟩
def dkwX0_lineAt_0 : List UInt8 := [44, 3, 42, 27, 182, 0, 140, 133, 80, 167, 0, 6, 78, 4, 172, 3, 172]
abbrev dktX0_lineAt_0 : List UInt8 := dkwX0_lineAt_0 ++ []
theorem dksX0_lineAt_0 : cX0_lineAt.data.toList.drop 0 = dktX0_lineAt_0 := by decide +kernel
theorem dX0_lineAt_0 : decode cX0_lineAt 0 = .ok (.aload_n 2, 1) := dk_44 (dk_at dksX0_lineAt_0 0 rfl rfl)
theorem dX0_lineAt_1 : decode cX0_lineAt 1 = .ok (.iconst 0, 1) := dk_3 (dk_at dksX0_lineAt_0 1 rfl rfl)
theorem dX0_lineAt_2 : decode cX0_lineAt 2 = .ok (.aload_n 0, 1) := dk_42 (dk_at dksX0_lineAt_0 2 rfl rfl)
theorem dX0_lineAt_3 : decode cX0_lineAt 3 = .ok (.iload_n 1, 1) := dk_27 (dk_at dksX0_lineAt_0 3 rfl rfl)
theorem dX0_lineAt_4 : decode cX0_lineAt 4 = .ok (.invokevirtual 140, 3) := dk_182 0 140 (dk_at dksX0_lineAt_0 4 rfl rfl)
theorem dX0_lineAt_7 : decode cX0_lineAt 7 = .ok (.i2l, 1) := dk_133 (dk_at dksX0_lineAt_0 7 rfl rfl)
theorem dX0_lineAt_8 : decode cX0_lineAt 8 = .ok (.lastore, 1) := dk_80 (dk_at dksX0_lineAt_0 8 rfl rfl)
theorem dX0_lineAt_9 : decode cX0_lineAt 9 = .ok (.goto 6, 3) := dk_167 0 6 (dk_at dksX0_lineAt_0 9 rfl rfl)
theorem dX0_lineAt_12 : decode cX0_lineAt 12 = .ok (.astore_n 3, 1) := dk_78 (dk_at dksX0_lineAt_0 12 rfl rfl)
theorem dX0_lineAt_13 : decode cX0_lineAt 13 = .ok (.iconst 1, 1) := dk_4 (dk_at dksX0_lineAt_0 13 rfl rfl)
theorem dX0_lineAt_14 : decode cX0_lineAt 14 = .ok (.ireturn, 1) := dk_172 (dk_at dksX0_lineAt_0 14 rfl rfl)
theorem dX0_lineAt_15 : decode cX0_lineAt 15 = .ok (.iconst 0, 1) := dk_3 (dk_at dksX0_lineAt_0 15 rfl rfl)
theorem dX0_lineAt_16 : decode cX0_lineAt 16 = .ok (.ireturn, 1) := dk_172 (dk_at dksX0_lineAt_0 16 rfl rfl)
abbrev cX0_type : ByteArray := method_38_code
def yX0_type : MethodName := ⟨RX0, "type", "(LClockworkTailor;C[J)I"⟩
def dkwX0_type_0 : List UInt8 := [44, 3, 42, 27, 182, 0, 143, 133, 80, 167, 0, 9, 78, 4, 172, 78, 5, 172, 3, 172]
abbrev dktX0_type_0 : List UInt8 := dkwX0_type_0 ++ []
theorem dksX0_type_0 : cX0_type.data.toList.drop 0 = dktX0_type_0 := by decide +kernel
theorem dX0_type_0 : decode cX0_type 0 = .ok (.aload_n 2, 1) := dk_44 (dk_at dksX0_type_0 0 rfl rfl)
theorem dX0_type_1 : decode cX0_type 1 = .ok (.iconst 0, 1) := dk_3 (dk_at dksX0_type_0 1 rfl rfl)
theorem dX0_type_2 : decode cX0_type 2 = .ok (.aload_n 0, 1) := dk_42 (dk_at dksX0_type_0 2 rfl rfl)
theorem dX0_type_3 : decode cX0_type 3 = .ok (.iload_n 1, 1) := dk_27 (dk_at dksX0_type_0 3 rfl rfl)
theorem dX0_type_4 : decode cX0_type 4 = .ok (.invokevirtual 143, 3) := dk_182 0 143 (dk_at dksX0_type_0 4 rfl rfl)
theorem dX0_type_7 : decode cX0_type 7 = .ok (.i2l, 1) := dk_133 (dk_at dksX0_type_0 7 rfl rfl)
theorem dX0_type_8 : decode cX0_type 8 = .ok (.lastore, 1) := dk_80 (dk_at dksX0_type_0 8 rfl rfl)
theorem dX0_type_9 : decode cX0_type 9 = .ok (.goto 9, 3) := dk_167 0 9 (dk_at dksX0_type_0 9 rfl rfl)
theorem dX0_type_12 : decode cX0_type 12 = .ok (.astore_n 3, 1) := dk_78 (dk_at dksX0_type_0 12 rfl rfl)
theorem dX0_type_13 : decode cX0_type 13 = .ok (.iconst 1, 1) := dk_4 (dk_at dksX0_type_0 13 rfl rfl)
theorem dX0_type_14 : decode cX0_type 14 = .ok (.ireturn, 1) := dk_172 (dk_at dksX0_type_0 14 rfl rfl)
theorem dX0_type_15 : decode cX0_type 15 = .ok (.astore_n 3, 1) := dk_78 (dk_at dksX0_type_0 15 rfl rfl)
theorem dX0_type_16 : decode cX0_type 16 = .ok (.iconst 2, 1) := dk_5 (dk_at dksX0_type_0 16 rfl rfl)
theorem dX0_type_17 : decode cX0_type 17 = .ok (.ireturn, 1) := dk_172 (dk_at dksX0_type_0 17 rfl rfl)
theorem dX0_type_18 : decode cX0_type 18 = .ok (.iconst 0, 1) := dk_3 (dk_at dksX0_type_0 18 rfl rfl)
theorem dX0_type_19 : decode cX0_type 19 = .ok (.ireturn, 1) := dk_172 (dk_at dksX0_type_0 19 rfl rfl)
abbrev cX0_execute : ByteArray := method_39_code
def yX0_execute : MethodName := ⟨RX0, "execute", "(LClockworkTailor;[J)I"⟩
def dkwX0_execute_0 : List UInt8 := [43, 3, 42, 182, 0, 146, 133, 80, 167, 0, 9, 77, 4, 172, 77, 5, 172, 3, 172]
abbrev dktX0_execute_0 : List UInt8 := dkwX0_execute_0 ++ []
theorem dksX0_execute_0 : cX0_execute.data.toList.drop 0 = dktX0_execute_0 := by decide +kernel
theorem dX0_execute_0 : decode cX0_execute 0 = .ok (.aload_n 1, 1) := dk_43 (dk_at dksX0_execute_0 0 rfl rfl)
theorem dX0_execute_1 : decode cX0_execute 1 = .ok (.iconst 0, 1) := dk_3 (dk_at dksX0_execute_0 1 rfl rfl)
theorem dX0_execute_2 : decode cX0_execute 2 = .ok (.aload_n 0, 1) := dk_42 (dk_at dksX0_execute_0 2 rfl rfl)
theorem dX0_execute_3 : decode cX0_execute 3 = .ok (.invokevirtual 146, 3) := dk_182 0 146 (dk_at dksX0_execute_0 3 rfl rfl)
theorem dX0_execute_6 : decode cX0_execute 6 = .ok (.i2l, 1) := dk_133 (dk_at dksX0_execute_0 6 rfl rfl)
theorem dX0_execute_7 : decode cX0_execute 7 = .ok (.lastore, 1) := dk_80 (dk_at dksX0_execute_0 7 rfl rfl)
theorem dX0_execute_8 : decode cX0_execute 8 = .ok (.goto 9, 3) := dk_167 0 9 (dk_at dksX0_execute_0 8 rfl rfl)
theorem dX0_execute_11 : decode cX0_execute 11 = .ok (.astore_n 2, 1) := dk_77 (dk_at dksX0_execute_0 11 rfl rfl)
theorem dX0_execute_12 : decode cX0_execute 12 = .ok (.iconst 1, 1) := dk_4 (dk_at dksX0_execute_0 12 rfl rfl)
theorem dX0_execute_13 : decode cX0_execute 13 = .ok (.ireturn, 1) := dk_172 (dk_at dksX0_execute_0 13 rfl rfl)
theorem dX0_execute_14 : decode cX0_execute 14 = .ok (.astore_n 2, 1) := dk_77 (dk_at dksX0_execute_0 14 rfl rfl)
theorem dX0_execute_15 : decode cX0_execute 15 = .ok (.iconst 2, 1) := dk_5 (dk_at dksX0_execute_0 15 rfl rfl)
theorem dX0_execute_16 : decode cX0_execute 16 = .ok (.ireturn, 1) := dk_172 (dk_at dksX0_execute_0 16 rfl rfl)
theorem dX0_execute_17 : decode cX0_execute 17 = .ok (.iconst 0, 1) := dk_3 (dk_at dksX0_execute_0 17 rfl rfl)
theorem dX0_execute_18 : decode cX0_execute 18 = .ok (.ireturn, 1) := dk_172 (dk_at dksX0_execute_0 18 rfl rfl)
abbrev cX0_errorPosition : ByteArray := method_40_code
def yX0_errorPosition : MethodName := ⟨RX0, "errorPosition", "(LClockworkTailor;[J)I"⟩
def dkwX0_errorPosition_0 : List UInt8 := [43, 3, 42, 182, 0, 149, 133, 80, 167, 0, 6, 77, 4, 172, 3, 172]
abbrev dktX0_errorPosition_0 : List UInt8 := dkwX0_errorPosition_0 ++ []
theorem dksX0_errorPosition_0 : cX0_errorPosition.data.toList.drop 0 = dktX0_errorPosition_0 := by decide +kernel
theorem dX0_errorPosition_0 : decode cX0_errorPosition 0 = .ok (.aload_n 1, 1) := dk_43 (dk_at dksX0_errorPosition_0 0 rfl rfl)
theorem dX0_errorPosition_1 : decode cX0_errorPosition 1 = .ok (.iconst 0, 1) := dk_3 (dk_at dksX0_errorPosition_0 1 rfl rfl)
theorem dX0_errorPosition_2 : decode cX0_errorPosition 2 = .ok (.aload_n 0, 1) := dk_42 (dk_at dksX0_errorPosition_0 2 rfl rfl)
theorem dX0_errorPosition_3 : decode cX0_errorPosition 3 = .ok (.invokevirtual 149, 3) := dk_182 0 149 (dk_at dksX0_errorPosition_0 3 rfl rfl)
theorem dX0_errorPosition_6 : decode cX0_errorPosition 6 = .ok (.i2l, 1) := dk_133 (dk_at dksX0_errorPosition_0 6 rfl rfl)
theorem dX0_errorPosition_7 : decode cX0_errorPosition 7 = .ok (.lastore, 1) := dk_80 (dk_at dksX0_errorPosition_0 7 rfl rfl)
theorem dX0_errorPosition_8 : decode cX0_errorPosition 8 = .ok (.goto 6, 3) := dk_167 0 6 (dk_at dksX0_errorPosition_0 8 rfl rfl)
theorem dX0_errorPosition_11 : decode cX0_errorPosition 11 = .ok (.astore_n 2, 1) := dk_77 (dk_at dksX0_errorPosition_0 11 rfl rfl)
theorem dX0_errorPosition_12 : decode cX0_errorPosition 12 = .ok (.iconst 1, 1) := dk_4 (dk_at dksX0_errorPosition_0 12 rfl rfl)
theorem dX0_errorPosition_13 : decode cX0_errorPosition 13 = .ok (.ireturn, 1) := dk_172 (dk_at dksX0_errorPosition_0 13 rfl rfl)
theorem dX0_errorPosition_14 : decode cX0_errorPosition 14 = .ok (.iconst 0, 1) := dk_3 (dk_at dksX0_errorPosition_0 14 rfl rfl)
theorem dX0_errorPosition_15 : decode cX0_errorPosition 15 = .ok (.ireturn, 1) := dk_172 (dk_at dksX0_errorPosition_0 15 rfl rfl)
abbrev cX0_undo : ByteArray := method_41_code
def yX0_undo : MethodName := ⟨RX0, "undo", "(LClockworkTailor;[J)I"⟩
def dkwX0_undo_0 : List UInt8 := [43, 3, 42, 182, 0, 152, 133, 80, 167, 0, 6, 77, 4, 172, 3, 172]
abbrev dktX0_undo_0 : List UInt8 := dkwX0_undo_0 ++ []
theorem dksX0_undo_0 : cX0_undo.data.toList.drop 0 = dktX0_undo_0 := by decide +kernel
theorem dX0_undo_0 : decode cX0_undo 0 = .ok (.aload_n 1, 1) := dk_43 (dk_at dksX0_undo_0 0 rfl rfl)
theorem dX0_undo_1 : decode cX0_undo 1 = .ok (.iconst 0, 1) := dk_3 (dk_at dksX0_undo_0 1 rfl rfl)
theorem dX0_undo_2 : decode cX0_undo 2 = .ok (.aload_n 0, 1) := dk_42 (dk_at dksX0_undo_0 2 rfl rfl)
theorem dX0_undo_3 : decode cX0_undo 3 = .ok (.invokevirtual 152, 3) := dk_182 0 152 (dk_at dksX0_undo_0 3 rfl rfl)
theorem dX0_undo_6 : decode cX0_undo 6 = .ok (.i2l, 1) := dk_133 (dk_at dksX0_undo_0 6 rfl rfl)
theorem dX0_undo_7 : decode cX0_undo 7 = .ok (.lastore, 1) := dk_80 (dk_at dksX0_undo_0 7 rfl rfl)
theorem dX0_undo_8 : decode cX0_undo 8 = .ok (.goto 6, 3) := dk_167 0 6 (dk_at dksX0_undo_0 8 rfl rfl)
theorem dX0_undo_11 : decode cX0_undo 11 = .ok (.astore_n 2, 1) := dk_77 (dk_at dksX0_undo_0 11 rfl rfl)
theorem dX0_undo_12 : decode cX0_undo 12 = .ok (.iconst 1, 1) := dk_4 (dk_at dksX0_undo_0 12 rfl rfl)
theorem dX0_undo_13 : decode cX0_undo 13 = .ok (.ireturn, 1) := dk_172 (dk_at dksX0_undo_0 13 rfl rfl)
theorem dX0_undo_14 : decode cX0_undo 14 = .ok (.iconst 0, 1) := dk_3 (dk_at dksX0_undo_0 14 rfl rfl)
theorem dX0_undo_15 : decode cX0_undo 15 = .ok (.ireturn, 1) := dk_172 (dk_at dksX0_undo_0 15 rfl rfl)
abbrev cX0_restore : ByteArray := method_42_code
def yX0_restore : MethodName := ⟨RX0, "restore", "(LClockworkTailor;[J)I"⟩
def dkwX0_restore_0 : List UInt8 := [43, 3, 42, 182, 0, 155, 133, 80, 167, 0, 6, 77, 4, 172, 3, 172]
abbrev dktX0_restore_0 : List UInt8 := dkwX0_restore_0 ++ []
theorem dksX0_restore_0 : cX0_restore.data.toList.drop 0 = dktX0_restore_0 := by decide +kernel
theorem dX0_restore_0 : decode cX0_restore 0 = .ok (.aload_n 1, 1) := dk_43 (dk_at dksX0_restore_0 0 rfl rfl)
theorem dX0_restore_1 : decode cX0_restore 1 = .ok (.iconst 0, 1) := dk_3 (dk_at dksX0_restore_0 1 rfl rfl)
theorem dX0_restore_2 : decode cX0_restore 2 = .ok (.aload_n 0, 1) := dk_42 (dk_at dksX0_restore_0 2 rfl rfl)
theorem dX0_restore_3 : decode cX0_restore 3 = .ok (.invokevirtual 155, 3) := dk_182 0 155 (dk_at dksX0_restore_0 3 rfl rfl)
theorem dX0_restore_6 : decode cX0_restore 6 = .ok (.i2l, 1) := dk_133 (dk_at dksX0_restore_0 6 rfl rfl)
theorem dX0_restore_7 : decode cX0_restore 7 = .ok (.lastore, 1) := dk_80 (dk_at dksX0_restore_0 7 rfl rfl)
theorem dX0_restore_8 : decode cX0_restore 8 = .ok (.goto 6, 3) := dk_167 0 6 (dk_at dksX0_restore_0 8 rfl rfl)
theorem dX0_restore_11 : decode cX0_restore 11 = .ok (.astore_n 2, 1) := dk_77 (dk_at dksX0_restore_0 11 rfl rfl)
theorem dX0_restore_12 : decode cX0_restore 12 = .ok (.iconst 1, 1) := dk_4 (dk_at dksX0_restore_0 12 rfl rfl)
theorem dX0_restore_13 : decode cX0_restore 13 = .ok (.ireturn, 1) := dk_172 (dk_at dksX0_restore_0 13 rfl rfl)
theorem dX0_restore_14 : decode cX0_restore 14 = .ok (.iconst 0, 1) := dk_3 (dk_at dksX0_restore_0 14 rfl rfl)
theorem dX0_restore_15 : decode cX0_restore 15 = .ok (.ireturn, 1) := dk_172 (dk_at dksX0_restore_0 15 rfl rfl)
theorem q93 : (Jvm.Cond.initialized "ClockworkTailorLaw") ∈ lw_all := lw_g (lw_at lw_m1 0 rfl) rfl
theorem q132 : (Jvm.Cond.classLink "ClockworkTailorLaw" (8 : Nat) "ClockworkTailor") ∈ lw_all := lw_g (lw_at lw_m1 39 rfl) rfl
theorem q134 : (Jvm.Cond.methodLink "ClockworkTailorLaw" (158 : Nat) ({ cls := "ClockworkTailor", name := "<init>", desc := "()V" } : Jvm.MethodName)) ∈ lw_all := lw_g (lw_at lw_m1 41 rfl) rfl
theorem q506 : (Jvm.Cond.methodLink "ClockworkTailorLaw" (183 : Nat) ({ cls := "ClockworkTailor", name := "recipeCount", desc := "()I" } : Jvm.MethodName)) ∈ lw_all := lw_g (lw_at lw_m2 173 rfl) rfl
theorem q518 : (Jvm.Cond.methodLink "ClockworkTailorLaw" (218 : Nat) ({ cls := "ClockworkTailor", name := "inCircles", desc := "()I" } : Jvm.MethodName)) ∈ lw_all := lw_g (lw_at lw_m2 185 rfl) rfl
theorem q599 : (Jvm.Cond.methodLink "ClockworkTailorLaw" (222 : Nat) ({ cls := "ClockworkTailor", name := "inCirclesBySets", desc := "()I" } : Jvm.MethodName)) ∈ lw_all := lw_g (lw_at lw_m3 26 rfl) rfl
theorem q667 : (Jvm.Cond.methodLink "ClockworkTailorLaw" (232 : Nat) ({ cls := "ClockworkTailor", name := "captives", desc := "()I" } : Jvm.MethodName)) ∈ lw_all := lw_g (lw_at lw_m3 94 rfl) rfl
theorem q675 : (Jvm.Cond.methodLink "ClockworkTailorLaw" (260 : Nat) ({ cls := "ClockworkTailor", name := "objectCount", desc := "()I" } : Jvm.MethodName)) ∈ lw_all := lw_g (lw_at lw_m3 102 rfl) rfl
theorem q679 : (Jvm.Cond.methodLink "ClockworkTailorLaw" (277 : Nat) ({ cls := "ClockworkTailor", name := "danglers", desc := "()I" } : Jvm.MethodName)) ∈ lw_all := lw_g (lw_at lw_m3 106 rfl) rfl
theorem q687 : (Jvm.Cond.methodLink "ClockworkTailorLaw" (281 : Nat) ({ cls := "ClockworkTailor", name := "gotCount", desc := "()I" } : Jvm.MethodName)) ∈ lw_all := lw_g (lw_at lw_m3 114 rfl) rfl
theorem q691 : (Jvm.Cond.methodLink "ClockworkTailorLaw" (285 : Nat) ({ cls := "ClockworkTailor", name := "reusedCount", desc := "()I" } : Jvm.MethodName)) ∈ lw_all := lw_g (lw_at lw_m3 118 rfl) rfl
theorem q695 : (Jvm.Cond.methodLink "ClockworkTailorLaw" (289 : Nat) ({ cls := "ClockworkTailor", name := "minutesSpent", desc := "()J" } : Jvm.MethodName)) ∈ lw_all := lw_g (lw_at lw_m3 122 rfl) rfl
theorem q699 : (Jvm.Cond.methodLink "ClockworkTailorLaw" (319 : Nat) ({ cls := "ClockworkTailor", name := "isConsistent", desc := "()Z" } : Jvm.MethodName)) ∈ lw_all := lw_g (lw_at lw_m3 126 rfl) rfl
theorem q860 : (Jvm.Cond.methodLink "ClockworkTailorLaw" (336 : Nat) ({ cls := "ClockworkTailor", name := "save", desc := "()I" } : Jvm.MethodName)) ∈ lw_all := lw_g (lw_at lw_m4 47 rfl) rfl
theorem q864 : (Jvm.Cond.methodLink "ClockworkTailorLaw" (162 : Nat) ({ cls := "ClockworkTailorLaw", name := "define", desc := "(LClockworkTailor;CCI[J)I" } : Jvm.MethodName)) ∈ lw_all := lw_g (lw_at lw_m4 51 rfl) rfl
theorem q865 : (Jvm.Cond.static ({ cls := "ClockworkTailorLaw", name := "define", desc := "(LClockworkTailor;CCI[J)I" } : Jvm.MethodName)) ∈ lw_all := lw_g (lw_at lw_m4 52 rfl) rfl
theorem q866 : (Jvm.Cond.codeWith ({ cls := "ClockworkTailorLaw", name := "define", desc := "(LClockworkTailor;CCI[J)I" } : Jvm.MethodName) method_3_code (6 : Nat) (Option.some Jvm.ClassFile.FieldType.int) [((0 : Nat), (12 : Nat), (15 : Nat), (13 : Nat)), ((0 : Nat), (12 : Nat), (19 : Nat), (15 : Nat))]) ∈ lw_all := lw_g (lw_at lw_m4 53 rfl) rfl
theorem q867 : (Jvm.Cond.classLink "ClockworkTailorLaw" (13 : Nat) "java/lang/IllegalArgumentException") ∈ lw_all := lw_g (lw_at lw_m4 54 rfl) rfl
theorem q868 : (Jvm.Cond.classLink "ClockworkTailorLaw" (15 : Nat) "java/lang/IllegalStateException") ∈ lw_all := lw_g (lw_at lw_m4 55 rfl) rfl
theorem q869 : (Jvm.Cond.methodLink "ClockworkTailorLaw" (7 : Nat) ({ cls := "ClockworkTailor", name := "define", desc := "(CCI)I" } : Jvm.MethodName)) ∈ lw_all := lw_g (lw_at lw_m4 56 rfl) rfl
theorem q948 : (Jvm.Cond.methodLink "ClockworkTailorLaw" (171 : Nat) ({ cls := "ClockworkTailorLaw", name := "dropRecipe", desc := "(LClockworkTailor;C[J)I" } : Jvm.MethodName)) ∈ lw_all := lw_g (lw_at lw_m4 135 rfl) rfl
theorem q949 : (Jvm.Cond.static ({ cls := "ClockworkTailorLaw", name := "dropRecipe", desc := "(LClockworkTailor;C[J)I" } : Jvm.MethodName)) ∈ lw_all := lw_g (lw_at lw_m4 136 rfl) rfl
theorem q950 : (Jvm.Cond.codeWith ({ cls := "ClockworkTailorLaw", name := "dropRecipe", desc := "(LClockworkTailor;C[J)I" } : Jvm.MethodName) method_4_code (4 : Nat) (Option.some Jvm.ClassFile.FieldType.int) [((0 : Nat), (9 : Nat), (12 : Nat), (13 : Nat)), ((0 : Nat), (9 : Nat), (15 : Nat), (21 : Nat)), ((0 : Nat), (9 : Nat), (18 : Nat), (15 : Nat))]) ∈ lw_all := lw_g (lw_at lw_m4 137 rfl) rfl
theorem q951 : (Jvm.Cond.classLink "ClockworkTailorLaw" (21 : Nat) "java/util/NoSuchElementException") ∈ lw_all := lw_g (lw_at lw_m4 138 rfl) rfl
theorem q952 : (Jvm.Cond.methodLink "ClockworkTailorLaw" (17 : Nat) ({ cls := "ClockworkTailor", name := "dropRecipe", desc := "(C)I" } : Jvm.MethodName)) ∈ lw_all := lw_g (lw_at lw_m4 139 rfl) rfl
theorem q993 : (Jvm.Cond.methodLink "ClockworkTailorLaw" (175 : Nat) ({ cls := "ClockworkTailorLaw", name := "addNeed", desc := "(LClockworkTailor;CCZ[J)I" } : Jvm.MethodName)) ∈ lw_all := lw_g (lw_at lw_m4 180 rfl) rfl
theorem q994 : (Jvm.Cond.static ({ cls := "ClockworkTailorLaw", name := "addNeed", desc := "(LClockworkTailor;CCZ[J)I" } : Jvm.MethodName)) ∈ lw_all := lw_g (lw_at lw_m4 181 rfl) rfl
theorem q995 : (Jvm.Cond.codeWith ({ cls := "ClockworkTailorLaw", name := "addNeed", desc := "(LClockworkTailor;CCZ[J)I" } : Jvm.MethodName) method_5_code (6 : Nat) (Option.some Jvm.ClassFile.FieldType.int) [((0 : Nat), (12 : Nat), (15 : Nat), (13 : Nat)), ((0 : Nat), (12 : Nat), (19 : Nat), (21 : Nat)), ((0 : Nat), (12 : Nat), (23 : Nat), (27 : Nat))]) ∈ lw_all := lw_g (lw_at lw_m4 182 rfl) rfl
theorem q996 : (Jvm.Cond.classLink "ClockworkTailorLaw" (27 : Nat) "java/lang/UnsupportedOperationException") ∈ lw_all := lw_g (lw_at lw_m4 183 rfl) rfl
theorem q997 : (Jvm.Cond.methodLink "ClockworkTailorLaw" (23 : Nat) ({ cls := "ClockworkTailor", name := "addNeed", desc := "(CCZ)I" } : Jvm.MethodName)) ∈ lw_all := lw_g (lw_at lw_m4 184 rfl) rfl
theorem q1024 : (Jvm.Cond.methodLink "ClockworkTailorLaw" (179 : Nat) ({ cls := "ClockworkTailorLaw", name := "removeNeed", desc := "(LClockworkTailor;CC[J)I" } : Jvm.MethodName)) ∈ lw_all := lw_g (lw_at lw_m4 211 rfl) rfl
theorem q1025 : (Jvm.Cond.static ({ cls := "ClockworkTailorLaw", name := "removeNeed", desc := "(LClockworkTailor;CC[J)I" } : Jvm.MethodName)) ∈ lw_all := lw_g (lw_at lw_m4 212 rfl) rfl
theorem q1026 : (Jvm.Cond.codeWith ({ cls := "ClockworkTailorLaw", name := "removeNeed", desc := "(LClockworkTailor;CC[J)I" } : Jvm.MethodName) method_6_code (5 : Nat) (Option.some Jvm.ClassFile.FieldType.int) [((0 : Nat), (10 : Nat), (13 : Nat), (13 : Nat)), ((0 : Nat), (10 : Nat), (17 : Nat), (21 : Nat))]) ∈ lw_all := lw_g (lw_at lw_m4 213 rfl) rfl
theorem q1027 : (Jvm.Cond.methodLink "ClockworkTailorLaw" (29 : Nat) ({ cls := "ClockworkTailor", name := "removeNeed", desc := "(CC)I" } : Jvm.MethodName)) ∈ lw_all := lw_g (lw_at lw_m4 214 rfl) rfl
theorem q1045 : (Jvm.Cond.methodLink "ClockworkTailorLaw" (187 : Nat) ({ cls := "ClockworkTailorLaw", name := "hasRecipe", desc := "(LClockworkTailor;C[J)I" } : Jvm.MethodName)) ∈ lw_all := lw_g (lw_at lw_m4 232 rfl) rfl
theorem q1046 : (Jvm.Cond.static ({ cls := "ClockworkTailorLaw", name := "hasRecipe", desc := "(LClockworkTailor;C[J)I" } : Jvm.MethodName)) ∈ lw_all := lw_g (lw_at lw_m4 233 rfl) rfl
theorem q1047 : (Jvm.Cond.codeWith ({ cls := "ClockworkTailorLaw", name := "hasRecipe", desc := "(LClockworkTailor;C[J)I" } : Jvm.MethodName) method_7_code (4 : Nat) (Option.some Jvm.ClassFile.FieldType.int) [((0 : Nat), (16 : Nat), (19 : Nat), (13 : Nat))]) ∈ lw_all := lw_g (lw_at lw_m4 234 rfl) rfl
theorem q1048 : (Jvm.Cond.methodLink "ClockworkTailorLaw" (33 : Nat) ({ cls := "ClockworkTailor", name := "hasRecipe", desc := "(C)Z" } : Jvm.MethodName)) ∈ lw_all := lw_g (lw_at lw_m4 235 rfl) rfl
theorem q1053 : (Jvm.Cond.methodLink "ClockworkTailorLaw" (190 : Nat) ({ cls := "ClockworkTailorLaw", name := "scopeOf", desc := "(LClockworkTailor;C[J)I" } : Jvm.MethodName)) ∈ lw_all := lw_g (lw_at lw_m5 0 rfl) rfl
theorem q1054 : (Jvm.Cond.static ({ cls := "ClockworkTailorLaw", name := "scopeOf", desc := "(LClockworkTailor;C[J)I" } : Jvm.MethodName)) ∈ lw_all := lw_g (lw_at lw_m5 1 rfl) rfl
theorem q1055 : (Jvm.Cond.codeWith ({ cls := "ClockworkTailorLaw", name := "scopeOf", desc := "(LClockworkTailor;C[J)I" } : Jvm.MethodName) method_8_code (4 : Nat) (Option.some Jvm.ClassFile.FieldType.int) [((0 : Nat), (9 : Nat), (12 : Nat), (13 : Nat)), ((0 : Nat), (9 : Nat), (15 : Nat), (21 : Nat))]) ∈ lw_all := lw_g (lw_at lw_m5 2 rfl) rfl
theorem q1056 : (Jvm.Cond.methodLink "ClockworkTailorLaw" (37 : Nat) ({ cls := "ClockworkTailor", name := "scopeOf", desc := "(C)C" } : Jvm.MethodName)) ∈ lw_all := lw_g (lw_at lw_m5 3 rfl) rfl
theorem q1065 : (Jvm.Cond.methodLink "ClockworkTailorLaw" (193 : Nat) ({ cls := "ClockworkTailorLaw", name := "needCount", desc := "(LClockworkTailor;C[J)I" } : Jvm.MethodName)) ∈ lw_all := lw_g (lw_at lw_m5 12 rfl) rfl
theorem q1066 : (Jvm.Cond.static ({ cls := "ClockworkTailorLaw", name := "needCount", desc := "(LClockworkTailor;C[J)I" } : Jvm.MethodName)) ∈ lw_all := lw_g (lw_at lw_m5 13 rfl) rfl
theorem q1067 : (Jvm.Cond.codeWith ({ cls := "ClockworkTailorLaw", name := "needCount", desc := "(LClockworkTailor;C[J)I" } : Jvm.MethodName) method_9_code (4 : Nat) (Option.some Jvm.ClassFile.FieldType.int) [((0 : Nat), (9 : Nat), (12 : Nat), (13 : Nat)), ((0 : Nat), (9 : Nat), (15 : Nat), (21 : Nat))]) ∈ lw_all := lw_g (lw_at lw_m5 14 rfl) rfl
theorem q1068 : (Jvm.Cond.methodLink "ClockworkTailorLaw" (41 : Nat) ({ cls := "ClockworkTailor", name := "needCount", desc := "(C)I" } : Jvm.MethodName)) ∈ lw_all := lw_g (lw_at lw_m5 15 rfl) rfl
theorem q1072 : (Jvm.Cond.methodLink "ClockworkTailorLaw" (196 : Nat) ({ cls := "ClockworkTailorLaw", name := "needAt", desc := "(LClockworkTailor;CI[J)I" } : Jvm.MethodName)) ∈ lw_all := lw_g (lw_at lw_m5 19 rfl) rfl
theorem q1073 : (Jvm.Cond.static ({ cls := "ClockworkTailorLaw", name := "needAt", desc := "(LClockworkTailor;CI[J)I" } : Jvm.MethodName)) ∈ lw_all := lw_g (lw_at lw_m5 20 rfl) rfl
theorem q1074 : (Jvm.Cond.codeWith ({ cls := "ClockworkTailorLaw", name := "needAt", desc := "(LClockworkTailor;CI[J)I" } : Jvm.MethodName) method_10_code (5 : Nat) (Option.some Jvm.ClassFile.FieldType.int) [((0 : Nat), (10 : Nat), (13 : Nat), (13 : Nat)), ((0 : Nat), (10 : Nat), (17 : Nat), (21 : Nat)), ((0 : Nat), (10 : Nat), (21 : Nat), (48 : Nat))]) ∈ lw_all := lw_g (lw_at lw_m5 21 rfl) rfl
theorem q1075 : (Jvm.Cond.classLink "ClockworkTailorLaw" (48 : Nat) "java/lang/IndexOutOfBoundsException") ∈ lw_all := lw_g (lw_at lw_m5 22 rfl) rfl
theorem q1099 : (Jvm.Cond.methodLink "ClockworkTailorLaw" (44 : Nat) ({ cls := "ClockworkTailor", name := "needAt", desc := "(CI)C" } : Jvm.MethodName)) ∈ lw_all := lw_g (lw_at lw_m5 46 rfl) rfl
theorem q1129 : (Jvm.Cond.methodLink "ClockworkTailorLaw" (200 : Nat) ({ cls := "ClockworkTailorLaw", name := "isLazyNeed", desc := "(LClockworkTailor;CI[J)I" } : Jvm.MethodName)) ∈ lw_all := lw_g (lw_at lw_m5 76 rfl) rfl
theorem q1130 : (Jvm.Cond.static ({ cls := "ClockworkTailorLaw", name := "isLazyNeed", desc := "(LClockworkTailor;CI[J)I" } : Jvm.MethodName)) ∈ lw_all := lw_g (lw_at lw_m5 77 rfl) rfl
theorem q1131 : (Jvm.Cond.codeWith ({ cls := "ClockworkTailorLaw", name := "isLazyNeed", desc := "(LClockworkTailor;CI[J)I" } : Jvm.MethodName) method_11_code (5 : Nat) (Option.some Jvm.ClassFile.FieldType.int) [((0 : Nat), (17 : Nat), (20 : Nat), (13 : Nat)), ((0 : Nat), (17 : Nat), (24 : Nat), (21 : Nat)), ((0 : Nat), (17 : Nat), (28 : Nat), (48 : Nat))]) ∈ lw_all := lw_g (lw_at lw_m5 78 rfl) rfl
theorem q1132 : (Jvm.Cond.methodLink "ClockworkTailorLaw" (50 : Nat) ({ cls := "ClockworkTailor", name := "isLazyNeed", desc := "(CI)Z" } : Jvm.MethodName)) ∈ lw_all := lw_g (lw_at lw_m5 79 rfl) rfl
theorem q1137 : (Jvm.Cond.methodLink "ClockworkTailorLaw" (203 : Nat) ({ cls := "ClockworkTailorLaw", name := "replace", desc := "(LClockworkTailor;CC[J)I" } : Jvm.MethodName)) ∈ lw_all := lw_g (lw_at lw_m5 84 rfl) rfl
theorem q1138 : (Jvm.Cond.static ({ cls := "ClockworkTailorLaw", name := "replace", desc := "(LClockworkTailor;CC[J)I" } : Jvm.MethodName)) ∈ lw_all := lw_g (lw_at lw_m5 85 rfl) rfl
theorem q1139 : (Jvm.Cond.codeWith ({ cls := "ClockworkTailorLaw", name := "replace", desc := "(LClockworkTailor;CC[J)I" } : Jvm.MethodName) method_12_code (5 : Nat) (Option.some Jvm.ClassFile.FieldType.int) [((0 : Nat), (10 : Nat), (13 : Nat), (13 : Nat)), ((0 : Nat), (10 : Nat), (17 : Nat), (27 : Nat))]) ∈ lw_all := lw_g (lw_at lw_m5 86 rfl) rfl
theorem q1140 : (Jvm.Cond.methodLink "ClockworkTailorLaw" (54 : Nat) ({ cls := "ClockworkTailor", name := "replace", desc := "(CC)I" } : Jvm.MethodName)) ∈ lw_all := lw_g (lw_at lw_m5 87 rfl) rfl
theorem q1158 : (Jvm.Cond.methodLink "ClockworkTailorLaw" (206 : Nat) ({ cls := "ClockworkTailorLaw", name := "putBack", desc := "(LClockworkTailor;C[J)I" } : Jvm.MethodName)) ∈ lw_all := lw_g (lw_at lw_m5 105 rfl) rfl
theorem q1159 : (Jvm.Cond.static ({ cls := "ClockworkTailorLaw", name := "putBack", desc := "(LClockworkTailor;C[J)I" } : Jvm.MethodName)) ∈ lw_all := lw_g (lw_at lw_m5 106 rfl) rfl
theorem q1160 : (Jvm.Cond.codeWith ({ cls := "ClockworkTailorLaw", name := "putBack", desc := "(LClockworkTailor;C[J)I" } : Jvm.MethodName) method_13_code (4 : Nat) (Option.some Jvm.ClassFile.FieldType.int) [((0 : Nat), (9 : Nat), (12 : Nat), (13 : Nat)), ((0 : Nat), (9 : Nat), (15 : Nat), (21 : Nat)), ((0 : Nat), (9 : Nat), (18 : Nat), (27 : Nat))]) ∈ lw_all := lw_g (lw_at lw_m5 107 rfl) rfl
theorem q1161 : (Jvm.Cond.methodLink "ClockworkTailorLaw" (57 : Nat) ({ cls := "ClockworkTailor", name := "putBack", desc := "(C)C" } : Jvm.MethodName)) ∈ lw_all := lw_g (lw_at lw_m5 108 rfl) rfl
theorem q1172 : (Jvm.Cond.methodLink "ClockworkTailorLaw" (209 : Nat) ({ cls := "ClockworkTailorLaw", name := "standInFor", desc := "(LClockworkTailor;C[J)I" } : Jvm.MethodName)) ∈ lw_all := lw_g (lw_at lw_m5 119 rfl) rfl
theorem q1173 : (Jvm.Cond.static ({ cls := "ClockworkTailorLaw", name := "standInFor", desc := "(LClockworkTailor;C[J)I" } : Jvm.MethodName)) ∈ lw_all := lw_g (lw_at lw_m5 120 rfl) rfl
theorem q1174 : (Jvm.Cond.codeWith ({ cls := "ClockworkTailorLaw", name := "standInFor", desc := "(LClockworkTailor;C[J)I" } : Jvm.MethodName) method_14_code (4 : Nat) (Option.some Jvm.ClassFile.FieldType.int) [((0 : Nat), (9 : Nat), (12 : Nat), (13 : Nat))]) ∈ lw_all := lw_g (lw_at lw_m5 121 rfl) rfl
theorem q1175 : (Jvm.Cond.methodLink "ClockworkTailorLaw" (60 : Nat) ({ cls := "ClockworkTailor", name := "standInFor", desc := "(C)C" } : Jvm.MethodName)) ∈ lw_all := lw_g (lw_at lw_m5 122 rfl) rfl
theorem q1180 : (Jvm.Cond.methodLink "ClockworkTailorLaw" (212 : Nat) ({ cls := "ClockworkTailorLaw", name := "leadsToCount", desc := "(LClockworkTailor;C[J)I" } : Jvm.MethodName)) ∈ lw_all := lw_g (lw_at lw_m5 127 rfl) rfl
theorem q1181 : (Jvm.Cond.static ({ cls := "ClockworkTailorLaw", name := "leadsToCount", desc := "(LClockworkTailor;C[J)I" } : Jvm.MethodName)) ∈ lw_all := lw_g (lw_at lw_m5 128 rfl) rfl
theorem q1182 : (Jvm.Cond.codeWith ({ cls := "ClockworkTailorLaw", name := "leadsToCount", desc := "(LClockworkTailor;C[J)I" } : Jvm.MethodName) method_15_code (4 : Nat) (Option.some Jvm.ClassFile.FieldType.int) [((0 : Nat), (9 : Nat), (12 : Nat), (13 : Nat))]) ∈ lw_all := lw_g (lw_at lw_m5 129 rfl) rfl
theorem q1183 : (Jvm.Cond.methodLink "ClockworkTailorLaw" (63 : Nat) ({ cls := "ClockworkTailor", name := "leadsToCount", desc := "(C)I" } : Jvm.MethodName)) ∈ lw_all := lw_g (lw_at lw_m5 130 rfl) rfl
theorem q1188 : (Jvm.Cond.methodLink "ClockworkTailorLaw" (215 : Nat) ({ cls := "ClockworkTailorLaw", name := "leadsToByTable", desc := "(LClockworkTailor;C[J)I" } : Jvm.MethodName)) ∈ lw_all := lw_g (lw_at lw_m5 135 rfl) rfl
theorem q1189 : (Jvm.Cond.static ({ cls := "ClockworkTailorLaw", name := "leadsToByTable", desc := "(LClockworkTailor;C[J)I" } : Jvm.MethodName)) ∈ lw_all := lw_g (lw_at lw_m5 136 rfl) rfl
theorem q1190 : (Jvm.Cond.codeWith ({ cls := "ClockworkTailorLaw", name := "leadsToByTable", desc := "(LClockworkTailor;C[J)I" } : Jvm.MethodName) method_16_code (4 : Nat) (Option.some Jvm.ClassFile.FieldType.int) [((0 : Nat), (9 : Nat), (12 : Nat), (13 : Nat))]) ∈ lw_all := lw_g (lw_at lw_m5 137 rfl) rfl
theorem q1191 : (Jvm.Cond.methodLink "ClockworkTailorLaw" (66 : Nat) ({ cls := "ClockworkTailor", name := "leadsToByTable", desc := "(C)I" } : Jvm.MethodName)) ∈ lw_all := lw_g (lw_at lw_m5 138 rfl) rfl
theorem q1196 : (Jvm.Cond.methodLink "ClockworkTailorLaw" (226 : Nat) ({ cls := "ClockworkTailorLaw", name := "longestWay", desc := "(LClockworkTailor;C[J)I" } : Jvm.MethodName)) ∈ lw_all := lw_g (lw_at lw_m5 143 rfl) rfl
theorem q1197 : (Jvm.Cond.static ({ cls := "ClockworkTailorLaw", name := "longestWay", desc := "(LClockworkTailor;C[J)I" } : Jvm.MethodName)) ∈ lw_all := lw_g (lw_at lw_m5 144 rfl) rfl
theorem q1198 : (Jvm.Cond.codeWith ({ cls := "ClockworkTailorLaw", name := "longestWay", desc := "(LClockworkTailor;C[J)I" } : Jvm.MethodName) method_17_code (4 : Nat) (Option.some Jvm.ClassFile.FieldType.int) [((0 : Nat), (9 : Nat), (12 : Nat), (13 : Nat)), ((0 : Nat), (9 : Nat), (15 : Nat), (21 : Nat))]) ∈ lw_all := lw_g (lw_at lw_m5 145 rfl) rfl
theorem q1199 : (Jvm.Cond.methodLink "ClockworkTailorLaw" (69 : Nat) ({ cls := "ClockworkTailor", name := "longestWay", desc := "(C)I" } : Jvm.MethodName)) ∈ lw_all := lw_g (lw_at lw_m5 146 rfl) rfl
theorem q1205 : (Jvm.Cond.methodLink "ClockworkTailorLaw" (229 : Nat) ({ cls := "ClockworkTailorLaw", name := "longestByRounds", desc := "(LClockworkTailor;C[J)I" } : Jvm.MethodName)) ∈ lw_all := lw_g (lw_at lw_m5 152 rfl) rfl
theorem q1206 : (Jvm.Cond.static ({ cls := "ClockworkTailorLaw", name := "longestByRounds", desc := "(LClockworkTailor;C[J)I" } : Jvm.MethodName)) ∈ lw_all := lw_g (lw_at lw_m5 153 rfl) rfl
theorem q1207 : (Jvm.Cond.codeWith ({ cls := "ClockworkTailorLaw", name := "longestByRounds", desc := "(LClockworkTailor;C[J)I" } : Jvm.MethodName) method_18_code (4 : Nat) (Option.some Jvm.ClassFile.FieldType.int) [((0 : Nat), (9 : Nat), (12 : Nat), (13 : Nat)), ((0 : Nat), (9 : Nat), (15 : Nat), (21 : Nat))]) ∈ lw_all := lw_g (lw_at lw_m5 154 rfl) rfl
theorem q1208 : (Jvm.Cond.methodLink "ClockworkTailorLaw" (72 : Nat) ({ cls := "ClockworkTailor", name := "longestByRounds", desc := "(C)I" } : Jvm.MethodName)) ∈ lw_all := lw_g (lw_at lw_m5 155 rfl) rfl
theorem q1213 : (Jvm.Cond.methodLink "ClockworkTailorLaw" (236 : Nat) ({ cls := "ClockworkTailorLaw", name := "openThread", desc := "(LClockworkTailor;[J)I" } : Jvm.MethodName)) ∈ lw_all := lw_g (lw_at lw_m5 160 rfl) rfl
theorem q1214 : (Jvm.Cond.static ({ cls := "ClockworkTailorLaw", name := "openThread", desc := "(LClockworkTailor;[J)I" } : Jvm.MethodName)) ∈ lw_all := lw_g (lw_at lw_m5 161 rfl) rfl
theorem q1215 : (Jvm.Cond.codeWith ({ cls := "ClockworkTailorLaw", name := "openThread", desc := "(LClockworkTailor;[J)I" } : Jvm.MethodName) method_19_code (3 : Nat) (Option.some Jvm.ClassFile.FieldType.int) [((0 : Nat), (8 : Nat), (11 : Nat), (15 : Nat))]) ∈ lw_all := lw_g (lw_at lw_m5 162 rfl) rfl
theorem q1216 : (Jvm.Cond.methodLink "ClockworkTailorLaw" (75 : Nat) ({ cls := "ClockworkTailor", name := "openThread", desc := "()I" } : Jvm.MethodName)) ∈ lw_all := lw_g (lw_at lw_m5 163 rfl) rfl
theorem q1226 : (Jvm.Cond.methodLink "ClockworkTailorLaw" (240 : Nat) ({ cls := "ClockworkTailorLaw", name := "closeThread", desc := "(LClockworkTailor;I[J)I" } : Jvm.MethodName)) ∈ lw_all := lw_g (lw_at lw_m5 173 rfl) rfl
theorem q1227 : (Jvm.Cond.static ({ cls := "ClockworkTailorLaw", name := "closeThread", desc := "(LClockworkTailor;I[J)I" } : Jvm.MethodName)) ∈ lw_all := lw_g (lw_at lw_m5 174 rfl) rfl
theorem q1228 : (Jvm.Cond.codeWith ({ cls := "ClockworkTailorLaw", name := "closeThread", desc := "(LClockworkTailor;I[J)I" } : Jvm.MethodName) method_20_code (4 : Nat) (Option.some Jvm.ClassFile.FieldType.int) [((0 : Nat), (9 : Nat), (12 : Nat), (48 : Nat))]) ∈ lw_all := lw_g (lw_at lw_m5 175 rfl) rfl
theorem q1229 : (Jvm.Cond.methodLink "ClockworkTailorLaw" (79 : Nat) ({ cls := "ClockworkTailor", name := "closeThread", desc := "(I)I" } : Jvm.MethodName)) ∈ lw_all := lw_g (lw_at lw_m5 176 rfl) rfl
theorem q1247 : (Jvm.Cond.methodLink "ClockworkTailorLaw" (244 : Nat) ({ cls := "ClockworkTailorLaw", name := "isOpen", desc := "(LClockworkTailor;I[J)I" } : Jvm.MethodName)) ∈ lw_all := lw_g (lw_at lw_m5 194 rfl) rfl
theorem q1248 : (Jvm.Cond.static ({ cls := "ClockworkTailorLaw", name := "isOpen", desc := "(LClockworkTailor;I[J)I" } : Jvm.MethodName)) ∈ lw_all := lw_g (lw_at lw_m5 195 rfl) rfl
theorem q1249 : (Jvm.Cond.codeWith ({ cls := "ClockworkTailorLaw", name := "isOpen", desc := "(LClockworkTailor;I[J)I" } : Jvm.MethodName) method_21_code (4 : Nat) (Option.some Jvm.ClassFile.FieldType.int) [((0 : Nat), (16 : Nat), (19 : Nat), (48 : Nat))]) ∈ lw_all := lw_g (lw_at lw_m5 196 rfl) rfl
theorem q1250 : (Jvm.Cond.methodLink "ClockworkTailorLaw" (83 : Nat) ({ cls := "ClockworkTailor", name := "isOpen", desc := "(I)Z" } : Jvm.MethodName)) ∈ lw_all := lw_g (lw_at lw_m5 197 rfl) rfl
theorem q1255 : (Jvm.Cond.methodLink "ClockworkTailorLaw" (247 : Nat) ({ cls := "ClockworkTailorLaw", name := "make", desc := "(LClockworkTailor;CI[J)I" } : Jvm.MethodName)) ∈ lw_all := lw_g (lw_at lw_m5 202 rfl) rfl
theorem q1256 : (Jvm.Cond.static ({ cls := "ClockworkTailorLaw", name := "make", desc := "(LClockworkTailor;CI[J)I" } : Jvm.MethodName)) ∈ lw_all := lw_g (lw_at lw_m5 203 rfl) rfl
theorem q1257 : (Jvm.Cond.codeWith ({ cls := "ClockworkTailorLaw", name := "make", desc := "(LClockworkTailor;CI[J)I" } : Jvm.MethodName) method_22_code (5 : Nat) (Option.some Jvm.ClassFile.FieldType.int) [((0 : Nat), (10 : Nat), (13 : Nat), (13 : Nat)), ((0 : Nat), (10 : Nat), (17 : Nat), (48 : Nat)), ((0 : Nat), (10 : Nat), (21 : Nat), (27 : Nat))]) ∈ lw_all := lw_g (lw_at lw_m5 204 rfl) rfl
theorem q1258 : (Jvm.Cond.methodLink "ClockworkTailorLaw" (87 : Nat) ({ cls := "ClockworkTailor", name := "make", desc := "(CI)I" } : Jvm.MethodName)) ∈ lw_all := lw_g (lw_at lw_m5 205 rfl) rfl
theorem q1272 : (Jvm.Cond.methodLink "ClockworkTailorLaw" (250 : Nat) ({ cls := "ClockworkTailorLaw", name := "touch", desc := "(LClockworkTailor;III[J)I" } : Jvm.MethodName)) ∈ lw_all := lw_g (lw_at lw_m5 219 rfl) rfl
theorem q1273 : (Jvm.Cond.static ({ cls := "ClockworkTailorLaw", name := "touch", desc := "(LClockworkTailor;III[J)I" } : Jvm.MethodName)) ∈ lw_all := lw_g (lw_at lw_m5 220 rfl) rfl
theorem q1274 : (Jvm.Cond.codeWith ({ cls := "ClockworkTailorLaw", name := "touch", desc := "(LClockworkTailor;III[J)I" } : Jvm.MethodName) method_23_code (6 : Nat) (Option.some Jvm.ClassFile.FieldType.int) [((0 : Nat), (12 : Nat), (15 : Nat), (48 : Nat)), ((0 : Nat), (12 : Nat), (19 : Nat), (27 : Nat))]) ∈ lw_all := lw_g (lw_at lw_m5 221 rfl) rfl
theorem q1275 : (Jvm.Cond.methodLink "ClockworkTailorLaw" (91 : Nat) ({ cls := "ClockworkTailor", name := "touch", desc := "(III)I" } : Jvm.MethodName)) ∈ lw_all := lw_g (lw_at lw_m5 222 rfl) rfl
theorem q1293 : (Jvm.Cond.methodLink "ClockworkTailorLaw" (254 : Nat) ({ cls := "ClockworkTailorLaw", name := "wouldMake", desc := "(LClockworkTailor;CI[J)I" } : Jvm.MethodName)) ∈ lw_all := lw_g (lw_at lw_m6 0 rfl) rfl
theorem q1294 : (Jvm.Cond.static ({ cls := "ClockworkTailorLaw", name := "wouldMake", desc := "(LClockworkTailor;CI[J)I" } : Jvm.MethodName)) ∈ lw_all := lw_g (lw_at lw_m6 1 rfl) rfl
theorem q1295 : (Jvm.Cond.codeWith ({ cls := "ClockworkTailorLaw", name := "wouldMake", desc := "(LClockworkTailor;CI[J)I" } : Jvm.MethodName) method_24_code (5 : Nat) (Option.some Jvm.ClassFile.FieldType.int) [((0 : Nat), (10 : Nat), (13 : Nat), (13 : Nat)), ((0 : Nat), (10 : Nat), (17 : Nat), (48 : Nat)), ((0 : Nat), (10 : Nat), (21 : Nat), (21 : Nat))]) ∈ lw_all := lw_g (lw_at lw_m6 2 rfl) rfl
theorem q1296 : (Jvm.Cond.methodLink "ClockworkTailorLaw" (95 : Nat) ({ cls := "ClockworkTailor", name := "wouldMake", desc := "(CI)I" } : Jvm.MethodName)) ∈ lw_all := lw_g (lw_at lw_m6 3 rfl) rfl
theorem q1301 : (Jvm.Cond.methodLink "ClockworkTailorLaw" (257 : Nat) ({ cls := "ClockworkTailorLaw", name := "wouldMakeByCounting", desc := "(LClockworkTailor;CI[J)I" } : Jvm.MethodName)) ∈ lw_all := lw_g (lw_at lw_m6 8 rfl) rfl
theorem q1302 : (Jvm.Cond.static ({ cls := "ClockworkTailorLaw", name := "wouldMakeByCounting", desc := "(LClockworkTailor;CI[J)I" } : Jvm.MethodName)) ∈ lw_all := lw_g (lw_at lw_m6 9 rfl) rfl
theorem q1303 : (Jvm.Cond.codeWith ({ cls := "ClockworkTailorLaw", name := "wouldMakeByCounting", desc := "(LClockworkTailor;CI[J)I" } : Jvm.MethodName) method_25_code (5 : Nat) (Option.some Jvm.ClassFile.FieldType.int) [((0 : Nat), (10 : Nat), (13 : Nat), (13 : Nat)), ((0 : Nat), (10 : Nat), (17 : Nat), (48 : Nat)), ((0 : Nat), (10 : Nat), (21 : Nat), (21 : Nat))]) ∈ lw_all := lw_g (lw_at lw_m6 10 rfl) rfl
theorem q1304 : (Jvm.Cond.methodLink "ClockworkTailorLaw" (98 : Nat) ({ cls := "ClockworkTailor", name := "wouldMakeByCounting", desc := "(CI)I" } : Jvm.MethodName)) ∈ lw_all := lw_g (lw_at lw_m6 11 rfl) rfl
theorem q1308 : (Jvm.Cond.methodLink "ClockworkTailorLaw" (264 : Nat) ({ cls := "ClockworkTailorLaw", name := "isThere", desc := "(LClockworkTailor;I[J)I" } : Jvm.MethodName)) ∈ lw_all := lw_g (lw_at lw_m6 15 rfl) rfl
theorem q1309 : (Jvm.Cond.static ({ cls := "ClockworkTailorLaw", name := "isThere", desc := "(LClockworkTailor;I[J)I" } : Jvm.MethodName)) ∈ lw_all := lw_g (lw_at lw_m6 16 rfl) rfl
theorem q1310 : (Jvm.Cond.codeWith ({ cls := "ClockworkTailorLaw", name := "isThere", desc := "(LClockworkTailor;I[J)I" } : Jvm.MethodName) method_26_code (4 : Nat) (Option.some Jvm.ClassFile.FieldType.int) [((0 : Nat), (16 : Nat), (19 : Nat), (48 : Nat))]) ∈ lw_all := lw_g (lw_at lw_m6 17 rfl) rfl
theorem q1311 : (Jvm.Cond.methodLink "ClockworkTailorLaw" (101 : Nat) ({ cls := "ClockworkTailor", name := "isThere", desc := "(I)Z" } : Jvm.MethodName)) ∈ lw_all := lw_g (lw_at lw_m6 18 rfl) rfl
theorem q1315 : (Jvm.Cond.methodLink "ClockworkTailorLaw" (267 : Nat) ({ cls := "ClockworkTailorLaw", name := "toolOf", desc := "(LClockworkTailor;I[J)I" } : Jvm.MethodName)) ∈ lw_all := lw_g (lw_at lw_m6 22 rfl) rfl
theorem q1316 : (Jvm.Cond.static ({ cls := "ClockworkTailorLaw", name := "toolOf", desc := "(LClockworkTailor;I[J)I" } : Jvm.MethodName)) ∈ lw_all := lw_g (lw_at lw_m6 23 rfl) rfl
theorem q1317 : (Jvm.Cond.codeWith ({ cls := "ClockworkTailorLaw", name := "toolOf", desc := "(LClockworkTailor;I[J)I" } : Jvm.MethodName) method_27_code (4 : Nat) (Option.some Jvm.ClassFile.FieldType.int) [((0 : Nat), (9 : Nat), (12 : Nat), (48 : Nat))]) ∈ lw_all := lw_g (lw_at lw_m6 24 rfl) rfl
theorem q1318 : (Jvm.Cond.methodLink "ClockworkTailorLaw" (104 : Nat) ({ cls := "ClockworkTailor", name := "toolOf", desc := "(I)C" } : Jvm.MethodName)) ∈ lw_all := lw_g (lw_at lw_m6 25 rfl) rfl
theorem q1323 : (Jvm.Cond.methodLink "ClockworkTailorLaw" (270 : Nat) ({ cls := "ClockworkTailorLaw", name := "threadOf", desc := "(LClockworkTailor;I[J)I" } : Jvm.MethodName)) ∈ lw_all := lw_g (lw_at lw_m6 30 rfl) rfl
theorem q1324 : (Jvm.Cond.static ({ cls := "ClockworkTailorLaw", name := "threadOf", desc := "(LClockworkTailor;I[J)I" } : Jvm.MethodName)) ∈ lw_all := lw_g (lw_at lw_m6 31 rfl) rfl
theorem q1325 : (Jvm.Cond.codeWith ({ cls := "ClockworkTailorLaw", name := "threadOf", desc := "(LClockworkTailor;I[J)I" } : Jvm.MethodName) method_28_code (4 : Nat) (Option.some Jvm.ClassFile.FieldType.int) [((0 : Nat), (9 : Nat), (12 : Nat), (48 : Nat))]) ∈ lw_all := lw_g (lw_at lw_m6 32 rfl) rfl
theorem q1326 : (Jvm.Cond.methodLink "ClockworkTailorLaw" (108 : Nat) ({ cls := "ClockworkTailor", name := "threadOf", desc := "(I)I" } : Jvm.MethodName)) ∈ lw_all := lw_g (lw_at lw_m6 33 rfl) rfl
theorem q1330 : (Jvm.Cond.methodLink "ClockworkTailorLaw" (273 : Nat) ({ cls := "ClockworkTailorLaw", name := "filledBy", desc := "(LClockworkTailor;II[J)I" } : Jvm.MethodName)) ∈ lw_all := lw_g (lw_at lw_m6 37 rfl) rfl
theorem q1331 : (Jvm.Cond.static ({ cls := "ClockworkTailorLaw", name := "filledBy", desc := "(LClockworkTailor;II[J)I" } : Jvm.MethodName)) ∈ lw_all := lw_g (lw_at lw_m6 38 rfl) rfl
theorem q1332 : (Jvm.Cond.codeWith ({ cls := "ClockworkTailorLaw", name := "filledBy", desc := "(LClockworkTailor;II[J)I" } : Jvm.MethodName) method_29_code (5 : Nat) (Option.some Jvm.ClassFile.FieldType.int) [((0 : Nat), (10 : Nat), (13 : Nat), (48 : Nat)), ((0 : Nat), (10 : Nat), (17 : Nat), (21 : Nat))]) ∈ lw_all := lw_g (lw_at lw_m6 39 rfl) rfl
theorem q1333 : (Jvm.Cond.methodLink "ClockworkTailorLaw" (111 : Nat) ({ cls := "ClockworkTailor", name := "filledBy", desc := "(II)I" } : Jvm.MethodName)) ∈ lw_all := lw_g (lw_at lw_m6 40 rfl) rfl
theorem q1338 : (Jvm.Cond.methodLink "ClockworkTailorLaw" (294 : Nat) ({ cls := "ClockworkTailorLaw", name := "meanMinutes", desc := "(LClockworkTailor;[D)I" } : Jvm.MethodName)) ∈ lw_all := lw_g (lw_at lw_m6 45 rfl) rfl
theorem q1339 : (Jvm.Cond.static ({ cls := "ClockworkTailorLaw", name := "meanMinutes", desc := "(LClockworkTailor;[D)I" } : Jvm.MethodName)) ∈ lw_all := lw_g (lw_at lw_m6 46 rfl) rfl
theorem q1340 : (Jvm.Cond.codeWith ({ cls := "ClockworkTailorLaw", name := "meanMinutes", desc := "(LClockworkTailor;[D)I" } : Jvm.MethodName) method_30_code (3 : Nat) (Option.some Jvm.ClassFile.FieldType.int) [((0 : Nat), (7 : Nat), (10 : Nat), (119 : Nat))]) ∈ lw_all := lw_g (lw_at lw_m6 47 rfl) rfl
theorem q1341 : (Jvm.Cond.classLink "ClockworkTailorLaw" (119 : Nat) "java/lang/ArithmeticException") ∈ lw_all := lw_g (lw_at lw_m6 48 rfl) rfl
theorem q1355 : (Jvm.Cond.methodLink "ClockworkTailorLaw" (115 : Nat) ({ cls := "ClockworkTailor", name := "meanMinutes", desc := "()D" } : Jvm.MethodName)) ∈ lw_all := lw_g (lw_at lw_m6 62 rfl) rfl
theorem q1371 : (Jvm.Cond.methodLink "ClockworkTailorLaw" (298 : Nat) ({ cls := "ClockworkTailorLaw", name := "reuseShare", desc := "(LClockworkTailor;[D)I" } : Jvm.MethodName)) ∈ lw_all := lw_g (lw_at lw_m6 78 rfl) rfl
theorem q1372 : (Jvm.Cond.static ({ cls := "ClockworkTailorLaw", name := "reuseShare", desc := "(LClockworkTailor;[D)I" } : Jvm.MethodName)) ∈ lw_all := lw_g (lw_at lw_m6 79 rfl) rfl
theorem q1373 : (Jvm.Cond.codeWith ({ cls := "ClockworkTailorLaw", name := "reuseShare", desc := "(LClockworkTailor;[D)I" } : Jvm.MethodName) method_31_code (3 : Nat) (Option.some Jvm.ClassFile.FieldType.int) [((0 : Nat), (8 : Nat), (11 : Nat), (119 : Nat))]) ∈ lw_all := lw_g (lw_at lw_m6 80 rfl) rfl
theorem q1374 : (Jvm.Cond.methodLink "ClockworkTailorLaw" (121 : Nat) ({ cls := "ClockworkTailor", name := "reuseShare", desc := "()F" } : Jvm.MethodName)) ∈ lw_all := lw_g (lw_at lw_m6 81 rfl) rfl
theorem q1378 : (Jvm.Cond.methodLink "ClockworkTailorLaw" (301 : Nat) ({ cls := "ClockworkTailorLaw", name := "refusalReason", desc := "(LClockworkTailor;[J)I" } : Jvm.MethodName)) ∈ lw_all := lw_g (lw_at lw_m6 85 rfl) rfl
theorem q1379 : (Jvm.Cond.static ({ cls := "ClockworkTailorLaw", name := "refusalReason", desc := "(LClockworkTailor;[J)I" } : Jvm.MethodName)) ∈ lw_all := lw_g (lw_at lw_m6 86 rfl) rfl
theorem q1380 : (Jvm.Cond.codeWith ({ cls := "ClockworkTailorLaw", name := "refusalReason", desc := "(LClockworkTailor;[J)I" } : Jvm.MethodName) method_32_code (3 : Nat) (Option.some Jvm.ClassFile.FieldType.int) [((0 : Nat), (8 : Nat), (11 : Nat), (21 : Nat))]) ∈ lw_all := lw_g (lw_at lw_m6 87 rfl) rfl
theorem q1381 : (Jvm.Cond.methodLink "ClockworkTailorLaw" (125 : Nat) ({ cls := "ClockworkTailor", name := "refusalReason", desc := "()I" } : Jvm.MethodName)) ∈ lw_all := lw_g (lw_at lw_m6 88 rfl) rfl
theorem q1389 : (Jvm.Cond.methodLink "ClockworkTailorLaw" (304 : Nat) ({ cls := "ClockworkTailorLaw", name := "refusalDetail", desc := "(LClockworkTailor;[J)I" } : Jvm.MethodName)) ∈ lw_all := lw_g (lw_at lw_m6 96 rfl) rfl
theorem q1390 : (Jvm.Cond.static ({ cls := "ClockworkTailorLaw", name := "refusalDetail", desc := "(LClockworkTailor;[J)I" } : Jvm.MethodName)) ∈ lw_all := lw_g (lw_at lw_m6 97 rfl) rfl
theorem q1391 : (Jvm.Cond.codeWith ({ cls := "ClockworkTailorLaw", name := "refusalDetail", desc := "(LClockworkTailor;[J)I" } : Jvm.MethodName) method_33_code (3 : Nat) (Option.some Jvm.ClassFile.FieldType.int) [((0 : Nat), (8 : Nat), (11 : Nat), (21 : Nat))]) ∈ lw_all := lw_g (lw_at lw_m6 98 rfl) rfl
theorem q1392 : (Jvm.Cond.methodLink "ClockworkTailorLaw" (128 : Nat) ({ cls := "ClockworkTailor", name := "refusalDetail", desc := "()I" } : Jvm.MethodName)) ∈ lw_all := lw_g (lw_at lw_m6 99 rfl) rfl
theorem q1396 : (Jvm.Cond.methodLink "ClockworkTailorLaw" (307 : Nat) ({ cls := "ClockworkTailorLaw", name := "refusalCause", desc := "(LClockworkTailor;[J)I" } : Jvm.MethodName)) ∈ lw_all := lw_g (lw_at lw_m6 103 rfl) rfl
theorem q1397 : (Jvm.Cond.static ({ cls := "ClockworkTailorLaw", name := "refusalCause", desc := "(LClockworkTailor;[J)I" } : Jvm.MethodName)) ∈ lw_all := lw_g (lw_at lw_m6 104 rfl) rfl
theorem q1398 : (Jvm.Cond.codeWith ({ cls := "ClockworkTailorLaw", name := "refusalCause", desc := "(LClockworkTailor;[J)I" } : Jvm.MethodName) method_34_code (3 : Nat) (Option.some Jvm.ClassFile.FieldType.int) [((0 : Nat), (8 : Nat), (11 : Nat), (21 : Nat))]) ∈ lw_all := lw_g (lw_at lw_m6 105 rfl) rfl
theorem q1399 : (Jvm.Cond.methodLink "ClockworkTailorLaw" (131 : Nat) ({ cls := "ClockworkTailor", name := "refusalCause", desc := "()I" } : Jvm.MethodName)) ∈ lw_all := lw_g (lw_at lw_m6 106 rfl) rfl
theorem q1407 : (Jvm.Cond.methodLink "ClockworkTailorLaw" (310 : Nat) ({ cls := "ClockworkTailorLaw", name := "writeRecipe", desc := "(LClockworkTailor;C[J)I" } : Jvm.MethodName)) ∈ lw_all := lw_g (lw_at lw_m6 114 rfl) rfl
theorem q1408 : (Jvm.Cond.static ({ cls := "ClockworkTailorLaw", name := "writeRecipe", desc := "(LClockworkTailor;C[J)I" } : Jvm.MethodName)) ∈ lw_all := lw_g (lw_at lw_m6 115 rfl) rfl
theorem q1409 : (Jvm.Cond.codeWith ({ cls := "ClockworkTailorLaw", name := "writeRecipe", desc := "(LClockworkTailor;C[J)I" } : Jvm.MethodName) method_35_code (4 : Nat) (Option.some Jvm.ClassFile.FieldType.int) [((0 : Nat), (9 : Nat), (12 : Nat), (13 : Nat)), ((0 : Nat), (9 : Nat), (15 : Nat), (21 : Nat))]) ∈ lw_all := lw_g (lw_at lw_m6 116 rfl) rfl
theorem q1410 : (Jvm.Cond.methodLink "ClockworkTailorLaw" (134 : Nat) ({ cls := "ClockworkTailor", name := "writeRecipe", desc := "(C)I" } : Jvm.MethodName)) ∈ lw_all := lw_g (lw_at lw_m6 117 rfl) rfl
theorem q1696 : (Jvm.Cond.methodLink "ClockworkTailorLaw" (313 : Nat) ({ cls := "ClockworkTailorLaw", name := "writeObject", desc := "(LClockworkTailor;I[J)I" } : Jvm.MethodName)) ∈ lw_all := lw_g (lw_at lw_m7 163 rfl) rfl
theorem q1697 : (Jvm.Cond.static ({ cls := "ClockworkTailorLaw", name := "writeObject", desc := "(LClockworkTailor;I[J)I" } : Jvm.MethodName)) ∈ lw_all := lw_g (lw_at lw_m7 164 rfl) rfl
theorem q1698 : (Jvm.Cond.codeWith ({ cls := "ClockworkTailorLaw", name := "writeObject", desc := "(LClockworkTailor;I[J)I" } : Jvm.MethodName) method_36_code (4 : Nat) (Option.some Jvm.ClassFile.FieldType.int) [((0 : Nat), (9 : Nat), (12 : Nat), (48 : Nat))]) ∈ lw_all := lw_g (lw_at lw_m7 165 rfl) rfl
theorem q1699 : (Jvm.Cond.methodLink "ClockworkTailorLaw" (137 : Nat) ({ cls := "ClockworkTailor", name := "writeObject", desc := "(I)I" } : Jvm.MethodName)) ∈ lw_all := lw_g (lw_at lw_m7 166 rfl) rfl
theorem q1711 : (Jvm.Cond.methodLink "ClockworkTailorLaw" (316 : Nat) ({ cls := "ClockworkTailorLaw", name := "lineAt", desc := "(LClockworkTailor;I[J)I" } : Jvm.MethodName)) ∈ lw_all := lw_g (lw_at lw_m7 178 rfl) rfl
theorem q1712 : (Jvm.Cond.static ({ cls := "ClockworkTailorLaw", name := "lineAt", desc := "(LClockworkTailor;I[J)I" } : Jvm.MethodName)) ∈ lw_all := lw_g (lw_at lw_m7 179 rfl) rfl
theorem q1713 : (Jvm.Cond.codeWith ({ cls := "ClockworkTailorLaw", name := "lineAt", desc := "(LClockworkTailor;I[J)I" } : Jvm.MethodName) method_37_code (4 : Nat) (Option.some Jvm.ClassFile.FieldType.int) [((0 : Nat), (9 : Nat), (12 : Nat), (48 : Nat))]) ∈ lw_all := lw_g (lw_at lw_m7 180 rfl) rfl
theorem q1714 : (Jvm.Cond.methodLink "ClockworkTailorLaw" (140 : Nat) ({ cls := "ClockworkTailor", name := "lineAt", desc := "(I)C" } : Jvm.MethodName)) ∈ lw_all := lw_g (lw_at lw_m7 181 rfl) rfl
theorem q1728 : (Jvm.Cond.methodLink "ClockworkTailorLaw" (324 : Nat) ({ cls := "ClockworkTailorLaw", name := "type", desc := "(LClockworkTailor;C[J)I" } : Jvm.MethodName)) ∈ lw_all := lw_g (lw_at lw_m7 195 rfl) rfl
theorem q1729 : (Jvm.Cond.static ({ cls := "ClockworkTailorLaw", name := "type", desc := "(LClockworkTailor;C[J)I" } : Jvm.MethodName)) ∈ lw_all := lw_g (lw_at lw_m7 196 rfl) rfl
theorem q1730 : (Jvm.Cond.codeWith ({ cls := "ClockworkTailorLaw", name := "type", desc := "(LClockworkTailor;C[J)I" } : Jvm.MethodName) method_38_code (4 : Nat) (Option.some Jvm.ClassFile.FieldType.int) [((0 : Nat), (9 : Nat), (12 : Nat), (13 : Nat)), ((0 : Nat), (9 : Nat), (15 : Nat), (15 : Nat))]) ∈ lw_all := lw_g (lw_at lw_m7 197 rfl) rfl
theorem q1731 : (Jvm.Cond.methodLink "ClockworkTailorLaw" (143 : Nat) ({ cls := "ClockworkTailor", name := "type", desc := "(C)I" } : Jvm.MethodName)) ∈ lw_all := lw_g (lw_at lw_m7 198 rfl) rfl
theorem q1737 : (Jvm.Cond.methodLink "ClockworkTailorLaw" (327 : Nat) ({ cls := "ClockworkTailorLaw", name := "execute", desc := "(LClockworkTailor;[J)I" } : Jvm.MethodName)) ∈ lw_all := lw_g (lw_at lw_m7 204 rfl) rfl
theorem q1738 : (Jvm.Cond.static ({ cls := "ClockworkTailorLaw", name := "execute", desc := "(LClockworkTailor;[J)I" } : Jvm.MethodName)) ∈ lw_all := lw_g (lw_at lw_m7 205 rfl) rfl
theorem q1739 : (Jvm.Cond.codeWith ({ cls := "ClockworkTailorLaw", name := "execute", desc := "(LClockworkTailor;[J)I" } : Jvm.MethodName) method_39_code (3 : Nat) (Option.some Jvm.ClassFile.FieldType.int) [((0 : Nat), (8 : Nat), (11 : Nat), (13 : Nat)), ((0 : Nat), (8 : Nat), (14 : Nat), (27 : Nat))]) ∈ lw_all := lw_g (lw_at lw_m7 206 rfl) rfl
theorem q1740 : (Jvm.Cond.methodLink "ClockworkTailorLaw" (146 : Nat) ({ cls := "ClockworkTailor", name := "execute", desc := "()I" } : Jvm.MethodName)) ∈ lw_all := lw_g (lw_at lw_m7 207 rfl) rfl
theorem q1994 : (Jvm.Cond.methodLink "ClockworkTailorLaw" (330 : Nat) ({ cls := "ClockworkTailorLaw", name := "errorPosition", desc := "(LClockworkTailor;[J)I" } : Jvm.MethodName)) ∈ lw_all := lw_g (lw_at lw_m8 221 rfl) rfl
theorem q1995 : (Jvm.Cond.static ({ cls := "ClockworkTailorLaw", name := "errorPosition", desc := "(LClockworkTailor;[J)I" } : Jvm.MethodName)) ∈ lw_all := lw_g (lw_at lw_m8 222 rfl) rfl
theorem q1996 : (Jvm.Cond.codeWith ({ cls := "ClockworkTailorLaw", name := "errorPosition", desc := "(LClockworkTailor;[J)I" } : Jvm.MethodName) method_40_code (3 : Nat) (Option.some Jvm.ClassFile.FieldType.int) [((0 : Nat), (8 : Nat), (11 : Nat), (21 : Nat))]) ∈ lw_all := lw_g (lw_at lw_m8 223 rfl) rfl
theorem q1997 : (Jvm.Cond.methodLink "ClockworkTailorLaw" (149 : Nat) ({ cls := "ClockworkTailor", name := "errorPosition", desc := "()I" } : Jvm.MethodName)) ∈ lw_all := lw_g (lw_at lw_m8 224 rfl) rfl
theorem q2001 : (Jvm.Cond.methodLink "ClockworkTailorLaw" (333 : Nat) ({ cls := "ClockworkTailorLaw", name := "undo", desc := "(LClockworkTailor;[J)I" } : Jvm.MethodName)) ∈ lw_all := lw_g (lw_at lw_m8 228 rfl) rfl
theorem q2002 : (Jvm.Cond.static ({ cls := "ClockworkTailorLaw", name := "undo", desc := "(LClockworkTailor;[J)I" } : Jvm.MethodName)) ∈ lw_all := lw_g (lw_at lw_m8 229 rfl) rfl
theorem q2003 : (Jvm.Cond.codeWith ({ cls := "ClockworkTailorLaw", name := "undo", desc := "(LClockworkTailor;[J)I" } : Jvm.MethodName) method_41_code (3 : Nat) (Option.some Jvm.ClassFile.FieldType.int) [((0 : Nat), (8 : Nat), (11 : Nat), (15 : Nat))]) ∈ lw_all := lw_g (lw_at lw_m8 230 rfl) rfl
theorem q2004 : (Jvm.Cond.methodLink "ClockworkTailorLaw" (152 : Nat) ({ cls := "ClockworkTailor", name := "undo", desc := "()I" } : Jvm.MethodName)) ∈ lw_all := lw_g (lw_at lw_m8 231 rfl) rfl
theorem q2016 : (Jvm.Cond.methodLink "ClockworkTailorLaw" (340 : Nat) ({ cls := "ClockworkTailorLaw", name := "restore", desc := "(LClockworkTailor;[J)I" } : Jvm.MethodName)) ∈ lw_all := lw_g (lw_at lw_m9 3 rfl) rfl
theorem q2017 : (Jvm.Cond.static ({ cls := "ClockworkTailorLaw", name := "restore", desc := "(LClockworkTailor;[J)I" } : Jvm.MethodName)) ∈ lw_all := lw_g (lw_at lw_m9 4 rfl) rfl
theorem q2018 : (Jvm.Cond.codeWith ({ cls := "ClockworkTailorLaw", name := "restore", desc := "(LClockworkTailor;[J)I" } : Jvm.MethodName) method_42_code (3 : Nat) (Option.some Jvm.ClassFile.FieldType.int) [((0 : Nat), (8 : Nat), (11 : Nat), (15 : Nat))]) ∈ lw_all := lw_g (lw_at lw_m9 5 rfl) rfl
theorem q2019 : (Jvm.Cond.methodLink "ClockworkTailorLaw" (155 : Nat) ({ cls := "ClockworkTailor", name := "restore", desc := "()I" } : Jvm.MethodName)) ∈ lw_all := lw_g (lw_at lw_m9 6 rfl) rfl
theorem q2023 : (Jvm.Cond.classLink "ClockworkTailorLaw" (159 : Nat) "ClockworkTailorModel") ∈ lw_all := lw_g (lw_at lw_m9 10 rfl) rfl
theorem q2025 : (Jvm.Cond.methodLink "ClockworkTailorLaw" (161 : Nat) ({ cls := "ClockworkTailorModel", name := "<init>", desc := "()V" } : Jvm.MethodName)) ∈ lw_all := lw_g (lw_at lw_m9 12 rfl) rfl
theorem q2099 : (Jvm.Cond.methodLink "ClockworkTailorLaw" (168 : Nat) ({ cls := "ClockworkTailorModel", name := "thrown", desc := "()I" } : Jvm.MethodName)) ∈ lw_all := lw_g (lw_at lw_m9 86 rfl) rfl
theorem q2103 : (Jvm.Cond.methodLink "ClockworkTailorLaw" (167 : Nat) ({ cls := "ClockworkTailorModel", name := "define", desc := "(CCI)I" } : Jvm.MethodName)) ∈ lw_all := lw_g (lw_at lw_m9 90 rfl) rfl
theorem q2143 : (Jvm.Cond.methodLink "ClockworkTailorLaw" (174 : Nat) ({ cls := "ClockworkTailorModel", name := "dropRecipe", desc := "(C)I" } : Jvm.MethodName)) ∈ lw_all := lw_g (lw_at lw_m9 130 rfl) rfl
theorem q2159 : (Jvm.Cond.methodLink "ClockworkTailorLaw" (178 : Nat) ({ cls := "ClockworkTailorModel", name := "addNeed", desc := "(CCZ)I" } : Jvm.MethodName)) ∈ lw_all := lw_g (lw_at lw_m9 146 rfl) rfl
theorem q2195 : (Jvm.Cond.methodLink "ClockworkTailorLaw" (182 : Nat) ({ cls := "ClockworkTailorModel", name := "removeNeed", desc := "(CC)I" } : Jvm.MethodName)) ∈ lw_all := lw_g (lw_at lw_m9 182 rfl) rfl
theorem q2199 : (Jvm.Cond.methodLink "ClockworkTailorLaw" (186 : Nat) ({ cls := "ClockworkTailorModel", name := "recipeCount", desc := "()I" } : Jvm.MethodName)) ∈ lw_all := lw_g (lw_at lw_m9 186 rfl) rfl
theorem q2203 : (Jvm.Cond.methodLink "ClockworkTailorLaw" (189 : Nat) ({ cls := "ClockworkTailorModel", name := "hasRecipe", desc := "(C)Z" } : Jvm.MethodName)) ∈ lw_all := lw_g (lw_at lw_m9 190 rfl) rfl
theorem q2207 : (Jvm.Cond.methodLink "ClockworkTailorLaw" (192 : Nat) ({ cls := "ClockworkTailorModel", name := "scopeOf", desc := "(C)C" } : Jvm.MethodName)) ∈ lw_all := lw_g (lw_at lw_m9 194 rfl) rfl
theorem q2211 : (Jvm.Cond.methodLink "ClockworkTailorLaw" (195 : Nat) ({ cls := "ClockworkTailorModel", name := "needCount", desc := "(C)I" } : Jvm.MethodName)) ∈ lw_all := lw_g (lw_at lw_m9 198 rfl) rfl
theorem q2215 : (Jvm.Cond.methodLink "ClockworkTailorLaw" (199 : Nat) ({ cls := "ClockworkTailorModel", name := "needAt", desc := "(CI)C" } : Jvm.MethodName)) ∈ lw_all := lw_g (lw_at lw_m9 202 rfl) rfl
theorem q2226 : (Jvm.Cond.methodLink "ClockworkTailorLaw" (202 : Nat) ({ cls := "ClockworkTailorModel", name := "isLazyNeed", desc := "(CI)Z" } : Jvm.MethodName)) ∈ lw_all := lw_g (lw_at lw_m9 213 rfl) rfl
theorem q2230 : (Jvm.Cond.methodLink "ClockworkTailorLaw" (205 : Nat) ({ cls := "ClockworkTailorModel", name := "replace", desc := "(CC)I" } : Jvm.MethodName)) ∈ lw_all := lw_g (lw_at lw_m9 217 rfl) rfl
theorem q2234 : (Jvm.Cond.methodLink "ClockworkTailorLaw" (208 : Nat) ({ cls := "ClockworkTailorModel", name := "putBack", desc := "(C)C" } : Jvm.MethodName)) ∈ lw_all := lw_g (lw_at lw_m9 221 rfl) rfl
theorem q2238 : (Jvm.Cond.methodLink "ClockworkTailorLaw" (211 : Nat) ({ cls := "ClockworkTailorModel", name := "standInFor", desc := "(C)C" } : Jvm.MethodName)) ∈ lw_all := lw_g (lw_at lw_m9 225 rfl) rfl
theorem q2242 : (Jvm.Cond.methodLink "ClockworkTailorLaw" (214 : Nat) ({ cls := "ClockworkTailorModel", name := "leadsToCount", desc := "(C)I" } : Jvm.MethodName)) ∈ lw_all := lw_g (lw_at lw_m9 229 rfl) rfl
theorem q2257 : (Jvm.Cond.methodLink "ClockworkTailorLaw" (217 : Nat) ({ cls := "ClockworkTailorModel", name := "leadsToByTable", desc := "(C)I" } : Jvm.MethodName)) ∈ lw_all := lw_g (lw_at lw_m10 4 rfl) rfl
theorem q2261 : (Jvm.Cond.methodLink "ClockworkTailorLaw" (221 : Nat) ({ cls := "ClockworkTailorModel", name := "inCircles", desc := "()I" } : Jvm.MethodName)) ∈ lw_all := lw_g (lw_at lw_m10 8 rfl) rfl
theorem q2269 : (Jvm.Cond.methodLink "ClockworkTailorLaw" (225 : Nat) ({ cls := "ClockworkTailorModel", name := "inCirclesBySets", desc := "()I" } : Jvm.MethodName)) ∈ lw_all := lw_g (lw_at lw_m10 16 rfl) rfl
theorem q2273 : (Jvm.Cond.methodLink "ClockworkTailorLaw" (228 : Nat) ({ cls := "ClockworkTailorModel", name := "longestWay", desc := "(C)I" } : Jvm.MethodName)) ∈ lw_all := lw_g (lw_at lw_m10 20 rfl) rfl
theorem q2288 : (Jvm.Cond.methodLink "ClockworkTailorLaw" (231 : Nat) ({ cls := "ClockworkTailorModel", name := "longestByRounds", desc := "(C)I" } : Jvm.MethodName)) ∈ lw_all := lw_g (lw_at lw_m10 35 rfl) rfl
theorem q2292 : (Jvm.Cond.methodLink "ClockworkTailorLaw" (235 : Nat) ({ cls := "ClockworkTailorModel", name := "captives", desc := "()I" } : Jvm.MethodName)) ∈ lw_all := lw_g (lw_at lw_m10 39 rfl) rfl
theorem q2296 : (Jvm.Cond.methodLink "ClockworkTailorLaw" (239 : Nat) ({ cls := "ClockworkTailorModel", name := "openThread", desc := "()I" } : Jvm.MethodName)) ∈ lw_all := lw_g (lw_at lw_m10 43 rfl) rfl
theorem q2304 : (Jvm.Cond.methodLink "ClockworkTailorLaw" (243 : Nat) ({ cls := "ClockworkTailorModel", name := "closeThread", desc := "(I)I" } : Jvm.MethodName)) ∈ lw_all := lw_g (lw_at lw_m10 51 rfl) rfl
theorem q2308 : (Jvm.Cond.methodLink "ClockworkTailorLaw" (246 : Nat) ({ cls := "ClockworkTailorModel", name := "isOpen", desc := "(I)Z" } : Jvm.MethodName)) ∈ lw_all := lw_g (lw_at lw_m10 55 rfl) rfl
theorem q2312 : (Jvm.Cond.methodLink "ClockworkTailorLaw" (249 : Nat) ({ cls := "ClockworkTailorModel", name := "make", desc := "(CI)I" } : Jvm.MethodName)) ∈ lw_all := lw_g (lw_at lw_m10 59 rfl) rfl
theorem q2336 : (Jvm.Cond.methodLink "ClockworkTailorLaw" (253 : Nat) ({ cls := "ClockworkTailorModel", name := "touch", desc := "(III)I" } : Jvm.MethodName)) ∈ lw_all := lw_g (lw_at lw_m10 83 rfl) rfl
theorem q2348 : (Jvm.Cond.methodLink "ClockworkTailorLaw" (256 : Nat) ({ cls := "ClockworkTailorModel", name := "wouldMake", desc := "(CI)I" } : Jvm.MethodName)) ∈ lw_all := lw_g (lw_at lw_m10 95 rfl) rfl
theorem q2356 : (Jvm.Cond.methodLink "ClockworkTailorLaw" (259 : Nat) ({ cls := "ClockworkTailorModel", name := "wouldMakeByCounting", desc := "(CI)I" } : Jvm.MethodName)) ∈ lw_all := lw_g (lw_at lw_m10 103 rfl) rfl
theorem q2360 : (Jvm.Cond.methodLink "ClockworkTailorLaw" (263 : Nat) ({ cls := "ClockworkTailorModel", name := "objectCount", desc := "()I" } : Jvm.MethodName)) ∈ lw_all := lw_g (lw_at lw_m10 107 rfl) rfl
theorem q2364 : (Jvm.Cond.methodLink "ClockworkTailorLaw" (266 : Nat) ({ cls := "ClockworkTailorModel", name := "isThere", desc := "(I)Z" } : Jvm.MethodName)) ∈ lw_all := lw_g (lw_at lw_m10 111 rfl) rfl
theorem q2368 : (Jvm.Cond.methodLink "ClockworkTailorLaw" (269 : Nat) ({ cls := "ClockworkTailorModel", name := "toolOf", desc := "(I)C" } : Jvm.MethodName)) ∈ lw_all := lw_g (lw_at lw_m10 115 rfl) rfl
theorem q2372 : (Jvm.Cond.methodLink "ClockworkTailorLaw" (272 : Nat) ({ cls := "ClockworkTailorModel", name := "threadOf", desc := "(I)I" } : Jvm.MethodName)) ∈ lw_all := lw_g (lw_at lw_m10 119 rfl) rfl
theorem q2376 : (Jvm.Cond.methodLink "ClockworkTailorLaw" (276 : Nat) ({ cls := "ClockworkTailorModel", name := "filledBy", desc := "(II)I" } : Jvm.MethodName)) ∈ lw_all := lw_g (lw_at lw_m10 123 rfl) rfl
theorem q2380 : (Jvm.Cond.methodLink "ClockworkTailorLaw" (280 : Nat) ({ cls := "ClockworkTailorModel", name := "danglers", desc := "()I" } : Jvm.MethodName)) ∈ lw_all := lw_g (lw_at lw_m10 127 rfl) rfl
theorem q2384 : (Jvm.Cond.methodLink "ClockworkTailorLaw" (284 : Nat) ({ cls := "ClockworkTailorModel", name := "gotCount", desc := "()I" } : Jvm.MethodName)) ∈ lw_all := lw_g (lw_at lw_m10 131 rfl) rfl
theorem q2388 : (Jvm.Cond.methodLink "ClockworkTailorLaw" (288 : Nat) ({ cls := "ClockworkTailorModel", name := "reusedCount", desc := "()I" } : Jvm.MethodName)) ∈ lw_all := lw_g (lw_at lw_m10 135 rfl) rfl
theorem q2392 : (Jvm.Cond.methodLink "ClockworkTailorLaw" (293 : Nat) ({ cls := "ClockworkTailorModel", name := "minutesSpent", desc := "()J" } : Jvm.MethodName)) ∈ lw_all := lw_g (lw_at lw_m10 139 rfl) rfl
theorem q2396 : (Jvm.Cond.methodLink "ClockworkTailorLaw" (297 : Nat) ({ cls := "ClockworkTailorModel", name := "meanMinutes", desc := "()D" } : Jvm.MethodName)) ∈ lw_all := lw_g (lw_at lw_m10 143 rfl) rfl
theorem q2400 : (Jvm.Cond.methodLink "ClockworkTailorLaw" (300 : Nat) ({ cls := "ClockworkTailorModel", name := "reuseShare", desc := "()F" } : Jvm.MethodName)) ∈ lw_all := lw_g (lw_at lw_m10 147 rfl) rfl
theorem q2404 : (Jvm.Cond.methodLink "ClockworkTailorLaw" (303 : Nat) ({ cls := "ClockworkTailorModel", name := "refusalReason", desc := "()I" } : Jvm.MethodName)) ∈ lw_all := lw_g (lw_at lw_m10 151 rfl) rfl
theorem q2408 : (Jvm.Cond.methodLink "ClockworkTailorLaw" (306 : Nat) ({ cls := "ClockworkTailorModel", name := "refusalDetail", desc := "()I" } : Jvm.MethodName)) ∈ lw_all := lw_g (lw_at lw_m10 155 rfl) rfl
theorem q2412 : (Jvm.Cond.methodLink "ClockworkTailorLaw" (309 : Nat) ({ cls := "ClockworkTailorModel", name := "refusalCause", desc := "()I" } : Jvm.MethodName)) ∈ lw_all := lw_g (lw_at lw_m10 159 rfl) rfl
theorem q2416 : (Jvm.Cond.methodLink "ClockworkTailorLaw" (312 : Nat) ({ cls := "ClockworkTailorModel", name := "writeRecipe", desc := "(C)I" } : Jvm.MethodName)) ∈ lw_all := lw_g (lw_at lw_m10 163 rfl) rfl
theorem q2428 : (Jvm.Cond.methodLink "ClockworkTailorLaw" (315 : Nat) ({ cls := "ClockworkTailorModel", name := "writeObject", desc := "(I)I" } : Jvm.MethodName)) ∈ lw_all := lw_g (lw_at lw_m10 175 rfl) rfl
theorem q2432 : (Jvm.Cond.methodLink "ClockworkTailorLaw" (318 : Nat) ({ cls := "ClockworkTailorModel", name := "lineAt", desc := "(I)C" } : Jvm.MethodName)) ∈ lw_all := lw_g (lw_at lw_m10 179 rfl) rfl
theorem q2436 : (Jvm.Cond.methodLink "ClockworkTailorLaw" (323 : Nat) ({ cls := "ClockworkTailorModel", name := "isConsistent", desc := "()Z" } : Jvm.MethodName)) ∈ lw_all := lw_g (lw_at lw_m10 183 rfl) rfl
theorem q2440 : (Jvm.Cond.methodLink "ClockworkTailorLaw" (326 : Nat) ({ cls := "ClockworkTailorModel", name := "type", desc := "(C)I" } : Jvm.MethodName)) ∈ lw_all := lw_g (lw_at lw_m10 187 rfl) rfl
theorem q2444 : (Jvm.Cond.methodLink "ClockworkTailorLaw" (329 : Nat) ({ cls := "ClockworkTailorModel", name := "execute", desc := "()I" } : Jvm.MethodName)) ∈ lw_all := lw_g (lw_at lw_m10 191 rfl) rfl
theorem q2515 : (Jvm.Cond.methodLink "ClockworkTailorLaw" (332 : Nat) ({ cls := "ClockworkTailorModel", name := "errorPosition", desc := "()I" } : Jvm.MethodName)) ∈ lw_all := lw_g (lw_at lw_m11 22 rfl) rfl
theorem q2519 : (Jvm.Cond.methodLink "ClockworkTailorLaw" (335 : Nat) ({ cls := "ClockworkTailorModel", name := "undo", desc := "()I" } : Jvm.MethodName)) ∈ lw_all := lw_g (lw_at lw_m11 26 rfl) rfl
theorem q2523 : (Jvm.Cond.methodLink "ClockworkTailorLaw" (339 : Nat) ({ cls := "ClockworkTailorModel", name := "save", desc := "()I" } : Jvm.MethodName)) ∈ lw_all := lw_g (lw_at lw_m11 30 rfl) rfl
theorem q2527 : (Jvm.Cond.methodLink "ClockworkTailorLaw" (342 : Nat) ({ cls := "ClockworkTailorModel", name := "restore", desc := "()I" } : Jvm.MethodName)) ∈ lw_all := lw_g (lw_at lw_m11 34 rfl) rfl

