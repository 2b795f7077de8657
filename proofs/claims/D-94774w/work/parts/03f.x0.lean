/-! the law's own entry -/
set_option maxRecDepth 100000
abbrev cL_law : ByteArray := code
def dkwL_law_99 : List UInt8 := [167, 246, 119, 4, 172]
abbrev dktL_law_99 : List UInt8 := dkwL_law_99 ++ []
def dkwL_law_98 : List UInt8 := [4, 96, 46, 182, 0, 252, 44, 42, 21, 4, 4, 96, 46, 182, 0, 255, 159, 0, 5, 3, 172, 132, 4, 6]
abbrev dktL_law_98 : List UInt8 := dkwL_law_98 ++ dktL_law_99
def dkwL_law_97 : List UInt8 := [4, 96, 46, 182, 0, 251, 44, 182, 0, 134, 21, 5, 159, 0, 5, 3, 172, 167, 0, 28, 43, 42, 21, 4]
abbrev dktL_law_97 : List UInt8 := dkwL_law_97 ++ dktL_law_98
def dkwL_law_96 : List UInt8 := [159, 0, 5, 3, 172, 167, 0, 64, 43, 42, 21, 4, 4, 96, 46, 184, 0, 249, 54, 5, 44, 42, 21, 4]
abbrev dktL_law_96 : List UInt8 := dkwL_law_96 ++ dktL_law_97
def dkwL_law_95 : List UInt8 := [4, 96, 46, 184, 0, 245, 54, 5, 44, 42, 21, 4, 4, 96, 46, 182, 0, 248, 44, 182, 0, 134, 21, 5]
abbrev dktL_law_95 : List UInt8 := dkwL_law_95 ++ dktL_law_96
def dkwL_law_94 : List UInt8 := [21, 5, 154, 0, 15, 45, 3, 47, 21, 6, 133, 148, 153, 0, 5, 3, 172, 167, 0, 100, 43, 42, 21, 4]
abbrev dktL_law_94 : List UInt8 := dkwL_law_94 ++ dktL_law_95
def dkwL_law_93 : List UInt8 := [44, 42, 21, 4, 4, 96, 46, 182, 0, 244, 54, 6, 44, 182, 0, 134, 21, 5, 159, 0, 5, 3, 172]
abbrev dktL_law_93 : List UInt8 := dkwL_law_93 ++ dktL_law_94
def dkwL_law_92 : List UInt8 := [22, 6, 148, 153, 0, 5, 3, 172, 167, 0, 156, 43, 42, 21, 4, 4, 96, 46, 45, 184, 0, 242, 54, 5]
abbrev dktL_law_92 : List UInt8 := dkwL_law_92 ++ dktL_law_93
def dkwL_law_91 : List UInt8 := [182, 0, 241, 55, 6, 44, 182, 0, 134, 21, 5, 159, 0, 5, 3, 172, 21, 5, 154, 0, 14, 45, 3, 47]
abbrev dktL_law_91 : List UInt8 := dkwL_law_91 ++ dktL_law_92
def dkwL_law_90 : List UInt8 := [96, 46, 42, 21, 4, 6, 96, 46, 133, 16, 32, 121, 42, 21, 4, 7, 96, 46, 133, 20, 0, 236, 127, 129]
abbrev dktL_law_90 : List UInt8 := dkwL_law_90 ++ dktL_law_91
def dkwL_law_89 : List UInt8 := [46, 133, 20, 0, 236, 127, 129, 45, 184, 0, 238, 54, 5, 44, 42, 21, 4, 4, 96, 46, 42, 21, 4, 5]
abbrev dktL_law_89 : List UInt8 := dkwL_law_89 ++ dktL_law_90
def dkwL_law_88 : List UInt8 := [4, 96, 46, 42, 21, 4, 5, 96, 46, 42, 21, 4, 6, 96, 46, 133, 16, 32, 121, 42, 21, 4, 7, 96]
abbrev dktL_law_88 : List UInt8 := dkwL_law_88 ++ dktL_law_89
def dkwL_law_87 : List UInt8 := [6, 96, 46, 182, 0, 235, 44, 182, 0, 134, 21, 5, 159, 0, 5, 3, 172, 167, 1, 11, 43, 42, 21, 4]
abbrev dktL_law_87 : List UInt8 := dkwL_law_87 ++ dktL_law_88
def dkwL_law_86 : List UInt8 := [6, 96, 46, 184, 0, 232, 54, 5, 44, 42, 21, 4, 4, 96, 46, 42, 21, 4, 5, 96, 46, 42, 21, 4]
abbrev dktL_law_86 : List UInt8 := dkwL_law_86 ++ dktL_law_87
def dkwL_law_85 : List UInt8 := [153, 0, 5, 3, 172, 167, 1, 71, 43, 42, 21, 4, 4, 96, 46, 42, 21, 4, 5, 96, 46, 42, 21, 4]
abbrev dktL_law_85 : List UInt8 := dkwL_law_85 ++ dktL_law_86
def dkwL_law_84 : List UInt8 := [182, 0, 134, 21, 5, 159, 0, 5, 3, 172, 21, 5, 154, 0, 15, 45, 3, 47, 21, 6, 133, 148]
abbrev dktL_law_84 : List UInt8 := dkwL_law_84 ++ dktL_law_85
def dkwL_law_83 : List UInt8 := [184, 0, 229, 54, 5, 44, 42, 21, 4, 4, 96, 46, 42, 21, 4, 5, 96, 46, 182, 0, 231, 54, 6, 44]
abbrev dktL_law_83 : List UInt8 := dkwL_law_83 ++ dktL_law_84
def dkwL_law_82 : List UInt8 := [153, 0, 5, 3, 172, 167, 1, 139, 43, 42, 21, 4, 4, 96, 46, 42, 21, 4, 5, 96, 46, 45]
abbrev dktL_law_82 : List UInt8 := dkwL_law_82 ++ dktL_law_83
def dkwL_law_81 : List UInt8 := [182, 0, 134, 21, 5, 159, 0, 5, 3, 172, 21, 5, 154, 0, 15, 45, 3, 47, 21, 6, 133, 148]
abbrev dktL_law_81 : List UInt8 := dkwL_law_81 ++ dktL_law_82
def dkwL_law_80 : List UInt8 := [21, 4, 4, 96, 46, 45, 184, 0, 226, 54, 5, 44, 42, 21, 4, 4, 96, 46, 182, 0, 228, 54, 6, 44]
abbrev dktL_law_80 : List UInt8 := dkwL_law_80 ++ dktL_law_81
def dkwL_law_79 : List UInt8 := [172, 21, 5, 154, 0, 15, 45, 3, 47, 21, 6, 133, 148, 153, 0, 5, 3, 172, 167, 1, 195, 43, 42]
abbrev dktL_law_79 : List UInt8 := dkwL_law_79 ++ dktL_law_80
def dkwL_law_78 : List UInt8 := [4, 96, 46, 42, 21, 4, 5, 96, 46, 182, 0, 225, 54, 6, 44, 182, 0, 134, 21, 5, 159, 0, 5, 3]
abbrev dktL_law_78 : List UInt8 := dkwL_law_78 ++ dktL_law_79
def dkwL_law_77 : List UInt8 := [172, 43, 42, 21, 4, 4, 96, 46, 42, 21, 4, 5, 96, 46, 45, 184, 0, 223, 54, 5, 44, 42, 21, 4]
abbrev dktL_law_77 : List UInt8 := dkwL_law_77 ++ dktL_law_78
def dkwL_law_76 : List UInt8 := [21, 6, 133, 148, 153, 0, 5, 3, 172, 167, 2, 20, 43, 182, 0, 219, 44, 182, 0, 222, 159, 2, 9, 3]
abbrev dktL_law_76 : List UInt8 := dkwL_law_76 ++ dktL_law_77
def dkwL_law_75 : List UInt8 := [182, 0, 218, 54, 6, 44, 182, 0, 134, 21, 5, 159, 0, 5, 3, 172, 21, 5, 154, 0, 15, 45, 3, 47]
abbrev dktL_law_75 : List UInt8 := dkwL_law_75 ++ dktL_law_76
def dkwL_law_74 : List UInt8 := [167, 2, 76, 43, 42, 21, 4, 4, 96, 46, 45, 184, 0, 216, 54, 5, 44, 42, 21, 4, 4, 96, 46]
abbrev dktL_law_74 : List UInt8 := dkwL_law_74 ++ dktL_law_75
def dkwL_law_73 : List UInt8 := [159, 0, 5, 3, 172, 21, 5, 154, 0, 15, 45, 3, 47, 21, 6, 133, 148, 153, 0, 5, 3, 172]
abbrev dktL_law_73 : List UInt8 := dkwL_law_73 ++ dktL_law_74
def dkwL_law_72 : List UInt8 := [21, 4, 4, 96, 46, 42, 21, 4, 5, 96, 46, 182, 0, 215, 54, 6, 44, 182, 0, 134, 21, 5]
abbrev dktL_law_72 : List UInt8 := dkwL_law_72 ++ dktL_law_73
def dkwL_law_71 : List UInt8 := [167, 2, 144, 43, 42, 21, 4, 4, 96, 46, 42, 21, 4, 5, 96, 46, 45, 184, 0, 213, 54, 5, 44, 42]
abbrev dktL_law_71 : List UInt8 := dkwL_law_71 ++ dktL_law_72
def dkwL_law_70 : List UInt8 := [159, 0, 5, 3, 172, 21, 5, 154, 0, 15, 45, 3, 47, 21, 6, 133, 148, 153, 0, 5, 3, 172]
abbrev dktL_law_70 : List UInt8 := dkwL_law_70 ++ dktL_law_71
def dkwL_law_69 : List UInt8 := [42, 21, 4, 6, 96, 46, 42, 21, 4, 7, 96, 46, 182, 0, 212, 54, 6, 44, 182, 0, 134, 21, 5]
abbrev dktL_law_69 : List UInt8 := dkwL_law_69 ++ dktL_law_70
def dkwL_law_68 : List UInt8 := [21, 4, 7, 96, 46, 45, 184, 0, 209, 54, 5, 44, 42, 21, 4, 4, 96, 46, 42, 21, 4, 5, 96, 46]
abbrev dktL_law_68 : List UInt8 := dkwL_law_68 ++ dktL_law_69
def dkwL_law_67 : List UInt8 := [167, 2, 236, 43, 42, 21, 4, 4, 96, 46, 42, 21, 4, 5, 96, 46, 42, 21, 4, 6, 96, 46, 42]
abbrev dktL_law_67 : List UInt8 := dkwL_law_67 ++ dktL_law_68
def dkwL_law_66 : List UInt8 := [21, 5, 159, 0, 5, 3, 172, 21, 5, 154, 0, 15, 45, 3, 47, 21, 6, 133, 148, 153, 0, 5, 3, 172]
abbrev dktL_law_66 : List UInt8 := dkwL_law_66 ++ dktL_law_67
def dkwL_law_65 : List UInt8 := [96, 46, 42, 21, 4, 5, 96, 46, 42, 21, 4, 6, 96, 46, 182, 0, 208, 54, 6, 44, 182, 0, 134]
abbrev dktL_law_65 : List UInt8 := dkwL_law_65 ++ dktL_law_66
def dkwL_law_64 : List UInt8 := [46, 42, 21, 4, 5, 96, 46, 42, 21, 4, 6, 96, 46, 45, 184, 0, 206, 54, 5, 44, 42, 21, 4, 4]
abbrev dktL_law_64 : List UInt8 := dkwL_law_64 ++ dktL_law_65
def dkwL_law_63 : List UInt8 := [154, 0, 15, 45, 3, 47, 21, 6, 133, 148, 153, 0, 5, 3, 172, 167, 3, 60, 43, 42, 21, 4, 4, 96]
abbrev dktL_law_63 : List UInt8 := dkwL_law_63 ++ dktL_law_64
def dkwL_law_62 : List UInt8 := [42, 21, 4, 6, 96, 46, 182, 0, 205, 54, 6, 44, 182, 0, 134, 21, 5, 159, 0, 5, 3, 172, 21, 5]
abbrev dktL_law_62 : List UInt8 := dkwL_law_62 ++ dktL_law_63
def dkwL_law_61 : List UInt8 := [21, 4, 6, 96, 46, 45, 184, 0, 203, 54, 5, 44, 42, 21, 4, 4, 96, 46, 42, 21, 4, 5, 96, 46]
abbrev dktL_law_61 : List UInt8 := dkwL_law_61 ++ dktL_law_62
def dkwL_law_60 : List UInt8 := [148, 153, 0, 5, 3, 172, 167, 3, 140, 43, 42, 21, 4, 4, 96, 46, 42, 21, 4, 5, 96, 46, 42]
abbrev dktL_law_60 : List UInt8 := dkwL_law_60 ++ dktL_law_61
def dkwL_law_59 : List UInt8 := [54, 6, 44, 182, 0, 134, 21, 5, 159, 0, 5, 3, 172, 21, 5, 154, 0, 15, 45, 3, 47, 21, 6, 133]
abbrev dktL_law_59 : List UInt8 := dkwL_law_59 ++ dktL_law_60
def dkwL_law_58 : List UInt8 := [46, 45, 184, 0, 200, 54, 5, 44, 42, 21, 4, 4, 96, 46, 42, 21, 4, 5, 96, 46, 182, 0, 202]
abbrev dktL_law_58 : List UInt8 := dkwL_law_58 ++ dktL_law_59
def dkwL_law_57 : List UInt8 := [21, 6, 133, 148, 153, 0, 5, 3, 172, 167, 3, 208, 43, 42, 21, 4, 4, 96, 46, 42, 21, 4, 5, 96]
abbrev dktL_law_57 : List UInt8 := dkwL_law_57 ++ dktL_law_58
def dkwL_law_56 : List UInt8 := [182, 0, 199, 54, 6, 44, 182, 0, 134, 21, 5, 159, 0, 5, 3, 172, 21, 5, 154, 0, 15, 45, 3, 47]
abbrev dktL_law_56 : List UInt8 := dkwL_law_56 ++ dktL_law_57
def dkwL_law_55 : List UInt8 := [167, 4, 8, 43, 42, 21, 4, 4, 96, 46, 45, 184, 0, 197, 54, 5, 44, 42, 21, 4, 4, 96, 46]
abbrev dktL_law_55 : List UInt8 := dkwL_law_55 ++ dktL_law_56
def dkwL_law_54 : List UInt8 := [159, 0, 5, 3, 172, 21, 5, 154, 0, 15, 45, 3, 47, 21, 6, 133, 148, 153, 0, 5, 3, 172]
abbrev dktL_law_54 : List UInt8 := dkwL_law_54 ++ dktL_law_55
def dkwL_law_53 : List UInt8 := [21, 4, 4, 96, 46, 42, 21, 4, 5, 96, 46, 182, 0, 196, 54, 6, 44, 182, 0, 134, 21, 5]
abbrev dktL_law_53 : List UInt8 := dkwL_law_53 ++ dktL_law_54
def dkwL_law_52 : List UInt8 := [167, 4, 76, 43, 42, 21, 4, 4, 96, 46, 42, 21, 4, 5, 96, 46, 45, 184, 0, 194, 54, 5, 44, 42]
abbrev dktL_law_52 : List UInt8 := dkwL_law_52 ++ dktL_law_53
def dkwL_law_51 : List UInt8 := [21, 5, 159, 0, 5, 3, 172, 21, 5, 154, 0, 15, 45, 3, 47, 21, 6, 133, 148, 153, 0, 5, 3, 172]
abbrev dktL_law_51 : List UInt8 := dkwL_law_51 ++ dktL_law_52
def dkwL_law_50 : List UInt8 := [46, 45, 184, 0, 191, 54, 5, 44, 42, 21, 4, 4, 96, 46, 182, 0, 193, 54, 6, 44, 182, 0, 134]
abbrev dktL_law_50 : List UInt8 := dkwL_law_50 ++ dktL_law_51
def dkwL_law_49 : List UInt8 := [154, 0, 15, 45, 3, 47, 21, 6, 133, 148, 153, 0, 5, 3, 172, 167, 4, 132, 43, 42, 21, 4, 4, 96]
abbrev dktL_law_49 : List UInt8 := dkwL_law_49 ++ dktL_law_50
def dkwL_law_48 : List UInt8 := [42, 21, 4, 6, 96, 46, 182, 0, 190, 54, 6, 44, 182, 0, 134, 21, 5, 159, 0, 5, 3, 172, 21, 5]
abbrev dktL_law_48 : List UInt8 := dkwL_law_48 ++ dktL_law_49
def dkwL_law_47 : List UInt8 := [21, 4, 6, 96, 46, 45, 184, 0, 188, 54, 5, 44, 42, 21, 4, 4, 96, 46, 42, 21, 4, 5, 96, 46]
abbrev dktL_law_47 : List UInt8 := dkwL_law_47 ++ dktL_law_48
def dkwL_law_46 : List UInt8 := [148, 153, 0, 5, 3, 172, 167, 4, 212, 43, 42, 21, 4, 4, 96, 46, 42, 21, 4, 5, 96, 46, 42]
abbrev dktL_law_46 : List UInt8 := dkwL_law_46 ++ dktL_law_47
def dkwL_law_45 : List UInt8 := [54, 6, 44, 182, 0, 134, 21, 5, 159, 0, 5, 3, 172, 21, 5, 154, 0, 15, 45, 3, 47, 21, 6, 133]
abbrev dktL_law_45 : List UInt8 := dkwL_law_45 ++ dktL_law_46
def dkwL_law_44 : List UInt8 := [96, 46, 45, 184, 0, 185, 54, 5, 44, 42, 21, 4, 4, 96, 46, 42, 21, 4, 5, 96, 46, 182, 0, 187]
abbrev dktL_law_44 : List UInt8 := dkwL_law_44 ++ dktL_law_45
def dkwL_law_43 : List UInt8 := [167, 0, 4, 9, 148, 153, 0, 5, 3, 172, 167, 5, 24, 43, 42, 21, 4, 4, 96, 46, 42, 21, 4, 5]
abbrev dktL_law_43 : List UInt8 := dkwL_law_43 ++ dktL_law_44
def dkwL_law_42 : List UInt8 := [182, 0, 134, 21, 5, 159, 0, 5, 3, 172, 21, 5, 154, 0, 22, 45, 3, 47, 21, 6, 153, 0, 7, 10]
abbrev dktL_law_42 : List UInt8 := dkwL_law_42 ++ dktL_law_43
def dkwL_law_41 : List UInt8 := [42, 21, 4, 4, 96, 46, 42, 21, 4, 5, 96, 46, 42, 21, 4, 6, 96, 46, 182, 0, 184, 54, 6, 44]
abbrev dktL_law_41 : List UInt8 := dkwL_law_41 ++ dktL_law_42
def dkwL_law_40 : List UInt8 := [21, 4, 4, 96, 46, 42, 21, 4, 5, 96, 46, 42, 21, 4, 6, 96, 46, 45, 184, 0, 181, 54, 5, 44]
abbrev dktL_law_40 : List UInt8 := dkwL_law_40 ++ dktL_law_41
def dkwL_law_39 : List UInt8 := [172, 21, 5, 154, 0, 15, 45, 3, 47, 21, 6, 133, 148, 153, 0, 5, 3, 172, 167, 5, 111, 43, 42]
abbrev dktL_law_39 : List UInt8 := dkwL_law_39 ++ dktL_law_40
def dkwL_law_38 : List UInt8 := [54, 5, 44, 42, 21, 4, 4, 96, 46, 182, 0, 180, 54, 6, 44, 182, 0, 134, 21, 5, 159, 0, 5, 3]
abbrev dktL_law_38 : List UInt8 := dkwL_law_38 ++ dktL_law_39
def dkwL_law_37 : List UInt8 := [167, 0, 4, 9, 148, 153, 0, 5, 3, 172, 167, 5, 167, 43, 42, 21, 4, 4, 96, 46, 45, 184, 0, 178]
abbrev dktL_law_37 : List UInt8 := dkwL_law_37 ++ dktL_law_38
def dkwL_law_36 : List UInt8 := [182, 0, 134, 21, 5, 159, 0, 5, 3, 172, 21, 5, 154, 0, 22, 45, 3, 47, 21, 6, 153, 0, 7, 10]
abbrev dktL_law_36 : List UInt8 := dkwL_law_36 ++ dktL_law_37
def dkwL_law_35 : List UInt8 := [184, 0, 175, 54, 5, 44, 42, 21, 4, 4, 96, 46, 42, 21, 4, 5, 96, 46, 182, 0, 177, 54, 6, 44]
abbrev dktL_law_35 : List UInt8 := dkwL_law_35 ++ dktL_law_36
def dkwL_law_34 : List UInt8 := [153, 0, 5, 3, 172, 167, 5, 242, 43, 42, 21, 4, 4, 96, 46, 42, 21, 4, 5, 96, 46, 45]
abbrev dktL_law_34 : List UInt8 := dkwL_law_34 ++ dktL_law_35
def dkwL_law_33 : List UInt8 := [159, 0, 5, 3, 172, 21, 5, 154, 0, 22, 45, 3, 47, 21, 6, 153, 0, 7, 10, 167, 0, 4, 9, 148]
abbrev dktL_law_33 : List UInt8 := dkwL_law_33 ++ dktL_law_34
def dkwL_law_32 : List UInt8 := [21, 4, 4, 96, 46, 42, 21, 4, 5, 96, 46, 182, 0, 174, 54, 6, 44, 182, 0, 134, 21, 5]
abbrev dktL_law_32 : List UInt8 := dkwL_law_32 ++ dktL_law_33
def dkwL_law_31 : List UInt8 := [3, 172, 43, 42, 21, 4, 4, 96, 46, 42, 21, 4, 5, 96, 46, 45, 184, 0, 172, 54, 5, 44, 42]
abbrev dktL_law_31 : List UInt8 := dkwL_law_31 ++ dktL_law_32
def dkwL_law_30 : List UInt8 := [167, 0, 4, 9, 148, 153, 0, 5, 3, 172, 167, 6, 74, 43, 182, 0, 168, 44, 182, 0, 171, 159, 6, 63]
abbrev dktL_law_30 : List UInt8 := dkwL_law_30 ++ dktL_law_31
def dkwL_law_29 : List UInt8 := [182, 0, 134, 21, 5, 159, 0, 5, 3, 172, 21, 5, 154, 0, 22, 45, 3, 47, 21, 6, 153, 0, 7, 10]
abbrev dktL_law_29 : List UInt8 := dkwL_law_29 ++ dktL_law_30
def dkwL_law_28 : List UInt8 := [184, 0, 165, 54, 5, 44, 42, 21, 4, 4, 96, 46, 42, 21, 4, 5, 96, 46, 182, 0, 167, 54, 6, 44]
abbrev dktL_law_28 : List UInt8 := dkwL_law_28 ++ dktL_law_29
def dkwL_law_27 : List UInt8 := [148, 153, 0, 5, 3, 172, 167, 6, 149, 43, 42, 21, 4, 4, 96, 46, 42, 21, 4, 5, 96, 46, 45]
abbrev dktL_law_27 : List UInt8 := dkwL_law_27 ++ dktL_law_28
def dkwL_law_26 : List UInt8 := [54, 6, 44, 182, 0, 134, 21, 5, 159, 0, 5, 3, 172, 21, 5, 154, 0, 15, 45, 3, 47, 21, 6, 133]
abbrev dktL_law_26 : List UInt8 := dkwL_law_26 ++ dktL_law_27
def dkwL_law_25 : List UInt8 := [46, 45, 184, 0, 162, 54, 5, 44, 42, 21, 4, 4, 96, 46, 42, 21, 4, 5, 96, 46, 182, 0, 164]
abbrev dktL_law_25 : List UInt8 := dkwL_law_25 ++ dktL_law_26
def dkwL_law_24 : List UInt8 := [21, 6, 133, 148, 153, 0, 5, 3, 172, 167, 6, 217, 43, 42, 21, 4, 4, 96, 46, 42, 21, 4, 5, 96]
abbrev dktL_law_24 : List UInt8 := dkwL_law_24 ++ dktL_law_25
def dkwL_law_23 : List UInt8 := [182, 0, 161, 54, 6, 44, 182, 0, 134, 21, 5, 159, 0, 5, 3, 172, 21, 5, 154, 0, 15, 45, 3, 47]
abbrev dktL_law_23 : List UInt8 := dkwL_law_23 ++ dktL_law_24
def dkwL_law_22 : List UInt8 := [167, 7, 17, 43, 42, 21, 4, 4, 96, 46, 45, 184, 0, 159, 54, 5, 44, 42, 21, 4, 4, 96, 46]
abbrev dktL_law_22 : List UInt8 := dkwL_law_22 ++ dktL_law_23
def dkwL_law_21 : List UInt8 := [159, 0, 5, 3, 172, 21, 5, 154, 0, 15, 45, 3, 47, 21, 6, 133, 148, 153, 0, 5, 3, 172]
abbrev dktL_law_21 : List UInt8 := dkwL_law_21 ++ dktL_law_22
def dkwL_law_20 : List UInt8 := [184, 0, 156, 54, 5, 44, 42, 21, 4, 4, 96, 46, 182, 0, 158, 54, 6, 44, 182, 0, 134, 21, 5]
abbrev dktL_law_20 : List UInt8 := dkwL_law_20 ++ dktL_law_21
def dkwL_law_19 : List UInt8 := [3, 47, 21, 6, 133, 148, 153, 0, 5, 3, 172, 167, 7, 73, 43, 42, 21, 4, 4, 96, 46, 45]
abbrev dktL_law_19 : List UInt8 := dkwL_law_19 ++ dktL_law_20
def dkwL_law_18 : List UInt8 := [96, 46, 182, 0, 155, 54, 6, 44, 182, 0, 134, 21, 5, 159, 0, 5, 3, 172, 21, 5, 154, 0, 15, 45]
abbrev dktL_law_18 : List UInt8 := dkwL_law_18 ++ dktL_law_19
def dkwL_law_17 : List UInt8 := [46, 42, 21, 4, 5, 96, 46, 45, 184, 0, 153, 54, 5, 44, 42, 21, 4, 4, 96, 46, 42, 21, 4, 5]
abbrev dktL_law_17 : List UInt8 := dkwL_law_17 ++ dktL_law_18
def dkwL_law_16 : List UInt8 := [154, 0, 15, 45, 3, 47, 21, 6, 133, 148, 153, 0, 5, 3, 172, 167, 7, 141, 43, 42, 21, 4, 4, 96]
abbrev dktL_law_16 : List UInt8 := dkwL_law_16 ++ dktL_law_17
def dkwL_law_15 : List UInt8 := [42, 21, 4, 5, 96, 46, 182, 0, 152, 54, 6, 44, 182, 0, 134, 21, 5, 159, 0, 5, 3, 172, 21, 5]
abbrev dktL_law_15 : List UInt8 := dkwL_law_15 ++ dktL_law_16
def dkwL_law_14 : List UInt8 := [21, 4, 4, 96, 46, 42, 21, 4, 5, 96, 46, 45, 184, 0, 150, 54, 5, 44, 42, 21, 4, 4, 96, 46]
abbrev dktL_law_14 : List UInt8 := dkwL_law_14 ++ dktL_law_15
def dkwL_law_13 : List UInt8 := [44, 42, 21, 4, 4, 96, 46, 42, 21, 4, 5, 96, 46, 182, 0, 149, 159, 7, 211, 3, 172, 43, 42]
abbrev dktL_law_13 : List UInt8 := dkwL_law_13 ++ dktL_law_14
def dkwL_law_12 : List UInt8 := [153, 0, 5, 3, 172, 167, 7, 246, 43, 42, 21, 4, 4, 96, 46, 42, 21, 4, 5, 96, 46, 182, 0, 146]
abbrev dktL_law_12 : List UInt8 := dkwL_law_12 ++ dktL_law_13
def dkwL_law_11 : List UInt8 := [182, 0, 134, 21, 5, 159, 0, 5, 3, 172, 21, 5, 154, 0, 15, 45, 3, 47, 21, 6, 133, 148]
abbrev dktL_law_11 : List UInt8 := dkwL_law_11 ++ dktL_law_12
def dkwL_law_10 : List UInt8 := [184, 0, 142, 54, 5, 44, 42, 21, 4, 4, 96, 46, 42, 21, 4, 5, 96, 46, 182, 0, 145, 54, 6, 44]
abbrev dktL_law_10 : List UInt8 := dkwL_law_10 ++ dktL_law_11
def dkwL_law_9 : List UInt8 := [96, 46, 182, 0, 141, 159, 8, 60, 3, 172, 43, 42, 21, 4, 4, 96, 46, 42, 21, 4, 5, 96, 46, 45]
abbrev dktL_law_9 : List UInt8 := dkwL_law_9 ++ dktL_law_10
def dkwL_law_8 : List UInt8 := [148, 153, 0, 5, 3, 172, 167, 8, 83, 43, 42, 21, 4, 4, 96, 46, 182, 0, 138, 44, 42, 21, 4, 4]
abbrev dktL_law_8 : List UInt8 := dkwL_law_8 ++ dktL_law_9
def dkwL_law_7 : List UInt8 := [54, 6, 44, 182, 0, 134, 21, 5, 159, 0, 5, 3, 172, 21, 5, 154, 0, 15, 45, 3, 47, 21, 6, 133]
abbrev dktL_law_7 : List UInt8 := dkwL_law_7 ++ dktL_law_8
def dkwL_law_6 : List UInt8 := [172, 43, 42, 21, 4, 4, 96, 46, 45, 184, 0, 128, 54, 5, 44, 42, 21, 4, 4, 96, 46, 182, 0, 133]
abbrev dktL_law_6 : List UInt8 := dkwL_law_6 ++ dktL_law_7
def dkwL_law_5 : List UInt8 := [21, 4, 6, 96, 46, 42, 21, 4, 7, 96, 46, 42, 21, 4, 8, 96, 46, 182, 0, 127, 159, 8, 141, 3]
abbrev dktL_law_5 : List UInt8 := dkwL_law_5 ++ dktL_law_6
def dkwL_law_4 : List UInt8 := [46, 42, 21, 4, 8, 96, 46, 182, 0, 123, 44, 42, 21, 4, 4, 96, 46, 42, 21, 4, 5, 96, 46, 42]
abbrev dktL_law_4 : List UInt8 := dkwL_law_4 ++ dktL_law_5
def dkwL_law_3 : List UInt8 := [43, 42, 21, 4, 4, 96, 46, 42, 21, 4, 5, 96, 46, 42, 21, 4, 6, 96, 46, 42, 21, 4, 7, 96]
abbrev dktL_law_3 : List UInt8 := dkwL_law_3 ++ dktL_law_4
def dkwL_law_2 : List UInt8 := [170, 0, 0, 0, 0, 0, 9, 117, 0, 0, 0, 0, 0, 0, 0, 36, 0, 0, 0, 164, 0, 0, 0, 237, 0, 0, 1, 37, 0, 0, 1, 62, 0, 0, 1, 130, 0, 0, 1, 167, 0, 0, 1, 235, 0, 0, 2, 47, 0, 0, 2, 103, 0, 0, 2, 159, 0, 0, 2, 227, 0, 0, 3, 46, 0, 0, 3, 59, 0, 0, 3, 134, 0, 0, 3, 209, 0, 0, 4, 9, 0, 0, 4, 96, 0, 0, 4, 164, 0, 0, 4, 244, 0, 0, 5, 44, 0, 0, 5, 112, 0, 0, 5, 168, 0, 0, 5, 236, 0, 0, 6, 60, 0, 0, 6, 140, 0, 0, 6, 232, 0, 0, 7, 44, 0, 0, 7, 100, 0, 0, 7, 113, 0, 0, 7, 181, 0, 0, 7, 237, 0, 0, 8, 49, 0, 0, 8, 109, 0, 0, 8, 220, 0, 0, 9, 20, 0, 0, 9, 56, 0, 0, 9, 92]
abbrev dktL_law_2 : List UInt8 := dkwL_law_2 ++ dktL_law_3
def dkwL_law_1 : List UInt8 := [21, 4, 42, 190, 16, 6, 100, 163, 9, 133, 42, 21, 4, 46, 16, 63, 126]
abbrev dktL_law_1 : List UInt8 := dkwL_law_1 ++ dktL_law_2
def dkwL_law_0 : List UInt8 := [187, 0, 8, 89, 183, 0, 119, 76, 187, 0, 120, 89, 183, 0, 122, 77, 4, 188, 11, 78, 3, 54, 4]
abbrev dktL_law_0 : List UInt8 := dkwL_law_0 ++ dktL_law_1
theorem dksL_law_0 : cL_law.data.toList.drop 0 = dktL_law_0 := by decide +kernel
theorem dksL_law_1 : cL_law.data.toList.drop 23 = dktL_law_1 := dk_seg dksL_law_0 23 rfl rfl
theorem dksL_law_2 : cL_law.data.toList.drop 40 = dktL_law_2 := dk_seg dksL_law_1 17 rfl rfl
theorem dksL_law_3 : cL_law.data.toList.drop 204 = dktL_law_3 := dk_seg dksL_law_2 164 rfl rfl
theorem dksL_law_4 : cL_law.data.toList.drop 228 = dktL_law_4 := dk_seg dksL_law_3 24 rfl rfl
theorem dksL_law_5 : cL_law.data.toList.drop 252 = dktL_law_5 := dk_seg dksL_law_4 24 rfl rfl
theorem dksL_law_6 : cL_law.data.toList.drop 276 = dktL_law_6 := dk_seg dksL_law_5 24 rfl rfl
theorem dksL_law_7 : cL_law.data.toList.drop 300 = dktL_law_7 := dk_seg dksL_law_6 24 rfl rfl
theorem dksL_law_8 : cL_law.data.toList.drop 324 = dktL_law_8 := dk_seg dksL_law_7 24 rfl rfl
theorem dksL_law_9 : cL_law.data.toList.drop 348 = dktL_law_9 := dk_seg dksL_law_8 24 rfl rfl
theorem dksL_law_10 : cL_law.data.toList.drop 372 = dktL_law_10 := dk_seg dksL_law_9 24 rfl rfl
theorem dksL_law_11 : cL_law.data.toList.drop 396 = dktL_law_11 := dk_seg dksL_law_10 24 rfl rfl
theorem dksL_law_12 : cL_law.data.toList.drop 418 = dktL_law_12 := dk_seg dksL_law_11 22 rfl rfl
theorem dksL_law_13 : cL_law.data.toList.drop 442 = dktL_law_13 := dk_seg dksL_law_12 24 rfl rfl
theorem dksL_law_14 : cL_law.data.toList.drop 465 = dktL_law_14 := dk_seg dksL_law_13 23 rfl rfl
theorem dksL_law_15 : cL_law.data.toList.drop 489 = dktL_law_15 := dk_seg dksL_law_14 24 rfl rfl
theorem dksL_law_16 : cL_law.data.toList.drop 513 = dktL_law_16 := dk_seg dksL_law_15 24 rfl rfl
theorem dksL_law_17 : cL_law.data.toList.drop 537 = dktL_law_17 := dk_seg dksL_law_16 24 rfl rfl
theorem dksL_law_18 : cL_law.data.toList.drop 561 = dktL_law_18 := dk_seg dksL_law_17 24 rfl rfl
theorem dksL_law_19 : cL_law.data.toList.drop 585 = dktL_law_19 := dk_seg dksL_law_18 24 rfl rfl
theorem dksL_law_20 : cL_law.data.toList.drop 607 = dktL_law_20 := dk_seg dksL_law_19 22 rfl rfl
theorem dksL_law_21 : cL_law.data.toList.drop 630 = dktL_law_21 := dk_seg dksL_law_20 23 rfl rfl
theorem dksL_law_22 : cL_law.data.toList.drop 652 = dktL_law_22 := dk_seg dksL_law_21 22 rfl rfl
theorem dksL_law_23 : cL_law.data.toList.drop 675 = dktL_law_23 := dk_seg dksL_law_22 23 rfl rfl
theorem dksL_law_24 : cL_law.data.toList.drop 699 = dktL_law_24 := dk_seg dksL_law_23 24 rfl rfl
theorem dksL_law_25 : cL_law.data.toList.drop 723 = dktL_law_25 := dk_seg dksL_law_24 24 rfl rfl
theorem dksL_law_26 : cL_law.data.toList.drop 746 = dktL_law_26 := dk_seg dksL_law_25 23 rfl rfl
theorem dksL_law_27 : cL_law.data.toList.drop 770 = dktL_law_27 := dk_seg dksL_law_26 24 rfl rfl
theorem dksL_law_28 : cL_law.data.toList.drop 793 = dktL_law_28 := dk_seg dksL_law_27 23 rfl rfl
theorem dksL_law_29 : cL_law.data.toList.drop 817 = dktL_law_29 := dk_seg dksL_law_28 24 rfl rfl
theorem dksL_law_30 : cL_law.data.toList.drop 841 = dktL_law_30 := dk_seg dksL_law_29 24 rfl rfl
theorem dksL_law_31 : cL_law.data.toList.drop 865 = dktL_law_31 := dk_seg dksL_law_30 24 rfl rfl
theorem dksL_law_32 : cL_law.data.toList.drop 888 = dktL_law_32 := dk_seg dksL_law_31 23 rfl rfl
theorem dksL_law_33 : cL_law.data.toList.drop 910 = dktL_law_33 := dk_seg dksL_law_32 22 rfl rfl
theorem dksL_law_34 : cL_law.data.toList.drop 934 = dktL_law_34 := dk_seg dksL_law_33 24 rfl rfl
theorem dksL_law_35 : cL_law.data.toList.drop 956 = dktL_law_35 := dk_seg dksL_law_34 22 rfl rfl
theorem dksL_law_36 : cL_law.data.toList.drop 980 = dktL_law_36 := dk_seg dksL_law_35 24 rfl rfl
theorem dksL_law_37 : cL_law.data.toList.drop 1004 = dktL_law_37 := dk_seg dksL_law_36 24 rfl rfl
theorem dksL_law_38 : cL_law.data.toList.drop 1028 = dktL_law_38 := dk_seg dksL_law_37 24 rfl rfl
theorem dksL_law_39 : cL_law.data.toList.drop 1052 = dktL_law_39 := dk_seg dksL_law_38 24 rfl rfl
theorem dksL_law_40 : cL_law.data.toList.drop 1075 = dktL_law_40 := dk_seg dksL_law_39 23 rfl rfl
theorem dksL_law_41 : cL_law.data.toList.drop 1099 = dktL_law_41 := dk_seg dksL_law_40 24 rfl rfl
theorem dksL_law_42 : cL_law.data.toList.drop 1123 = dktL_law_42 := dk_seg dksL_law_41 24 rfl rfl
theorem dksL_law_43 : cL_law.data.toList.drop 1147 = dktL_law_43 := dk_seg dksL_law_42 24 rfl rfl
theorem dksL_law_44 : cL_law.data.toList.drop 1171 = dktL_law_44 := dk_seg dksL_law_43 24 rfl rfl
theorem dksL_law_45 : cL_law.data.toList.drop 1195 = dktL_law_45 := dk_seg dksL_law_44 24 rfl rfl
theorem dksL_law_46 : cL_law.data.toList.drop 1219 = dktL_law_46 := dk_seg dksL_law_45 24 rfl rfl
theorem dksL_law_47 : cL_law.data.toList.drop 1242 = dktL_law_47 := dk_seg dksL_law_46 23 rfl rfl
theorem dksL_law_48 : cL_law.data.toList.drop 1266 = dktL_law_48 := dk_seg dksL_law_47 24 rfl rfl
theorem dksL_law_49 : cL_law.data.toList.drop 1290 = dktL_law_49 := dk_seg dksL_law_48 24 rfl rfl
theorem dksL_law_50 : cL_law.data.toList.drop 1314 = dktL_law_50 := dk_seg dksL_law_49 24 rfl rfl
theorem dksL_law_51 : cL_law.data.toList.drop 1337 = dktL_law_51 := dk_seg dksL_law_50 23 rfl rfl
theorem dksL_law_52 : cL_law.data.toList.drop 1361 = dktL_law_52 := dk_seg dksL_law_51 24 rfl rfl
theorem dksL_law_53 : cL_law.data.toList.drop 1385 = dktL_law_53 := dk_seg dksL_law_52 24 rfl rfl
theorem dksL_law_54 : cL_law.data.toList.drop 1407 = dktL_law_54 := dk_seg dksL_law_53 22 rfl rfl
theorem dksL_law_55 : cL_law.data.toList.drop 1429 = dktL_law_55 := dk_seg dksL_law_54 22 rfl rfl
theorem dksL_law_56 : cL_law.data.toList.drop 1452 = dktL_law_56 := dk_seg dksL_law_55 23 rfl rfl
theorem dksL_law_57 : cL_law.data.toList.drop 1476 = dktL_law_57 := dk_seg dksL_law_56 24 rfl rfl
theorem dksL_law_58 : cL_law.data.toList.drop 1500 = dktL_law_58 := dk_seg dksL_law_57 24 rfl rfl
theorem dksL_law_59 : cL_law.data.toList.drop 1523 = dktL_law_59 := dk_seg dksL_law_58 23 rfl rfl
theorem dksL_law_60 : cL_law.data.toList.drop 1547 = dktL_law_60 := dk_seg dksL_law_59 24 rfl rfl
theorem dksL_law_61 : cL_law.data.toList.drop 1570 = dktL_law_61 := dk_seg dksL_law_60 23 rfl rfl
theorem dksL_law_62 : cL_law.data.toList.drop 1594 = dktL_law_62 := dk_seg dksL_law_61 24 rfl rfl
theorem dksL_law_63 : cL_law.data.toList.drop 1618 = dktL_law_63 := dk_seg dksL_law_62 24 rfl rfl
theorem dksL_law_64 : cL_law.data.toList.drop 1642 = dktL_law_64 := dk_seg dksL_law_63 24 rfl rfl
theorem dksL_law_65 : cL_law.data.toList.drop 1666 = dktL_law_65 := dk_seg dksL_law_64 24 rfl rfl
theorem dksL_law_66 : cL_law.data.toList.drop 1689 = dktL_law_66 := dk_seg dksL_law_65 23 rfl rfl
theorem dksL_law_67 : cL_law.data.toList.drop 1713 = dktL_law_67 := dk_seg dksL_law_66 24 rfl rfl
theorem dksL_law_68 : cL_law.data.toList.drop 1736 = dktL_law_68 := dk_seg dksL_law_67 23 rfl rfl
theorem dksL_law_69 : cL_law.data.toList.drop 1760 = dktL_law_69 := dk_seg dksL_law_68 24 rfl rfl
theorem dksL_law_70 : cL_law.data.toList.drop 1783 = dktL_law_70 := dk_seg dksL_law_69 23 rfl rfl
theorem dksL_law_71 : cL_law.data.toList.drop 1805 = dktL_law_71 := dk_seg dksL_law_70 22 rfl rfl
theorem dksL_law_72 : cL_law.data.toList.drop 1829 = dktL_law_72 := dk_seg dksL_law_71 24 rfl rfl
theorem dksL_law_73 : cL_law.data.toList.drop 1851 = dktL_law_73 := dk_seg dksL_law_72 22 rfl rfl
theorem dksL_law_74 : cL_law.data.toList.drop 1873 = dktL_law_74 := dk_seg dksL_law_73 22 rfl rfl
theorem dksL_law_75 : cL_law.data.toList.drop 1896 = dktL_law_75 := dk_seg dksL_law_74 23 rfl rfl
theorem dksL_law_76 : cL_law.data.toList.drop 1920 = dktL_law_76 := dk_seg dksL_law_75 24 rfl rfl
theorem dksL_law_77 : cL_law.data.toList.drop 1944 = dktL_law_77 := dk_seg dksL_law_76 24 rfl rfl
theorem dksL_law_78 : cL_law.data.toList.drop 1968 = dktL_law_78 := dk_seg dksL_law_77 24 rfl rfl
theorem dksL_law_79 : cL_law.data.toList.drop 1992 = dktL_law_79 := dk_seg dksL_law_78 24 rfl rfl
theorem dksL_law_80 : cL_law.data.toList.drop 2015 = dktL_law_80 := dk_seg dksL_law_79 23 rfl rfl
theorem dksL_law_81 : cL_law.data.toList.drop 2039 = dktL_law_81 := dk_seg dksL_law_80 24 rfl rfl
theorem dksL_law_82 : cL_law.data.toList.drop 2061 = dktL_law_82 := dk_seg dksL_law_81 22 rfl rfl
theorem dksL_law_83 : cL_law.data.toList.drop 2083 = dktL_law_83 := dk_seg dksL_law_82 22 rfl rfl
theorem dksL_law_84 : cL_law.data.toList.drop 2107 = dktL_law_84 := dk_seg dksL_law_83 24 rfl rfl
theorem dksL_law_85 : cL_law.data.toList.drop 2129 = dktL_law_85 := dk_seg dksL_law_84 22 rfl rfl
theorem dksL_law_86 : cL_law.data.toList.drop 2153 = dktL_law_86 := dk_seg dksL_law_85 24 rfl rfl
theorem dksL_law_87 : cL_law.data.toList.drop 2177 = dktL_law_87 := dk_seg dksL_law_86 24 rfl rfl
theorem dksL_law_88 : cL_law.data.toList.drop 2201 = dktL_law_88 := dk_seg dksL_law_87 24 rfl rfl
theorem dksL_law_89 : cL_law.data.toList.drop 2225 = dktL_law_89 := dk_seg dksL_law_88 24 rfl rfl
theorem dksL_law_90 : cL_law.data.toList.drop 2249 = dktL_law_90 := dk_seg dksL_law_89 24 rfl rfl
theorem dksL_law_91 : cL_law.data.toList.drop 2273 = dktL_law_91 := dk_seg dksL_law_90 24 rfl rfl
theorem dksL_law_92 : cL_law.data.toList.drop 2297 = dktL_law_92 := dk_seg dksL_law_91 24 rfl rfl
theorem dksL_law_93 : cL_law.data.toList.drop 2321 = dktL_law_93 := dk_seg dksL_law_92 24 rfl rfl
theorem dksL_law_94 : cL_law.data.toList.drop 2344 = dktL_law_94 := dk_seg dksL_law_93 23 rfl rfl
theorem dksL_law_95 : cL_law.data.toList.drop 2368 = dktL_law_95 := dk_seg dksL_law_94 24 rfl rfl
theorem dksL_law_96 : cL_law.data.toList.drop 2392 = dktL_law_96 := dk_seg dksL_law_95 24 rfl rfl
theorem dksL_law_97 : cL_law.data.toList.drop 2416 = dktL_law_97 := dk_seg dksL_law_96 24 rfl rfl
theorem dksL_law_98 : cL_law.data.toList.drop 2440 = dktL_law_98 := dk_seg dksL_law_97 24 rfl rfl
theorem dksL_law_99 : cL_law.data.toList.drop 2464 = dktL_law_99 := dk_seg dksL_law_98 24 rfl rfl
theorem dL_law_0 : decode cL_law 0 = .ok (.new 8, 3) := dk_187 0 8 (dk_at dksL_law_0 0 rfl rfl)
theorem dL_law_3 : decode cL_law 3 = .ok (.dup, 1) := dk_89 (dk_at dksL_law_0 3 rfl rfl)
theorem dL_law_4 : decode cL_law 4 = .ok (.invokespecial 119, 3) := dk_183 0 119 (dk_at dksL_law_0 4 rfl rfl)
theorem dL_law_7 : decode cL_law 7 = .ok (.astore_n 1, 1) := dk_76 (dk_at dksL_law_0 7 rfl rfl)
theorem dL_law_8 : decode cL_law 8 = .ok (.new 120, 3) := dk_187 0 120 (dk_at dksL_law_0 8 rfl rfl)
theorem dL_law_11 : decode cL_law 11 = .ok (.dup, 1) := dk_89 (dk_at dksL_law_0 11 rfl rfl)
theorem dL_law_12 : decode cL_law 12 = .ok (.invokespecial 122, 3) := dk_183 0 122 (dk_at dksL_law_0 12 rfl rfl)
theorem dL_law_15 : decode cL_law 15 = .ok (.astore_n 2, 1) := dk_77 (dk_at dksL_law_0 15 rfl rfl)
theorem dL_law_16 : decode cL_law 16 = .ok (.iconst 1, 1) := dk_4 (dk_at dksL_law_0 16 rfl rfl)
theorem dL_law_17 : decode cL_law 17 = .ok (.newarray .long, 2) := dk_188_11 (dk_at dksL_law_0 17 rfl rfl)
theorem dL_law_19 : decode cL_law 19 = .ok (.astore_n 3, 1) := dk_78 (dk_at dksL_law_0 19 rfl rfl)
theorem dL_law_20 : decode cL_law 20 = .ok (.iconst 0, 1) := dk_3 (dk_at dksL_law_0 20 rfl rfl)
theorem dL_law_21 : decode cL_law 21 = .ok (.istore 4, 2) := dk_54 4 (dk_at dksL_law_0 21 rfl rfl)
theorem dL_law_23 : decode cL_law 23 = .ok (.iload 4, 2) := dk_21 4 (dk_at dksL_law_1 0 rfl rfl)
theorem dL_law_25 : decode cL_law 25 = .ok (.aload_n 0, 1) := dk_42 (dk_at dksL_law_1 2 rfl rfl)
theorem dL_law_26 : decode cL_law 26 = .ok (.arraylength, 1) := dk_190 (dk_at dksL_law_1 3 rfl rfl)
theorem dL_law_27 : decode cL_law 27 = .ok (.bipush 6, 2) := dk_16 6 (dk_at dksL_law_1 4 rfl rfl)
theorem dL_law_29 : decode cL_law 29 = .ok (.isub, 1) := dk_100 (dk_at dksL_law_1 6 rfl rfl)
theorem dL_law_30 : decode cL_law 30 = .ok (.if_icmp .gt 2437, 3) := dk_163 9 133 (dk_at dksL_law_1 7 rfl rfl)
theorem dL_law_33 : decode cL_law 33 = .ok (.aload_n 0, 1) := dk_42 (dk_at dksL_law_1 10 rfl rfl)
theorem dL_law_34 : decode cL_law 34 = .ok (.iload 4, 2) := dk_21 4 (dk_at dksL_law_1 11 rfl rfl)
theorem dL_law_36 : decode cL_law 36 = .ok (.iaload, 1) := dk_46 (dk_at dksL_law_1 13 rfl rfl)
theorem dL_law_37 : decode cL_law 37 = .ok (.bipush 63, 2) := dk_16 63 (dk_at dksL_law_1 14 rfl rfl)
theorem dL_law_39 : decode cL_law 39 = .ok (.iand, 1) := dk_126 (dk_at dksL_law_1 16 rfl rfl)
theorem dL_law_40 : decode cL_law 40 = .ok (.tableswitch 2421 0 36 #[164, 237, 293, 318, 386, 423, 491, 559, 615, 671, 739, 814, 827, 902, 977, 1033, 1120, 1188, 1268, 1324, 1392, 1448, 1516, 1596, 1676, 1768, 1836, 1892, 1905, 1973, 2029, 2097, 2157, 2268, 2324, 2360, 2396], 164) := by decide +kernel
theorem dL_law_204 : decode cL_law 204 = .ok (.aload_n 1, 1) := dk_43 (dk_at dksL_law_3 0 rfl rfl)
theorem dL_law_205 : decode cL_law 205 = .ok (.aload_n 0, 1) := dk_42 (dk_at dksL_law_3 1 rfl rfl)
theorem dL_law_206 : decode cL_law 206 = .ok (.iload 4, 2) := dk_21 4 (dk_at dksL_law_3 2 rfl rfl)
theorem dL_law_208 : decode cL_law 208 = .ok (.iconst 1, 1) := dk_4 (dk_at dksL_law_3 4 rfl rfl)
theorem dL_law_209 : decode cL_law 209 = .ok (.iadd, 1) := dk_96 (dk_at dksL_law_3 5 rfl rfl)
theorem dL_law_210 : decode cL_law 210 = .ok (.iaload, 1) := dk_46 (dk_at dksL_law_3 6 rfl rfl)
theorem dL_law_211 : decode cL_law 211 = .ok (.aload_n 0, 1) := dk_42 (dk_at dksL_law_3 7 rfl rfl)
theorem dL_law_212 : decode cL_law 212 = .ok (.iload 4, 2) := dk_21 4 (dk_at dksL_law_3 8 rfl rfl)
theorem dL_law_214 : decode cL_law 214 = .ok (.iconst 2, 1) := dk_5 (dk_at dksL_law_3 10 rfl rfl)
theorem dL_law_215 : decode cL_law 215 = .ok (.iadd, 1) := dk_96 (dk_at dksL_law_3 11 rfl rfl)
theorem dL_law_216 : decode cL_law 216 = .ok (.iaload, 1) := dk_46 (dk_at dksL_law_3 12 rfl rfl)
theorem dL_law_217 : decode cL_law 217 = .ok (.aload_n 0, 1) := dk_42 (dk_at dksL_law_3 13 rfl rfl)
theorem dL_law_218 : decode cL_law 218 = .ok (.iload 4, 2) := dk_21 4 (dk_at dksL_law_3 14 rfl rfl)
theorem dL_law_220 : decode cL_law 220 = .ok (.iconst 3, 1) := dk_6 (dk_at dksL_law_3 16 rfl rfl)
theorem dL_law_221 : decode cL_law 221 = .ok (.iadd, 1) := dk_96 (dk_at dksL_law_3 17 rfl rfl)
theorem dL_law_222 : decode cL_law 222 = .ok (.iaload, 1) := dk_46 (dk_at dksL_law_3 18 rfl rfl)
theorem dL_law_223 : decode cL_law 223 = .ok (.aload_n 0, 1) := dk_42 (dk_at dksL_law_3 19 rfl rfl)
theorem dL_law_224 : decode cL_law 224 = .ok (.iload 4, 2) := dk_21 4 (dk_at dksL_law_3 20 rfl rfl)
theorem dL_law_226 : decode cL_law 226 = .ok (.iconst 4, 1) := dk_7 (dk_at dksL_law_3 22 rfl rfl)
theorem dL_law_227 : decode cL_law 227 = .ok (.iadd, 1) := dk_96 (dk_at dksL_law_3 23 rfl rfl)
theorem dL_law_228 : decode cL_law 228 = .ok (.iaload, 1) := dk_46 (dk_at dksL_law_4 0 rfl rfl)
theorem dL_law_229 : decode cL_law 229 = .ok (.aload_n 0, 1) := dk_42 (dk_at dksL_law_4 1 rfl rfl)
theorem dL_law_230 : decode cL_law 230 = .ok (.iload 4, 2) := dk_21 4 (dk_at dksL_law_4 2 rfl rfl)
theorem dL_law_232 : decode cL_law 232 = .ok (.iconst 5, 1) := dk_8 (dk_at dksL_law_4 4 rfl rfl)
theorem dL_law_233 : decode cL_law 233 = .ok (.iadd, 1) := dk_96 (dk_at dksL_law_4 5 rfl rfl)
theorem dL_law_234 : decode cL_law 234 = .ok (.iaload, 1) := dk_46 (dk_at dksL_law_4 6 rfl rfl)
theorem dL_law_235 : decode cL_law 235 = .ok (.invokevirtual 123, 3) := dk_182 0 123 (dk_at dksL_law_4 7 rfl rfl)
theorem dL_law_238 : decode cL_law 238 = .ok (.aload_n 2, 1) := dk_44 (dk_at dksL_law_4 10 rfl rfl)
theorem dL_law_239 : decode cL_law 239 = .ok (.aload_n 0, 1) := dk_42 (dk_at dksL_law_4 11 rfl rfl)
theorem dL_law_240 : decode cL_law 240 = .ok (.iload 4, 2) := dk_21 4 (dk_at dksL_law_4 12 rfl rfl)
theorem dL_law_242 : decode cL_law 242 = .ok (.iconst 1, 1) := dk_4 (dk_at dksL_law_4 14 rfl rfl)
theorem dL_law_243 : decode cL_law 243 = .ok (.iadd, 1) := dk_96 (dk_at dksL_law_4 15 rfl rfl)
theorem dL_law_244 : decode cL_law 244 = .ok (.iaload, 1) := dk_46 (dk_at dksL_law_4 16 rfl rfl)
theorem dL_law_245 : decode cL_law 245 = .ok (.aload_n 0, 1) := dk_42 (dk_at dksL_law_4 17 rfl rfl)
theorem dL_law_246 : decode cL_law 246 = .ok (.iload 4, 2) := dk_21 4 (dk_at dksL_law_4 18 rfl rfl)
theorem dL_law_248 : decode cL_law 248 = .ok (.iconst 2, 1) := dk_5 (dk_at dksL_law_4 20 rfl rfl)
theorem dL_law_249 : decode cL_law 249 = .ok (.iadd, 1) := dk_96 (dk_at dksL_law_4 21 rfl rfl)
theorem dL_law_250 : decode cL_law 250 = .ok (.iaload, 1) := dk_46 (dk_at dksL_law_4 22 rfl rfl)
theorem dL_law_251 : decode cL_law 251 = .ok (.aload_n 0, 1) := dk_42 (dk_at dksL_law_4 23 rfl rfl)
theorem dL_law_252 : decode cL_law 252 = .ok (.iload 4, 2) := dk_21 4 (dk_at dksL_law_5 0 rfl rfl)
theorem dL_law_254 : decode cL_law 254 = .ok (.iconst 3, 1) := dk_6 (dk_at dksL_law_5 2 rfl rfl)
theorem dL_law_255 : decode cL_law 255 = .ok (.iadd, 1) := dk_96 (dk_at dksL_law_5 3 rfl rfl)
theorem dL_law_256 : decode cL_law 256 = .ok (.iaload, 1) := dk_46 (dk_at dksL_law_5 4 rfl rfl)
theorem dL_law_257 : decode cL_law 257 = .ok (.aload_n 0, 1) := dk_42 (dk_at dksL_law_5 5 rfl rfl)
theorem dL_law_258 : decode cL_law 258 = .ok (.iload 4, 2) := dk_21 4 (dk_at dksL_law_5 6 rfl rfl)
theorem dL_law_260 : decode cL_law 260 = .ok (.iconst 4, 1) := dk_7 (dk_at dksL_law_5 8 rfl rfl)
theorem dL_law_261 : decode cL_law 261 = .ok (.iadd, 1) := dk_96 (dk_at dksL_law_5 9 rfl rfl)
theorem dL_law_262 : decode cL_law 262 = .ok (.iaload, 1) := dk_46 (dk_at dksL_law_5 10 rfl rfl)
theorem dL_law_263 : decode cL_law 263 = .ok (.aload_n 0, 1) := dk_42 (dk_at dksL_law_5 11 rfl rfl)
theorem dL_law_264 : decode cL_law 264 = .ok (.iload 4, 2) := dk_21 4 (dk_at dksL_law_5 12 rfl rfl)
theorem dL_law_266 : decode cL_law 266 = .ok (.iconst 5, 1) := dk_8 (dk_at dksL_law_5 14 rfl rfl)
theorem dL_law_267 : decode cL_law 267 = .ok (.iadd, 1) := dk_96 (dk_at dksL_law_5 15 rfl rfl)
theorem dL_law_268 : decode cL_law 268 = .ok (.iaload, 1) := dk_46 (dk_at dksL_law_5 16 rfl rfl)
theorem dL_law_269 : decode cL_law 269 = .ok (.invokevirtual 127, 3) := dk_182 0 127 (dk_at dksL_law_5 17 rfl rfl)
theorem dL_law_272 : decode cL_law 272 = .ok (.if_icmp .eq 2189, 3) := dk_159 8 141 (dk_at dksL_law_5 20 rfl rfl)
theorem dL_law_275 : decode cL_law 275 = .ok (.iconst 0, 1) := dk_3 (dk_at dksL_law_5 23 rfl rfl)
theorem dL_law_276 : decode cL_law 276 = .ok (.ireturn, 1) := dk_172 (dk_at dksL_law_6 0 rfl rfl)
theorem dL_law_277 : decode cL_law 277 = .ok (.aload_n 1, 1) := dk_43 (dk_at dksL_law_6 1 rfl rfl)
theorem dL_law_278 : decode cL_law 278 = .ok (.aload_n 0, 1) := dk_42 (dk_at dksL_law_6 2 rfl rfl)
theorem dL_law_279 : decode cL_law 279 = .ok (.iload 4, 2) := dk_21 4 (dk_at dksL_law_6 3 rfl rfl)
theorem dL_law_281 : decode cL_law 281 = .ok (.iconst 1, 1) := dk_4 (dk_at dksL_law_6 5 rfl rfl)
theorem dL_law_282 : decode cL_law 282 = .ok (.iadd, 1) := dk_96 (dk_at dksL_law_6 6 rfl rfl)
theorem dL_law_283 : decode cL_law 283 = .ok (.iaload, 1) := dk_46 (dk_at dksL_law_6 7 rfl rfl)
theorem dL_law_284 : decode cL_law 284 = .ok (.aload_n 3, 1) := dk_45 (dk_at dksL_law_6 8 rfl rfl)
theorem dL_law_285 : decode cL_law 285 = .ok (.invokestatic 128, 3) := dk_184 0 128 (dk_at dksL_law_6 9 rfl rfl)
theorem dL_law_288 : decode cL_law 288 = .ok (.istore 5, 2) := dk_54 5 (dk_at dksL_law_6 12 rfl rfl)
theorem dL_law_290 : decode cL_law 290 = .ok (.aload_n 2, 1) := dk_44 (dk_at dksL_law_6 14 rfl rfl)
theorem dL_law_291 : decode cL_law 291 = .ok (.aload_n 0, 1) := dk_42 (dk_at dksL_law_6 15 rfl rfl)
theorem dL_law_292 : decode cL_law 292 = .ok (.iload 4, 2) := dk_21 4 (dk_at dksL_law_6 16 rfl rfl)
theorem dL_law_294 : decode cL_law 294 = .ok (.iconst 1, 1) := dk_4 (dk_at dksL_law_6 18 rfl rfl)
theorem dL_law_295 : decode cL_law 295 = .ok (.iadd, 1) := dk_96 (dk_at dksL_law_6 19 rfl rfl)
theorem dL_law_296 : decode cL_law 296 = .ok (.iaload, 1) := dk_46 (dk_at dksL_law_6 20 rfl rfl)
theorem dL_law_297 : decode cL_law 297 = .ok (.invokevirtual 133, 3) := dk_182 0 133 (dk_at dksL_law_6 21 rfl rfl)
theorem dL_law_300 : decode cL_law 300 = .ok (.istore 6, 2) := dk_54 6 (dk_at dksL_law_7 0 rfl rfl)
theorem dL_law_302 : decode cL_law 302 = .ok (.aload_n 2, 1) := dk_44 (dk_at dksL_law_7 2 rfl rfl)
theorem dL_law_303 : decode cL_law 303 = .ok (.invokevirtual 134, 3) := dk_182 0 134 (dk_at dksL_law_7 3 rfl rfl)
theorem dL_law_306 : decode cL_law 306 = .ok (.iload 5, 2) := dk_21 5 (dk_at dksL_law_7 6 rfl rfl)
theorem dL_law_308 : decode cL_law 308 = .ok (.if_icmp .eq 5, 3) := dk_159 0 5 (dk_at dksL_law_7 8 rfl rfl)
theorem dL_law_311 : decode cL_law 311 = .ok (.iconst 0, 1) := dk_3 (dk_at dksL_law_7 11 rfl rfl)
theorem dL_law_312 : decode cL_law 312 = .ok (.ireturn, 1) := dk_172 (dk_at dksL_law_7 12 rfl rfl)
theorem dL_law_313 : decode cL_law 313 = .ok (.iload 5, 2) := dk_21 5 (dk_at dksL_law_7 13 rfl rfl)
theorem dL_law_315 : decode cL_law 315 = .ok (.ifCond .ne 15, 3) := dk_154 0 15 (dk_at dksL_law_7 15 rfl rfl)
theorem dL_law_318 : decode cL_law 318 = .ok (.aload_n 3, 1) := dk_45 (dk_at dksL_law_7 18 rfl rfl)
theorem dL_law_319 : decode cL_law 319 = .ok (.iconst 0, 1) := dk_3 (dk_at dksL_law_7 19 rfl rfl)
theorem dL_law_320 : decode cL_law 320 = .ok (.laload, 1) := dk_47 (dk_at dksL_law_7 20 rfl rfl)
theorem dL_law_321 : decode cL_law 321 = .ok (.iload 6, 2) := dk_21 6 (dk_at dksL_law_7 21 rfl rfl)
theorem dL_law_323 : decode cL_law 323 = .ok (.i2l, 1) := dk_133 (dk_at dksL_law_7 23 rfl rfl)
theorem dL_law_324 : decode cL_law 324 = .ok (.lcmp, 1) := dk_148 (dk_at dksL_law_8 0 rfl rfl)
theorem dL_law_325 : decode cL_law 325 = .ok (.ifCond .eq 5, 3) := dk_153 0 5 (dk_at dksL_law_8 1 rfl rfl)
theorem dL_law_328 : decode cL_law 328 = .ok (.iconst 0, 1) := dk_3 (dk_at dksL_law_8 4 rfl rfl)
theorem dL_law_329 : decode cL_law 329 = .ok (.ireturn, 1) := dk_172 (dk_at dksL_law_8 5 rfl rfl)
theorem dL_law_330 : decode cL_law 330 = .ok (.goto 2131, 3) := dk_167 8 83 (dk_at dksL_law_8 6 rfl rfl)
theorem dL_law_333 : decode cL_law 333 = .ok (.aload_n 1, 1) := dk_43 (dk_at dksL_law_8 9 rfl rfl)
theorem dL_law_334 : decode cL_law 334 = .ok (.aload_n 0, 1) := dk_42 (dk_at dksL_law_8 10 rfl rfl)
theorem dL_law_335 : decode cL_law 335 = .ok (.iload 4, 2) := dk_21 4 (dk_at dksL_law_8 11 rfl rfl)
theorem dL_law_337 : decode cL_law 337 = .ok (.iconst 1, 1) := dk_4 (dk_at dksL_law_8 13 rfl rfl)
theorem dL_law_338 : decode cL_law 338 = .ok (.iadd, 1) := dk_96 (dk_at dksL_law_8 14 rfl rfl)
theorem dL_law_339 : decode cL_law 339 = .ok (.iaload, 1) := dk_46 (dk_at dksL_law_8 15 rfl rfl)
theorem dL_law_340 : decode cL_law 340 = .ok (.invokevirtual 138, 3) := dk_182 0 138 (dk_at dksL_law_8 16 rfl rfl)
theorem dL_law_343 : decode cL_law 343 = .ok (.aload_n 2, 1) := dk_44 (dk_at dksL_law_8 19 rfl rfl)
theorem dL_law_344 : decode cL_law 344 = .ok (.aload_n 0, 1) := dk_42 (dk_at dksL_law_8 20 rfl rfl)
theorem dL_law_345 : decode cL_law 345 = .ok (.iload 4, 2) := dk_21 4 (dk_at dksL_law_8 21 rfl rfl)
theorem dL_law_347 : decode cL_law 347 = .ok (.iconst 1, 1) := dk_4 (dk_at dksL_law_8 23 rfl rfl)
theorem dL_law_348 : decode cL_law 348 = .ok (.iadd, 1) := dk_96 (dk_at dksL_law_9 0 rfl rfl)
theorem dL_law_349 : decode cL_law 349 = .ok (.iaload, 1) := dk_46 (dk_at dksL_law_9 1 rfl rfl)
theorem dL_law_350 : decode cL_law 350 = .ok (.invokevirtual 141, 3) := dk_182 0 141 (dk_at dksL_law_9 2 rfl rfl)
theorem dL_law_353 : decode cL_law 353 = .ok (.if_icmp .eq 2108, 3) := dk_159 8 60 (dk_at dksL_law_9 5 rfl rfl)
theorem dL_law_356 : decode cL_law 356 = .ok (.iconst 0, 1) := dk_3 (dk_at dksL_law_9 8 rfl rfl)
theorem dL_law_357 : decode cL_law 357 = .ok (.ireturn, 1) := dk_172 (dk_at dksL_law_9 9 rfl rfl)
theorem dL_law_358 : decode cL_law 358 = .ok (.aload_n 1, 1) := dk_43 (dk_at dksL_law_9 10 rfl rfl)
theorem dL_law_359 : decode cL_law 359 = .ok (.aload_n 0, 1) := dk_42 (dk_at dksL_law_9 11 rfl rfl)
theorem dL_law_360 : decode cL_law 360 = .ok (.iload 4, 2) := dk_21 4 (dk_at dksL_law_9 12 rfl rfl)
theorem dL_law_362 : decode cL_law 362 = .ok (.iconst 1, 1) := dk_4 (dk_at dksL_law_9 14 rfl rfl)
theorem dL_law_363 : decode cL_law 363 = .ok (.iadd, 1) := dk_96 (dk_at dksL_law_9 15 rfl rfl)
theorem dL_law_364 : decode cL_law 364 = .ok (.iaload, 1) := dk_46 (dk_at dksL_law_9 16 rfl rfl)
theorem dL_law_365 : decode cL_law 365 = .ok (.aload_n 0, 1) := dk_42 (dk_at dksL_law_9 17 rfl rfl)
theorem dL_law_366 : decode cL_law 366 = .ok (.iload 4, 2) := dk_21 4 (dk_at dksL_law_9 18 rfl rfl)
theorem dL_law_368 : decode cL_law 368 = .ok (.iconst 2, 1) := dk_5 (dk_at dksL_law_9 20 rfl rfl)
theorem dL_law_369 : decode cL_law 369 = .ok (.iadd, 1) := dk_96 (dk_at dksL_law_9 21 rfl rfl)
theorem dL_law_370 : decode cL_law 370 = .ok (.iaload, 1) := dk_46 (dk_at dksL_law_9 22 rfl rfl)
theorem dL_law_371 : decode cL_law 371 = .ok (.aload_n 3, 1) := dk_45 (dk_at dksL_law_9 23 rfl rfl)
theorem dL_law_372 : decode cL_law 372 = .ok (.invokestatic 142, 3) := dk_184 0 142 (dk_at dksL_law_10 0 rfl rfl)
theorem dL_law_375 : decode cL_law 375 = .ok (.istore 5, 2) := dk_54 5 (dk_at dksL_law_10 3 rfl rfl)
theorem dL_law_377 : decode cL_law 377 = .ok (.aload_n 2, 1) := dk_44 (dk_at dksL_law_10 5 rfl rfl)
theorem dL_law_378 : decode cL_law 378 = .ok (.aload_n 0, 1) := dk_42 (dk_at dksL_law_10 6 rfl rfl)
theorem dL_law_379 : decode cL_law 379 = .ok (.iload 4, 2) := dk_21 4 (dk_at dksL_law_10 7 rfl rfl)
theorem dL_law_381 : decode cL_law 381 = .ok (.iconst 1, 1) := dk_4 (dk_at dksL_law_10 9 rfl rfl)
theorem dL_law_382 : decode cL_law 382 = .ok (.iadd, 1) := dk_96 (dk_at dksL_law_10 10 rfl rfl)
theorem dL_law_383 : decode cL_law 383 = .ok (.iaload, 1) := dk_46 (dk_at dksL_law_10 11 rfl rfl)
theorem dL_law_384 : decode cL_law 384 = .ok (.aload_n 0, 1) := dk_42 (dk_at dksL_law_10 12 rfl rfl)
theorem dL_law_385 : decode cL_law 385 = .ok (.iload 4, 2) := dk_21 4 (dk_at dksL_law_10 13 rfl rfl)
theorem dL_law_387 : decode cL_law 387 = .ok (.iconst 2, 1) := dk_5 (dk_at dksL_law_10 15 rfl rfl)
theorem dL_law_388 : decode cL_law 388 = .ok (.iadd, 1) := dk_96 (dk_at dksL_law_10 16 rfl rfl)
theorem dL_law_389 : decode cL_law 389 = .ok (.iaload, 1) := dk_46 (dk_at dksL_law_10 17 rfl rfl)
theorem dL_law_390 : decode cL_law 390 = .ok (.invokevirtual 145, 3) := dk_182 0 145 (dk_at dksL_law_10 18 rfl rfl)
theorem dL_law_393 : decode cL_law 393 = .ok (.istore 6, 2) := dk_54 6 (dk_at dksL_law_10 21 rfl rfl)
theorem dL_law_395 : decode cL_law 395 = .ok (.aload_n 2, 1) := dk_44 (dk_at dksL_law_10 23 rfl rfl)
theorem dL_law_396 : decode cL_law 396 = .ok (.invokevirtual 134, 3) := dk_182 0 134 (dk_at dksL_law_11 0 rfl rfl)
theorem dL_law_399 : decode cL_law 399 = .ok (.iload 5, 2) := dk_21 5 (dk_at dksL_law_11 3 rfl rfl)
theorem dL_law_401 : decode cL_law 401 = .ok (.if_icmp .eq 5, 3) := dk_159 0 5 (dk_at dksL_law_11 5 rfl rfl)
theorem dL_law_404 : decode cL_law 404 = .ok (.iconst 0, 1) := dk_3 (dk_at dksL_law_11 8 rfl rfl)
theorem dL_law_405 : decode cL_law 405 = .ok (.ireturn, 1) := dk_172 (dk_at dksL_law_11 9 rfl rfl)
theorem dL_law_406 : decode cL_law 406 = .ok (.iload 5, 2) := dk_21 5 (dk_at dksL_law_11 10 rfl rfl)
theorem dL_law_408 : decode cL_law 408 = .ok (.ifCond .ne 15, 3) := dk_154 0 15 (dk_at dksL_law_11 12 rfl rfl)
theorem dL_law_411 : decode cL_law 411 = .ok (.aload_n 3, 1) := dk_45 (dk_at dksL_law_11 15 rfl rfl)
theorem dL_law_412 : decode cL_law 412 = .ok (.iconst 0, 1) := dk_3 (dk_at dksL_law_11 16 rfl rfl)
theorem dL_law_413 : decode cL_law 413 = .ok (.laload, 1) := dk_47 (dk_at dksL_law_11 17 rfl rfl)
theorem dL_law_414 : decode cL_law 414 = .ok (.iload 6, 2) := dk_21 6 (dk_at dksL_law_11 18 rfl rfl)
theorem dL_law_416 : decode cL_law 416 = .ok (.i2l, 1) := dk_133 (dk_at dksL_law_11 20 rfl rfl)
theorem dL_law_417 : decode cL_law 417 = .ok (.lcmp, 1) := dk_148 (dk_at dksL_law_11 21 rfl rfl)
theorem dL_law_418 : decode cL_law 418 = .ok (.ifCond .eq 5, 3) := dk_153 0 5 (dk_at dksL_law_12 0 rfl rfl)
theorem dL_law_421 : decode cL_law 421 = .ok (.iconst 0, 1) := dk_3 (dk_at dksL_law_12 3 rfl rfl)
theorem dL_law_422 : decode cL_law 422 = .ok (.ireturn, 1) := dk_172 (dk_at dksL_law_12 4 rfl rfl)
theorem dL_law_423 : decode cL_law 423 = .ok (.goto 2038, 3) := dk_167 7 246 (dk_at dksL_law_12 5 rfl rfl)
theorem dL_law_426 : decode cL_law 426 = .ok (.aload_n 1, 1) := dk_43 (dk_at dksL_law_12 8 rfl rfl)
theorem dL_law_427 : decode cL_law 427 = .ok (.aload_n 0, 1) := dk_42 (dk_at dksL_law_12 9 rfl rfl)
theorem dL_law_428 : decode cL_law 428 = .ok (.iload 4, 2) := dk_21 4 (dk_at dksL_law_12 10 rfl rfl)
theorem dL_law_430 : decode cL_law 430 = .ok (.iconst 1, 1) := dk_4 (dk_at dksL_law_12 12 rfl rfl)
theorem dL_law_431 : decode cL_law 431 = .ok (.iadd, 1) := dk_96 (dk_at dksL_law_12 13 rfl rfl)
theorem dL_law_432 : decode cL_law 432 = .ok (.iaload, 1) := dk_46 (dk_at dksL_law_12 14 rfl rfl)
theorem dL_law_433 : decode cL_law 433 = .ok (.aload_n 0, 1) := dk_42 (dk_at dksL_law_12 15 rfl rfl)
theorem dL_law_434 : decode cL_law 434 = .ok (.iload 4, 2) := dk_21 4 (dk_at dksL_law_12 16 rfl rfl)
theorem dL_law_436 : decode cL_law 436 = .ok (.iconst 2, 1) := dk_5 (dk_at dksL_law_12 18 rfl rfl)
theorem dL_law_437 : decode cL_law 437 = .ok (.iadd, 1) := dk_96 (dk_at dksL_law_12 19 rfl rfl)
theorem dL_law_438 : decode cL_law 438 = .ok (.iaload, 1) := dk_46 (dk_at dksL_law_12 20 rfl rfl)
theorem dL_law_439 : decode cL_law 439 = .ok (.invokevirtual 146, 3) := dk_182 0 146 (dk_at dksL_law_12 21 rfl rfl)
theorem dL_law_442 : decode cL_law 442 = .ok (.aload_n 2, 1) := dk_44 (dk_at dksL_law_13 0 rfl rfl)
theorem dL_law_443 : decode cL_law 443 = .ok (.aload_n 0, 1) := dk_42 (dk_at dksL_law_13 1 rfl rfl)
theorem dL_law_444 : decode cL_law 444 = .ok (.iload 4, 2) := dk_21 4 (dk_at dksL_law_13 2 rfl rfl)
theorem dL_law_446 : decode cL_law 446 = .ok (.iconst 1, 1) := dk_4 (dk_at dksL_law_13 4 rfl rfl)
theorem dL_law_447 : decode cL_law 447 = .ok (.iadd, 1) := dk_96 (dk_at dksL_law_13 5 rfl rfl)
theorem dL_law_448 : decode cL_law 448 = .ok (.iaload, 1) := dk_46 (dk_at dksL_law_13 6 rfl rfl)
theorem dL_law_449 : decode cL_law 449 = .ok (.aload_n 0, 1) := dk_42 (dk_at dksL_law_13 7 rfl rfl)
theorem dL_law_450 : decode cL_law 450 = .ok (.iload 4, 2) := dk_21 4 (dk_at dksL_law_13 8 rfl rfl)
theorem dL_law_452 : decode cL_law 452 = .ok (.iconst 2, 1) := dk_5 (dk_at dksL_law_13 10 rfl rfl)
theorem dL_law_453 : decode cL_law 453 = .ok (.iadd, 1) := dk_96 (dk_at dksL_law_13 11 rfl rfl)
theorem dL_law_454 : decode cL_law 454 = .ok (.iaload, 1) := dk_46 (dk_at dksL_law_13 12 rfl rfl)
theorem dL_law_455 : decode cL_law 455 = .ok (.invokevirtual 149, 3) := dk_182 0 149 (dk_at dksL_law_13 13 rfl rfl)
theorem dL_law_458 : decode cL_law 458 = .ok (.if_icmp .eq 2003, 3) := dk_159 7 211 (dk_at dksL_law_13 16 rfl rfl)
theorem dL_law_461 : decode cL_law 461 = .ok (.iconst 0, 1) := dk_3 (dk_at dksL_law_13 19 rfl rfl)
theorem dL_law_462 : decode cL_law 462 = .ok (.ireturn, 1) := dk_172 (dk_at dksL_law_13 20 rfl rfl)
theorem dL_law_463 : decode cL_law 463 = .ok (.aload_n 1, 1) := dk_43 (dk_at dksL_law_13 21 rfl rfl)
theorem dL_law_464 : decode cL_law 464 = .ok (.aload_n 0, 1) := dk_42 (dk_at dksL_law_13 22 rfl rfl)
theorem dL_law_465 : decode cL_law 465 = .ok (.iload 4, 2) := dk_21 4 (dk_at dksL_law_14 0 rfl rfl)
theorem dL_law_467 : decode cL_law 467 = .ok (.iconst 1, 1) := dk_4 (dk_at dksL_law_14 2 rfl rfl)
theorem dL_law_468 : decode cL_law 468 = .ok (.iadd, 1) := dk_96 (dk_at dksL_law_14 3 rfl rfl)
theorem dL_law_469 : decode cL_law 469 = .ok (.iaload, 1) := dk_46 (dk_at dksL_law_14 4 rfl rfl)
theorem dL_law_470 : decode cL_law 470 = .ok (.aload_n 0, 1) := dk_42 (dk_at dksL_law_14 5 rfl rfl)
theorem dL_law_471 : decode cL_law 471 = .ok (.iload 4, 2) := dk_21 4 (dk_at dksL_law_14 6 rfl rfl)
theorem dL_law_473 : decode cL_law 473 = .ok (.iconst 2, 1) := dk_5 (dk_at dksL_law_14 8 rfl rfl)
theorem dL_law_474 : decode cL_law 474 = .ok (.iadd, 1) := dk_96 (dk_at dksL_law_14 9 rfl rfl)
theorem dL_law_475 : decode cL_law 475 = .ok (.iaload, 1) := dk_46 (dk_at dksL_law_14 10 rfl rfl)
theorem dL_law_476 : decode cL_law 476 = .ok (.aload_n 3, 1) := dk_45 (dk_at dksL_law_14 11 rfl rfl)
theorem dL_law_477 : decode cL_law 477 = .ok (.invokestatic 150, 3) := dk_184 0 150 (dk_at dksL_law_14 12 rfl rfl)
theorem dL_law_480 : decode cL_law 480 = .ok (.istore 5, 2) := dk_54 5 (dk_at dksL_law_14 15 rfl rfl)
theorem dL_law_482 : decode cL_law 482 = .ok (.aload_n 2, 1) := dk_44 (dk_at dksL_law_14 17 rfl rfl)
theorem dL_law_483 : decode cL_law 483 = .ok (.aload_n 0, 1) := dk_42 (dk_at dksL_law_14 18 rfl rfl)
theorem dL_law_484 : decode cL_law 484 = .ok (.iload 4, 2) := dk_21 4 (dk_at dksL_law_14 19 rfl rfl)
theorem dL_law_486 : decode cL_law 486 = .ok (.iconst 1, 1) := dk_4 (dk_at dksL_law_14 21 rfl rfl)
theorem dL_law_487 : decode cL_law 487 = .ok (.iadd, 1) := dk_96 (dk_at dksL_law_14 22 rfl rfl)
theorem dL_law_488 : decode cL_law 488 = .ok (.iaload, 1) := dk_46 (dk_at dksL_law_14 23 rfl rfl)
theorem dL_law_489 : decode cL_law 489 = .ok (.aload_n 0, 1) := dk_42 (dk_at dksL_law_15 0 rfl rfl)
theorem dL_law_490 : decode cL_law 490 = .ok (.iload 4, 2) := dk_21 4 (dk_at dksL_law_15 1 rfl rfl)
theorem dL_law_492 : decode cL_law 492 = .ok (.iconst 2, 1) := dk_5 (dk_at dksL_law_15 3 rfl rfl)
theorem dL_law_493 : decode cL_law 493 = .ok (.iadd, 1) := dk_96 (dk_at dksL_law_15 4 rfl rfl)
theorem dL_law_494 : decode cL_law 494 = .ok (.iaload, 1) := dk_46 (dk_at dksL_law_15 5 rfl rfl)
theorem dL_law_495 : decode cL_law 495 = .ok (.invokevirtual 152, 3) := dk_182 0 152 (dk_at dksL_law_15 6 rfl rfl)
theorem dL_law_498 : decode cL_law 498 = .ok (.istore 6, 2) := dk_54 6 (dk_at dksL_law_15 9 rfl rfl)
theorem dL_law_500 : decode cL_law 500 = .ok (.aload_n 2, 1) := dk_44 (dk_at dksL_law_15 11 rfl rfl)
theorem dL_law_501 : decode cL_law 501 = .ok (.invokevirtual 134, 3) := dk_182 0 134 (dk_at dksL_law_15 12 rfl rfl)
theorem dL_law_504 : decode cL_law 504 = .ok (.iload 5, 2) := dk_21 5 (dk_at dksL_law_15 15 rfl rfl)
theorem dL_law_506 : decode cL_law 506 = .ok (.if_icmp .eq 5, 3) := dk_159 0 5 (dk_at dksL_law_15 17 rfl rfl)
theorem dL_law_509 : decode cL_law 509 = .ok (.iconst 0, 1) := dk_3 (dk_at dksL_law_15 20 rfl rfl)
theorem dL_law_510 : decode cL_law 510 = .ok (.ireturn, 1) := dk_172 (dk_at dksL_law_15 21 rfl rfl)
theorem dL_law_511 : decode cL_law 511 = .ok (.iload 5, 2) := dk_21 5 (dk_at dksL_law_15 22 rfl rfl)
theorem dL_law_513 : decode cL_law 513 = .ok (.ifCond .ne 15, 3) := dk_154 0 15 (dk_at dksL_law_16 0 rfl rfl)
theorem dL_law_516 : decode cL_law 516 = .ok (.aload_n 3, 1) := dk_45 (dk_at dksL_law_16 3 rfl rfl)
theorem dL_law_517 : decode cL_law 517 = .ok (.iconst 0, 1) := dk_3 (dk_at dksL_law_16 4 rfl rfl)
theorem dL_law_518 : decode cL_law 518 = .ok (.laload, 1) := dk_47 (dk_at dksL_law_16 5 rfl rfl)
theorem dL_law_519 : decode cL_law 519 = .ok (.iload 6, 2) := dk_21 6 (dk_at dksL_law_16 6 rfl rfl)
theorem dL_law_521 : decode cL_law 521 = .ok (.i2l, 1) := dk_133 (dk_at dksL_law_16 8 rfl rfl)
theorem dL_law_522 : decode cL_law 522 = .ok (.lcmp, 1) := dk_148 (dk_at dksL_law_16 9 rfl rfl)
theorem dL_law_523 : decode cL_law 523 = .ok (.ifCond .eq 5, 3) := dk_153 0 5 (dk_at dksL_law_16 10 rfl rfl)
theorem dL_law_526 : decode cL_law 526 = .ok (.iconst 0, 1) := dk_3 (dk_at dksL_law_16 13 rfl rfl)
theorem dL_law_527 : decode cL_law 527 = .ok (.ireturn, 1) := dk_172 (dk_at dksL_law_16 14 rfl rfl)
theorem dL_law_528 : decode cL_law 528 = .ok (.goto 1933, 3) := dk_167 7 141 (dk_at dksL_law_16 15 rfl rfl)
theorem dL_law_531 : decode cL_law 531 = .ok (.aload_n 1, 1) := dk_43 (dk_at dksL_law_16 18 rfl rfl)
theorem dL_law_532 : decode cL_law 532 = .ok (.aload_n 0, 1) := dk_42 (dk_at dksL_law_16 19 rfl rfl)
theorem dL_law_533 : decode cL_law 533 = .ok (.iload 4, 2) := dk_21 4 (dk_at dksL_law_16 20 rfl rfl)
theorem dL_law_535 : decode cL_law 535 = .ok (.iconst 1, 1) := dk_4 (dk_at dksL_law_16 22 rfl rfl)
theorem dL_law_536 : decode cL_law 536 = .ok (.iadd, 1) := dk_96 (dk_at dksL_law_16 23 rfl rfl)
theorem dL_law_537 : decode cL_law 537 = .ok (.iaload, 1) := dk_46 (dk_at dksL_law_17 0 rfl rfl)
theorem dL_law_538 : decode cL_law 538 = .ok (.aload_n 0, 1) := dk_42 (dk_at dksL_law_17 1 rfl rfl)
theorem dL_law_539 : decode cL_law 539 = .ok (.iload 4, 2) := dk_21 4 (dk_at dksL_law_17 2 rfl rfl)
theorem dL_law_541 : decode cL_law 541 = .ok (.iconst 2, 1) := dk_5 (dk_at dksL_law_17 4 rfl rfl)
theorem dL_law_542 : decode cL_law 542 = .ok (.iadd, 1) := dk_96 (dk_at dksL_law_17 5 rfl rfl)
theorem dL_law_543 : decode cL_law 543 = .ok (.iaload, 1) := dk_46 (dk_at dksL_law_17 6 rfl rfl)
theorem dL_law_544 : decode cL_law 544 = .ok (.aload_n 3, 1) := dk_45 (dk_at dksL_law_17 7 rfl rfl)
theorem dL_law_545 : decode cL_law 545 = .ok (.invokestatic 153, 3) := dk_184 0 153 (dk_at dksL_law_17 8 rfl rfl)
theorem dL_law_548 : decode cL_law 548 = .ok (.istore 5, 2) := dk_54 5 (dk_at dksL_law_17 11 rfl rfl)
theorem dL_law_550 : decode cL_law 550 = .ok (.aload_n 2, 1) := dk_44 (dk_at dksL_law_17 13 rfl rfl)
theorem dL_law_551 : decode cL_law 551 = .ok (.aload_n 0, 1) := dk_42 (dk_at dksL_law_17 14 rfl rfl)
theorem dL_law_552 : decode cL_law 552 = .ok (.iload 4, 2) := dk_21 4 (dk_at dksL_law_17 15 rfl rfl)
theorem dL_law_554 : decode cL_law 554 = .ok (.iconst 1, 1) := dk_4 (dk_at dksL_law_17 17 rfl rfl)
theorem dL_law_555 : decode cL_law 555 = .ok (.iadd, 1) := dk_96 (dk_at dksL_law_17 18 rfl rfl)
theorem dL_law_556 : decode cL_law 556 = .ok (.iaload, 1) := dk_46 (dk_at dksL_law_17 19 rfl rfl)
theorem dL_law_557 : decode cL_law 557 = .ok (.aload_n 0, 1) := dk_42 (dk_at dksL_law_17 20 rfl rfl)
theorem dL_law_558 : decode cL_law 558 = .ok (.iload 4, 2) := dk_21 4 (dk_at dksL_law_17 21 rfl rfl)
theorem dL_law_560 : decode cL_law 560 = .ok (.iconst 2, 1) := dk_5 (dk_at dksL_law_17 23 rfl rfl)
theorem dL_law_561 : decode cL_law 561 = .ok (.iadd, 1) := dk_96 (dk_at dksL_law_18 0 rfl rfl)
theorem dL_law_562 : decode cL_law 562 = .ok (.iaload, 1) := dk_46 (dk_at dksL_law_18 1 rfl rfl)
theorem dL_law_563 : decode cL_law 563 = .ok (.invokevirtual 155, 3) := dk_182 0 155 (dk_at dksL_law_18 2 rfl rfl)
theorem dL_law_566 : decode cL_law 566 = .ok (.istore 6, 2) := dk_54 6 (dk_at dksL_law_18 5 rfl rfl)
theorem dL_law_568 : decode cL_law 568 = .ok (.aload_n 2, 1) := dk_44 (dk_at dksL_law_18 7 rfl rfl)
theorem dL_law_569 : decode cL_law 569 = .ok (.invokevirtual 134, 3) := dk_182 0 134 (dk_at dksL_law_18 8 rfl rfl)
theorem dL_law_572 : decode cL_law 572 = .ok (.iload 5, 2) := dk_21 5 (dk_at dksL_law_18 11 rfl rfl)
theorem dL_law_574 : decode cL_law 574 = .ok (.if_icmp .eq 5, 3) := dk_159 0 5 (dk_at dksL_law_18 13 rfl rfl)
theorem dL_law_577 : decode cL_law 577 = .ok (.iconst 0, 1) := dk_3 (dk_at dksL_law_18 16 rfl rfl)
theorem dL_law_578 : decode cL_law 578 = .ok (.ireturn, 1) := dk_172 (dk_at dksL_law_18 17 rfl rfl)
theorem dL_law_579 : decode cL_law 579 = .ok (.iload 5, 2) := dk_21 5 (dk_at dksL_law_18 18 rfl rfl)
theorem dL_law_581 : decode cL_law 581 = .ok (.ifCond .ne 15, 3) := dk_154 0 15 (dk_at dksL_law_18 20 rfl rfl)
theorem dL_law_584 : decode cL_law 584 = .ok (.aload_n 3, 1) := dk_45 (dk_at dksL_law_18 23 rfl rfl)
theorem dL_law_585 : decode cL_law 585 = .ok (.iconst 0, 1) := dk_3 (dk_at dksL_law_19 0 rfl rfl)
theorem dL_law_586 : decode cL_law 586 = .ok (.laload, 1) := dk_47 (dk_at dksL_law_19 1 rfl rfl)
theorem dL_law_587 : decode cL_law 587 = .ok (.iload 6, 2) := dk_21 6 (dk_at dksL_law_19 2 rfl rfl)
theorem dL_law_589 : decode cL_law 589 = .ok (.i2l, 1) := dk_133 (dk_at dksL_law_19 4 rfl rfl)
theorem dL_law_590 : decode cL_law 590 = .ok (.lcmp, 1) := dk_148 (dk_at dksL_law_19 5 rfl rfl)
theorem dL_law_591 : decode cL_law 591 = .ok (.ifCond .eq 5, 3) := dk_153 0 5 (dk_at dksL_law_19 6 rfl rfl)
theorem dL_law_594 : decode cL_law 594 = .ok (.iconst 0, 1) := dk_3 (dk_at dksL_law_19 9 rfl rfl)
theorem dL_law_595 : decode cL_law 595 = .ok (.ireturn, 1) := dk_172 (dk_at dksL_law_19 10 rfl rfl)
theorem dL_law_596 : decode cL_law 596 = .ok (.goto 1865, 3) := dk_167 7 73 (dk_at dksL_law_19 11 rfl rfl)
theorem dL_law_599 : decode cL_law 599 = .ok (.aload_n 1, 1) := dk_43 (dk_at dksL_law_19 14 rfl rfl)
theorem dL_law_600 : decode cL_law 600 = .ok (.aload_n 0, 1) := dk_42 (dk_at dksL_law_19 15 rfl rfl)
theorem dL_law_601 : decode cL_law 601 = .ok (.iload 4, 2) := dk_21 4 (dk_at dksL_law_19 16 rfl rfl)
theorem dL_law_603 : decode cL_law 603 = .ok (.iconst 1, 1) := dk_4 (dk_at dksL_law_19 18 rfl rfl)
theorem dL_law_604 : decode cL_law 604 = .ok (.iadd, 1) := dk_96 (dk_at dksL_law_19 19 rfl rfl)
theorem dL_law_605 : decode cL_law 605 = .ok (.iaload, 1) := dk_46 (dk_at dksL_law_19 20 rfl rfl)
theorem dL_law_606 : decode cL_law 606 = .ok (.aload_n 3, 1) := dk_45 (dk_at dksL_law_19 21 rfl rfl)
theorem dL_law_607 : decode cL_law 607 = .ok (.invokestatic 156, 3) := dk_184 0 156 (dk_at dksL_law_20 0 rfl rfl)
theorem dL_law_610 : decode cL_law 610 = .ok (.istore 5, 2) := dk_54 5 (dk_at dksL_law_20 3 rfl rfl)
theorem dL_law_612 : decode cL_law 612 = .ok (.aload_n 2, 1) := dk_44 (dk_at dksL_law_20 5 rfl rfl)
theorem dL_law_613 : decode cL_law 613 = .ok (.aload_n 0, 1) := dk_42 (dk_at dksL_law_20 6 rfl rfl)
theorem dL_law_614 : decode cL_law 614 = .ok (.iload 4, 2) := dk_21 4 (dk_at dksL_law_20 7 rfl rfl)
theorem dL_law_616 : decode cL_law 616 = .ok (.iconst 1, 1) := dk_4 (dk_at dksL_law_20 9 rfl rfl)
theorem dL_law_617 : decode cL_law 617 = .ok (.iadd, 1) := dk_96 (dk_at dksL_law_20 10 rfl rfl)
theorem dL_law_618 : decode cL_law 618 = .ok (.iaload, 1) := dk_46 (dk_at dksL_law_20 11 rfl rfl)
theorem dL_law_619 : decode cL_law 619 = .ok (.invokevirtual 158, 3) := dk_182 0 158 (dk_at dksL_law_20 12 rfl rfl)
theorem dL_law_622 : decode cL_law 622 = .ok (.istore 6, 2) := dk_54 6 (dk_at dksL_law_20 15 rfl rfl)
theorem dL_law_624 : decode cL_law 624 = .ok (.aload_n 2, 1) := dk_44 (dk_at dksL_law_20 17 rfl rfl)
theorem dL_law_625 : decode cL_law 625 = .ok (.invokevirtual 134, 3) := dk_182 0 134 (dk_at dksL_law_20 18 rfl rfl)
theorem dL_law_628 : decode cL_law 628 = .ok (.iload 5, 2) := dk_21 5 (dk_at dksL_law_20 21 rfl rfl)
theorem dL_law_630 : decode cL_law 630 = .ok (.if_icmp .eq 5, 3) := dk_159 0 5 (dk_at dksL_law_21 0 rfl rfl)
theorem dL_law_633 : decode cL_law 633 = .ok (.iconst 0, 1) := dk_3 (dk_at dksL_law_21 3 rfl rfl)
theorem dL_law_634 : decode cL_law 634 = .ok (.ireturn, 1) := dk_172 (dk_at dksL_law_21 4 rfl rfl)
theorem dL_law_635 : decode cL_law 635 = .ok (.iload 5, 2) := dk_21 5 (dk_at dksL_law_21 5 rfl rfl)
theorem dL_law_637 : decode cL_law 637 = .ok (.ifCond .ne 15, 3) := dk_154 0 15 (dk_at dksL_law_21 7 rfl rfl)
theorem dL_law_640 : decode cL_law 640 = .ok (.aload_n 3, 1) := dk_45 (dk_at dksL_law_21 10 rfl rfl)
theorem dL_law_641 : decode cL_law 641 = .ok (.iconst 0, 1) := dk_3 (dk_at dksL_law_21 11 rfl rfl)
theorem dL_law_642 : decode cL_law 642 = .ok (.laload, 1) := dk_47 (dk_at dksL_law_21 12 rfl rfl)
theorem dL_law_643 : decode cL_law 643 = .ok (.iload 6, 2) := dk_21 6 (dk_at dksL_law_21 13 rfl rfl)
theorem dL_law_645 : decode cL_law 645 = .ok (.i2l, 1) := dk_133 (dk_at dksL_law_21 15 rfl rfl)
theorem dL_law_646 : decode cL_law 646 = .ok (.lcmp, 1) := dk_148 (dk_at dksL_law_21 16 rfl rfl)
theorem dL_law_647 : decode cL_law 647 = .ok (.ifCond .eq 5, 3) := dk_153 0 5 (dk_at dksL_law_21 17 rfl rfl)
theorem dL_law_650 : decode cL_law 650 = .ok (.iconst 0, 1) := dk_3 (dk_at dksL_law_21 20 rfl rfl)
theorem dL_law_651 : decode cL_law 651 = .ok (.ireturn, 1) := dk_172 (dk_at dksL_law_21 21 rfl rfl)
theorem dL_law_652 : decode cL_law 652 = .ok (.goto 1809, 3) := dk_167 7 17 (dk_at dksL_law_22 0 rfl rfl)
theorem dL_law_655 : decode cL_law 655 = .ok (.aload_n 1, 1) := dk_43 (dk_at dksL_law_22 3 rfl rfl)
theorem dL_law_656 : decode cL_law 656 = .ok (.aload_n 0, 1) := dk_42 (dk_at dksL_law_22 4 rfl rfl)
theorem dL_law_657 : decode cL_law 657 = .ok (.iload 4, 2) := dk_21 4 (dk_at dksL_law_22 5 rfl rfl)
theorem dL_law_659 : decode cL_law 659 = .ok (.iconst 1, 1) := dk_4 (dk_at dksL_law_22 7 rfl rfl)
theorem dL_law_660 : decode cL_law 660 = .ok (.iadd, 1) := dk_96 (dk_at dksL_law_22 8 rfl rfl)
theorem dL_law_661 : decode cL_law 661 = .ok (.iaload, 1) := dk_46 (dk_at dksL_law_22 9 rfl rfl)
theorem dL_law_662 : decode cL_law 662 = .ok (.aload_n 3, 1) := dk_45 (dk_at dksL_law_22 10 rfl rfl)
theorem dL_law_663 : decode cL_law 663 = .ok (.invokestatic 159, 3) := dk_184 0 159 (dk_at dksL_law_22 11 rfl rfl)
theorem dL_law_666 : decode cL_law 666 = .ok (.istore 5, 2) := dk_54 5 (dk_at dksL_law_22 14 rfl rfl)
theorem dL_law_668 : decode cL_law 668 = .ok (.aload_n 2, 1) := dk_44 (dk_at dksL_law_22 16 rfl rfl)
theorem dL_law_669 : decode cL_law 669 = .ok (.aload_n 0, 1) := dk_42 (dk_at dksL_law_22 17 rfl rfl)
theorem dL_law_670 : decode cL_law 670 = .ok (.iload 4, 2) := dk_21 4 (dk_at dksL_law_22 18 rfl rfl)
theorem dL_law_672 : decode cL_law 672 = .ok (.iconst 1, 1) := dk_4 (dk_at dksL_law_22 20 rfl rfl)
theorem dL_law_673 : decode cL_law 673 = .ok (.iadd, 1) := dk_96 (dk_at dksL_law_22 21 rfl rfl)
theorem dL_law_674 : decode cL_law 674 = .ok (.iaload, 1) := dk_46 (dk_at dksL_law_22 22 rfl rfl)
theorem dL_law_675 : decode cL_law 675 = .ok (.invokevirtual 161, 3) := dk_182 0 161 (dk_at dksL_law_23 0 rfl rfl)
theorem dL_law_678 : decode cL_law 678 = .ok (.istore 6, 2) := dk_54 6 (dk_at dksL_law_23 3 rfl rfl)
theorem dL_law_680 : decode cL_law 680 = .ok (.aload_n 2, 1) := dk_44 (dk_at dksL_law_23 5 rfl rfl)
theorem dL_law_681 : decode cL_law 681 = .ok (.invokevirtual 134, 3) := dk_182 0 134 (dk_at dksL_law_23 6 rfl rfl)
theorem dL_law_684 : decode cL_law 684 = .ok (.iload 5, 2) := dk_21 5 (dk_at dksL_law_23 9 rfl rfl)
theorem dL_law_686 : decode cL_law 686 = .ok (.if_icmp .eq 5, 3) := dk_159 0 5 (dk_at dksL_law_23 11 rfl rfl)
theorem dL_law_689 : decode cL_law 689 = .ok (.iconst 0, 1) := dk_3 (dk_at dksL_law_23 14 rfl rfl)
theorem dL_law_690 : decode cL_law 690 = .ok (.ireturn, 1) := dk_172 (dk_at dksL_law_23 15 rfl rfl)
theorem dL_law_691 : decode cL_law 691 = .ok (.iload 5, 2) := dk_21 5 (dk_at dksL_law_23 16 rfl rfl)
theorem dL_law_693 : decode cL_law 693 = .ok (.ifCond .ne 15, 3) := dk_154 0 15 (dk_at dksL_law_23 18 rfl rfl)
theorem dL_law_696 : decode cL_law 696 = .ok (.aload_n 3, 1) := dk_45 (dk_at dksL_law_23 21 rfl rfl)
theorem dL_law_697 : decode cL_law 697 = .ok (.iconst 0, 1) := dk_3 (dk_at dksL_law_23 22 rfl rfl)
theorem dL_law_698 : decode cL_law 698 = .ok (.laload, 1) := dk_47 (dk_at dksL_law_23 23 rfl rfl)
theorem dL_law_699 : decode cL_law 699 = .ok (.iload 6, 2) := dk_21 6 (dk_at dksL_law_24 0 rfl rfl)
theorem dL_law_701 : decode cL_law 701 = .ok (.i2l, 1) := dk_133 (dk_at dksL_law_24 2 rfl rfl)
theorem dL_law_702 : decode cL_law 702 = .ok (.lcmp, 1) := dk_148 (dk_at dksL_law_24 3 rfl rfl)
theorem dL_law_703 : decode cL_law 703 = .ok (.ifCond .eq 5, 3) := dk_153 0 5 (dk_at dksL_law_24 4 rfl rfl)
theorem dL_law_706 : decode cL_law 706 = .ok (.iconst 0, 1) := dk_3 (dk_at dksL_law_24 7 rfl rfl)
theorem dL_law_707 : decode cL_law 707 = .ok (.ireturn, 1) := dk_172 (dk_at dksL_law_24 8 rfl rfl)
theorem dL_law_708 : decode cL_law 708 = .ok (.goto 1753, 3) := dk_167 6 217 (dk_at dksL_law_24 9 rfl rfl)
theorem dL_law_711 : decode cL_law 711 = .ok (.aload_n 1, 1) := dk_43 (dk_at dksL_law_24 12 rfl rfl)
theorem dL_law_712 : decode cL_law 712 = .ok (.aload_n 0, 1) := dk_42 (dk_at dksL_law_24 13 rfl rfl)
theorem dL_law_713 : decode cL_law 713 = .ok (.iload 4, 2) := dk_21 4 (dk_at dksL_law_24 14 rfl rfl)
theorem dL_law_715 : decode cL_law 715 = .ok (.iconst 1, 1) := dk_4 (dk_at dksL_law_24 16 rfl rfl)
theorem dL_law_716 : decode cL_law 716 = .ok (.iadd, 1) := dk_96 (dk_at dksL_law_24 17 rfl rfl)
theorem dL_law_717 : decode cL_law 717 = .ok (.iaload, 1) := dk_46 (dk_at dksL_law_24 18 rfl rfl)
theorem dL_law_718 : decode cL_law 718 = .ok (.aload_n 0, 1) := dk_42 (dk_at dksL_law_24 19 rfl rfl)
theorem dL_law_719 : decode cL_law 719 = .ok (.iload 4, 2) := dk_21 4 (dk_at dksL_law_24 20 rfl rfl)
theorem dL_law_721 : decode cL_law 721 = .ok (.iconst 2, 1) := dk_5 (dk_at dksL_law_24 22 rfl rfl)
theorem dL_law_722 : decode cL_law 722 = .ok (.iadd, 1) := dk_96 (dk_at dksL_law_24 23 rfl rfl)
theorem dL_law_723 : decode cL_law 723 = .ok (.iaload, 1) := dk_46 (dk_at dksL_law_25 0 rfl rfl)
theorem dL_law_724 : decode cL_law 724 = .ok (.aload_n 3, 1) := dk_45 (dk_at dksL_law_25 1 rfl rfl)
theorem dL_law_725 : decode cL_law 725 = .ok (.invokestatic 162, 3) := dk_184 0 162 (dk_at dksL_law_25 2 rfl rfl)
theorem dL_law_728 : decode cL_law 728 = .ok (.istore 5, 2) := dk_54 5 (dk_at dksL_law_25 5 rfl rfl)
theorem dL_law_730 : decode cL_law 730 = .ok (.aload_n 2, 1) := dk_44 (dk_at dksL_law_25 7 rfl rfl)
theorem dL_law_731 : decode cL_law 731 = .ok (.aload_n 0, 1) := dk_42 (dk_at dksL_law_25 8 rfl rfl)
theorem dL_law_732 : decode cL_law 732 = .ok (.iload 4, 2) := dk_21 4 (dk_at dksL_law_25 9 rfl rfl)
theorem dL_law_734 : decode cL_law 734 = .ok (.iconst 1, 1) := dk_4 (dk_at dksL_law_25 11 rfl rfl)
theorem dL_law_735 : decode cL_law 735 = .ok (.iadd, 1) := dk_96 (dk_at dksL_law_25 12 rfl rfl)
theorem dL_law_736 : decode cL_law 736 = .ok (.iaload, 1) := dk_46 (dk_at dksL_law_25 13 rfl rfl)
theorem dL_law_737 : decode cL_law 737 = .ok (.aload_n 0, 1) := dk_42 (dk_at dksL_law_25 14 rfl rfl)
theorem dL_law_738 : decode cL_law 738 = .ok (.iload 4, 2) := dk_21 4 (dk_at dksL_law_25 15 rfl rfl)
theorem dL_law_740 : decode cL_law 740 = .ok (.iconst 2, 1) := dk_5 (dk_at dksL_law_25 17 rfl rfl)
theorem dL_law_741 : decode cL_law 741 = .ok (.iadd, 1) := dk_96 (dk_at dksL_law_25 18 rfl rfl)
theorem dL_law_742 : decode cL_law 742 = .ok (.iaload, 1) := dk_46 (dk_at dksL_law_25 19 rfl rfl)
theorem dL_law_743 : decode cL_law 743 = .ok (.invokevirtual 164, 3) := dk_182 0 164 (dk_at dksL_law_25 20 rfl rfl)
theorem dL_law_746 : decode cL_law 746 = .ok (.istore 6, 2) := dk_54 6 (dk_at dksL_law_26 0 rfl rfl)
theorem dL_law_748 : decode cL_law 748 = .ok (.aload_n 2, 1) := dk_44 (dk_at dksL_law_26 2 rfl rfl)
theorem dL_law_749 : decode cL_law 749 = .ok (.invokevirtual 134, 3) := dk_182 0 134 (dk_at dksL_law_26 3 rfl rfl)
theorem dL_law_752 : decode cL_law 752 = .ok (.iload 5, 2) := dk_21 5 (dk_at dksL_law_26 6 rfl rfl)
theorem dL_law_754 : decode cL_law 754 = .ok (.if_icmp .eq 5, 3) := dk_159 0 5 (dk_at dksL_law_26 8 rfl rfl)
theorem dL_law_757 : decode cL_law 757 = .ok (.iconst 0, 1) := dk_3 (dk_at dksL_law_26 11 rfl rfl)
theorem dL_law_758 : decode cL_law 758 = .ok (.ireturn, 1) := dk_172 (dk_at dksL_law_26 12 rfl rfl)
theorem dL_law_759 : decode cL_law 759 = .ok (.iload 5, 2) := dk_21 5 (dk_at dksL_law_26 13 rfl rfl)
theorem dL_law_761 : decode cL_law 761 = .ok (.ifCond .ne 15, 3) := dk_154 0 15 (dk_at dksL_law_26 15 rfl rfl)
theorem dL_law_764 : decode cL_law 764 = .ok (.aload_n 3, 1) := dk_45 (dk_at dksL_law_26 18 rfl rfl)
theorem dL_law_765 : decode cL_law 765 = .ok (.iconst 0, 1) := dk_3 (dk_at dksL_law_26 19 rfl rfl)
theorem dL_law_766 : decode cL_law 766 = .ok (.laload, 1) := dk_47 (dk_at dksL_law_26 20 rfl rfl)
theorem dL_law_767 : decode cL_law 767 = .ok (.iload 6, 2) := dk_21 6 (dk_at dksL_law_26 21 rfl rfl)
theorem dL_law_769 : decode cL_law 769 = .ok (.i2l, 1) := dk_133 (dk_at dksL_law_26 23 rfl rfl)
theorem dL_law_770 : decode cL_law 770 = .ok (.lcmp, 1) := dk_148 (dk_at dksL_law_27 0 rfl rfl)
theorem dL_law_771 : decode cL_law 771 = .ok (.ifCond .eq 5, 3) := dk_153 0 5 (dk_at dksL_law_27 1 rfl rfl)
theorem dL_law_774 : decode cL_law 774 = .ok (.iconst 0, 1) := dk_3 (dk_at dksL_law_27 4 rfl rfl)
theorem dL_law_775 : decode cL_law 775 = .ok (.ireturn, 1) := dk_172 (dk_at dksL_law_27 5 rfl rfl)
theorem dL_law_776 : decode cL_law 776 = .ok (.goto 1685, 3) := dk_167 6 149 (dk_at dksL_law_27 6 rfl rfl)
theorem dL_law_779 : decode cL_law 779 = .ok (.aload_n 1, 1) := dk_43 (dk_at dksL_law_27 9 rfl rfl)
theorem dL_law_780 : decode cL_law 780 = .ok (.aload_n 0, 1) := dk_42 (dk_at dksL_law_27 10 rfl rfl)
theorem dL_law_781 : decode cL_law 781 = .ok (.iload 4, 2) := dk_21 4 (dk_at dksL_law_27 11 rfl rfl)
theorem dL_law_783 : decode cL_law 783 = .ok (.iconst 1, 1) := dk_4 (dk_at dksL_law_27 13 rfl rfl)
theorem dL_law_784 : decode cL_law 784 = .ok (.iadd, 1) := dk_96 (dk_at dksL_law_27 14 rfl rfl)
theorem dL_law_785 : decode cL_law 785 = .ok (.iaload, 1) := dk_46 (dk_at dksL_law_27 15 rfl rfl)
theorem dL_law_786 : decode cL_law 786 = .ok (.aload_n 0, 1) := dk_42 (dk_at dksL_law_27 16 rfl rfl)
theorem dL_law_787 : decode cL_law 787 = .ok (.iload 4, 2) := dk_21 4 (dk_at dksL_law_27 17 rfl rfl)
theorem dL_law_789 : decode cL_law 789 = .ok (.iconst 2, 1) := dk_5 (dk_at dksL_law_27 19 rfl rfl)
theorem dL_law_790 : decode cL_law 790 = .ok (.iadd, 1) := dk_96 (dk_at dksL_law_27 20 rfl rfl)
theorem dL_law_791 : decode cL_law 791 = .ok (.iaload, 1) := dk_46 (dk_at dksL_law_27 21 rfl rfl)
theorem dL_law_792 : decode cL_law 792 = .ok (.aload_n 3, 1) := dk_45 (dk_at dksL_law_27 22 rfl rfl)
theorem dL_law_793 : decode cL_law 793 = .ok (.invokestatic 165, 3) := dk_184 0 165 (dk_at dksL_law_28 0 rfl rfl)
theorem dL_law_796 : decode cL_law 796 = .ok (.istore 5, 2) := dk_54 5 (dk_at dksL_law_28 3 rfl rfl)
theorem dL_law_798 : decode cL_law 798 = .ok (.aload_n 2, 1) := dk_44 (dk_at dksL_law_28 5 rfl rfl)
theorem dL_law_799 : decode cL_law 799 = .ok (.aload_n 0, 1) := dk_42 (dk_at dksL_law_28 6 rfl rfl)
theorem dL_law_800 : decode cL_law 800 = .ok (.iload 4, 2) := dk_21 4 (dk_at dksL_law_28 7 rfl rfl)
theorem dL_law_802 : decode cL_law 802 = .ok (.iconst 1, 1) := dk_4 (dk_at dksL_law_28 9 rfl rfl)
theorem dL_law_803 : decode cL_law 803 = .ok (.iadd, 1) := dk_96 (dk_at dksL_law_28 10 rfl rfl)
theorem dL_law_804 : decode cL_law 804 = .ok (.iaload, 1) := dk_46 (dk_at dksL_law_28 11 rfl rfl)
theorem dL_law_805 : decode cL_law 805 = .ok (.aload_n 0, 1) := dk_42 (dk_at dksL_law_28 12 rfl rfl)
theorem dL_law_806 : decode cL_law 806 = .ok (.iload 4, 2) := dk_21 4 (dk_at dksL_law_28 13 rfl rfl)
theorem dL_law_808 : decode cL_law 808 = .ok (.iconst 2, 1) := dk_5 (dk_at dksL_law_28 15 rfl rfl)
theorem dL_law_809 : decode cL_law 809 = .ok (.iadd, 1) := dk_96 (dk_at dksL_law_28 16 rfl rfl)
theorem dL_law_810 : decode cL_law 810 = .ok (.iaload, 1) := dk_46 (dk_at dksL_law_28 17 rfl rfl)
theorem dL_law_811 : decode cL_law 811 = .ok (.invokevirtual 167, 3) := dk_182 0 167 (dk_at dksL_law_28 18 rfl rfl)
theorem dL_law_814 : decode cL_law 814 = .ok (.istore 6, 2) := dk_54 6 (dk_at dksL_law_28 21 rfl rfl)
theorem dL_law_816 : decode cL_law 816 = .ok (.aload_n 2, 1) := dk_44 (dk_at dksL_law_28 23 rfl rfl)
theorem dL_law_817 : decode cL_law 817 = .ok (.invokevirtual 134, 3) := dk_182 0 134 (dk_at dksL_law_29 0 rfl rfl)
theorem dL_law_820 : decode cL_law 820 = .ok (.iload 5, 2) := dk_21 5 (dk_at dksL_law_29 3 rfl rfl)
theorem dL_law_822 : decode cL_law 822 = .ok (.if_icmp .eq 5, 3) := dk_159 0 5 (dk_at dksL_law_29 5 rfl rfl)
theorem dL_law_825 : decode cL_law 825 = .ok (.iconst 0, 1) := dk_3 (dk_at dksL_law_29 8 rfl rfl)
theorem dL_law_826 : decode cL_law 826 = .ok (.ireturn, 1) := dk_172 (dk_at dksL_law_29 9 rfl rfl)
theorem dL_law_827 : decode cL_law 827 = .ok (.iload 5, 2) := dk_21 5 (dk_at dksL_law_29 10 rfl rfl)
theorem dL_law_829 : decode cL_law 829 = .ok (.ifCond .ne 22, 3) := dk_154 0 22 (dk_at dksL_law_29 12 rfl rfl)
theorem dL_law_832 : decode cL_law 832 = .ok (.aload_n 3, 1) := dk_45 (dk_at dksL_law_29 15 rfl rfl)
theorem dL_law_833 : decode cL_law 833 = .ok (.iconst 0, 1) := dk_3 (dk_at dksL_law_29 16 rfl rfl)
theorem dL_law_834 : decode cL_law 834 = .ok (.laload, 1) := dk_47 (dk_at dksL_law_29 17 rfl rfl)
theorem dL_law_835 : decode cL_law 835 = .ok (.iload 6, 2) := dk_21 6 (dk_at dksL_law_29 18 rfl rfl)
theorem dL_law_837 : decode cL_law 837 = .ok (.ifCond .eq 7, 3) := dk_153 0 7 (dk_at dksL_law_29 20 rfl rfl)
theorem dL_law_840 : decode cL_law 840 = .ok (.lconst 1, 1) := dk_10 (dk_at dksL_law_29 23 rfl rfl)
theorem dL_law_841 : decode cL_law 841 = .ok (.goto 4, 3) := dk_167 0 4 (dk_at dksL_law_30 0 rfl rfl)
theorem dL_law_844 : decode cL_law 844 = .ok (.lconst 0, 1) := dk_9 (dk_at dksL_law_30 3 rfl rfl)
theorem dL_law_845 : decode cL_law 845 = .ok (.lcmp, 1) := dk_148 (dk_at dksL_law_30 4 rfl rfl)
theorem dL_law_846 : decode cL_law 846 = .ok (.ifCond .eq 5, 3) := dk_153 0 5 (dk_at dksL_law_30 5 rfl rfl)
theorem dL_law_849 : decode cL_law 849 = .ok (.iconst 0, 1) := dk_3 (dk_at dksL_law_30 8 rfl rfl)
theorem dL_law_850 : decode cL_law 850 = .ok (.ireturn, 1) := dk_172 (dk_at dksL_law_30 9 rfl rfl)
theorem dL_law_851 : decode cL_law 851 = .ok (.goto 1610, 3) := dk_167 6 74 (dk_at dksL_law_30 10 rfl rfl)
theorem dL_law_854 : decode cL_law 854 = .ok (.aload_n 1, 1) := dk_43 (dk_at dksL_law_30 13 rfl rfl)
theorem dL_law_855 : decode cL_law 855 = .ok (.invokevirtual 168, 3) := dk_182 0 168 (dk_at dksL_law_30 14 rfl rfl)
theorem dL_law_858 : decode cL_law 858 = .ok (.aload_n 2, 1) := dk_44 (dk_at dksL_law_30 17 rfl rfl)
theorem dL_law_859 : decode cL_law 859 = .ok (.invokevirtual 171, 3) := dk_182 0 171 (dk_at dksL_law_30 18 rfl rfl)
theorem dL_law_862 : decode cL_law 862 = .ok (.if_icmp .eq 1599, 3) := dk_159 6 63 (dk_at dksL_law_30 21 rfl rfl)
theorem dL_law_865 : decode cL_law 865 = .ok (.iconst 0, 1) := dk_3 (dk_at dksL_law_31 0 rfl rfl)
theorem dL_law_866 : decode cL_law 866 = .ok (.ireturn, 1) := dk_172 (dk_at dksL_law_31 1 rfl rfl)
theorem dL_law_867 : decode cL_law 867 = .ok (.aload_n 1, 1) := dk_43 (dk_at dksL_law_31 2 rfl rfl)
theorem dL_law_868 : decode cL_law 868 = .ok (.aload_n 0, 1) := dk_42 (dk_at dksL_law_31 3 rfl rfl)
theorem dL_law_869 : decode cL_law 869 = .ok (.iload 4, 2) := dk_21 4 (dk_at dksL_law_31 4 rfl rfl)
theorem dL_law_871 : decode cL_law 871 = .ok (.iconst 1, 1) := dk_4 (dk_at dksL_law_31 6 rfl rfl)
theorem dL_law_872 : decode cL_law 872 = .ok (.iadd, 1) := dk_96 (dk_at dksL_law_31 7 rfl rfl)
theorem dL_law_873 : decode cL_law 873 = .ok (.iaload, 1) := dk_46 (dk_at dksL_law_31 8 rfl rfl)
theorem dL_law_874 : decode cL_law 874 = .ok (.aload_n 0, 1) := dk_42 (dk_at dksL_law_31 9 rfl rfl)
theorem dL_law_875 : decode cL_law 875 = .ok (.iload 4, 2) := dk_21 4 (dk_at dksL_law_31 10 rfl rfl)
theorem dL_law_877 : decode cL_law 877 = .ok (.iconst 2, 1) := dk_5 (dk_at dksL_law_31 12 rfl rfl)
theorem dL_law_878 : decode cL_law 878 = .ok (.iadd, 1) := dk_96 (dk_at dksL_law_31 13 rfl rfl)
theorem dL_law_879 : decode cL_law 879 = .ok (.iaload, 1) := dk_46 (dk_at dksL_law_31 14 rfl rfl)
theorem dL_law_880 : decode cL_law 880 = .ok (.aload_n 3, 1) := dk_45 (dk_at dksL_law_31 15 rfl rfl)
theorem dL_law_881 : decode cL_law 881 = .ok (.invokestatic 172, 3) := dk_184 0 172 (dk_at dksL_law_31 16 rfl rfl)
theorem dL_law_884 : decode cL_law 884 = .ok (.istore 5, 2) := dk_54 5 (dk_at dksL_law_31 19 rfl rfl)
theorem dL_law_886 : decode cL_law 886 = .ok (.aload_n 2, 1) := dk_44 (dk_at dksL_law_31 21 rfl rfl)
theorem dL_law_887 : decode cL_law 887 = .ok (.aload_n 0, 1) := dk_42 (dk_at dksL_law_31 22 rfl rfl)
theorem dL_law_888 : decode cL_law 888 = .ok (.iload 4, 2) := dk_21 4 (dk_at dksL_law_32 0 rfl rfl)
theorem dL_law_890 : decode cL_law 890 = .ok (.iconst 1, 1) := dk_4 (dk_at dksL_law_32 2 rfl rfl)
theorem dL_law_891 : decode cL_law 891 = .ok (.iadd, 1) := dk_96 (dk_at dksL_law_32 3 rfl rfl)
theorem dL_law_892 : decode cL_law 892 = .ok (.iaload, 1) := dk_46 (dk_at dksL_law_32 4 rfl rfl)
theorem dL_law_893 : decode cL_law 893 = .ok (.aload_n 0, 1) := dk_42 (dk_at dksL_law_32 5 rfl rfl)
theorem dL_law_894 : decode cL_law 894 = .ok (.iload 4, 2) := dk_21 4 (dk_at dksL_law_32 6 rfl rfl)
theorem dL_law_896 : decode cL_law 896 = .ok (.iconst 2, 1) := dk_5 (dk_at dksL_law_32 8 rfl rfl)
theorem dL_law_897 : decode cL_law 897 = .ok (.iadd, 1) := dk_96 (dk_at dksL_law_32 9 rfl rfl)
theorem dL_law_898 : decode cL_law 898 = .ok (.iaload, 1) := dk_46 (dk_at dksL_law_32 10 rfl rfl)
theorem dL_law_899 : decode cL_law 899 = .ok (.invokevirtual 174, 3) := dk_182 0 174 (dk_at dksL_law_32 11 rfl rfl)
theorem dL_law_902 : decode cL_law 902 = .ok (.istore 6, 2) := dk_54 6 (dk_at dksL_law_32 14 rfl rfl)
theorem dL_law_904 : decode cL_law 904 = .ok (.aload_n 2, 1) := dk_44 (dk_at dksL_law_32 16 rfl rfl)
theorem dL_law_905 : decode cL_law 905 = .ok (.invokevirtual 134, 3) := dk_182 0 134 (dk_at dksL_law_32 17 rfl rfl)
theorem dL_law_908 : decode cL_law 908 = .ok (.iload 5, 2) := dk_21 5 (dk_at dksL_law_32 20 rfl rfl)
theorem dL_law_910 : decode cL_law 910 = .ok (.if_icmp .eq 5, 3) := dk_159 0 5 (dk_at dksL_law_33 0 rfl rfl)
theorem dL_law_913 : decode cL_law 913 = .ok (.iconst 0, 1) := dk_3 (dk_at dksL_law_33 3 rfl rfl)
theorem dL_law_914 : decode cL_law 914 = .ok (.ireturn, 1) := dk_172 (dk_at dksL_law_33 4 rfl rfl)
theorem dL_law_915 : decode cL_law 915 = .ok (.iload 5, 2) := dk_21 5 (dk_at dksL_law_33 5 rfl rfl)
theorem dL_law_917 : decode cL_law 917 = .ok (.ifCond .ne 22, 3) := dk_154 0 22 (dk_at dksL_law_33 7 rfl rfl)
theorem dL_law_920 : decode cL_law 920 = .ok (.aload_n 3, 1) := dk_45 (dk_at dksL_law_33 10 rfl rfl)
theorem dL_law_921 : decode cL_law 921 = .ok (.iconst 0, 1) := dk_3 (dk_at dksL_law_33 11 rfl rfl)
theorem dL_law_922 : decode cL_law 922 = .ok (.laload, 1) := dk_47 (dk_at dksL_law_33 12 rfl rfl)
theorem dL_law_923 : decode cL_law 923 = .ok (.iload 6, 2) := dk_21 6 (dk_at dksL_law_33 13 rfl rfl)
theorem dL_law_925 : decode cL_law 925 = .ok (.ifCond .eq 7, 3) := dk_153 0 7 (dk_at dksL_law_33 15 rfl rfl)
theorem dL_law_928 : decode cL_law 928 = .ok (.lconst 1, 1) := dk_10 (dk_at dksL_law_33 18 rfl rfl)
theorem dL_law_929 : decode cL_law 929 = .ok (.goto 4, 3) := dk_167 0 4 (dk_at dksL_law_33 19 rfl rfl)
theorem dL_law_932 : decode cL_law 932 = .ok (.lconst 0, 1) := dk_9 (dk_at dksL_law_33 22 rfl rfl)
theorem dL_law_933 : decode cL_law 933 = .ok (.lcmp, 1) := dk_148 (dk_at dksL_law_33 23 rfl rfl)
theorem dL_law_934 : decode cL_law 934 = .ok (.ifCond .eq 5, 3) := dk_153 0 5 (dk_at dksL_law_34 0 rfl rfl)
theorem dL_law_937 : decode cL_law 937 = .ok (.iconst 0, 1) := dk_3 (dk_at dksL_law_34 3 rfl rfl)
theorem dL_law_938 : decode cL_law 938 = .ok (.ireturn, 1) := dk_172 (dk_at dksL_law_34 4 rfl rfl)
theorem dL_law_939 : decode cL_law 939 = .ok (.goto 1522, 3) := dk_167 5 242 (dk_at dksL_law_34 5 rfl rfl)
theorem dL_law_942 : decode cL_law 942 = .ok (.aload_n 1, 1) := dk_43 (dk_at dksL_law_34 8 rfl rfl)
theorem dL_law_943 : decode cL_law 943 = .ok (.aload_n 0, 1) := dk_42 (dk_at dksL_law_34 9 rfl rfl)
theorem dL_law_944 : decode cL_law 944 = .ok (.iload 4, 2) := dk_21 4 (dk_at dksL_law_34 10 rfl rfl)
theorem dL_law_946 : decode cL_law 946 = .ok (.iconst 1, 1) := dk_4 (dk_at dksL_law_34 12 rfl rfl)
theorem dL_law_947 : decode cL_law 947 = .ok (.iadd, 1) := dk_96 (dk_at dksL_law_34 13 rfl rfl)
theorem dL_law_948 : decode cL_law 948 = .ok (.iaload, 1) := dk_46 (dk_at dksL_law_34 14 rfl rfl)
theorem dL_law_949 : decode cL_law 949 = .ok (.aload_n 0, 1) := dk_42 (dk_at dksL_law_34 15 rfl rfl)
theorem dL_law_950 : decode cL_law 950 = .ok (.iload 4, 2) := dk_21 4 (dk_at dksL_law_34 16 rfl rfl)
theorem dL_law_952 : decode cL_law 952 = .ok (.iconst 2, 1) := dk_5 (dk_at dksL_law_34 18 rfl rfl)
theorem dL_law_953 : decode cL_law 953 = .ok (.iadd, 1) := dk_96 (dk_at dksL_law_34 19 rfl rfl)
theorem dL_law_954 : decode cL_law 954 = .ok (.iaload, 1) := dk_46 (dk_at dksL_law_34 20 rfl rfl)
theorem dL_law_955 : decode cL_law 955 = .ok (.aload_n 3, 1) := dk_45 (dk_at dksL_law_34 21 rfl rfl)
theorem dL_law_956 : decode cL_law 956 = .ok (.invokestatic 175, 3) := dk_184 0 175 (dk_at dksL_law_35 0 rfl rfl)
theorem dL_law_959 : decode cL_law 959 = .ok (.istore 5, 2) := dk_54 5 (dk_at dksL_law_35 3 rfl rfl)
theorem dL_law_961 : decode cL_law 961 = .ok (.aload_n 2, 1) := dk_44 (dk_at dksL_law_35 5 rfl rfl)
theorem dL_law_962 : decode cL_law 962 = .ok (.aload_n 0, 1) := dk_42 (dk_at dksL_law_35 6 rfl rfl)
theorem dL_law_963 : decode cL_law 963 = .ok (.iload 4, 2) := dk_21 4 (dk_at dksL_law_35 7 rfl rfl)
theorem dL_law_965 : decode cL_law 965 = .ok (.iconst 1, 1) := dk_4 (dk_at dksL_law_35 9 rfl rfl)
theorem dL_law_966 : decode cL_law 966 = .ok (.iadd, 1) := dk_96 (dk_at dksL_law_35 10 rfl rfl)
theorem dL_law_967 : decode cL_law 967 = .ok (.iaload, 1) := dk_46 (dk_at dksL_law_35 11 rfl rfl)
theorem dL_law_968 : decode cL_law 968 = .ok (.aload_n 0, 1) := dk_42 (dk_at dksL_law_35 12 rfl rfl)
theorem dL_law_969 : decode cL_law 969 = .ok (.iload 4, 2) := dk_21 4 (dk_at dksL_law_35 13 rfl rfl)
theorem dL_law_971 : decode cL_law 971 = .ok (.iconst 2, 1) := dk_5 (dk_at dksL_law_35 15 rfl rfl)
theorem dL_law_972 : decode cL_law 972 = .ok (.iadd, 1) := dk_96 (dk_at dksL_law_35 16 rfl rfl)
theorem dL_law_973 : decode cL_law 973 = .ok (.iaload, 1) := dk_46 (dk_at dksL_law_35 17 rfl rfl)
theorem dL_law_974 : decode cL_law 974 = .ok (.invokevirtual 177, 3) := dk_182 0 177 (dk_at dksL_law_35 18 rfl rfl)
theorem dL_law_977 : decode cL_law 977 = .ok (.istore 6, 2) := dk_54 6 (dk_at dksL_law_35 21 rfl rfl)
theorem dL_law_979 : decode cL_law 979 = .ok (.aload_n 2, 1) := dk_44 (dk_at dksL_law_35 23 rfl rfl)
theorem dL_law_980 : decode cL_law 980 = .ok (.invokevirtual 134, 3) := dk_182 0 134 (dk_at dksL_law_36 0 rfl rfl)
theorem dL_law_983 : decode cL_law 983 = .ok (.iload 5, 2) := dk_21 5 (dk_at dksL_law_36 3 rfl rfl)
theorem dL_law_985 : decode cL_law 985 = .ok (.if_icmp .eq 5, 3) := dk_159 0 5 (dk_at dksL_law_36 5 rfl rfl)
theorem dL_law_988 : decode cL_law 988 = .ok (.iconst 0, 1) := dk_3 (dk_at dksL_law_36 8 rfl rfl)
theorem dL_law_989 : decode cL_law 989 = .ok (.ireturn, 1) := dk_172 (dk_at dksL_law_36 9 rfl rfl)
theorem dL_law_990 : decode cL_law 990 = .ok (.iload 5, 2) := dk_21 5 (dk_at dksL_law_36 10 rfl rfl)
theorem dL_law_992 : decode cL_law 992 = .ok (.ifCond .ne 22, 3) := dk_154 0 22 (dk_at dksL_law_36 12 rfl rfl)
theorem dL_law_995 : decode cL_law 995 = .ok (.aload_n 3, 1) := dk_45 (dk_at dksL_law_36 15 rfl rfl)
theorem dL_law_996 : decode cL_law 996 = .ok (.iconst 0, 1) := dk_3 (dk_at dksL_law_36 16 rfl rfl)
theorem dL_law_997 : decode cL_law 997 = .ok (.laload, 1) := dk_47 (dk_at dksL_law_36 17 rfl rfl)
theorem dL_law_998 : decode cL_law 998 = .ok (.iload 6, 2) := dk_21 6 (dk_at dksL_law_36 18 rfl rfl)
theorem dL_law_1000 : decode cL_law 1000 = .ok (.ifCond .eq 7, 3) := dk_153 0 7 (dk_at dksL_law_36 20 rfl rfl)
theorem dL_law_1003 : decode cL_law 1003 = .ok (.lconst 1, 1) := dk_10 (dk_at dksL_law_36 23 rfl rfl)
theorem dL_law_1004 : decode cL_law 1004 = .ok (.goto 4, 3) := dk_167 0 4 (dk_at dksL_law_37 0 rfl rfl)
theorem dL_law_1007 : decode cL_law 1007 = .ok (.lconst 0, 1) := dk_9 (dk_at dksL_law_37 3 rfl rfl)
theorem dL_law_1008 : decode cL_law 1008 = .ok (.lcmp, 1) := dk_148 (dk_at dksL_law_37 4 rfl rfl)
theorem dL_law_1009 : decode cL_law 1009 = .ok (.ifCond .eq 5, 3) := dk_153 0 5 (dk_at dksL_law_37 5 rfl rfl)
theorem dL_law_1012 : decode cL_law 1012 = .ok (.iconst 0, 1) := dk_3 (dk_at dksL_law_37 8 rfl rfl)
theorem dL_law_1013 : decode cL_law 1013 = .ok (.ireturn, 1) := dk_172 (dk_at dksL_law_37 9 rfl rfl)
theorem dL_law_1014 : decode cL_law 1014 = .ok (.goto 1447, 3) := dk_167 5 167 (dk_at dksL_law_37 10 rfl rfl)
theorem dL_law_1017 : decode cL_law 1017 = .ok (.aload_n 1, 1) := dk_43 (dk_at dksL_law_37 13 rfl rfl)
theorem dL_law_1018 : decode cL_law 1018 = .ok (.aload_n 0, 1) := dk_42 (dk_at dksL_law_37 14 rfl rfl)
theorem dL_law_1019 : decode cL_law 1019 = .ok (.iload 4, 2) := dk_21 4 (dk_at dksL_law_37 15 rfl rfl)
theorem dL_law_1021 : decode cL_law 1021 = .ok (.iconst 1, 1) := dk_4 (dk_at dksL_law_37 17 rfl rfl)
theorem dL_law_1022 : decode cL_law 1022 = .ok (.iadd, 1) := dk_96 (dk_at dksL_law_37 18 rfl rfl)
theorem dL_law_1023 : decode cL_law 1023 = .ok (.iaload, 1) := dk_46 (dk_at dksL_law_37 19 rfl rfl)
theorem dL_law_1024 : decode cL_law 1024 = .ok (.aload_n 3, 1) := dk_45 (dk_at dksL_law_37 20 rfl rfl)
theorem dL_law_1025 : decode cL_law 1025 = .ok (.invokestatic 178, 3) := dk_184 0 178 (dk_at dksL_law_37 21 rfl rfl)
theorem dL_law_1028 : decode cL_law 1028 = .ok (.istore 5, 2) := dk_54 5 (dk_at dksL_law_38 0 rfl rfl)
theorem dL_law_1030 : decode cL_law 1030 = .ok (.aload_n 2, 1) := dk_44 (dk_at dksL_law_38 2 rfl rfl)
theorem dL_law_1031 : decode cL_law 1031 = .ok (.aload_n 0, 1) := dk_42 (dk_at dksL_law_38 3 rfl rfl)
theorem dL_law_1032 : decode cL_law 1032 = .ok (.iload 4, 2) := dk_21 4 (dk_at dksL_law_38 4 rfl rfl)
theorem dL_law_1034 : decode cL_law 1034 = .ok (.iconst 1, 1) := dk_4 (dk_at dksL_law_38 6 rfl rfl)
theorem dL_law_1035 : decode cL_law 1035 = .ok (.iadd, 1) := dk_96 (dk_at dksL_law_38 7 rfl rfl)
theorem dL_law_1036 : decode cL_law 1036 = .ok (.iaload, 1) := dk_46 (dk_at dksL_law_38 8 rfl rfl)
theorem dL_law_1037 : decode cL_law 1037 = .ok (.invokevirtual 180, 3) := dk_182 0 180 (dk_at dksL_law_38 9 rfl rfl)
theorem dL_law_1040 : decode cL_law 1040 = .ok (.istore 6, 2) := dk_54 6 (dk_at dksL_law_38 12 rfl rfl)
theorem dL_law_1042 : decode cL_law 1042 = .ok (.aload_n 2, 1) := dk_44 (dk_at dksL_law_38 14 rfl rfl)
theorem dL_law_1043 : decode cL_law 1043 = .ok (.invokevirtual 134, 3) := dk_182 0 134 (dk_at dksL_law_38 15 rfl rfl)
theorem dL_law_1046 : decode cL_law 1046 = .ok (.iload 5, 2) := dk_21 5 (dk_at dksL_law_38 18 rfl rfl)
theorem dL_law_1048 : decode cL_law 1048 = .ok (.if_icmp .eq 5, 3) := dk_159 0 5 (dk_at dksL_law_38 20 rfl rfl)
theorem dL_law_1051 : decode cL_law 1051 = .ok (.iconst 0, 1) := dk_3 (dk_at dksL_law_38 23 rfl rfl)
theorem dL_law_1052 : decode cL_law 1052 = .ok (.ireturn, 1) := dk_172 (dk_at dksL_law_39 0 rfl rfl)
theorem dL_law_1053 : decode cL_law 1053 = .ok (.iload 5, 2) := dk_21 5 (dk_at dksL_law_39 1 rfl rfl)
theorem dL_law_1055 : decode cL_law 1055 = .ok (.ifCond .ne 15, 3) := dk_154 0 15 (dk_at dksL_law_39 3 rfl rfl)
theorem dL_law_1058 : decode cL_law 1058 = .ok (.aload_n 3, 1) := dk_45 (dk_at dksL_law_39 6 rfl rfl)
theorem dL_law_1059 : decode cL_law 1059 = .ok (.iconst 0, 1) := dk_3 (dk_at dksL_law_39 7 rfl rfl)
theorem dL_law_1060 : decode cL_law 1060 = .ok (.laload, 1) := dk_47 (dk_at dksL_law_39 8 rfl rfl)
theorem dL_law_1061 : decode cL_law 1061 = .ok (.iload 6, 2) := dk_21 6 (dk_at dksL_law_39 9 rfl rfl)
theorem dL_law_1063 : decode cL_law 1063 = .ok (.i2l, 1) := dk_133 (dk_at dksL_law_39 11 rfl rfl)
theorem dL_law_1064 : decode cL_law 1064 = .ok (.lcmp, 1) := dk_148 (dk_at dksL_law_39 12 rfl rfl)
theorem dL_law_1065 : decode cL_law 1065 = .ok (.ifCond .eq 5, 3) := dk_153 0 5 (dk_at dksL_law_39 13 rfl rfl)
theorem dL_law_1068 : decode cL_law 1068 = .ok (.iconst 0, 1) := dk_3 (dk_at dksL_law_39 16 rfl rfl)
theorem dL_law_1069 : decode cL_law 1069 = .ok (.ireturn, 1) := dk_172 (dk_at dksL_law_39 17 rfl rfl)
theorem dL_law_1070 : decode cL_law 1070 = .ok (.goto 1391, 3) := dk_167 5 111 (dk_at dksL_law_39 18 rfl rfl)
theorem dL_law_1073 : decode cL_law 1073 = .ok (.aload_n 1, 1) := dk_43 (dk_at dksL_law_39 21 rfl rfl)
theorem dL_law_1074 : decode cL_law 1074 = .ok (.aload_n 0, 1) := dk_42 (dk_at dksL_law_39 22 rfl rfl)
theorem dL_law_1075 : decode cL_law 1075 = .ok (.iload 4, 2) := dk_21 4 (dk_at dksL_law_40 0 rfl rfl)
theorem dL_law_1077 : decode cL_law 1077 = .ok (.iconst 1, 1) := dk_4 (dk_at dksL_law_40 2 rfl rfl)
theorem dL_law_1078 : decode cL_law 1078 = .ok (.iadd, 1) := dk_96 (dk_at dksL_law_40 3 rfl rfl)
theorem dL_law_1079 : decode cL_law 1079 = .ok (.iaload, 1) := dk_46 (dk_at dksL_law_40 4 rfl rfl)
theorem dL_law_1080 : decode cL_law 1080 = .ok (.aload_n 0, 1) := dk_42 (dk_at dksL_law_40 5 rfl rfl)
theorem dL_law_1081 : decode cL_law 1081 = .ok (.iload 4, 2) := dk_21 4 (dk_at dksL_law_40 6 rfl rfl)
theorem dL_law_1083 : decode cL_law 1083 = .ok (.iconst 2, 1) := dk_5 (dk_at dksL_law_40 8 rfl rfl)
theorem dL_law_1084 : decode cL_law 1084 = .ok (.iadd, 1) := dk_96 (dk_at dksL_law_40 9 rfl rfl)
theorem dL_law_1085 : decode cL_law 1085 = .ok (.iaload, 1) := dk_46 (dk_at dksL_law_40 10 rfl rfl)
theorem dL_law_1086 : decode cL_law 1086 = .ok (.aload_n 0, 1) := dk_42 (dk_at dksL_law_40 11 rfl rfl)
theorem dL_law_1087 : decode cL_law 1087 = .ok (.iload 4, 2) := dk_21 4 (dk_at dksL_law_40 12 rfl rfl)
theorem dL_law_1089 : decode cL_law 1089 = .ok (.iconst 3, 1) := dk_6 (dk_at dksL_law_40 14 rfl rfl)
theorem dL_law_1090 : decode cL_law 1090 = .ok (.iadd, 1) := dk_96 (dk_at dksL_law_40 15 rfl rfl)
theorem dL_law_1091 : decode cL_law 1091 = .ok (.iaload, 1) := dk_46 (dk_at dksL_law_40 16 rfl rfl)
theorem dL_law_1092 : decode cL_law 1092 = .ok (.aload_n 3, 1) := dk_45 (dk_at dksL_law_40 17 rfl rfl)
theorem dL_law_1093 : decode cL_law 1093 = .ok (.invokestatic 181, 3) := dk_184 0 181 (dk_at dksL_law_40 18 rfl rfl)
theorem dL_law_1096 : decode cL_law 1096 = .ok (.istore 5, 2) := dk_54 5 (dk_at dksL_law_40 21 rfl rfl)
theorem dL_law_1098 : decode cL_law 1098 = .ok (.aload_n 2, 1) := dk_44 (dk_at dksL_law_40 23 rfl rfl)
theorem dL_law_1099 : decode cL_law 1099 = .ok (.aload_n 0, 1) := dk_42 (dk_at dksL_law_41 0 rfl rfl)
theorem dL_law_1100 : decode cL_law 1100 = .ok (.iload 4, 2) := dk_21 4 (dk_at dksL_law_41 1 rfl rfl)
theorem dL_law_1102 : decode cL_law 1102 = .ok (.iconst 1, 1) := dk_4 (dk_at dksL_law_41 3 rfl rfl)
theorem dL_law_1103 : decode cL_law 1103 = .ok (.iadd, 1) := dk_96 (dk_at dksL_law_41 4 rfl rfl)
theorem dL_law_1104 : decode cL_law 1104 = .ok (.iaload, 1) := dk_46 (dk_at dksL_law_41 5 rfl rfl)
theorem dL_law_1105 : decode cL_law 1105 = .ok (.aload_n 0, 1) := dk_42 (dk_at dksL_law_41 6 rfl rfl)
theorem dL_law_1106 : decode cL_law 1106 = .ok (.iload 4, 2) := dk_21 4 (dk_at dksL_law_41 7 rfl rfl)
theorem dL_law_1108 : decode cL_law 1108 = .ok (.iconst 2, 1) := dk_5 (dk_at dksL_law_41 9 rfl rfl)
theorem dL_law_1109 : decode cL_law 1109 = .ok (.iadd, 1) := dk_96 (dk_at dksL_law_41 10 rfl rfl)
theorem dL_law_1110 : decode cL_law 1110 = .ok (.iaload, 1) := dk_46 (dk_at dksL_law_41 11 rfl rfl)
theorem dL_law_1111 : decode cL_law 1111 = .ok (.aload_n 0, 1) := dk_42 (dk_at dksL_law_41 12 rfl rfl)
theorem dL_law_1112 : decode cL_law 1112 = .ok (.iload 4, 2) := dk_21 4 (dk_at dksL_law_41 13 rfl rfl)
theorem dL_law_1114 : decode cL_law 1114 = .ok (.iconst 3, 1) := dk_6 (dk_at dksL_law_41 15 rfl rfl)
theorem dL_law_1115 : decode cL_law 1115 = .ok (.iadd, 1) := dk_96 (dk_at dksL_law_41 16 rfl rfl)
theorem dL_law_1116 : decode cL_law 1116 = .ok (.iaload, 1) := dk_46 (dk_at dksL_law_41 17 rfl rfl)
theorem dL_law_1117 : decode cL_law 1117 = .ok (.invokevirtual 184, 3) := dk_182 0 184 (dk_at dksL_law_41 18 rfl rfl)
theorem dL_law_1120 : decode cL_law 1120 = .ok (.istore 6, 2) := dk_54 6 (dk_at dksL_law_41 21 rfl rfl)
theorem dL_law_1122 : decode cL_law 1122 = .ok (.aload_n 2, 1) := dk_44 (dk_at dksL_law_41 23 rfl rfl)
theorem dL_law_1123 : decode cL_law 1123 = .ok (.invokevirtual 134, 3) := dk_182 0 134 (dk_at dksL_law_42 0 rfl rfl)
theorem dL_law_1126 : decode cL_law 1126 = .ok (.iload 5, 2) := dk_21 5 (dk_at dksL_law_42 3 rfl rfl)
theorem dL_law_1128 : decode cL_law 1128 = .ok (.if_icmp .eq 5, 3) := dk_159 0 5 (dk_at dksL_law_42 5 rfl rfl)
theorem dL_law_1131 : decode cL_law 1131 = .ok (.iconst 0, 1) := dk_3 (dk_at dksL_law_42 8 rfl rfl)
theorem dL_law_1132 : decode cL_law 1132 = .ok (.ireturn, 1) := dk_172 (dk_at dksL_law_42 9 rfl rfl)
theorem dL_law_1133 : decode cL_law 1133 = .ok (.iload 5, 2) := dk_21 5 (dk_at dksL_law_42 10 rfl rfl)
theorem dL_law_1135 : decode cL_law 1135 = .ok (.ifCond .ne 22, 3) := dk_154 0 22 (dk_at dksL_law_42 12 rfl rfl)
theorem dL_law_1138 : decode cL_law 1138 = .ok (.aload_n 3, 1) := dk_45 (dk_at dksL_law_42 15 rfl rfl)
theorem dL_law_1139 : decode cL_law 1139 = .ok (.iconst 0, 1) := dk_3 (dk_at dksL_law_42 16 rfl rfl)
theorem dL_law_1140 : decode cL_law 1140 = .ok (.laload, 1) := dk_47 (dk_at dksL_law_42 17 rfl rfl)
theorem dL_law_1141 : decode cL_law 1141 = .ok (.iload 6, 2) := dk_21 6 (dk_at dksL_law_42 18 rfl rfl)
theorem dL_law_1143 : decode cL_law 1143 = .ok (.ifCond .eq 7, 3) := dk_153 0 7 (dk_at dksL_law_42 20 rfl rfl)
theorem dL_law_1146 : decode cL_law 1146 = .ok (.lconst 1, 1) := dk_10 (dk_at dksL_law_42 23 rfl rfl)
theorem dL_law_1147 : decode cL_law 1147 = .ok (.goto 4, 3) := dk_167 0 4 (dk_at dksL_law_43 0 rfl rfl)
theorem dL_law_1150 : decode cL_law 1150 = .ok (.lconst 0, 1) := dk_9 (dk_at dksL_law_43 3 rfl rfl)
theorem dL_law_1151 : decode cL_law 1151 = .ok (.lcmp, 1) := dk_148 (dk_at dksL_law_43 4 rfl rfl)
theorem dL_law_1152 : decode cL_law 1152 = .ok (.ifCond .eq 5, 3) := dk_153 0 5 (dk_at dksL_law_43 5 rfl rfl)
theorem dL_law_1155 : decode cL_law 1155 = .ok (.iconst 0, 1) := dk_3 (dk_at dksL_law_43 8 rfl rfl)
theorem dL_law_1156 : decode cL_law 1156 = .ok (.ireturn, 1) := dk_172 (dk_at dksL_law_43 9 rfl rfl)
theorem dL_law_1157 : decode cL_law 1157 = .ok (.goto 1304, 3) := dk_167 5 24 (dk_at dksL_law_43 10 rfl rfl)
theorem dL_law_1160 : decode cL_law 1160 = .ok (.aload_n 1, 1) := dk_43 (dk_at dksL_law_43 13 rfl rfl)
theorem dL_law_1161 : decode cL_law 1161 = .ok (.aload_n 0, 1) := dk_42 (dk_at dksL_law_43 14 rfl rfl)
theorem dL_law_1162 : decode cL_law 1162 = .ok (.iload 4, 2) := dk_21 4 (dk_at dksL_law_43 15 rfl rfl)
theorem dL_law_1164 : decode cL_law 1164 = .ok (.iconst 1, 1) := dk_4 (dk_at dksL_law_43 17 rfl rfl)
theorem dL_law_1165 : decode cL_law 1165 = .ok (.iadd, 1) := dk_96 (dk_at dksL_law_43 18 rfl rfl)
theorem dL_law_1166 : decode cL_law 1166 = .ok (.iaload, 1) := dk_46 (dk_at dksL_law_43 19 rfl rfl)
theorem dL_law_1167 : decode cL_law 1167 = .ok (.aload_n 0, 1) := dk_42 (dk_at dksL_law_43 20 rfl rfl)
theorem dL_law_1168 : decode cL_law 1168 = .ok (.iload 4, 2) := dk_21 4 (dk_at dksL_law_43 21 rfl rfl)
theorem dL_law_1170 : decode cL_law 1170 = .ok (.iconst 2, 1) := dk_5 (dk_at dksL_law_43 23 rfl rfl)
theorem dL_law_1171 : decode cL_law 1171 = .ok (.iadd, 1) := dk_96 (dk_at dksL_law_44 0 rfl rfl)
theorem dL_law_1172 : decode cL_law 1172 = .ok (.iaload, 1) := dk_46 (dk_at dksL_law_44 1 rfl rfl)
theorem dL_law_1173 : decode cL_law 1173 = .ok (.aload_n 3, 1) := dk_45 (dk_at dksL_law_44 2 rfl rfl)
theorem dL_law_1174 : decode cL_law 1174 = .ok (.invokestatic 185, 3) := dk_184 0 185 (dk_at dksL_law_44 3 rfl rfl)
theorem dL_law_1177 : decode cL_law 1177 = .ok (.istore 5, 2) := dk_54 5 (dk_at dksL_law_44 6 rfl rfl)
theorem dL_law_1179 : decode cL_law 1179 = .ok (.aload_n 2, 1) := dk_44 (dk_at dksL_law_44 8 rfl rfl)
theorem dL_law_1180 : decode cL_law 1180 = .ok (.aload_n 0, 1) := dk_42 (dk_at dksL_law_44 9 rfl rfl)
theorem dL_law_1181 : decode cL_law 1181 = .ok (.iload 4, 2) := dk_21 4 (dk_at dksL_law_44 10 rfl rfl)
theorem dL_law_1183 : decode cL_law 1183 = .ok (.iconst 1, 1) := dk_4 (dk_at dksL_law_44 12 rfl rfl)
theorem dL_law_1184 : decode cL_law 1184 = .ok (.iadd, 1) := dk_96 (dk_at dksL_law_44 13 rfl rfl)
theorem dL_law_1185 : decode cL_law 1185 = .ok (.iaload, 1) := dk_46 (dk_at dksL_law_44 14 rfl rfl)
theorem dL_law_1186 : decode cL_law 1186 = .ok (.aload_n 0, 1) := dk_42 (dk_at dksL_law_44 15 rfl rfl)
theorem dL_law_1187 : decode cL_law 1187 = .ok (.iload 4, 2) := dk_21 4 (dk_at dksL_law_44 16 rfl rfl)
theorem dL_law_1189 : decode cL_law 1189 = .ok (.iconst 2, 1) := dk_5 (dk_at dksL_law_44 18 rfl rfl)
theorem dL_law_1190 : decode cL_law 1190 = .ok (.iadd, 1) := dk_96 (dk_at dksL_law_44 19 rfl rfl)
theorem dL_law_1191 : decode cL_law 1191 = .ok (.iaload, 1) := dk_46 (dk_at dksL_law_44 20 rfl rfl)
theorem dL_law_1192 : decode cL_law 1192 = .ok (.invokevirtual 187, 3) := dk_182 0 187 (dk_at dksL_law_44 21 rfl rfl)
theorem dL_law_1195 : decode cL_law 1195 = .ok (.istore 6, 2) := dk_54 6 (dk_at dksL_law_45 0 rfl rfl)
theorem dL_law_1197 : decode cL_law 1197 = .ok (.aload_n 2, 1) := dk_44 (dk_at dksL_law_45 2 rfl rfl)
theorem dL_law_1198 : decode cL_law 1198 = .ok (.invokevirtual 134, 3) := dk_182 0 134 (dk_at dksL_law_45 3 rfl rfl)
theorem dL_law_1201 : decode cL_law 1201 = .ok (.iload 5, 2) := dk_21 5 (dk_at dksL_law_45 6 rfl rfl)
theorem dL_law_1203 : decode cL_law 1203 = .ok (.if_icmp .eq 5, 3) := dk_159 0 5 (dk_at dksL_law_45 8 rfl rfl)
theorem dL_law_1206 : decode cL_law 1206 = .ok (.iconst 0, 1) := dk_3 (dk_at dksL_law_45 11 rfl rfl)
theorem dL_law_1207 : decode cL_law 1207 = .ok (.ireturn, 1) := dk_172 (dk_at dksL_law_45 12 rfl rfl)
theorem dL_law_1208 : decode cL_law 1208 = .ok (.iload 5, 2) := dk_21 5 (dk_at dksL_law_45 13 rfl rfl)
theorem dL_law_1210 : decode cL_law 1210 = .ok (.ifCond .ne 15, 3) := dk_154 0 15 (dk_at dksL_law_45 15 rfl rfl)
theorem dL_law_1213 : decode cL_law 1213 = .ok (.aload_n 3, 1) := dk_45 (dk_at dksL_law_45 18 rfl rfl)
theorem dL_law_1214 : decode cL_law 1214 = .ok (.iconst 0, 1) := dk_3 (dk_at dksL_law_45 19 rfl rfl)
theorem dL_law_1215 : decode cL_law 1215 = .ok (.laload, 1) := dk_47 (dk_at dksL_law_45 20 rfl rfl)
theorem dL_law_1216 : decode cL_law 1216 = .ok (.iload 6, 2) := dk_21 6 (dk_at dksL_law_45 21 rfl rfl)
theorem dL_law_1218 : decode cL_law 1218 = .ok (.i2l, 1) := dk_133 (dk_at dksL_law_45 23 rfl rfl)
theorem dL_law_1219 : decode cL_law 1219 = .ok (.lcmp, 1) := dk_148 (dk_at dksL_law_46 0 rfl rfl)
theorem dL_law_1220 : decode cL_law 1220 = .ok (.ifCond .eq 5, 3) := dk_153 0 5 (dk_at dksL_law_46 1 rfl rfl)
theorem dL_law_1223 : decode cL_law 1223 = .ok (.iconst 0, 1) := dk_3 (dk_at dksL_law_46 4 rfl rfl)
theorem dL_law_1224 : decode cL_law 1224 = .ok (.ireturn, 1) := dk_172 (dk_at dksL_law_46 5 rfl rfl)
theorem dL_law_1225 : decode cL_law 1225 = .ok (.goto 1236, 3) := dk_167 4 212 (dk_at dksL_law_46 6 rfl rfl)
theorem dL_law_1228 : decode cL_law 1228 = .ok (.aload_n 1, 1) := dk_43 (dk_at dksL_law_46 9 rfl rfl)
theorem dL_law_1229 : decode cL_law 1229 = .ok (.aload_n 0, 1) := dk_42 (dk_at dksL_law_46 10 rfl rfl)
theorem dL_law_1230 : decode cL_law 1230 = .ok (.iload 4, 2) := dk_21 4 (dk_at dksL_law_46 11 rfl rfl)
theorem dL_law_1232 : decode cL_law 1232 = .ok (.iconst 1, 1) := dk_4 (dk_at dksL_law_46 13 rfl rfl)
theorem dL_law_1233 : decode cL_law 1233 = .ok (.iadd, 1) := dk_96 (dk_at dksL_law_46 14 rfl rfl)
theorem dL_law_1234 : decode cL_law 1234 = .ok (.iaload, 1) := dk_46 (dk_at dksL_law_46 15 rfl rfl)
theorem dL_law_1235 : decode cL_law 1235 = .ok (.aload_n 0, 1) := dk_42 (dk_at dksL_law_46 16 rfl rfl)
theorem dL_law_1236 : decode cL_law 1236 = .ok (.iload 4, 2) := dk_21 4 (dk_at dksL_law_46 17 rfl rfl)
theorem dL_law_1238 : decode cL_law 1238 = .ok (.iconst 2, 1) := dk_5 (dk_at dksL_law_46 19 rfl rfl)
theorem dL_law_1239 : decode cL_law 1239 = .ok (.iadd, 1) := dk_96 (dk_at dksL_law_46 20 rfl rfl)
theorem dL_law_1240 : decode cL_law 1240 = .ok (.iaload, 1) := dk_46 (dk_at dksL_law_46 21 rfl rfl)
theorem dL_law_1241 : decode cL_law 1241 = .ok (.aload_n 0, 1) := dk_42 (dk_at dksL_law_46 22 rfl rfl)
theorem dL_law_1242 : decode cL_law 1242 = .ok (.iload 4, 2) := dk_21 4 (dk_at dksL_law_47 0 rfl rfl)
theorem dL_law_1244 : decode cL_law 1244 = .ok (.iconst 3, 1) := dk_6 (dk_at dksL_law_47 2 rfl rfl)
theorem dL_law_1245 : decode cL_law 1245 = .ok (.iadd, 1) := dk_96 (dk_at dksL_law_47 3 rfl rfl)
theorem dL_law_1246 : decode cL_law 1246 = .ok (.iaload, 1) := dk_46 (dk_at dksL_law_47 4 rfl rfl)
theorem dL_law_1247 : decode cL_law 1247 = .ok (.aload_n 3, 1) := dk_45 (dk_at dksL_law_47 5 rfl rfl)
theorem dL_law_1248 : decode cL_law 1248 = .ok (.invokestatic 188, 3) := dk_184 0 188 (dk_at dksL_law_47 6 rfl rfl)
theorem dL_law_1251 : decode cL_law 1251 = .ok (.istore 5, 2) := dk_54 5 (dk_at dksL_law_47 9 rfl rfl)
theorem dL_law_1253 : decode cL_law 1253 = .ok (.aload_n 2, 1) := dk_44 (dk_at dksL_law_47 11 rfl rfl)
theorem dL_law_1254 : decode cL_law 1254 = .ok (.aload_n 0, 1) := dk_42 (dk_at dksL_law_47 12 rfl rfl)
theorem dL_law_1255 : decode cL_law 1255 = .ok (.iload 4, 2) := dk_21 4 (dk_at dksL_law_47 13 rfl rfl)
theorem dL_law_1257 : decode cL_law 1257 = .ok (.iconst 1, 1) := dk_4 (dk_at dksL_law_47 15 rfl rfl)
theorem dL_law_1258 : decode cL_law 1258 = .ok (.iadd, 1) := dk_96 (dk_at dksL_law_47 16 rfl rfl)
theorem dL_law_1259 : decode cL_law 1259 = .ok (.iaload, 1) := dk_46 (dk_at dksL_law_47 17 rfl rfl)
theorem dL_law_1260 : decode cL_law 1260 = .ok (.aload_n 0, 1) := dk_42 (dk_at dksL_law_47 18 rfl rfl)
theorem dL_law_1261 : decode cL_law 1261 = .ok (.iload 4, 2) := dk_21 4 (dk_at dksL_law_47 19 rfl rfl)
theorem dL_law_1263 : decode cL_law 1263 = .ok (.iconst 2, 1) := dk_5 (dk_at dksL_law_47 21 rfl rfl)
theorem dL_law_1264 : decode cL_law 1264 = .ok (.iadd, 1) := dk_96 (dk_at dksL_law_47 22 rfl rfl)
theorem dL_law_1265 : decode cL_law 1265 = .ok (.iaload, 1) := dk_46 (dk_at dksL_law_47 23 rfl rfl)
theorem dL_law_1266 : decode cL_law 1266 = .ok (.aload_n 0, 1) := dk_42 (dk_at dksL_law_48 0 rfl rfl)
theorem dL_law_1267 : decode cL_law 1267 = .ok (.iload 4, 2) := dk_21 4 (dk_at dksL_law_48 1 rfl rfl)
theorem dL_law_1269 : decode cL_law 1269 = .ok (.iconst 3, 1) := dk_6 (dk_at dksL_law_48 3 rfl rfl)
theorem dL_law_1270 : decode cL_law 1270 = .ok (.iadd, 1) := dk_96 (dk_at dksL_law_48 4 rfl rfl)
theorem dL_law_1271 : decode cL_law 1271 = .ok (.iaload, 1) := dk_46 (dk_at dksL_law_48 5 rfl rfl)
theorem dL_law_1272 : decode cL_law 1272 = .ok (.invokevirtual 190, 3) := dk_182 0 190 (dk_at dksL_law_48 6 rfl rfl)
theorem dL_law_1275 : decode cL_law 1275 = .ok (.istore 6, 2) := dk_54 6 (dk_at dksL_law_48 9 rfl rfl)
theorem dL_law_1277 : decode cL_law 1277 = .ok (.aload_n 2, 1) := dk_44 (dk_at dksL_law_48 11 rfl rfl)
theorem dL_law_1278 : decode cL_law 1278 = .ok (.invokevirtual 134, 3) := dk_182 0 134 (dk_at dksL_law_48 12 rfl rfl)
theorem dL_law_1281 : decode cL_law 1281 = .ok (.iload 5, 2) := dk_21 5 (dk_at dksL_law_48 15 rfl rfl)
theorem dL_law_1283 : decode cL_law 1283 = .ok (.if_icmp .eq 5, 3) := dk_159 0 5 (dk_at dksL_law_48 17 rfl rfl)
theorem dL_law_1286 : decode cL_law 1286 = .ok (.iconst 0, 1) := dk_3 (dk_at dksL_law_48 20 rfl rfl)
theorem dL_law_1287 : decode cL_law 1287 = .ok (.ireturn, 1) := dk_172 (dk_at dksL_law_48 21 rfl rfl)
theorem dL_law_1288 : decode cL_law 1288 = .ok (.iload 5, 2) := dk_21 5 (dk_at dksL_law_48 22 rfl rfl)
theorem dL_law_1290 : decode cL_law 1290 = .ok (.ifCond .ne 15, 3) := dk_154 0 15 (dk_at dksL_law_49 0 rfl rfl)
theorem dL_law_1293 : decode cL_law 1293 = .ok (.aload_n 3, 1) := dk_45 (dk_at dksL_law_49 3 rfl rfl)
theorem dL_law_1294 : decode cL_law 1294 = .ok (.iconst 0, 1) := dk_3 (dk_at dksL_law_49 4 rfl rfl)
theorem dL_law_1295 : decode cL_law 1295 = .ok (.laload, 1) := dk_47 (dk_at dksL_law_49 5 rfl rfl)
theorem dL_law_1296 : decode cL_law 1296 = .ok (.iload 6, 2) := dk_21 6 (dk_at dksL_law_49 6 rfl rfl)
theorem dL_law_1298 : decode cL_law 1298 = .ok (.i2l, 1) := dk_133 (dk_at dksL_law_49 8 rfl rfl)
theorem dL_law_1299 : decode cL_law 1299 = .ok (.lcmp, 1) := dk_148 (dk_at dksL_law_49 9 rfl rfl)
theorem dL_law_1300 : decode cL_law 1300 = .ok (.ifCond .eq 5, 3) := dk_153 0 5 (dk_at dksL_law_49 10 rfl rfl)
theorem dL_law_1303 : decode cL_law 1303 = .ok (.iconst 0, 1) := dk_3 (dk_at dksL_law_49 13 rfl rfl)
theorem dL_law_1304 : decode cL_law 1304 = .ok (.ireturn, 1) := dk_172 (dk_at dksL_law_49 14 rfl rfl)
theorem dL_law_1305 : decode cL_law 1305 = .ok (.goto 1156, 3) := dk_167 4 132 (dk_at dksL_law_49 15 rfl rfl)
theorem dL_law_1308 : decode cL_law 1308 = .ok (.aload_n 1, 1) := dk_43 (dk_at dksL_law_49 18 rfl rfl)
theorem dL_law_1309 : decode cL_law 1309 = .ok (.aload_n 0, 1) := dk_42 (dk_at dksL_law_49 19 rfl rfl)
theorem dL_law_1310 : decode cL_law 1310 = .ok (.iload 4, 2) := dk_21 4 (dk_at dksL_law_49 20 rfl rfl)
theorem dL_law_1312 : decode cL_law 1312 = .ok (.iconst 1, 1) := dk_4 (dk_at dksL_law_49 22 rfl rfl)
theorem dL_law_1313 : decode cL_law 1313 = .ok (.iadd, 1) := dk_96 (dk_at dksL_law_49 23 rfl rfl)
theorem dL_law_1314 : decode cL_law 1314 = .ok (.iaload, 1) := dk_46 (dk_at dksL_law_50 0 rfl rfl)
theorem dL_law_1315 : decode cL_law 1315 = .ok (.aload_n 3, 1) := dk_45 (dk_at dksL_law_50 1 rfl rfl)
theorem dL_law_1316 : decode cL_law 1316 = .ok (.invokestatic 191, 3) := dk_184 0 191 (dk_at dksL_law_50 2 rfl rfl)
theorem dL_law_1319 : decode cL_law 1319 = .ok (.istore 5, 2) := dk_54 5 (dk_at dksL_law_50 5 rfl rfl)
theorem dL_law_1321 : decode cL_law 1321 = .ok (.aload_n 2, 1) := dk_44 (dk_at dksL_law_50 7 rfl rfl)
theorem dL_law_1322 : decode cL_law 1322 = .ok (.aload_n 0, 1) := dk_42 (dk_at dksL_law_50 8 rfl rfl)
theorem dL_law_1323 : decode cL_law 1323 = .ok (.iload 4, 2) := dk_21 4 (dk_at dksL_law_50 9 rfl rfl)
theorem dL_law_1325 : decode cL_law 1325 = .ok (.iconst 1, 1) := dk_4 (dk_at dksL_law_50 11 rfl rfl)
theorem dL_law_1326 : decode cL_law 1326 = .ok (.iadd, 1) := dk_96 (dk_at dksL_law_50 12 rfl rfl)
theorem dL_law_1327 : decode cL_law 1327 = .ok (.iaload, 1) := dk_46 (dk_at dksL_law_50 13 rfl rfl)
theorem dL_law_1328 : decode cL_law 1328 = .ok (.invokevirtual 193, 3) := dk_182 0 193 (dk_at dksL_law_50 14 rfl rfl)
theorem dL_law_1331 : decode cL_law 1331 = .ok (.istore 6, 2) := dk_54 6 (dk_at dksL_law_50 17 rfl rfl)
theorem dL_law_1333 : decode cL_law 1333 = .ok (.aload_n 2, 1) := dk_44 (dk_at dksL_law_50 19 rfl rfl)
theorem dL_law_1334 : decode cL_law 1334 = .ok (.invokevirtual 134, 3) := dk_182 0 134 (dk_at dksL_law_50 20 rfl rfl)
theorem dL_law_1337 : decode cL_law 1337 = .ok (.iload 5, 2) := dk_21 5 (dk_at dksL_law_51 0 rfl rfl)
theorem dL_law_1339 : decode cL_law 1339 = .ok (.if_icmp .eq 5, 3) := dk_159 0 5 (dk_at dksL_law_51 2 rfl rfl)
theorem dL_law_1342 : decode cL_law 1342 = .ok (.iconst 0, 1) := dk_3 (dk_at dksL_law_51 5 rfl rfl)
theorem dL_law_1343 : decode cL_law 1343 = .ok (.ireturn, 1) := dk_172 (dk_at dksL_law_51 6 rfl rfl)
theorem dL_law_1344 : decode cL_law 1344 = .ok (.iload 5, 2) := dk_21 5 (dk_at dksL_law_51 7 rfl rfl)
theorem dL_law_1346 : decode cL_law 1346 = .ok (.ifCond .ne 15, 3) := dk_154 0 15 (dk_at dksL_law_51 9 rfl rfl)
theorem dL_law_1349 : decode cL_law 1349 = .ok (.aload_n 3, 1) := dk_45 (dk_at dksL_law_51 12 rfl rfl)
theorem dL_law_1350 : decode cL_law 1350 = .ok (.iconst 0, 1) := dk_3 (dk_at dksL_law_51 13 rfl rfl)
theorem dL_law_1351 : decode cL_law 1351 = .ok (.laload, 1) := dk_47 (dk_at dksL_law_51 14 rfl rfl)
theorem dL_law_1352 : decode cL_law 1352 = .ok (.iload 6, 2) := dk_21 6 (dk_at dksL_law_51 15 rfl rfl)
theorem dL_law_1354 : decode cL_law 1354 = .ok (.i2l, 1) := dk_133 (dk_at dksL_law_51 17 rfl rfl)
theorem dL_law_1355 : decode cL_law 1355 = .ok (.lcmp, 1) := dk_148 (dk_at dksL_law_51 18 rfl rfl)
theorem dL_law_1356 : decode cL_law 1356 = .ok (.ifCond .eq 5, 3) := dk_153 0 5 (dk_at dksL_law_51 19 rfl rfl)
theorem dL_law_1359 : decode cL_law 1359 = .ok (.iconst 0, 1) := dk_3 (dk_at dksL_law_51 22 rfl rfl)
theorem dL_law_1360 : decode cL_law 1360 = .ok (.ireturn, 1) := dk_172 (dk_at dksL_law_51 23 rfl rfl)
theorem dL_law_1361 : decode cL_law 1361 = .ok (.goto 1100, 3) := dk_167 4 76 (dk_at dksL_law_52 0 rfl rfl)
theorem dL_law_1364 : decode cL_law 1364 = .ok (.aload_n 1, 1) := dk_43 (dk_at dksL_law_52 3 rfl rfl)
theorem dL_law_1365 : decode cL_law 1365 = .ok (.aload_n 0, 1) := dk_42 (dk_at dksL_law_52 4 rfl rfl)
theorem dL_law_1366 : decode cL_law 1366 = .ok (.iload 4, 2) := dk_21 4 (dk_at dksL_law_52 5 rfl rfl)
theorem dL_law_1368 : decode cL_law 1368 = .ok (.iconst 1, 1) := dk_4 (dk_at dksL_law_52 7 rfl rfl)
theorem dL_law_1369 : decode cL_law 1369 = .ok (.iadd, 1) := dk_96 (dk_at dksL_law_52 8 rfl rfl)
theorem dL_law_1370 : decode cL_law 1370 = .ok (.iaload, 1) := dk_46 (dk_at dksL_law_52 9 rfl rfl)
theorem dL_law_1371 : decode cL_law 1371 = .ok (.aload_n 0, 1) := dk_42 (dk_at dksL_law_52 10 rfl rfl)
theorem dL_law_1372 : decode cL_law 1372 = .ok (.iload 4, 2) := dk_21 4 (dk_at dksL_law_52 11 rfl rfl)
theorem dL_law_1374 : decode cL_law 1374 = .ok (.iconst 2, 1) := dk_5 (dk_at dksL_law_52 13 rfl rfl)
theorem dL_law_1375 : decode cL_law 1375 = .ok (.iadd, 1) := dk_96 (dk_at dksL_law_52 14 rfl rfl)
theorem dL_law_1376 : decode cL_law 1376 = .ok (.iaload, 1) := dk_46 (dk_at dksL_law_52 15 rfl rfl)
theorem dL_law_1377 : decode cL_law 1377 = .ok (.aload_n 3, 1) := dk_45 (dk_at dksL_law_52 16 rfl rfl)
theorem dL_law_1378 : decode cL_law 1378 = .ok (.invokestatic 194, 3) := dk_184 0 194 (dk_at dksL_law_52 17 rfl rfl)
theorem dL_law_1381 : decode cL_law 1381 = .ok (.istore 5, 2) := dk_54 5 (dk_at dksL_law_52 20 rfl rfl)
theorem dL_law_1383 : decode cL_law 1383 = .ok (.aload_n 2, 1) := dk_44 (dk_at dksL_law_52 22 rfl rfl)
theorem dL_law_1384 : decode cL_law 1384 = .ok (.aload_n 0, 1) := dk_42 (dk_at dksL_law_52 23 rfl rfl)
theorem dL_law_1385 : decode cL_law 1385 = .ok (.iload 4, 2) := dk_21 4 (dk_at dksL_law_53 0 rfl rfl)
theorem dL_law_1387 : decode cL_law 1387 = .ok (.iconst 1, 1) := dk_4 (dk_at dksL_law_53 2 rfl rfl)
theorem dL_law_1388 : decode cL_law 1388 = .ok (.iadd, 1) := dk_96 (dk_at dksL_law_53 3 rfl rfl)
theorem dL_law_1389 : decode cL_law 1389 = .ok (.iaload, 1) := dk_46 (dk_at dksL_law_53 4 rfl rfl)
theorem dL_law_1390 : decode cL_law 1390 = .ok (.aload_n 0, 1) := dk_42 (dk_at dksL_law_53 5 rfl rfl)
theorem dL_law_1391 : decode cL_law 1391 = .ok (.iload 4, 2) := dk_21 4 (dk_at dksL_law_53 6 rfl rfl)
theorem dL_law_1393 : decode cL_law 1393 = .ok (.iconst 2, 1) := dk_5 (dk_at dksL_law_53 8 rfl rfl)
theorem dL_law_1394 : decode cL_law 1394 = .ok (.iadd, 1) := dk_96 (dk_at dksL_law_53 9 rfl rfl)
theorem dL_law_1395 : decode cL_law 1395 = .ok (.iaload, 1) := dk_46 (dk_at dksL_law_53 10 rfl rfl)
theorem dL_law_1396 : decode cL_law 1396 = .ok (.invokevirtual 196, 3) := dk_182 0 196 (dk_at dksL_law_53 11 rfl rfl)
theorem dL_law_1399 : decode cL_law 1399 = .ok (.istore 6, 2) := dk_54 6 (dk_at dksL_law_53 14 rfl rfl)
theorem dL_law_1401 : decode cL_law 1401 = .ok (.aload_n 2, 1) := dk_44 (dk_at dksL_law_53 16 rfl rfl)
theorem dL_law_1402 : decode cL_law 1402 = .ok (.invokevirtual 134, 3) := dk_182 0 134 (dk_at dksL_law_53 17 rfl rfl)
theorem dL_law_1405 : decode cL_law 1405 = .ok (.iload 5, 2) := dk_21 5 (dk_at dksL_law_53 20 rfl rfl)
theorem dL_law_1407 : decode cL_law 1407 = .ok (.if_icmp .eq 5, 3) := dk_159 0 5 (dk_at dksL_law_54 0 rfl rfl)
theorem dL_law_1410 : decode cL_law 1410 = .ok (.iconst 0, 1) := dk_3 (dk_at dksL_law_54 3 rfl rfl)
theorem dL_law_1411 : decode cL_law 1411 = .ok (.ireturn, 1) := dk_172 (dk_at dksL_law_54 4 rfl rfl)
theorem dL_law_1412 : decode cL_law 1412 = .ok (.iload 5, 2) := dk_21 5 (dk_at dksL_law_54 5 rfl rfl)
theorem dL_law_1414 : decode cL_law 1414 = .ok (.ifCond .ne 15, 3) := dk_154 0 15 (dk_at dksL_law_54 7 rfl rfl)
theorem dL_law_1417 : decode cL_law 1417 = .ok (.aload_n 3, 1) := dk_45 (dk_at dksL_law_54 10 rfl rfl)
theorem dL_law_1418 : decode cL_law 1418 = .ok (.iconst 0, 1) := dk_3 (dk_at dksL_law_54 11 rfl rfl)
theorem dL_law_1419 : decode cL_law 1419 = .ok (.laload, 1) := dk_47 (dk_at dksL_law_54 12 rfl rfl)
theorem dL_law_1420 : decode cL_law 1420 = .ok (.iload 6, 2) := dk_21 6 (dk_at dksL_law_54 13 rfl rfl)
theorem dL_law_1422 : decode cL_law 1422 = .ok (.i2l, 1) := dk_133 (dk_at dksL_law_54 15 rfl rfl)
theorem dL_law_1423 : decode cL_law 1423 = .ok (.lcmp, 1) := dk_148 (dk_at dksL_law_54 16 rfl rfl)
theorem dL_law_1424 : decode cL_law 1424 = .ok (.ifCond .eq 5, 3) := dk_153 0 5 (dk_at dksL_law_54 17 rfl rfl)
theorem dL_law_1427 : decode cL_law 1427 = .ok (.iconst 0, 1) := dk_3 (dk_at dksL_law_54 20 rfl rfl)
theorem dL_law_1428 : decode cL_law 1428 = .ok (.ireturn, 1) := dk_172 (dk_at dksL_law_54 21 rfl rfl)
theorem dL_law_1429 : decode cL_law 1429 = .ok (.goto 1032, 3) := dk_167 4 8 (dk_at dksL_law_55 0 rfl rfl)
theorem dL_law_1432 : decode cL_law 1432 = .ok (.aload_n 1, 1) := dk_43 (dk_at dksL_law_55 3 rfl rfl)
theorem dL_law_1433 : decode cL_law 1433 = .ok (.aload_n 0, 1) := dk_42 (dk_at dksL_law_55 4 rfl rfl)
theorem dL_law_1434 : decode cL_law 1434 = .ok (.iload 4, 2) := dk_21 4 (dk_at dksL_law_55 5 rfl rfl)
theorem dL_law_1436 : decode cL_law 1436 = .ok (.iconst 1, 1) := dk_4 (dk_at dksL_law_55 7 rfl rfl)
theorem dL_law_1437 : decode cL_law 1437 = .ok (.iadd, 1) := dk_96 (dk_at dksL_law_55 8 rfl rfl)
theorem dL_law_1438 : decode cL_law 1438 = .ok (.iaload, 1) := dk_46 (dk_at dksL_law_55 9 rfl rfl)
theorem dL_law_1439 : decode cL_law 1439 = .ok (.aload_n 3, 1) := dk_45 (dk_at dksL_law_55 10 rfl rfl)
theorem dL_law_1440 : decode cL_law 1440 = .ok (.invokestatic 197, 3) := dk_184 0 197 (dk_at dksL_law_55 11 rfl rfl)
theorem dL_law_1443 : decode cL_law 1443 = .ok (.istore 5, 2) := dk_54 5 (dk_at dksL_law_55 14 rfl rfl)
theorem dL_law_1445 : decode cL_law 1445 = .ok (.aload_n 2, 1) := dk_44 (dk_at dksL_law_55 16 rfl rfl)
theorem dL_law_1446 : decode cL_law 1446 = .ok (.aload_n 0, 1) := dk_42 (dk_at dksL_law_55 17 rfl rfl)
theorem dL_law_1447 : decode cL_law 1447 = .ok (.iload 4, 2) := dk_21 4 (dk_at dksL_law_55 18 rfl rfl)
theorem dL_law_1449 : decode cL_law 1449 = .ok (.iconst 1, 1) := dk_4 (dk_at dksL_law_55 20 rfl rfl)
theorem dL_law_1450 : decode cL_law 1450 = .ok (.iadd, 1) := dk_96 (dk_at dksL_law_55 21 rfl rfl)
theorem dL_law_1451 : decode cL_law 1451 = .ok (.iaload, 1) := dk_46 (dk_at dksL_law_55 22 rfl rfl)
theorem dL_law_1452 : decode cL_law 1452 = .ok (.invokevirtual 199, 3) := dk_182 0 199 (dk_at dksL_law_56 0 rfl rfl)
theorem dL_law_1455 : decode cL_law 1455 = .ok (.istore 6, 2) := dk_54 6 (dk_at dksL_law_56 3 rfl rfl)
theorem dL_law_1457 : decode cL_law 1457 = .ok (.aload_n 2, 1) := dk_44 (dk_at dksL_law_56 5 rfl rfl)
theorem dL_law_1458 : decode cL_law 1458 = .ok (.invokevirtual 134, 3) := dk_182 0 134 (dk_at dksL_law_56 6 rfl rfl)
theorem dL_law_1461 : decode cL_law 1461 = .ok (.iload 5, 2) := dk_21 5 (dk_at dksL_law_56 9 rfl rfl)
theorem dL_law_1463 : decode cL_law 1463 = .ok (.if_icmp .eq 5, 3) := dk_159 0 5 (dk_at dksL_law_56 11 rfl rfl)
theorem dL_law_1466 : decode cL_law 1466 = .ok (.iconst 0, 1) := dk_3 (dk_at dksL_law_56 14 rfl rfl)
theorem dL_law_1467 : decode cL_law 1467 = .ok (.ireturn, 1) := dk_172 (dk_at dksL_law_56 15 rfl rfl)
theorem dL_law_1468 : decode cL_law 1468 = .ok (.iload 5, 2) := dk_21 5 (dk_at dksL_law_56 16 rfl rfl)
theorem dL_law_1470 : decode cL_law 1470 = .ok (.ifCond .ne 15, 3) := dk_154 0 15 (dk_at dksL_law_56 18 rfl rfl)
theorem dL_law_1473 : decode cL_law 1473 = .ok (.aload_n 3, 1) := dk_45 (dk_at dksL_law_56 21 rfl rfl)
theorem dL_law_1474 : decode cL_law 1474 = .ok (.iconst 0, 1) := dk_3 (dk_at dksL_law_56 22 rfl rfl)
theorem dL_law_1475 : decode cL_law 1475 = .ok (.laload, 1) := dk_47 (dk_at dksL_law_56 23 rfl rfl)
theorem dL_law_1476 : decode cL_law 1476 = .ok (.iload 6, 2) := dk_21 6 (dk_at dksL_law_57 0 rfl rfl)
theorem dL_law_1478 : decode cL_law 1478 = .ok (.i2l, 1) := dk_133 (dk_at dksL_law_57 2 rfl rfl)
theorem dL_law_1479 : decode cL_law 1479 = .ok (.lcmp, 1) := dk_148 (dk_at dksL_law_57 3 rfl rfl)
theorem dL_law_1480 : decode cL_law 1480 = .ok (.ifCond .eq 5, 3) := dk_153 0 5 (dk_at dksL_law_57 4 rfl rfl)
theorem dL_law_1483 : decode cL_law 1483 = .ok (.iconst 0, 1) := dk_3 (dk_at dksL_law_57 7 rfl rfl)
theorem dL_law_1484 : decode cL_law 1484 = .ok (.ireturn, 1) := dk_172 (dk_at dksL_law_57 8 rfl rfl)
theorem dL_law_1485 : decode cL_law 1485 = .ok (.goto 976, 3) := dk_167 3 208 (dk_at dksL_law_57 9 rfl rfl)
theorem dL_law_1488 : decode cL_law 1488 = .ok (.aload_n 1, 1) := dk_43 (dk_at dksL_law_57 12 rfl rfl)
theorem dL_law_1489 : decode cL_law 1489 = .ok (.aload_n 0, 1) := dk_42 (dk_at dksL_law_57 13 rfl rfl)
theorem dL_law_1490 : decode cL_law 1490 = .ok (.iload 4, 2) := dk_21 4 (dk_at dksL_law_57 14 rfl rfl)
theorem dL_law_1492 : decode cL_law 1492 = .ok (.iconst 1, 1) := dk_4 (dk_at dksL_law_57 16 rfl rfl)
theorem dL_law_1493 : decode cL_law 1493 = .ok (.iadd, 1) := dk_96 (dk_at dksL_law_57 17 rfl rfl)
theorem dL_law_1494 : decode cL_law 1494 = .ok (.iaload, 1) := dk_46 (dk_at dksL_law_57 18 rfl rfl)
theorem dL_law_1495 : decode cL_law 1495 = .ok (.aload_n 0, 1) := dk_42 (dk_at dksL_law_57 19 rfl rfl)
theorem dL_law_1496 : decode cL_law 1496 = .ok (.iload 4, 2) := dk_21 4 (dk_at dksL_law_57 20 rfl rfl)
theorem dL_law_1498 : decode cL_law 1498 = .ok (.iconst 2, 1) := dk_5 (dk_at dksL_law_57 22 rfl rfl)
theorem dL_law_1499 : decode cL_law 1499 = .ok (.iadd, 1) := dk_96 (dk_at dksL_law_57 23 rfl rfl)
theorem dL_law_1500 : decode cL_law 1500 = .ok (.iaload, 1) := dk_46 (dk_at dksL_law_58 0 rfl rfl)
theorem dL_law_1501 : decode cL_law 1501 = .ok (.aload_n 3, 1) := dk_45 (dk_at dksL_law_58 1 rfl rfl)
theorem dL_law_1502 : decode cL_law 1502 = .ok (.invokestatic 200, 3) := dk_184 0 200 (dk_at dksL_law_58 2 rfl rfl)
theorem dL_law_1505 : decode cL_law 1505 = .ok (.istore 5, 2) := dk_54 5 (dk_at dksL_law_58 5 rfl rfl)
theorem dL_law_1507 : decode cL_law 1507 = .ok (.aload_n 2, 1) := dk_44 (dk_at dksL_law_58 7 rfl rfl)
theorem dL_law_1508 : decode cL_law 1508 = .ok (.aload_n 0, 1) := dk_42 (dk_at dksL_law_58 8 rfl rfl)
theorem dL_law_1509 : decode cL_law 1509 = .ok (.iload 4, 2) := dk_21 4 (dk_at dksL_law_58 9 rfl rfl)
theorem dL_law_1511 : decode cL_law 1511 = .ok (.iconst 1, 1) := dk_4 (dk_at dksL_law_58 11 rfl rfl)
theorem dL_law_1512 : decode cL_law 1512 = .ok (.iadd, 1) := dk_96 (dk_at dksL_law_58 12 rfl rfl)
theorem dL_law_1513 : decode cL_law 1513 = .ok (.iaload, 1) := dk_46 (dk_at dksL_law_58 13 rfl rfl)
theorem dL_law_1514 : decode cL_law 1514 = .ok (.aload_n 0, 1) := dk_42 (dk_at dksL_law_58 14 rfl rfl)
theorem dL_law_1515 : decode cL_law 1515 = .ok (.iload 4, 2) := dk_21 4 (dk_at dksL_law_58 15 rfl rfl)
theorem dL_law_1517 : decode cL_law 1517 = .ok (.iconst 2, 1) := dk_5 (dk_at dksL_law_58 17 rfl rfl)
theorem dL_law_1518 : decode cL_law 1518 = .ok (.iadd, 1) := dk_96 (dk_at dksL_law_58 18 rfl rfl)
theorem dL_law_1519 : decode cL_law 1519 = .ok (.iaload, 1) := dk_46 (dk_at dksL_law_58 19 rfl rfl)
theorem dL_law_1520 : decode cL_law 1520 = .ok (.invokevirtual 202, 3) := dk_182 0 202 (dk_at dksL_law_58 20 rfl rfl)
theorem dL_law_1523 : decode cL_law 1523 = .ok (.istore 6, 2) := dk_54 6 (dk_at dksL_law_59 0 rfl rfl)
theorem dL_law_1525 : decode cL_law 1525 = .ok (.aload_n 2, 1) := dk_44 (dk_at dksL_law_59 2 rfl rfl)
theorem dL_law_1526 : decode cL_law 1526 = .ok (.invokevirtual 134, 3) := dk_182 0 134 (dk_at dksL_law_59 3 rfl rfl)
theorem dL_law_1529 : decode cL_law 1529 = .ok (.iload 5, 2) := dk_21 5 (dk_at dksL_law_59 6 rfl rfl)
theorem dL_law_1531 : decode cL_law 1531 = .ok (.if_icmp .eq 5, 3) := dk_159 0 5 (dk_at dksL_law_59 8 rfl rfl)
theorem dL_law_1534 : decode cL_law 1534 = .ok (.iconst 0, 1) := dk_3 (dk_at dksL_law_59 11 rfl rfl)
theorem dL_law_1535 : decode cL_law 1535 = .ok (.ireturn, 1) := dk_172 (dk_at dksL_law_59 12 rfl rfl)
theorem dL_law_1536 : decode cL_law 1536 = .ok (.iload 5, 2) := dk_21 5 (dk_at dksL_law_59 13 rfl rfl)
theorem dL_law_1538 : decode cL_law 1538 = .ok (.ifCond .ne 15, 3) := dk_154 0 15 (dk_at dksL_law_59 15 rfl rfl)
theorem dL_law_1541 : decode cL_law 1541 = .ok (.aload_n 3, 1) := dk_45 (dk_at dksL_law_59 18 rfl rfl)
theorem dL_law_1542 : decode cL_law 1542 = .ok (.iconst 0, 1) := dk_3 (dk_at dksL_law_59 19 rfl rfl)
theorem dL_law_1543 : decode cL_law 1543 = .ok (.laload, 1) := dk_47 (dk_at dksL_law_59 20 rfl rfl)
theorem dL_law_1544 : decode cL_law 1544 = .ok (.iload 6, 2) := dk_21 6 (dk_at dksL_law_59 21 rfl rfl)
theorem dL_law_1546 : decode cL_law 1546 = .ok (.i2l, 1) := dk_133 (dk_at dksL_law_59 23 rfl rfl)
theorem dL_law_1547 : decode cL_law 1547 = .ok (.lcmp, 1) := dk_148 (dk_at dksL_law_60 0 rfl rfl)
theorem dL_law_1548 : decode cL_law 1548 = .ok (.ifCond .eq 5, 3) := dk_153 0 5 (dk_at dksL_law_60 1 rfl rfl)
theorem dL_law_1551 : decode cL_law 1551 = .ok (.iconst 0, 1) := dk_3 (dk_at dksL_law_60 4 rfl rfl)
theorem dL_law_1552 : decode cL_law 1552 = .ok (.ireturn, 1) := dk_172 (dk_at dksL_law_60 5 rfl rfl)
theorem dL_law_1553 : decode cL_law 1553 = .ok (.goto 908, 3) := dk_167 3 140 (dk_at dksL_law_60 6 rfl rfl)
theorem dL_law_1556 : decode cL_law 1556 = .ok (.aload_n 1, 1) := dk_43 (dk_at dksL_law_60 9 rfl rfl)
theorem dL_law_1557 : decode cL_law 1557 = .ok (.aload_n 0, 1) := dk_42 (dk_at dksL_law_60 10 rfl rfl)
theorem dL_law_1558 : decode cL_law 1558 = .ok (.iload 4, 2) := dk_21 4 (dk_at dksL_law_60 11 rfl rfl)
theorem dL_law_1560 : decode cL_law 1560 = .ok (.iconst 1, 1) := dk_4 (dk_at dksL_law_60 13 rfl rfl)
theorem dL_law_1561 : decode cL_law 1561 = .ok (.iadd, 1) := dk_96 (dk_at dksL_law_60 14 rfl rfl)
theorem dL_law_1562 : decode cL_law 1562 = .ok (.iaload, 1) := dk_46 (dk_at dksL_law_60 15 rfl rfl)
theorem dL_law_1563 : decode cL_law 1563 = .ok (.aload_n 0, 1) := dk_42 (dk_at dksL_law_60 16 rfl rfl)
theorem dL_law_1564 : decode cL_law 1564 = .ok (.iload 4, 2) := dk_21 4 (dk_at dksL_law_60 17 rfl rfl)
theorem dL_law_1566 : decode cL_law 1566 = .ok (.iconst 2, 1) := dk_5 (dk_at dksL_law_60 19 rfl rfl)
theorem dL_law_1567 : decode cL_law 1567 = .ok (.iadd, 1) := dk_96 (dk_at dksL_law_60 20 rfl rfl)
theorem dL_law_1568 : decode cL_law 1568 = .ok (.iaload, 1) := dk_46 (dk_at dksL_law_60 21 rfl rfl)
theorem dL_law_1569 : decode cL_law 1569 = .ok (.aload_n 0, 1) := dk_42 (dk_at dksL_law_60 22 rfl rfl)
theorem dL_law_1570 : decode cL_law 1570 = .ok (.iload 4, 2) := dk_21 4 (dk_at dksL_law_61 0 rfl rfl)
theorem dL_law_1572 : decode cL_law 1572 = .ok (.iconst 3, 1) := dk_6 (dk_at dksL_law_61 2 rfl rfl)
theorem dL_law_1573 : decode cL_law 1573 = .ok (.iadd, 1) := dk_96 (dk_at dksL_law_61 3 rfl rfl)
theorem dL_law_1574 : decode cL_law 1574 = .ok (.iaload, 1) := dk_46 (dk_at dksL_law_61 4 rfl rfl)
theorem dL_law_1575 : decode cL_law 1575 = .ok (.aload_n 3, 1) := dk_45 (dk_at dksL_law_61 5 rfl rfl)
theorem dL_law_1576 : decode cL_law 1576 = .ok (.invokestatic 203, 3) := dk_184 0 203 (dk_at dksL_law_61 6 rfl rfl)
theorem dL_law_1579 : decode cL_law 1579 = .ok (.istore 5, 2) := dk_54 5 (dk_at dksL_law_61 9 rfl rfl)
theorem dL_law_1581 : decode cL_law 1581 = .ok (.aload_n 2, 1) := dk_44 (dk_at dksL_law_61 11 rfl rfl)
theorem dL_law_1582 : decode cL_law 1582 = .ok (.aload_n 0, 1) := dk_42 (dk_at dksL_law_61 12 rfl rfl)
theorem dL_law_1583 : decode cL_law 1583 = .ok (.iload 4, 2) := dk_21 4 (dk_at dksL_law_61 13 rfl rfl)
theorem dL_law_1585 : decode cL_law 1585 = .ok (.iconst 1, 1) := dk_4 (dk_at dksL_law_61 15 rfl rfl)
theorem dL_law_1586 : decode cL_law 1586 = .ok (.iadd, 1) := dk_96 (dk_at dksL_law_61 16 rfl rfl)
theorem dL_law_1587 : decode cL_law 1587 = .ok (.iaload, 1) := dk_46 (dk_at dksL_law_61 17 rfl rfl)
theorem dL_law_1588 : decode cL_law 1588 = .ok (.aload_n 0, 1) := dk_42 (dk_at dksL_law_61 18 rfl rfl)
theorem dL_law_1589 : decode cL_law 1589 = .ok (.iload 4, 2) := dk_21 4 (dk_at dksL_law_61 19 rfl rfl)
theorem dL_law_1591 : decode cL_law 1591 = .ok (.iconst 2, 1) := dk_5 (dk_at dksL_law_61 21 rfl rfl)
theorem dL_law_1592 : decode cL_law 1592 = .ok (.iadd, 1) := dk_96 (dk_at dksL_law_61 22 rfl rfl)
theorem dL_law_1593 : decode cL_law 1593 = .ok (.iaload, 1) := dk_46 (dk_at dksL_law_61 23 rfl rfl)
theorem dL_law_1594 : decode cL_law 1594 = .ok (.aload_n 0, 1) := dk_42 (dk_at dksL_law_62 0 rfl rfl)
theorem dL_law_1595 : decode cL_law 1595 = .ok (.iload 4, 2) := dk_21 4 (dk_at dksL_law_62 1 rfl rfl)
theorem dL_law_1597 : decode cL_law 1597 = .ok (.iconst 3, 1) := dk_6 (dk_at dksL_law_62 3 rfl rfl)
theorem dL_law_1598 : decode cL_law 1598 = .ok (.iadd, 1) := dk_96 (dk_at dksL_law_62 4 rfl rfl)
theorem dL_law_1599 : decode cL_law 1599 = .ok (.iaload, 1) := dk_46 (dk_at dksL_law_62 5 rfl rfl)
theorem dL_law_1600 : decode cL_law 1600 = .ok (.invokevirtual 205, 3) := dk_182 0 205 (dk_at dksL_law_62 6 rfl rfl)
theorem dL_law_1603 : decode cL_law 1603 = .ok (.istore 6, 2) := dk_54 6 (dk_at dksL_law_62 9 rfl rfl)
theorem dL_law_1605 : decode cL_law 1605 = .ok (.aload_n 2, 1) := dk_44 (dk_at dksL_law_62 11 rfl rfl)
theorem dL_law_1606 : decode cL_law 1606 = .ok (.invokevirtual 134, 3) := dk_182 0 134 (dk_at dksL_law_62 12 rfl rfl)
theorem dL_law_1609 : decode cL_law 1609 = .ok (.iload 5, 2) := dk_21 5 (dk_at dksL_law_62 15 rfl rfl)
theorem dL_law_1611 : decode cL_law 1611 = .ok (.if_icmp .eq 5, 3) := dk_159 0 5 (dk_at dksL_law_62 17 rfl rfl)
theorem dL_law_1614 : decode cL_law 1614 = .ok (.iconst 0, 1) := dk_3 (dk_at dksL_law_62 20 rfl rfl)
theorem dL_law_1615 : decode cL_law 1615 = .ok (.ireturn, 1) := dk_172 (dk_at dksL_law_62 21 rfl rfl)
theorem dL_law_1616 : decode cL_law 1616 = .ok (.iload 5, 2) := dk_21 5 (dk_at dksL_law_62 22 rfl rfl)
theorem dL_law_1618 : decode cL_law 1618 = .ok (.ifCond .ne 15, 3) := dk_154 0 15 (dk_at dksL_law_63 0 rfl rfl)
theorem dL_law_1621 : decode cL_law 1621 = .ok (.aload_n 3, 1) := dk_45 (dk_at dksL_law_63 3 rfl rfl)
theorem dL_law_1622 : decode cL_law 1622 = .ok (.iconst 0, 1) := dk_3 (dk_at dksL_law_63 4 rfl rfl)
theorem dL_law_1623 : decode cL_law 1623 = .ok (.laload, 1) := dk_47 (dk_at dksL_law_63 5 rfl rfl)
theorem dL_law_1624 : decode cL_law 1624 = .ok (.iload 6, 2) := dk_21 6 (dk_at dksL_law_63 6 rfl rfl)
theorem dL_law_1626 : decode cL_law 1626 = .ok (.i2l, 1) := dk_133 (dk_at dksL_law_63 8 rfl rfl)
theorem dL_law_1627 : decode cL_law 1627 = .ok (.lcmp, 1) := dk_148 (dk_at dksL_law_63 9 rfl rfl)
theorem dL_law_1628 : decode cL_law 1628 = .ok (.ifCond .eq 5, 3) := dk_153 0 5 (dk_at dksL_law_63 10 rfl rfl)
theorem dL_law_1631 : decode cL_law 1631 = .ok (.iconst 0, 1) := dk_3 (dk_at dksL_law_63 13 rfl rfl)
theorem dL_law_1632 : decode cL_law 1632 = .ok (.ireturn, 1) := dk_172 (dk_at dksL_law_63 14 rfl rfl)
theorem dL_law_1633 : decode cL_law 1633 = .ok (.goto 828, 3) := dk_167 3 60 (dk_at dksL_law_63 15 rfl rfl)
theorem dL_law_1636 : decode cL_law 1636 = .ok (.aload_n 1, 1) := dk_43 (dk_at dksL_law_63 18 rfl rfl)
theorem dL_law_1637 : decode cL_law 1637 = .ok (.aload_n 0, 1) := dk_42 (dk_at dksL_law_63 19 rfl rfl)
theorem dL_law_1638 : decode cL_law 1638 = .ok (.iload 4, 2) := dk_21 4 (dk_at dksL_law_63 20 rfl rfl)
theorem dL_law_1640 : decode cL_law 1640 = .ok (.iconst 1, 1) := dk_4 (dk_at dksL_law_63 22 rfl rfl)
theorem dL_law_1641 : decode cL_law 1641 = .ok (.iadd, 1) := dk_96 (dk_at dksL_law_63 23 rfl rfl)
theorem dL_law_1642 : decode cL_law 1642 = .ok (.iaload, 1) := dk_46 (dk_at dksL_law_64 0 rfl rfl)
theorem dL_law_1643 : decode cL_law 1643 = .ok (.aload_n 0, 1) := dk_42 (dk_at dksL_law_64 1 rfl rfl)
theorem dL_law_1644 : decode cL_law 1644 = .ok (.iload 4, 2) := dk_21 4 (dk_at dksL_law_64 2 rfl rfl)
theorem dL_law_1646 : decode cL_law 1646 = .ok (.iconst 2, 1) := dk_5 (dk_at dksL_law_64 4 rfl rfl)
theorem dL_law_1647 : decode cL_law 1647 = .ok (.iadd, 1) := dk_96 (dk_at dksL_law_64 5 rfl rfl)
theorem dL_law_1648 : decode cL_law 1648 = .ok (.iaload, 1) := dk_46 (dk_at dksL_law_64 6 rfl rfl)
theorem dL_law_1649 : decode cL_law 1649 = .ok (.aload_n 0, 1) := dk_42 (dk_at dksL_law_64 7 rfl rfl)
theorem dL_law_1650 : decode cL_law 1650 = .ok (.iload 4, 2) := dk_21 4 (dk_at dksL_law_64 8 rfl rfl)
theorem dL_law_1652 : decode cL_law 1652 = .ok (.iconst 3, 1) := dk_6 (dk_at dksL_law_64 10 rfl rfl)
theorem dL_law_1653 : decode cL_law 1653 = .ok (.iadd, 1) := dk_96 (dk_at dksL_law_64 11 rfl rfl)
theorem dL_law_1654 : decode cL_law 1654 = .ok (.iaload, 1) := dk_46 (dk_at dksL_law_64 12 rfl rfl)
theorem dL_law_1655 : decode cL_law 1655 = .ok (.aload_n 3, 1) := dk_45 (dk_at dksL_law_64 13 rfl rfl)
theorem dL_law_1656 : decode cL_law 1656 = .ok (.invokestatic 206, 3) := dk_184 0 206 (dk_at dksL_law_64 14 rfl rfl)
theorem dL_law_1659 : decode cL_law 1659 = .ok (.istore 5, 2) := dk_54 5 (dk_at dksL_law_64 17 rfl rfl)
theorem dL_law_1661 : decode cL_law 1661 = .ok (.aload_n 2, 1) := dk_44 (dk_at dksL_law_64 19 rfl rfl)
theorem dL_law_1662 : decode cL_law 1662 = .ok (.aload_n 0, 1) := dk_42 (dk_at dksL_law_64 20 rfl rfl)
theorem dL_law_1663 : decode cL_law 1663 = .ok (.iload 4, 2) := dk_21 4 (dk_at dksL_law_64 21 rfl rfl)
theorem dL_law_1665 : decode cL_law 1665 = .ok (.iconst 1, 1) := dk_4 (dk_at dksL_law_64 23 rfl rfl)
theorem dL_law_1666 : decode cL_law 1666 = .ok (.iadd, 1) := dk_96 (dk_at dksL_law_65 0 rfl rfl)
theorem dL_law_1667 : decode cL_law 1667 = .ok (.iaload, 1) := dk_46 (dk_at dksL_law_65 1 rfl rfl)
theorem dL_law_1668 : decode cL_law 1668 = .ok (.aload_n 0, 1) := dk_42 (dk_at dksL_law_65 2 rfl rfl)
theorem dL_law_1669 : decode cL_law 1669 = .ok (.iload 4, 2) := dk_21 4 (dk_at dksL_law_65 3 rfl rfl)
theorem dL_law_1671 : decode cL_law 1671 = .ok (.iconst 2, 1) := dk_5 (dk_at dksL_law_65 5 rfl rfl)
theorem dL_law_1672 : decode cL_law 1672 = .ok (.iadd, 1) := dk_96 (dk_at dksL_law_65 6 rfl rfl)
theorem dL_law_1673 : decode cL_law 1673 = .ok (.iaload, 1) := dk_46 (dk_at dksL_law_65 7 rfl rfl)
theorem dL_law_1674 : decode cL_law 1674 = .ok (.aload_n 0, 1) := dk_42 (dk_at dksL_law_65 8 rfl rfl)
theorem dL_law_1675 : decode cL_law 1675 = .ok (.iload 4, 2) := dk_21 4 (dk_at dksL_law_65 9 rfl rfl)
theorem dL_law_1677 : decode cL_law 1677 = .ok (.iconst 3, 1) := dk_6 (dk_at dksL_law_65 11 rfl rfl)
theorem dL_law_1678 : decode cL_law 1678 = .ok (.iadd, 1) := dk_96 (dk_at dksL_law_65 12 rfl rfl)
theorem dL_law_1679 : decode cL_law 1679 = .ok (.iaload, 1) := dk_46 (dk_at dksL_law_65 13 rfl rfl)
theorem dL_law_1680 : decode cL_law 1680 = .ok (.invokevirtual 208, 3) := dk_182 0 208 (dk_at dksL_law_65 14 rfl rfl)
theorem dL_law_1683 : decode cL_law 1683 = .ok (.istore 6, 2) := dk_54 6 (dk_at dksL_law_65 17 rfl rfl)
theorem dL_law_1685 : decode cL_law 1685 = .ok (.aload_n 2, 1) := dk_44 (dk_at dksL_law_65 19 rfl rfl)
theorem dL_law_1686 : decode cL_law 1686 = .ok (.invokevirtual 134, 3) := dk_182 0 134 (dk_at dksL_law_65 20 rfl rfl)
theorem dL_law_1689 : decode cL_law 1689 = .ok (.iload 5, 2) := dk_21 5 (dk_at dksL_law_66 0 rfl rfl)
theorem dL_law_1691 : decode cL_law 1691 = .ok (.if_icmp .eq 5, 3) := dk_159 0 5 (dk_at dksL_law_66 2 rfl rfl)
theorem dL_law_1694 : decode cL_law 1694 = .ok (.iconst 0, 1) := dk_3 (dk_at dksL_law_66 5 rfl rfl)
theorem dL_law_1695 : decode cL_law 1695 = .ok (.ireturn, 1) := dk_172 (dk_at dksL_law_66 6 rfl rfl)
theorem dL_law_1696 : decode cL_law 1696 = .ok (.iload 5, 2) := dk_21 5 (dk_at dksL_law_66 7 rfl rfl)
theorem dL_law_1698 : decode cL_law 1698 = .ok (.ifCond .ne 15, 3) := dk_154 0 15 (dk_at dksL_law_66 9 rfl rfl)
theorem dL_law_1701 : decode cL_law 1701 = .ok (.aload_n 3, 1) := dk_45 (dk_at dksL_law_66 12 rfl rfl)
theorem dL_law_1702 : decode cL_law 1702 = .ok (.iconst 0, 1) := dk_3 (dk_at dksL_law_66 13 rfl rfl)
theorem dL_law_1703 : decode cL_law 1703 = .ok (.laload, 1) := dk_47 (dk_at dksL_law_66 14 rfl rfl)
theorem dL_law_1704 : decode cL_law 1704 = .ok (.iload 6, 2) := dk_21 6 (dk_at dksL_law_66 15 rfl rfl)
theorem dL_law_1706 : decode cL_law 1706 = .ok (.i2l, 1) := dk_133 (dk_at dksL_law_66 17 rfl rfl)
theorem dL_law_1707 : decode cL_law 1707 = .ok (.lcmp, 1) := dk_148 (dk_at dksL_law_66 18 rfl rfl)
theorem dL_law_1708 : decode cL_law 1708 = .ok (.ifCond .eq 5, 3) := dk_153 0 5 (dk_at dksL_law_66 19 rfl rfl)
theorem dL_law_1711 : decode cL_law 1711 = .ok (.iconst 0, 1) := dk_3 (dk_at dksL_law_66 22 rfl rfl)
theorem dL_law_1712 : decode cL_law 1712 = .ok (.ireturn, 1) := dk_172 (dk_at dksL_law_66 23 rfl rfl)
theorem dL_law_1713 : decode cL_law 1713 = .ok (.goto 748, 3) := dk_167 2 236 (dk_at dksL_law_67 0 rfl rfl)
theorem dL_law_1716 : decode cL_law 1716 = .ok (.aload_n 1, 1) := dk_43 (dk_at dksL_law_67 3 rfl rfl)
theorem dL_law_1717 : decode cL_law 1717 = .ok (.aload_n 0, 1) := dk_42 (dk_at dksL_law_67 4 rfl rfl)
theorem dL_law_1718 : decode cL_law 1718 = .ok (.iload 4, 2) := dk_21 4 (dk_at dksL_law_67 5 rfl rfl)
theorem dL_law_1720 : decode cL_law 1720 = .ok (.iconst 1, 1) := dk_4 (dk_at dksL_law_67 7 rfl rfl)
theorem dL_law_1721 : decode cL_law 1721 = .ok (.iadd, 1) := dk_96 (dk_at dksL_law_67 8 rfl rfl)
theorem dL_law_1722 : decode cL_law 1722 = .ok (.iaload, 1) := dk_46 (dk_at dksL_law_67 9 rfl rfl)
theorem dL_law_1723 : decode cL_law 1723 = .ok (.aload_n 0, 1) := dk_42 (dk_at dksL_law_67 10 rfl rfl)
theorem dL_law_1724 : decode cL_law 1724 = .ok (.iload 4, 2) := dk_21 4 (dk_at dksL_law_67 11 rfl rfl)
theorem dL_law_1726 : decode cL_law 1726 = .ok (.iconst 2, 1) := dk_5 (dk_at dksL_law_67 13 rfl rfl)
theorem dL_law_1727 : decode cL_law 1727 = .ok (.iadd, 1) := dk_96 (dk_at dksL_law_67 14 rfl rfl)
theorem dL_law_1728 : decode cL_law 1728 = .ok (.iaload, 1) := dk_46 (dk_at dksL_law_67 15 rfl rfl)
theorem dL_law_1729 : decode cL_law 1729 = .ok (.aload_n 0, 1) := dk_42 (dk_at dksL_law_67 16 rfl rfl)
theorem dL_law_1730 : decode cL_law 1730 = .ok (.iload 4, 2) := dk_21 4 (dk_at dksL_law_67 17 rfl rfl)
theorem dL_law_1732 : decode cL_law 1732 = .ok (.iconst 3, 1) := dk_6 (dk_at dksL_law_67 19 rfl rfl)
theorem dL_law_1733 : decode cL_law 1733 = .ok (.iadd, 1) := dk_96 (dk_at dksL_law_67 20 rfl rfl)
theorem dL_law_1734 : decode cL_law 1734 = .ok (.iaload, 1) := dk_46 (dk_at dksL_law_67 21 rfl rfl)
theorem dL_law_1735 : decode cL_law 1735 = .ok (.aload_n 0, 1) := dk_42 (dk_at dksL_law_67 22 rfl rfl)
theorem dL_law_1736 : decode cL_law 1736 = .ok (.iload 4, 2) := dk_21 4 (dk_at dksL_law_68 0 rfl rfl)
theorem dL_law_1738 : decode cL_law 1738 = .ok (.iconst 4, 1) := dk_7 (dk_at dksL_law_68 2 rfl rfl)
theorem dL_law_1739 : decode cL_law 1739 = .ok (.iadd, 1) := dk_96 (dk_at dksL_law_68 3 rfl rfl)
theorem dL_law_1740 : decode cL_law 1740 = .ok (.iaload, 1) := dk_46 (dk_at dksL_law_68 4 rfl rfl)
theorem dL_law_1741 : decode cL_law 1741 = .ok (.aload_n 3, 1) := dk_45 (dk_at dksL_law_68 5 rfl rfl)
theorem dL_law_1742 : decode cL_law 1742 = .ok (.invokestatic 209, 3) := dk_184 0 209 (dk_at dksL_law_68 6 rfl rfl)
theorem dL_law_1745 : decode cL_law 1745 = .ok (.istore 5, 2) := dk_54 5 (dk_at dksL_law_68 9 rfl rfl)
theorem dL_law_1747 : decode cL_law 1747 = .ok (.aload_n 2, 1) := dk_44 (dk_at dksL_law_68 11 rfl rfl)
theorem dL_law_1748 : decode cL_law 1748 = .ok (.aload_n 0, 1) := dk_42 (dk_at dksL_law_68 12 rfl rfl)
theorem dL_law_1749 : decode cL_law 1749 = .ok (.iload 4, 2) := dk_21 4 (dk_at dksL_law_68 13 rfl rfl)
theorem dL_law_1751 : decode cL_law 1751 = .ok (.iconst 1, 1) := dk_4 (dk_at dksL_law_68 15 rfl rfl)
theorem dL_law_1752 : decode cL_law 1752 = .ok (.iadd, 1) := dk_96 (dk_at dksL_law_68 16 rfl rfl)
theorem dL_law_1753 : decode cL_law 1753 = .ok (.iaload, 1) := dk_46 (dk_at dksL_law_68 17 rfl rfl)
theorem dL_law_1754 : decode cL_law 1754 = .ok (.aload_n 0, 1) := dk_42 (dk_at dksL_law_68 18 rfl rfl)
theorem dL_law_1755 : decode cL_law 1755 = .ok (.iload 4, 2) := dk_21 4 (dk_at dksL_law_68 19 rfl rfl)
theorem dL_law_1757 : decode cL_law 1757 = .ok (.iconst 2, 1) := dk_5 (dk_at dksL_law_68 21 rfl rfl)
theorem dL_law_1758 : decode cL_law 1758 = .ok (.iadd, 1) := dk_96 (dk_at dksL_law_68 22 rfl rfl)
theorem dL_law_1759 : decode cL_law 1759 = .ok (.iaload, 1) := dk_46 (dk_at dksL_law_68 23 rfl rfl)
theorem dL_law_1760 : decode cL_law 1760 = .ok (.aload_n 0, 1) := dk_42 (dk_at dksL_law_69 0 rfl rfl)
theorem dL_law_1761 : decode cL_law 1761 = .ok (.iload 4, 2) := dk_21 4 (dk_at dksL_law_69 1 rfl rfl)
theorem dL_law_1763 : decode cL_law 1763 = .ok (.iconst 3, 1) := dk_6 (dk_at dksL_law_69 3 rfl rfl)
theorem dL_law_1764 : decode cL_law 1764 = .ok (.iadd, 1) := dk_96 (dk_at dksL_law_69 4 rfl rfl)
theorem dL_law_1765 : decode cL_law 1765 = .ok (.iaload, 1) := dk_46 (dk_at dksL_law_69 5 rfl rfl)
theorem dL_law_1766 : decode cL_law 1766 = .ok (.aload_n 0, 1) := dk_42 (dk_at dksL_law_69 6 rfl rfl)
theorem dL_law_1767 : decode cL_law 1767 = .ok (.iload 4, 2) := dk_21 4 (dk_at dksL_law_69 7 rfl rfl)
theorem dL_law_1769 : decode cL_law 1769 = .ok (.iconst 4, 1) := dk_7 (dk_at dksL_law_69 9 rfl rfl)
theorem dL_law_1770 : decode cL_law 1770 = .ok (.iadd, 1) := dk_96 (dk_at dksL_law_69 10 rfl rfl)
theorem dL_law_1771 : decode cL_law 1771 = .ok (.iaload, 1) := dk_46 (dk_at dksL_law_69 11 rfl rfl)
theorem dL_law_1772 : decode cL_law 1772 = .ok (.invokevirtual 212, 3) := dk_182 0 212 (dk_at dksL_law_69 12 rfl rfl)
theorem dL_law_1775 : decode cL_law 1775 = .ok (.istore 6, 2) := dk_54 6 (dk_at dksL_law_69 15 rfl rfl)
theorem dL_law_1777 : decode cL_law 1777 = .ok (.aload_n 2, 1) := dk_44 (dk_at dksL_law_69 17 rfl rfl)
theorem dL_law_1778 : decode cL_law 1778 = .ok (.invokevirtual 134, 3) := dk_182 0 134 (dk_at dksL_law_69 18 rfl rfl)
theorem dL_law_1781 : decode cL_law 1781 = .ok (.iload 5, 2) := dk_21 5 (dk_at dksL_law_69 21 rfl rfl)
theorem dL_law_1783 : decode cL_law 1783 = .ok (.if_icmp .eq 5, 3) := dk_159 0 5 (dk_at dksL_law_70 0 rfl rfl)
theorem dL_law_1786 : decode cL_law 1786 = .ok (.iconst 0, 1) := dk_3 (dk_at dksL_law_70 3 rfl rfl)
theorem dL_law_1787 : decode cL_law 1787 = .ok (.ireturn, 1) := dk_172 (dk_at dksL_law_70 4 rfl rfl)
theorem dL_law_1788 : decode cL_law 1788 = .ok (.iload 5, 2) := dk_21 5 (dk_at dksL_law_70 5 rfl rfl)
theorem dL_law_1790 : decode cL_law 1790 = .ok (.ifCond .ne 15, 3) := dk_154 0 15 (dk_at dksL_law_70 7 rfl rfl)
theorem dL_law_1793 : decode cL_law 1793 = .ok (.aload_n 3, 1) := dk_45 (dk_at dksL_law_70 10 rfl rfl)
theorem dL_law_1794 : decode cL_law 1794 = .ok (.iconst 0, 1) := dk_3 (dk_at dksL_law_70 11 rfl rfl)
theorem dL_law_1795 : decode cL_law 1795 = .ok (.laload, 1) := dk_47 (dk_at dksL_law_70 12 rfl rfl)
theorem dL_law_1796 : decode cL_law 1796 = .ok (.iload 6, 2) := dk_21 6 (dk_at dksL_law_70 13 rfl rfl)
theorem dL_law_1798 : decode cL_law 1798 = .ok (.i2l, 1) := dk_133 (dk_at dksL_law_70 15 rfl rfl)
theorem dL_law_1799 : decode cL_law 1799 = .ok (.lcmp, 1) := dk_148 (dk_at dksL_law_70 16 rfl rfl)
theorem dL_law_1800 : decode cL_law 1800 = .ok (.ifCond .eq 5, 3) := dk_153 0 5 (dk_at dksL_law_70 17 rfl rfl)
theorem dL_law_1803 : decode cL_law 1803 = .ok (.iconst 0, 1) := dk_3 (dk_at dksL_law_70 20 rfl rfl)
theorem dL_law_1804 : decode cL_law 1804 = .ok (.ireturn, 1) := dk_172 (dk_at dksL_law_70 21 rfl rfl)
theorem dL_law_1805 : decode cL_law 1805 = .ok (.goto 656, 3) := dk_167 2 144 (dk_at dksL_law_71 0 rfl rfl)
theorem dL_law_1808 : decode cL_law 1808 = .ok (.aload_n 1, 1) := dk_43 (dk_at dksL_law_71 3 rfl rfl)
theorem dL_law_1809 : decode cL_law 1809 = .ok (.aload_n 0, 1) := dk_42 (dk_at dksL_law_71 4 rfl rfl)
theorem dL_law_1810 : decode cL_law 1810 = .ok (.iload 4, 2) := dk_21 4 (dk_at dksL_law_71 5 rfl rfl)
theorem dL_law_1812 : decode cL_law 1812 = .ok (.iconst 1, 1) := dk_4 (dk_at dksL_law_71 7 rfl rfl)
theorem dL_law_1813 : decode cL_law 1813 = .ok (.iadd, 1) := dk_96 (dk_at dksL_law_71 8 rfl rfl)
theorem dL_law_1814 : decode cL_law 1814 = .ok (.iaload, 1) := dk_46 (dk_at dksL_law_71 9 rfl rfl)
theorem dL_law_1815 : decode cL_law 1815 = .ok (.aload_n 0, 1) := dk_42 (dk_at dksL_law_71 10 rfl rfl)
theorem dL_law_1816 : decode cL_law 1816 = .ok (.iload 4, 2) := dk_21 4 (dk_at dksL_law_71 11 rfl rfl)
theorem dL_law_1818 : decode cL_law 1818 = .ok (.iconst 2, 1) := dk_5 (dk_at dksL_law_71 13 rfl rfl)
theorem dL_law_1819 : decode cL_law 1819 = .ok (.iadd, 1) := dk_96 (dk_at dksL_law_71 14 rfl rfl)
theorem dL_law_1820 : decode cL_law 1820 = .ok (.iaload, 1) := dk_46 (dk_at dksL_law_71 15 rfl rfl)
theorem dL_law_1821 : decode cL_law 1821 = .ok (.aload_n 3, 1) := dk_45 (dk_at dksL_law_71 16 rfl rfl)
theorem dL_law_1822 : decode cL_law 1822 = .ok (.invokestatic 213, 3) := dk_184 0 213 (dk_at dksL_law_71 17 rfl rfl)
theorem dL_law_1825 : decode cL_law 1825 = .ok (.istore 5, 2) := dk_54 5 (dk_at dksL_law_71 20 rfl rfl)
theorem dL_law_1827 : decode cL_law 1827 = .ok (.aload_n 2, 1) := dk_44 (dk_at dksL_law_71 22 rfl rfl)
theorem dL_law_1828 : decode cL_law 1828 = .ok (.aload_n 0, 1) := dk_42 (dk_at dksL_law_71 23 rfl rfl)
theorem dL_law_1829 : decode cL_law 1829 = .ok (.iload 4, 2) := dk_21 4 (dk_at dksL_law_72 0 rfl rfl)
theorem dL_law_1831 : decode cL_law 1831 = .ok (.iconst 1, 1) := dk_4 (dk_at dksL_law_72 2 rfl rfl)
theorem dL_law_1832 : decode cL_law 1832 = .ok (.iadd, 1) := dk_96 (dk_at dksL_law_72 3 rfl rfl)
theorem dL_law_1833 : decode cL_law 1833 = .ok (.iaload, 1) := dk_46 (dk_at dksL_law_72 4 rfl rfl)
theorem dL_law_1834 : decode cL_law 1834 = .ok (.aload_n 0, 1) := dk_42 (dk_at dksL_law_72 5 rfl rfl)
theorem dL_law_1835 : decode cL_law 1835 = .ok (.iload 4, 2) := dk_21 4 (dk_at dksL_law_72 6 rfl rfl)
theorem dL_law_1837 : decode cL_law 1837 = .ok (.iconst 2, 1) := dk_5 (dk_at dksL_law_72 8 rfl rfl)
theorem dL_law_1838 : decode cL_law 1838 = .ok (.iadd, 1) := dk_96 (dk_at dksL_law_72 9 rfl rfl)
theorem dL_law_1839 : decode cL_law 1839 = .ok (.iaload, 1) := dk_46 (dk_at dksL_law_72 10 rfl rfl)
theorem dL_law_1840 : decode cL_law 1840 = .ok (.invokevirtual 215, 3) := dk_182 0 215 (dk_at dksL_law_72 11 rfl rfl)
theorem dL_law_1843 : decode cL_law 1843 = .ok (.istore 6, 2) := dk_54 6 (dk_at dksL_law_72 14 rfl rfl)
theorem dL_law_1845 : decode cL_law 1845 = .ok (.aload_n 2, 1) := dk_44 (dk_at dksL_law_72 16 rfl rfl)
theorem dL_law_1846 : decode cL_law 1846 = .ok (.invokevirtual 134, 3) := dk_182 0 134 (dk_at dksL_law_72 17 rfl rfl)
theorem dL_law_1849 : decode cL_law 1849 = .ok (.iload 5, 2) := dk_21 5 (dk_at dksL_law_72 20 rfl rfl)
theorem dL_law_1851 : decode cL_law 1851 = .ok (.if_icmp .eq 5, 3) := dk_159 0 5 (dk_at dksL_law_73 0 rfl rfl)
theorem dL_law_1854 : decode cL_law 1854 = .ok (.iconst 0, 1) := dk_3 (dk_at dksL_law_73 3 rfl rfl)
theorem dL_law_1855 : decode cL_law 1855 = .ok (.ireturn, 1) := dk_172 (dk_at dksL_law_73 4 rfl rfl)
theorem dL_law_1856 : decode cL_law 1856 = .ok (.iload 5, 2) := dk_21 5 (dk_at dksL_law_73 5 rfl rfl)
theorem dL_law_1858 : decode cL_law 1858 = .ok (.ifCond .ne 15, 3) := dk_154 0 15 (dk_at dksL_law_73 7 rfl rfl)
theorem dL_law_1861 : decode cL_law 1861 = .ok (.aload_n 3, 1) := dk_45 (dk_at dksL_law_73 10 rfl rfl)
theorem dL_law_1862 : decode cL_law 1862 = .ok (.iconst 0, 1) := dk_3 (dk_at dksL_law_73 11 rfl rfl)
theorem dL_law_1863 : decode cL_law 1863 = .ok (.laload, 1) := dk_47 (dk_at dksL_law_73 12 rfl rfl)
theorem dL_law_1864 : decode cL_law 1864 = .ok (.iload 6, 2) := dk_21 6 (dk_at dksL_law_73 13 rfl rfl)
theorem dL_law_1866 : decode cL_law 1866 = .ok (.i2l, 1) := dk_133 (dk_at dksL_law_73 15 rfl rfl)
theorem dL_law_1867 : decode cL_law 1867 = .ok (.lcmp, 1) := dk_148 (dk_at dksL_law_73 16 rfl rfl)
theorem dL_law_1868 : decode cL_law 1868 = .ok (.ifCond .eq 5, 3) := dk_153 0 5 (dk_at dksL_law_73 17 rfl rfl)
theorem dL_law_1871 : decode cL_law 1871 = .ok (.iconst 0, 1) := dk_3 (dk_at dksL_law_73 20 rfl rfl)
theorem dL_law_1872 : decode cL_law 1872 = .ok (.ireturn, 1) := dk_172 (dk_at dksL_law_73 21 rfl rfl)
theorem dL_law_1873 : decode cL_law 1873 = .ok (.goto 588, 3) := dk_167 2 76 (dk_at dksL_law_74 0 rfl rfl)
theorem dL_law_1876 : decode cL_law 1876 = .ok (.aload_n 1, 1) := dk_43 (dk_at dksL_law_74 3 rfl rfl)
theorem dL_law_1877 : decode cL_law 1877 = .ok (.aload_n 0, 1) := dk_42 (dk_at dksL_law_74 4 rfl rfl)
theorem dL_law_1878 : decode cL_law 1878 = .ok (.iload 4, 2) := dk_21 4 (dk_at dksL_law_74 5 rfl rfl)
theorem dL_law_1880 : decode cL_law 1880 = .ok (.iconst 1, 1) := dk_4 (dk_at dksL_law_74 7 rfl rfl)
theorem dL_law_1881 : decode cL_law 1881 = .ok (.iadd, 1) := dk_96 (dk_at dksL_law_74 8 rfl rfl)
theorem dL_law_1882 : decode cL_law 1882 = .ok (.iaload, 1) := dk_46 (dk_at dksL_law_74 9 rfl rfl)
theorem dL_law_1883 : decode cL_law 1883 = .ok (.aload_n 3, 1) := dk_45 (dk_at dksL_law_74 10 rfl rfl)
theorem dL_law_1884 : decode cL_law 1884 = .ok (.invokestatic 216, 3) := dk_184 0 216 (dk_at dksL_law_74 11 rfl rfl)
theorem dL_law_1887 : decode cL_law 1887 = .ok (.istore 5, 2) := dk_54 5 (dk_at dksL_law_74 14 rfl rfl)
theorem dL_law_1889 : decode cL_law 1889 = .ok (.aload_n 2, 1) := dk_44 (dk_at dksL_law_74 16 rfl rfl)
theorem dL_law_1890 : decode cL_law 1890 = .ok (.aload_n 0, 1) := dk_42 (dk_at dksL_law_74 17 rfl rfl)
theorem dL_law_1891 : decode cL_law 1891 = .ok (.iload 4, 2) := dk_21 4 (dk_at dksL_law_74 18 rfl rfl)
theorem dL_law_1893 : decode cL_law 1893 = .ok (.iconst 1, 1) := dk_4 (dk_at dksL_law_74 20 rfl rfl)
theorem dL_law_1894 : decode cL_law 1894 = .ok (.iadd, 1) := dk_96 (dk_at dksL_law_74 21 rfl rfl)
theorem dL_law_1895 : decode cL_law 1895 = .ok (.iaload, 1) := dk_46 (dk_at dksL_law_74 22 rfl rfl)
theorem dL_law_1896 : decode cL_law 1896 = .ok (.invokevirtual 218, 3) := dk_182 0 218 (dk_at dksL_law_75 0 rfl rfl)
theorem dL_law_1899 : decode cL_law 1899 = .ok (.istore 6, 2) := dk_54 6 (dk_at dksL_law_75 3 rfl rfl)
theorem dL_law_1901 : decode cL_law 1901 = .ok (.aload_n 2, 1) := dk_44 (dk_at dksL_law_75 5 rfl rfl)
theorem dL_law_1902 : decode cL_law 1902 = .ok (.invokevirtual 134, 3) := dk_182 0 134 (dk_at dksL_law_75 6 rfl rfl)
theorem dL_law_1905 : decode cL_law 1905 = .ok (.iload 5, 2) := dk_21 5 (dk_at dksL_law_75 9 rfl rfl)
theorem dL_law_1907 : decode cL_law 1907 = .ok (.if_icmp .eq 5, 3) := dk_159 0 5 (dk_at dksL_law_75 11 rfl rfl)
theorem dL_law_1910 : decode cL_law 1910 = .ok (.iconst 0, 1) := dk_3 (dk_at dksL_law_75 14 rfl rfl)
theorem dL_law_1911 : decode cL_law 1911 = .ok (.ireturn, 1) := dk_172 (dk_at dksL_law_75 15 rfl rfl)
theorem dL_law_1912 : decode cL_law 1912 = .ok (.iload 5, 2) := dk_21 5 (dk_at dksL_law_75 16 rfl rfl)
theorem dL_law_1914 : decode cL_law 1914 = .ok (.ifCond .ne 15, 3) := dk_154 0 15 (dk_at dksL_law_75 18 rfl rfl)
theorem dL_law_1917 : decode cL_law 1917 = .ok (.aload_n 3, 1) := dk_45 (dk_at dksL_law_75 21 rfl rfl)
theorem dL_law_1918 : decode cL_law 1918 = .ok (.iconst 0, 1) := dk_3 (dk_at dksL_law_75 22 rfl rfl)
theorem dL_law_1919 : decode cL_law 1919 = .ok (.laload, 1) := dk_47 (dk_at dksL_law_75 23 rfl rfl)
theorem dL_law_1920 : decode cL_law 1920 = .ok (.iload 6, 2) := dk_21 6 (dk_at dksL_law_76 0 rfl rfl)
theorem dL_law_1922 : decode cL_law 1922 = .ok (.i2l, 1) := dk_133 (dk_at dksL_law_76 2 rfl rfl)
theorem dL_law_1923 : decode cL_law 1923 = .ok (.lcmp, 1) := dk_148 (dk_at dksL_law_76 3 rfl rfl)
theorem dL_law_1924 : decode cL_law 1924 = .ok (.ifCond .eq 5, 3) := dk_153 0 5 (dk_at dksL_law_76 4 rfl rfl)
theorem dL_law_1927 : decode cL_law 1927 = .ok (.iconst 0, 1) := dk_3 (dk_at dksL_law_76 7 rfl rfl)
theorem dL_law_1928 : decode cL_law 1928 = .ok (.ireturn, 1) := dk_172 (dk_at dksL_law_76 8 rfl rfl)
theorem dL_law_1929 : decode cL_law 1929 = .ok (.goto 532, 3) := dk_167 2 20 (dk_at dksL_law_76 9 rfl rfl)
theorem dL_law_1932 : decode cL_law 1932 = .ok (.aload_n 1, 1) := dk_43 (dk_at dksL_law_76 12 rfl rfl)
theorem dL_law_1933 : decode cL_law 1933 = .ok (.invokevirtual 219, 3) := dk_182 0 219 (dk_at dksL_law_76 13 rfl rfl)
theorem dL_law_1936 : decode cL_law 1936 = .ok (.aload_n 2, 1) := dk_44 (dk_at dksL_law_76 16 rfl rfl)
theorem dL_law_1937 : decode cL_law 1937 = .ok (.invokevirtual 222, 3) := dk_182 0 222 (dk_at dksL_law_76 17 rfl rfl)
theorem dL_law_1940 : decode cL_law 1940 = .ok (.if_icmp .eq 521, 3) := dk_159 2 9 (dk_at dksL_law_76 20 rfl rfl)
theorem dL_law_1943 : decode cL_law 1943 = .ok (.iconst 0, 1) := dk_3 (dk_at dksL_law_76 23 rfl rfl)
theorem dL_law_1944 : decode cL_law 1944 = .ok (.ireturn, 1) := dk_172 (dk_at dksL_law_77 0 rfl rfl)
theorem dL_law_1945 : decode cL_law 1945 = .ok (.aload_n 1, 1) := dk_43 (dk_at dksL_law_77 1 rfl rfl)
theorem dL_law_1946 : decode cL_law 1946 = .ok (.aload_n 0, 1) := dk_42 (dk_at dksL_law_77 2 rfl rfl)
theorem dL_law_1947 : decode cL_law 1947 = .ok (.iload 4, 2) := dk_21 4 (dk_at dksL_law_77 3 rfl rfl)
theorem dL_law_1949 : decode cL_law 1949 = .ok (.iconst 1, 1) := dk_4 (dk_at dksL_law_77 5 rfl rfl)
theorem dL_law_1950 : decode cL_law 1950 = .ok (.iadd, 1) := dk_96 (dk_at dksL_law_77 6 rfl rfl)
theorem dL_law_1951 : decode cL_law 1951 = .ok (.iaload, 1) := dk_46 (dk_at dksL_law_77 7 rfl rfl)
theorem dL_law_1952 : decode cL_law 1952 = .ok (.aload_n 0, 1) := dk_42 (dk_at dksL_law_77 8 rfl rfl)
theorem dL_law_1953 : decode cL_law 1953 = .ok (.iload 4, 2) := dk_21 4 (dk_at dksL_law_77 9 rfl rfl)
theorem dL_law_1955 : decode cL_law 1955 = .ok (.iconst 2, 1) := dk_5 (dk_at dksL_law_77 11 rfl rfl)
theorem dL_law_1956 : decode cL_law 1956 = .ok (.iadd, 1) := dk_96 (dk_at dksL_law_77 12 rfl rfl)
theorem dL_law_1957 : decode cL_law 1957 = .ok (.iaload, 1) := dk_46 (dk_at dksL_law_77 13 rfl rfl)
theorem dL_law_1958 : decode cL_law 1958 = .ok (.aload_n 3, 1) := dk_45 (dk_at dksL_law_77 14 rfl rfl)
theorem dL_law_1959 : decode cL_law 1959 = .ok (.invokestatic 223, 3) := dk_184 0 223 (dk_at dksL_law_77 15 rfl rfl)
theorem dL_law_1962 : decode cL_law 1962 = .ok (.istore 5, 2) := dk_54 5 (dk_at dksL_law_77 18 rfl rfl)
theorem dL_law_1964 : decode cL_law 1964 = .ok (.aload_n 2, 1) := dk_44 (dk_at dksL_law_77 20 rfl rfl)
theorem dL_law_1965 : decode cL_law 1965 = .ok (.aload_n 0, 1) := dk_42 (dk_at dksL_law_77 21 rfl rfl)
theorem dL_law_1966 : decode cL_law 1966 = .ok (.iload 4, 2) := dk_21 4 (dk_at dksL_law_77 22 rfl rfl)
theorem dL_law_1968 : decode cL_law 1968 = .ok (.iconst 1, 1) := dk_4 (dk_at dksL_law_78 0 rfl rfl)
theorem dL_law_1969 : decode cL_law 1969 = .ok (.iadd, 1) := dk_96 (dk_at dksL_law_78 1 rfl rfl)
theorem dL_law_1970 : decode cL_law 1970 = .ok (.iaload, 1) := dk_46 (dk_at dksL_law_78 2 rfl rfl)
theorem dL_law_1971 : decode cL_law 1971 = .ok (.aload_n 0, 1) := dk_42 (dk_at dksL_law_78 3 rfl rfl)
theorem dL_law_1972 : decode cL_law 1972 = .ok (.iload 4, 2) := dk_21 4 (dk_at dksL_law_78 4 rfl rfl)
theorem dL_law_1974 : decode cL_law 1974 = .ok (.iconst 2, 1) := dk_5 (dk_at dksL_law_78 6 rfl rfl)
theorem dL_law_1975 : decode cL_law 1975 = .ok (.iadd, 1) := dk_96 (dk_at dksL_law_78 7 rfl rfl)
theorem dL_law_1976 : decode cL_law 1976 = .ok (.iaload, 1) := dk_46 (dk_at dksL_law_78 8 rfl rfl)
theorem dL_law_1977 : decode cL_law 1977 = .ok (.invokevirtual 225, 3) := dk_182 0 225 (dk_at dksL_law_78 9 rfl rfl)
theorem dL_law_1980 : decode cL_law 1980 = .ok (.istore 6, 2) := dk_54 6 (dk_at dksL_law_78 12 rfl rfl)
theorem dL_law_1982 : decode cL_law 1982 = .ok (.aload_n 2, 1) := dk_44 (dk_at dksL_law_78 14 rfl rfl)
theorem dL_law_1983 : decode cL_law 1983 = .ok (.invokevirtual 134, 3) := dk_182 0 134 (dk_at dksL_law_78 15 rfl rfl)
theorem dL_law_1986 : decode cL_law 1986 = .ok (.iload 5, 2) := dk_21 5 (dk_at dksL_law_78 18 rfl rfl)
theorem dL_law_1988 : decode cL_law 1988 = .ok (.if_icmp .eq 5, 3) := dk_159 0 5 (dk_at dksL_law_78 20 rfl rfl)
theorem dL_law_1991 : decode cL_law 1991 = .ok (.iconst 0, 1) := dk_3 (dk_at dksL_law_78 23 rfl rfl)
theorem dL_law_1992 : decode cL_law 1992 = .ok (.ireturn, 1) := dk_172 (dk_at dksL_law_79 0 rfl rfl)
theorem dL_law_1993 : decode cL_law 1993 = .ok (.iload 5, 2) := dk_21 5 (dk_at dksL_law_79 1 rfl rfl)
theorem dL_law_1995 : decode cL_law 1995 = .ok (.ifCond .ne 15, 3) := dk_154 0 15 (dk_at dksL_law_79 3 rfl rfl)
theorem dL_law_1998 : decode cL_law 1998 = .ok (.aload_n 3, 1) := dk_45 (dk_at dksL_law_79 6 rfl rfl)
theorem dL_law_1999 : decode cL_law 1999 = .ok (.iconst 0, 1) := dk_3 (dk_at dksL_law_79 7 rfl rfl)
theorem dL_law_2000 : decode cL_law 2000 = .ok (.laload, 1) := dk_47 (dk_at dksL_law_79 8 rfl rfl)
theorem dL_law_2001 : decode cL_law 2001 = .ok (.iload 6, 2) := dk_21 6 (dk_at dksL_law_79 9 rfl rfl)
theorem dL_law_2003 : decode cL_law 2003 = .ok (.i2l, 1) := dk_133 (dk_at dksL_law_79 11 rfl rfl)
theorem dL_law_2004 : decode cL_law 2004 = .ok (.lcmp, 1) := dk_148 (dk_at dksL_law_79 12 rfl rfl)
theorem dL_law_2005 : decode cL_law 2005 = .ok (.ifCond .eq 5, 3) := dk_153 0 5 (dk_at dksL_law_79 13 rfl rfl)
theorem dL_law_2008 : decode cL_law 2008 = .ok (.iconst 0, 1) := dk_3 (dk_at dksL_law_79 16 rfl rfl)
theorem dL_law_2009 : decode cL_law 2009 = .ok (.ireturn, 1) := dk_172 (dk_at dksL_law_79 17 rfl rfl)
theorem dL_law_2010 : decode cL_law 2010 = .ok (.goto 451, 3) := dk_167 1 195 (dk_at dksL_law_79 18 rfl rfl)
theorem dL_law_2013 : decode cL_law 2013 = .ok (.aload_n 1, 1) := dk_43 (dk_at dksL_law_79 21 rfl rfl)
theorem dL_law_2014 : decode cL_law 2014 = .ok (.aload_n 0, 1) := dk_42 (dk_at dksL_law_79 22 rfl rfl)
theorem dL_law_2015 : decode cL_law 2015 = .ok (.iload 4, 2) := dk_21 4 (dk_at dksL_law_80 0 rfl rfl)
theorem dL_law_2017 : decode cL_law 2017 = .ok (.iconst 1, 1) := dk_4 (dk_at dksL_law_80 2 rfl rfl)
theorem dL_law_2018 : decode cL_law 2018 = .ok (.iadd, 1) := dk_96 (dk_at dksL_law_80 3 rfl rfl)
theorem dL_law_2019 : decode cL_law 2019 = .ok (.iaload, 1) := dk_46 (dk_at dksL_law_80 4 rfl rfl)
theorem dL_law_2020 : decode cL_law 2020 = .ok (.aload_n 3, 1) := dk_45 (dk_at dksL_law_80 5 rfl rfl)
theorem dL_law_2021 : decode cL_law 2021 = .ok (.invokestatic 226, 3) := dk_184 0 226 (dk_at dksL_law_80 6 rfl rfl)
theorem dL_law_2024 : decode cL_law 2024 = .ok (.istore 5, 2) := dk_54 5 (dk_at dksL_law_80 9 rfl rfl)
theorem dL_law_2026 : decode cL_law 2026 = .ok (.aload_n 2, 1) := dk_44 (dk_at dksL_law_80 11 rfl rfl)
theorem dL_law_2027 : decode cL_law 2027 = .ok (.aload_n 0, 1) := dk_42 (dk_at dksL_law_80 12 rfl rfl)
theorem dL_law_2028 : decode cL_law 2028 = .ok (.iload 4, 2) := dk_21 4 (dk_at dksL_law_80 13 rfl rfl)
theorem dL_law_2030 : decode cL_law 2030 = .ok (.iconst 1, 1) := dk_4 (dk_at dksL_law_80 15 rfl rfl)
theorem dL_law_2031 : decode cL_law 2031 = .ok (.iadd, 1) := dk_96 (dk_at dksL_law_80 16 rfl rfl)
theorem dL_law_2032 : decode cL_law 2032 = .ok (.iaload, 1) := dk_46 (dk_at dksL_law_80 17 rfl rfl)
theorem dL_law_2033 : decode cL_law 2033 = .ok (.invokevirtual 228, 3) := dk_182 0 228 (dk_at dksL_law_80 18 rfl rfl)
theorem dL_law_2036 : decode cL_law 2036 = .ok (.istore 6, 2) := dk_54 6 (dk_at dksL_law_80 21 rfl rfl)
theorem dL_law_2038 : decode cL_law 2038 = .ok (.aload_n 2, 1) := dk_44 (dk_at dksL_law_80 23 rfl rfl)
theorem dL_law_2039 : decode cL_law 2039 = .ok (.invokevirtual 134, 3) := dk_182 0 134 (dk_at dksL_law_81 0 rfl rfl)
theorem dL_law_2042 : decode cL_law 2042 = .ok (.iload 5, 2) := dk_21 5 (dk_at dksL_law_81 3 rfl rfl)
theorem dL_law_2044 : decode cL_law 2044 = .ok (.if_icmp .eq 5, 3) := dk_159 0 5 (dk_at dksL_law_81 5 rfl rfl)
theorem dL_law_2047 : decode cL_law 2047 = .ok (.iconst 0, 1) := dk_3 (dk_at dksL_law_81 8 rfl rfl)
theorem dL_law_2048 : decode cL_law 2048 = .ok (.ireturn, 1) := dk_172 (dk_at dksL_law_81 9 rfl rfl)
theorem dL_law_2049 : decode cL_law 2049 = .ok (.iload 5, 2) := dk_21 5 (dk_at dksL_law_81 10 rfl rfl)
theorem dL_law_2051 : decode cL_law 2051 = .ok (.ifCond .ne 15, 3) := dk_154 0 15 (dk_at dksL_law_81 12 rfl rfl)
theorem dL_law_2054 : decode cL_law 2054 = .ok (.aload_n 3, 1) := dk_45 (dk_at dksL_law_81 15 rfl rfl)
theorem dL_law_2055 : decode cL_law 2055 = .ok (.iconst 0, 1) := dk_3 (dk_at dksL_law_81 16 rfl rfl)
theorem dL_law_2056 : decode cL_law 2056 = .ok (.laload, 1) := dk_47 (dk_at dksL_law_81 17 rfl rfl)
theorem dL_law_2057 : decode cL_law 2057 = .ok (.iload 6, 2) := dk_21 6 (dk_at dksL_law_81 18 rfl rfl)
theorem dL_law_2059 : decode cL_law 2059 = .ok (.i2l, 1) := dk_133 (dk_at dksL_law_81 20 rfl rfl)
theorem dL_law_2060 : decode cL_law 2060 = .ok (.lcmp, 1) := dk_148 (dk_at dksL_law_81 21 rfl rfl)
theorem dL_law_2061 : decode cL_law 2061 = .ok (.ifCond .eq 5, 3) := dk_153 0 5 (dk_at dksL_law_82 0 rfl rfl)
theorem dL_law_2064 : decode cL_law 2064 = .ok (.iconst 0, 1) := dk_3 (dk_at dksL_law_82 3 rfl rfl)
theorem dL_law_2065 : decode cL_law 2065 = .ok (.ireturn, 1) := dk_172 (dk_at dksL_law_82 4 rfl rfl)
theorem dL_law_2066 : decode cL_law 2066 = .ok (.goto 395, 3) := dk_167 1 139 (dk_at dksL_law_82 5 rfl rfl)
theorem dL_law_2069 : decode cL_law 2069 = .ok (.aload_n 1, 1) := dk_43 (dk_at dksL_law_82 8 rfl rfl)
theorem dL_law_2070 : decode cL_law 2070 = .ok (.aload_n 0, 1) := dk_42 (dk_at dksL_law_82 9 rfl rfl)
theorem dL_law_2071 : decode cL_law 2071 = .ok (.iload 4, 2) := dk_21 4 (dk_at dksL_law_82 10 rfl rfl)
theorem dL_law_2073 : decode cL_law 2073 = .ok (.iconst 1, 1) := dk_4 (dk_at dksL_law_82 12 rfl rfl)
theorem dL_law_2074 : decode cL_law 2074 = .ok (.iadd, 1) := dk_96 (dk_at dksL_law_82 13 rfl rfl)
theorem dL_law_2075 : decode cL_law 2075 = .ok (.iaload, 1) := dk_46 (dk_at dksL_law_82 14 rfl rfl)
theorem dL_law_2076 : decode cL_law 2076 = .ok (.aload_n 0, 1) := dk_42 (dk_at dksL_law_82 15 rfl rfl)
theorem dL_law_2077 : decode cL_law 2077 = .ok (.iload 4, 2) := dk_21 4 (dk_at dksL_law_82 16 rfl rfl)
theorem dL_law_2079 : decode cL_law 2079 = .ok (.iconst 2, 1) := dk_5 (dk_at dksL_law_82 18 rfl rfl)
theorem dL_law_2080 : decode cL_law 2080 = .ok (.iadd, 1) := dk_96 (dk_at dksL_law_82 19 rfl rfl)
theorem dL_law_2081 : decode cL_law 2081 = .ok (.iaload, 1) := dk_46 (dk_at dksL_law_82 20 rfl rfl)
theorem dL_law_2082 : decode cL_law 2082 = .ok (.aload_n 3, 1) := dk_45 (dk_at dksL_law_82 21 rfl rfl)
theorem dL_law_2083 : decode cL_law 2083 = .ok (.invokestatic 229, 3) := dk_184 0 229 (dk_at dksL_law_83 0 rfl rfl)
theorem dL_law_2086 : decode cL_law 2086 = .ok (.istore 5, 2) := dk_54 5 (dk_at dksL_law_83 3 rfl rfl)
theorem dL_law_2088 : decode cL_law 2088 = .ok (.aload_n 2, 1) := dk_44 (dk_at dksL_law_83 5 rfl rfl)
theorem dL_law_2089 : decode cL_law 2089 = .ok (.aload_n 0, 1) := dk_42 (dk_at dksL_law_83 6 rfl rfl)
theorem dL_law_2090 : decode cL_law 2090 = .ok (.iload 4, 2) := dk_21 4 (dk_at dksL_law_83 7 rfl rfl)
theorem dL_law_2092 : decode cL_law 2092 = .ok (.iconst 1, 1) := dk_4 (dk_at dksL_law_83 9 rfl rfl)
theorem dL_law_2093 : decode cL_law 2093 = .ok (.iadd, 1) := dk_96 (dk_at dksL_law_83 10 rfl rfl)
theorem dL_law_2094 : decode cL_law 2094 = .ok (.iaload, 1) := dk_46 (dk_at dksL_law_83 11 rfl rfl)
theorem dL_law_2095 : decode cL_law 2095 = .ok (.aload_n 0, 1) := dk_42 (dk_at dksL_law_83 12 rfl rfl)
theorem dL_law_2096 : decode cL_law 2096 = .ok (.iload 4, 2) := dk_21 4 (dk_at dksL_law_83 13 rfl rfl)
theorem dL_law_2098 : decode cL_law 2098 = .ok (.iconst 2, 1) := dk_5 (dk_at dksL_law_83 15 rfl rfl)
theorem dL_law_2099 : decode cL_law 2099 = .ok (.iadd, 1) := dk_96 (dk_at dksL_law_83 16 rfl rfl)
theorem dL_law_2100 : decode cL_law 2100 = .ok (.iaload, 1) := dk_46 (dk_at dksL_law_83 17 rfl rfl)
theorem dL_law_2101 : decode cL_law 2101 = .ok (.invokevirtual 231, 3) := dk_182 0 231 (dk_at dksL_law_83 18 rfl rfl)
theorem dL_law_2104 : decode cL_law 2104 = .ok (.istore 6, 2) := dk_54 6 (dk_at dksL_law_83 21 rfl rfl)
theorem dL_law_2106 : decode cL_law 2106 = .ok (.aload_n 2, 1) := dk_44 (dk_at dksL_law_83 23 rfl rfl)
theorem dL_law_2107 : decode cL_law 2107 = .ok (.invokevirtual 134, 3) := dk_182 0 134 (dk_at dksL_law_84 0 rfl rfl)
theorem dL_law_2110 : decode cL_law 2110 = .ok (.iload 5, 2) := dk_21 5 (dk_at dksL_law_84 3 rfl rfl)
theorem dL_law_2112 : decode cL_law 2112 = .ok (.if_icmp .eq 5, 3) := dk_159 0 5 (dk_at dksL_law_84 5 rfl rfl)
theorem dL_law_2115 : decode cL_law 2115 = .ok (.iconst 0, 1) := dk_3 (dk_at dksL_law_84 8 rfl rfl)
theorem dL_law_2116 : decode cL_law 2116 = .ok (.ireturn, 1) := dk_172 (dk_at dksL_law_84 9 rfl rfl)
theorem dL_law_2117 : decode cL_law 2117 = .ok (.iload 5, 2) := dk_21 5 (dk_at dksL_law_84 10 rfl rfl)
theorem dL_law_2119 : decode cL_law 2119 = .ok (.ifCond .ne 15, 3) := dk_154 0 15 (dk_at dksL_law_84 12 rfl rfl)
theorem dL_law_2122 : decode cL_law 2122 = .ok (.aload_n 3, 1) := dk_45 (dk_at dksL_law_84 15 rfl rfl)
theorem dL_law_2123 : decode cL_law 2123 = .ok (.iconst 0, 1) := dk_3 (dk_at dksL_law_84 16 rfl rfl)
theorem dL_law_2124 : decode cL_law 2124 = .ok (.laload, 1) := dk_47 (dk_at dksL_law_84 17 rfl rfl)
theorem dL_law_2125 : decode cL_law 2125 = .ok (.iload 6, 2) := dk_21 6 (dk_at dksL_law_84 18 rfl rfl)
theorem dL_law_2127 : decode cL_law 2127 = .ok (.i2l, 1) := dk_133 (dk_at dksL_law_84 20 rfl rfl)
theorem dL_law_2128 : decode cL_law 2128 = .ok (.lcmp, 1) := dk_148 (dk_at dksL_law_84 21 rfl rfl)
theorem dL_law_2129 : decode cL_law 2129 = .ok (.ifCond .eq 5, 3) := dk_153 0 5 (dk_at dksL_law_85 0 rfl rfl)
theorem dL_law_2132 : decode cL_law 2132 = .ok (.iconst 0, 1) := dk_3 (dk_at dksL_law_85 3 rfl rfl)
theorem dL_law_2133 : decode cL_law 2133 = .ok (.ireturn, 1) := dk_172 (dk_at dksL_law_85 4 rfl rfl)
theorem dL_law_2134 : decode cL_law 2134 = .ok (.goto 327, 3) := dk_167 1 71 (dk_at dksL_law_85 5 rfl rfl)
theorem dL_law_2137 : decode cL_law 2137 = .ok (.aload_n 1, 1) := dk_43 (dk_at dksL_law_85 8 rfl rfl)
theorem dL_law_2138 : decode cL_law 2138 = .ok (.aload_n 0, 1) := dk_42 (dk_at dksL_law_85 9 rfl rfl)
theorem dL_law_2139 : decode cL_law 2139 = .ok (.iload 4, 2) := dk_21 4 (dk_at dksL_law_85 10 rfl rfl)
theorem dL_law_2141 : decode cL_law 2141 = .ok (.iconst 1, 1) := dk_4 (dk_at dksL_law_85 12 rfl rfl)
theorem dL_law_2142 : decode cL_law 2142 = .ok (.iadd, 1) := dk_96 (dk_at dksL_law_85 13 rfl rfl)
theorem dL_law_2143 : decode cL_law 2143 = .ok (.iaload, 1) := dk_46 (dk_at dksL_law_85 14 rfl rfl)
theorem dL_law_2144 : decode cL_law 2144 = .ok (.aload_n 0, 1) := dk_42 (dk_at dksL_law_85 15 rfl rfl)
theorem dL_law_2145 : decode cL_law 2145 = .ok (.iload 4, 2) := dk_21 4 (dk_at dksL_law_85 16 rfl rfl)
theorem dL_law_2147 : decode cL_law 2147 = .ok (.iconst 2, 1) := dk_5 (dk_at dksL_law_85 18 rfl rfl)
theorem dL_law_2148 : decode cL_law 2148 = .ok (.iadd, 1) := dk_96 (dk_at dksL_law_85 19 rfl rfl)
theorem dL_law_2149 : decode cL_law 2149 = .ok (.iaload, 1) := dk_46 (dk_at dksL_law_85 20 rfl rfl)
theorem dL_law_2150 : decode cL_law 2150 = .ok (.aload_n 0, 1) := dk_42 (dk_at dksL_law_85 21 rfl rfl)
theorem dL_law_2151 : decode cL_law 2151 = .ok (.iload 4, 2) := dk_21 4 (dk_at dksL_law_85 22 rfl rfl)
theorem dL_law_2153 : decode cL_law 2153 = .ok (.iconst 3, 1) := dk_6 (dk_at dksL_law_86 0 rfl rfl)
theorem dL_law_2154 : decode cL_law 2154 = .ok (.iadd, 1) := dk_96 (dk_at dksL_law_86 1 rfl rfl)
theorem dL_law_2155 : decode cL_law 2155 = .ok (.iaload, 1) := dk_46 (dk_at dksL_law_86 2 rfl rfl)
theorem dL_law_2156 : decode cL_law 2156 = .ok (.invokestatic 232, 3) := dk_184 0 232 (dk_at dksL_law_86 3 rfl rfl)
theorem dL_law_2159 : decode cL_law 2159 = .ok (.istore 5, 2) := dk_54 5 (dk_at dksL_law_86 6 rfl rfl)
theorem dL_law_2161 : decode cL_law 2161 = .ok (.aload_n 2, 1) := dk_44 (dk_at dksL_law_86 8 rfl rfl)
theorem dL_law_2162 : decode cL_law 2162 = .ok (.aload_n 0, 1) := dk_42 (dk_at dksL_law_86 9 rfl rfl)
theorem dL_law_2163 : decode cL_law 2163 = .ok (.iload 4, 2) := dk_21 4 (dk_at dksL_law_86 10 rfl rfl)
theorem dL_law_2165 : decode cL_law 2165 = .ok (.iconst 1, 1) := dk_4 (dk_at dksL_law_86 12 rfl rfl)
theorem dL_law_2166 : decode cL_law 2166 = .ok (.iadd, 1) := dk_96 (dk_at dksL_law_86 13 rfl rfl)
theorem dL_law_2167 : decode cL_law 2167 = .ok (.iaload, 1) := dk_46 (dk_at dksL_law_86 14 rfl rfl)
theorem dL_law_2168 : decode cL_law 2168 = .ok (.aload_n 0, 1) := dk_42 (dk_at dksL_law_86 15 rfl rfl)
theorem dL_law_2169 : decode cL_law 2169 = .ok (.iload 4, 2) := dk_21 4 (dk_at dksL_law_86 16 rfl rfl)
theorem dL_law_2171 : decode cL_law 2171 = .ok (.iconst 2, 1) := dk_5 (dk_at dksL_law_86 18 rfl rfl)
theorem dL_law_2172 : decode cL_law 2172 = .ok (.iadd, 1) := dk_96 (dk_at dksL_law_86 19 rfl rfl)
theorem dL_law_2173 : decode cL_law 2173 = .ok (.iaload, 1) := dk_46 (dk_at dksL_law_86 20 rfl rfl)
theorem dL_law_2174 : decode cL_law 2174 = .ok (.aload_n 0, 1) := dk_42 (dk_at dksL_law_86 21 rfl rfl)
theorem dL_law_2175 : decode cL_law 2175 = .ok (.iload 4, 2) := dk_21 4 (dk_at dksL_law_86 22 rfl rfl)
theorem dL_law_2177 : decode cL_law 2177 = .ok (.iconst 3, 1) := dk_6 (dk_at dksL_law_87 0 rfl rfl)
theorem dL_law_2178 : decode cL_law 2178 = .ok (.iadd, 1) := dk_96 (dk_at dksL_law_87 1 rfl rfl)
theorem dL_law_2179 : decode cL_law 2179 = .ok (.iaload, 1) := dk_46 (dk_at dksL_law_87 2 rfl rfl)
theorem dL_law_2180 : decode cL_law 2180 = .ok (.invokevirtual 235, 3) := dk_182 0 235 (dk_at dksL_law_87 3 rfl rfl)
theorem dL_law_2183 : decode cL_law 2183 = .ok (.aload_n 2, 1) := dk_44 (dk_at dksL_law_87 6 rfl rfl)
theorem dL_law_2184 : decode cL_law 2184 = .ok (.invokevirtual 134, 3) := dk_182 0 134 (dk_at dksL_law_87 7 rfl rfl)
theorem dL_law_2187 : decode cL_law 2187 = .ok (.iload 5, 2) := dk_21 5 (dk_at dksL_law_87 10 rfl rfl)
theorem dL_law_2189 : decode cL_law 2189 = .ok (.if_icmp .eq 5, 3) := dk_159 0 5 (dk_at dksL_law_87 12 rfl rfl)
theorem dL_law_2192 : decode cL_law 2192 = .ok (.iconst 0, 1) := dk_3 (dk_at dksL_law_87 15 rfl rfl)
theorem dL_law_2193 : decode cL_law 2193 = .ok (.ireturn, 1) := dk_172 (dk_at dksL_law_87 16 rfl rfl)
theorem dL_law_2194 : decode cL_law 2194 = .ok (.goto 267, 3) := dk_167 1 11 (dk_at dksL_law_87 17 rfl rfl)
theorem dL_law_2197 : decode cL_law 2197 = .ok (.aload_n 1, 1) := dk_43 (dk_at dksL_law_87 20 rfl rfl)
theorem dL_law_2198 : decode cL_law 2198 = .ok (.aload_n 0, 1) := dk_42 (dk_at dksL_law_87 21 rfl rfl)
theorem dL_law_2199 : decode cL_law 2199 = .ok (.iload 4, 2) := dk_21 4 (dk_at dksL_law_87 22 rfl rfl)
theorem dL_law_2201 : decode cL_law 2201 = .ok (.iconst 1, 1) := dk_4 (dk_at dksL_law_88 0 rfl rfl)
theorem dL_law_2202 : decode cL_law 2202 = .ok (.iadd, 1) := dk_96 (dk_at dksL_law_88 1 rfl rfl)
theorem dL_law_2203 : decode cL_law 2203 = .ok (.iaload, 1) := dk_46 (dk_at dksL_law_88 2 rfl rfl)
theorem dL_law_2204 : decode cL_law 2204 = .ok (.aload_n 0, 1) := dk_42 (dk_at dksL_law_88 3 rfl rfl)
theorem dL_law_2205 : decode cL_law 2205 = .ok (.iload 4, 2) := dk_21 4 (dk_at dksL_law_88 4 rfl rfl)
theorem dL_law_2207 : decode cL_law 2207 = .ok (.iconst 2, 1) := dk_5 (dk_at dksL_law_88 6 rfl rfl)
theorem dL_law_2208 : decode cL_law 2208 = .ok (.iadd, 1) := dk_96 (dk_at dksL_law_88 7 rfl rfl)
theorem dL_law_2209 : decode cL_law 2209 = .ok (.iaload, 1) := dk_46 (dk_at dksL_law_88 8 rfl rfl)
theorem dL_law_2210 : decode cL_law 2210 = .ok (.aload_n 0, 1) := dk_42 (dk_at dksL_law_88 9 rfl rfl)
theorem dL_law_2211 : decode cL_law 2211 = .ok (.iload 4, 2) := dk_21 4 (dk_at dksL_law_88 10 rfl rfl)
theorem dL_law_2213 : decode cL_law 2213 = .ok (.iconst 3, 1) := dk_6 (dk_at dksL_law_88 12 rfl rfl)
theorem dL_law_2214 : decode cL_law 2214 = .ok (.iadd, 1) := dk_96 (dk_at dksL_law_88 13 rfl rfl)
theorem dL_law_2215 : decode cL_law 2215 = .ok (.iaload, 1) := dk_46 (dk_at dksL_law_88 14 rfl rfl)
theorem dL_law_2216 : decode cL_law 2216 = .ok (.i2l, 1) := dk_133 (dk_at dksL_law_88 15 rfl rfl)
theorem dL_law_2217 : decode cL_law 2217 = .ok (.bipush 32, 2) := dk_16 32 (dk_at dksL_law_88 16 rfl rfl)
theorem dL_law_2219 : decode cL_law 2219 = .ok (.lshl, 1) := dk_121 (dk_at dksL_law_88 18 rfl rfl)
theorem dL_law_2220 : decode cL_law 2220 = .ok (.aload_n 0, 1) := dk_42 (dk_at dksL_law_88 19 rfl rfl)
theorem dL_law_2221 : decode cL_law 2221 = .ok (.iload 4, 2) := dk_21 4 (dk_at dksL_law_88 20 rfl rfl)
theorem dL_law_2223 : decode cL_law 2223 = .ok (.iconst 4, 1) := dk_7 (dk_at dksL_law_88 22 rfl rfl)
theorem dL_law_2224 : decode cL_law 2224 = .ok (.iadd, 1) := dk_96 (dk_at dksL_law_88 23 rfl rfl)
theorem dL_law_2225 : decode cL_law 2225 = .ok (.iaload, 1) := dk_46 (dk_at dksL_law_89 0 rfl rfl)
theorem dL_law_2226 : decode cL_law 2226 = .ok (.i2l, 1) := dk_133 (dk_at dksL_law_89 1 rfl rfl)
theorem dL_law_2227 : decode cL_law 2227 = .ok (.ldc2_w 236, 3) := dk_20 0 236 (dk_at dksL_law_89 2 rfl rfl)
theorem dL_law_2230 : decode cL_law 2230 = .ok (.land, 1) := dk_127 (dk_at dksL_law_89 5 rfl rfl)
theorem dL_law_2231 : decode cL_law 2231 = .ok (.lor, 1) := dk_129 (dk_at dksL_law_89 6 rfl rfl)
theorem dL_law_2232 : decode cL_law 2232 = .ok (.aload_n 3, 1) := dk_45 (dk_at dksL_law_89 7 rfl rfl)
theorem dL_law_2233 : decode cL_law 2233 = .ok (.invokestatic 238, 3) := dk_184 0 238 (dk_at dksL_law_89 8 rfl rfl)
theorem dL_law_2236 : decode cL_law 2236 = .ok (.istore 5, 2) := dk_54 5 (dk_at dksL_law_89 11 rfl rfl)
theorem dL_law_2238 : decode cL_law 2238 = .ok (.aload_n 2, 1) := dk_44 (dk_at dksL_law_89 13 rfl rfl)
theorem dL_law_2239 : decode cL_law 2239 = .ok (.aload_n 0, 1) := dk_42 (dk_at dksL_law_89 14 rfl rfl)
theorem dL_law_2240 : decode cL_law 2240 = .ok (.iload 4, 2) := dk_21 4 (dk_at dksL_law_89 15 rfl rfl)
theorem dL_law_2242 : decode cL_law 2242 = .ok (.iconst 1, 1) := dk_4 (dk_at dksL_law_89 17 rfl rfl)
theorem dL_law_2243 : decode cL_law 2243 = .ok (.iadd, 1) := dk_96 (dk_at dksL_law_89 18 rfl rfl)
theorem dL_law_2244 : decode cL_law 2244 = .ok (.iaload, 1) := dk_46 (dk_at dksL_law_89 19 rfl rfl)
theorem dL_law_2245 : decode cL_law 2245 = .ok (.aload_n 0, 1) := dk_42 (dk_at dksL_law_89 20 rfl rfl)
theorem dL_law_2246 : decode cL_law 2246 = .ok (.iload 4, 2) := dk_21 4 (dk_at dksL_law_89 21 rfl rfl)
theorem dL_law_2248 : decode cL_law 2248 = .ok (.iconst 2, 1) := dk_5 (dk_at dksL_law_89 23 rfl rfl)
theorem dL_law_2249 : decode cL_law 2249 = .ok (.iadd, 1) := dk_96 (dk_at dksL_law_90 0 rfl rfl)
theorem dL_law_2250 : decode cL_law 2250 = .ok (.iaload, 1) := dk_46 (dk_at dksL_law_90 1 rfl rfl)
theorem dL_law_2251 : decode cL_law 2251 = .ok (.aload_n 0, 1) := dk_42 (dk_at dksL_law_90 2 rfl rfl)
theorem dL_law_2252 : decode cL_law 2252 = .ok (.iload 4, 2) := dk_21 4 (dk_at dksL_law_90 3 rfl rfl)
theorem dL_law_2254 : decode cL_law 2254 = .ok (.iconst 3, 1) := dk_6 (dk_at dksL_law_90 5 rfl rfl)
theorem dL_law_2255 : decode cL_law 2255 = .ok (.iadd, 1) := dk_96 (dk_at dksL_law_90 6 rfl rfl)
theorem dL_law_2256 : decode cL_law 2256 = .ok (.iaload, 1) := dk_46 (dk_at dksL_law_90 7 rfl rfl)
theorem dL_law_2257 : decode cL_law 2257 = .ok (.i2l, 1) := dk_133 (dk_at dksL_law_90 8 rfl rfl)
theorem dL_law_2258 : decode cL_law 2258 = .ok (.bipush 32, 2) := dk_16 32 (dk_at dksL_law_90 9 rfl rfl)
theorem dL_law_2260 : decode cL_law 2260 = .ok (.lshl, 1) := dk_121 (dk_at dksL_law_90 11 rfl rfl)
theorem dL_law_2261 : decode cL_law 2261 = .ok (.aload_n 0, 1) := dk_42 (dk_at dksL_law_90 12 rfl rfl)
theorem dL_law_2262 : decode cL_law 2262 = .ok (.iload 4, 2) := dk_21 4 (dk_at dksL_law_90 13 rfl rfl)
theorem dL_law_2264 : decode cL_law 2264 = .ok (.iconst 4, 1) := dk_7 (dk_at dksL_law_90 15 rfl rfl)
theorem dL_law_2265 : decode cL_law 2265 = .ok (.iadd, 1) := dk_96 (dk_at dksL_law_90 16 rfl rfl)
theorem dL_law_2266 : decode cL_law 2266 = .ok (.iaload, 1) := dk_46 (dk_at dksL_law_90 17 rfl rfl)
theorem dL_law_2267 : decode cL_law 2267 = .ok (.i2l, 1) := dk_133 (dk_at dksL_law_90 18 rfl rfl)
theorem dL_law_2268 : decode cL_law 2268 = .ok (.ldc2_w 236, 3) := dk_20 0 236 (dk_at dksL_law_90 19 rfl rfl)
theorem dL_law_2271 : decode cL_law 2271 = .ok (.land, 1) := dk_127 (dk_at dksL_law_90 22 rfl rfl)
theorem dL_law_2272 : decode cL_law 2272 = .ok (.lor, 1) := dk_129 (dk_at dksL_law_90 23 rfl rfl)
theorem dL_law_2273 : decode cL_law 2273 = .ok (.invokevirtual 241, 3) := dk_182 0 241 (dk_at dksL_law_91 0 rfl rfl)
theorem dL_law_2276 : decode cL_law 2276 = .ok (.lstore 6, 2) := dk_55 6 (dk_at dksL_law_91 3 rfl rfl)
theorem dL_law_2278 : decode cL_law 2278 = .ok (.aload_n 2, 1) := dk_44 (dk_at dksL_law_91 5 rfl rfl)
theorem dL_law_2279 : decode cL_law 2279 = .ok (.invokevirtual 134, 3) := dk_182 0 134 (dk_at dksL_law_91 6 rfl rfl)
theorem dL_law_2282 : decode cL_law 2282 = .ok (.iload 5, 2) := dk_21 5 (dk_at dksL_law_91 9 rfl rfl)
theorem dL_law_2284 : decode cL_law 2284 = .ok (.if_icmp .eq 5, 3) := dk_159 0 5 (dk_at dksL_law_91 11 rfl rfl)
theorem dL_law_2287 : decode cL_law 2287 = .ok (.iconst 0, 1) := dk_3 (dk_at dksL_law_91 14 rfl rfl)
theorem dL_law_2288 : decode cL_law 2288 = .ok (.ireturn, 1) := dk_172 (dk_at dksL_law_91 15 rfl rfl)
theorem dL_law_2289 : decode cL_law 2289 = .ok (.iload 5, 2) := dk_21 5 (dk_at dksL_law_91 16 rfl rfl)
theorem dL_law_2291 : decode cL_law 2291 = .ok (.ifCond .ne 14, 3) := dk_154 0 14 (dk_at dksL_law_91 18 rfl rfl)
theorem dL_law_2294 : decode cL_law 2294 = .ok (.aload_n 3, 1) := dk_45 (dk_at dksL_law_91 21 rfl rfl)
theorem dL_law_2295 : decode cL_law 2295 = .ok (.iconst 0, 1) := dk_3 (dk_at dksL_law_91 22 rfl rfl)
theorem dL_law_2296 : decode cL_law 2296 = .ok (.laload, 1) := dk_47 (dk_at dksL_law_91 23 rfl rfl)
theorem dL_law_2297 : decode cL_law 2297 = .ok (.lload 6, 2) := dk_22 6 (dk_at dksL_law_92 0 rfl rfl)
theorem dL_law_2299 : decode cL_law 2299 = .ok (.lcmp, 1) := dk_148 (dk_at dksL_law_92 2 rfl rfl)
theorem dL_law_2300 : decode cL_law 2300 = .ok (.ifCond .eq 5, 3) := dk_153 0 5 (dk_at dksL_law_92 3 rfl rfl)
theorem dL_law_2303 : decode cL_law 2303 = .ok (.iconst 0, 1) := dk_3 (dk_at dksL_law_92 6 rfl rfl)
theorem dL_law_2304 : decode cL_law 2304 = .ok (.ireturn, 1) := dk_172 (dk_at dksL_law_92 7 rfl rfl)
theorem dL_law_2305 : decode cL_law 2305 = .ok (.goto 156, 3) := dk_167 0 156 (dk_at dksL_law_92 8 rfl rfl)
theorem dL_law_2308 : decode cL_law 2308 = .ok (.aload_n 1, 1) := dk_43 (dk_at dksL_law_92 11 rfl rfl)
theorem dL_law_2309 : decode cL_law 2309 = .ok (.aload_n 0, 1) := dk_42 (dk_at dksL_law_92 12 rfl rfl)
theorem dL_law_2310 : decode cL_law 2310 = .ok (.iload 4, 2) := dk_21 4 (dk_at dksL_law_92 13 rfl rfl)
theorem dL_law_2312 : decode cL_law 2312 = .ok (.iconst 1, 1) := dk_4 (dk_at dksL_law_92 15 rfl rfl)
theorem dL_law_2313 : decode cL_law 2313 = .ok (.iadd, 1) := dk_96 (dk_at dksL_law_92 16 rfl rfl)
theorem dL_law_2314 : decode cL_law 2314 = .ok (.iaload, 1) := dk_46 (dk_at dksL_law_92 17 rfl rfl)
theorem dL_law_2315 : decode cL_law 2315 = .ok (.aload_n 3, 1) := dk_45 (dk_at dksL_law_92 18 rfl rfl)
theorem dL_law_2316 : decode cL_law 2316 = .ok (.invokestatic 242, 3) := dk_184 0 242 (dk_at dksL_law_92 19 rfl rfl)
theorem dL_law_2319 : decode cL_law 2319 = .ok (.istore 5, 2) := dk_54 5 (dk_at dksL_law_92 22 rfl rfl)
theorem dL_law_2321 : decode cL_law 2321 = .ok (.aload_n 2, 1) := dk_44 (dk_at dksL_law_93 0 rfl rfl)
theorem dL_law_2322 : decode cL_law 2322 = .ok (.aload_n 0, 1) := dk_42 (dk_at dksL_law_93 1 rfl rfl)
theorem dL_law_2323 : decode cL_law 2323 = .ok (.iload 4, 2) := dk_21 4 (dk_at dksL_law_93 2 rfl rfl)
theorem dL_law_2325 : decode cL_law 2325 = .ok (.iconst 1, 1) := dk_4 (dk_at dksL_law_93 4 rfl rfl)
theorem dL_law_2326 : decode cL_law 2326 = .ok (.iadd, 1) := dk_96 (dk_at dksL_law_93 5 rfl rfl)
theorem dL_law_2327 : decode cL_law 2327 = .ok (.iaload, 1) := dk_46 (dk_at dksL_law_93 6 rfl rfl)
theorem dL_law_2328 : decode cL_law 2328 = .ok (.invokevirtual 244, 3) := dk_182 0 244 (dk_at dksL_law_93 7 rfl rfl)
theorem dL_law_2331 : decode cL_law 2331 = .ok (.istore 6, 2) := dk_54 6 (dk_at dksL_law_93 10 rfl rfl)
theorem dL_law_2333 : decode cL_law 2333 = .ok (.aload_n 2, 1) := dk_44 (dk_at dksL_law_93 12 rfl rfl)
theorem dL_law_2334 : decode cL_law 2334 = .ok (.invokevirtual 134, 3) := dk_182 0 134 (dk_at dksL_law_93 13 rfl rfl)
theorem dL_law_2337 : decode cL_law 2337 = .ok (.iload 5, 2) := dk_21 5 (dk_at dksL_law_93 16 rfl rfl)
theorem dL_law_2339 : decode cL_law 2339 = .ok (.if_icmp .eq 5, 3) := dk_159 0 5 (dk_at dksL_law_93 18 rfl rfl)
theorem dL_law_2342 : decode cL_law 2342 = .ok (.iconst 0, 1) := dk_3 (dk_at dksL_law_93 21 rfl rfl)
theorem dL_law_2343 : decode cL_law 2343 = .ok (.ireturn, 1) := dk_172 (dk_at dksL_law_93 22 rfl rfl)
theorem dL_law_2344 : decode cL_law 2344 = .ok (.iload 5, 2) := dk_21 5 (dk_at dksL_law_94 0 rfl rfl)
theorem dL_law_2346 : decode cL_law 2346 = .ok (.ifCond .ne 15, 3) := dk_154 0 15 (dk_at dksL_law_94 2 rfl rfl)
theorem dL_law_2349 : decode cL_law 2349 = .ok (.aload_n 3, 1) := dk_45 (dk_at dksL_law_94 5 rfl rfl)
theorem dL_law_2350 : decode cL_law 2350 = .ok (.iconst 0, 1) := dk_3 (dk_at dksL_law_94 6 rfl rfl)
theorem dL_law_2351 : decode cL_law 2351 = .ok (.laload, 1) := dk_47 (dk_at dksL_law_94 7 rfl rfl)
theorem dL_law_2352 : decode cL_law 2352 = .ok (.iload 6, 2) := dk_21 6 (dk_at dksL_law_94 8 rfl rfl)
theorem dL_law_2354 : decode cL_law 2354 = .ok (.i2l, 1) := dk_133 (dk_at dksL_law_94 10 rfl rfl)
theorem dL_law_2355 : decode cL_law 2355 = .ok (.lcmp, 1) := dk_148 (dk_at dksL_law_94 11 rfl rfl)
theorem dL_law_2356 : decode cL_law 2356 = .ok (.ifCond .eq 5, 3) := dk_153 0 5 (dk_at dksL_law_94 12 rfl rfl)
theorem dL_law_2359 : decode cL_law 2359 = .ok (.iconst 0, 1) := dk_3 (dk_at dksL_law_94 15 rfl rfl)
theorem dL_law_2360 : decode cL_law 2360 = .ok (.ireturn, 1) := dk_172 (dk_at dksL_law_94 16 rfl rfl)
theorem dL_law_2361 : decode cL_law 2361 = .ok (.goto 100, 3) := dk_167 0 100 (dk_at dksL_law_94 17 rfl rfl)
theorem dL_law_2364 : decode cL_law 2364 = .ok (.aload_n 1, 1) := dk_43 (dk_at dksL_law_94 20 rfl rfl)
theorem dL_law_2365 : decode cL_law 2365 = .ok (.aload_n 0, 1) := dk_42 (dk_at dksL_law_94 21 rfl rfl)
theorem dL_law_2366 : decode cL_law 2366 = .ok (.iload 4, 2) := dk_21 4 (dk_at dksL_law_94 22 rfl rfl)
theorem dL_law_2368 : decode cL_law 2368 = .ok (.iconst 1, 1) := dk_4 (dk_at dksL_law_95 0 rfl rfl)
theorem dL_law_2369 : decode cL_law 2369 = .ok (.iadd, 1) := dk_96 (dk_at dksL_law_95 1 rfl rfl)
theorem dL_law_2370 : decode cL_law 2370 = .ok (.iaload, 1) := dk_46 (dk_at dksL_law_95 2 rfl rfl)
theorem dL_law_2371 : decode cL_law 2371 = .ok (.invokestatic 245, 3) := dk_184 0 245 (dk_at dksL_law_95 3 rfl rfl)
theorem dL_law_2374 : decode cL_law 2374 = .ok (.istore 5, 2) := dk_54 5 (dk_at dksL_law_95 6 rfl rfl)
theorem dL_law_2376 : decode cL_law 2376 = .ok (.aload_n 2, 1) := dk_44 (dk_at dksL_law_95 8 rfl rfl)
theorem dL_law_2377 : decode cL_law 2377 = .ok (.aload_n 0, 1) := dk_42 (dk_at dksL_law_95 9 rfl rfl)
theorem dL_law_2378 : decode cL_law 2378 = .ok (.iload 4, 2) := dk_21 4 (dk_at dksL_law_95 10 rfl rfl)
theorem dL_law_2380 : decode cL_law 2380 = .ok (.iconst 1, 1) := dk_4 (dk_at dksL_law_95 12 rfl rfl)
theorem dL_law_2381 : decode cL_law 2381 = .ok (.iadd, 1) := dk_96 (dk_at dksL_law_95 13 rfl rfl)
theorem dL_law_2382 : decode cL_law 2382 = .ok (.iaload, 1) := dk_46 (dk_at dksL_law_95 14 rfl rfl)
theorem dL_law_2383 : decode cL_law 2383 = .ok (.invokevirtual 248, 3) := dk_182 0 248 (dk_at dksL_law_95 15 rfl rfl)
theorem dL_law_2386 : decode cL_law 2386 = .ok (.aload_n 2, 1) := dk_44 (dk_at dksL_law_95 18 rfl rfl)
theorem dL_law_2387 : decode cL_law 2387 = .ok (.invokevirtual 134, 3) := dk_182 0 134 (dk_at dksL_law_95 19 rfl rfl)
theorem dL_law_2390 : decode cL_law 2390 = .ok (.iload 5, 2) := dk_21 5 (dk_at dksL_law_95 22 rfl rfl)
theorem dL_law_2392 : decode cL_law 2392 = .ok (.if_icmp .eq 5, 3) := dk_159 0 5 (dk_at dksL_law_96 0 rfl rfl)
theorem dL_law_2395 : decode cL_law 2395 = .ok (.iconst 0, 1) := dk_3 (dk_at dksL_law_96 3 rfl rfl)
theorem dL_law_2396 : decode cL_law 2396 = .ok (.ireturn, 1) := dk_172 (dk_at dksL_law_96 4 rfl rfl)
theorem dL_law_2397 : decode cL_law 2397 = .ok (.goto 64, 3) := dk_167 0 64 (dk_at dksL_law_96 5 rfl rfl)
theorem dL_law_2400 : decode cL_law 2400 = .ok (.aload_n 1, 1) := dk_43 (dk_at dksL_law_96 8 rfl rfl)
theorem dL_law_2401 : decode cL_law 2401 = .ok (.aload_n 0, 1) := dk_42 (dk_at dksL_law_96 9 rfl rfl)
theorem dL_law_2402 : decode cL_law 2402 = .ok (.iload 4, 2) := dk_21 4 (dk_at dksL_law_96 10 rfl rfl)
theorem dL_law_2404 : decode cL_law 2404 = .ok (.iconst 1, 1) := dk_4 (dk_at dksL_law_96 12 rfl rfl)
theorem dL_law_2405 : decode cL_law 2405 = .ok (.iadd, 1) := dk_96 (dk_at dksL_law_96 13 rfl rfl)
theorem dL_law_2406 : decode cL_law 2406 = .ok (.iaload, 1) := dk_46 (dk_at dksL_law_96 14 rfl rfl)
theorem dL_law_2407 : decode cL_law 2407 = .ok (.invokestatic 249, 3) := dk_184 0 249 (dk_at dksL_law_96 15 rfl rfl)
theorem dL_law_2410 : decode cL_law 2410 = .ok (.istore 5, 2) := dk_54 5 (dk_at dksL_law_96 18 rfl rfl)
theorem dL_law_2412 : decode cL_law 2412 = .ok (.aload_n 2, 1) := dk_44 (dk_at dksL_law_96 20 rfl rfl)
theorem dL_law_2413 : decode cL_law 2413 = .ok (.aload_n 0, 1) := dk_42 (dk_at dksL_law_96 21 rfl rfl)
theorem dL_law_2414 : decode cL_law 2414 = .ok (.iload 4, 2) := dk_21 4 (dk_at dksL_law_96 22 rfl rfl)
theorem dL_law_2416 : decode cL_law 2416 = .ok (.iconst 1, 1) := dk_4 (dk_at dksL_law_97 0 rfl rfl)
theorem dL_law_2417 : decode cL_law 2417 = .ok (.iadd, 1) := dk_96 (dk_at dksL_law_97 1 rfl rfl)
theorem dL_law_2418 : decode cL_law 2418 = .ok (.iaload, 1) := dk_46 (dk_at dksL_law_97 2 rfl rfl)
theorem dL_law_2419 : decode cL_law 2419 = .ok (.invokevirtual 251, 3) := dk_182 0 251 (dk_at dksL_law_97 3 rfl rfl)
theorem dL_law_2422 : decode cL_law 2422 = .ok (.aload_n 2, 1) := dk_44 (dk_at dksL_law_97 6 rfl rfl)
theorem dL_law_2423 : decode cL_law 2423 = .ok (.invokevirtual 134, 3) := dk_182 0 134 (dk_at dksL_law_97 7 rfl rfl)
theorem dL_law_2426 : decode cL_law 2426 = .ok (.iload 5, 2) := dk_21 5 (dk_at dksL_law_97 10 rfl rfl)
theorem dL_law_2428 : decode cL_law 2428 = .ok (.if_icmp .eq 5, 3) := dk_159 0 5 (dk_at dksL_law_97 12 rfl rfl)
theorem dL_law_2431 : decode cL_law 2431 = .ok (.iconst 0, 1) := dk_3 (dk_at dksL_law_97 15 rfl rfl)
theorem dL_law_2432 : decode cL_law 2432 = .ok (.ireturn, 1) := dk_172 (dk_at dksL_law_97 16 rfl rfl)
theorem dL_law_2433 : decode cL_law 2433 = .ok (.goto 28, 3) := dk_167 0 28 (dk_at dksL_law_97 17 rfl rfl)
theorem dL_law_2436 : decode cL_law 2436 = .ok (.aload_n 1, 1) := dk_43 (dk_at dksL_law_97 20 rfl rfl)
theorem dL_law_2437 : decode cL_law 2437 = .ok (.aload_n 0, 1) := dk_42 (dk_at dksL_law_97 21 rfl rfl)
theorem dL_law_2438 : decode cL_law 2438 = .ok (.iload 4, 2) := dk_21 4 (dk_at dksL_law_97 22 rfl rfl)
theorem dL_law_2440 : decode cL_law 2440 = .ok (.iconst 1, 1) := dk_4 (dk_at dksL_law_98 0 rfl rfl)
theorem dL_law_2441 : decode cL_law 2441 = .ok (.iadd, 1) := dk_96 (dk_at dksL_law_98 1 rfl rfl)
theorem dL_law_2442 : decode cL_law 2442 = .ok (.iaload, 1) := dk_46 (dk_at dksL_law_98 2 rfl rfl)
theorem dL_law_2443 : decode cL_law 2443 = .ok (.invokevirtual 252, 3) := dk_182 0 252 (dk_at dksL_law_98 3 rfl rfl)
theorem dL_law_2446 : decode cL_law 2446 = .ok (.aload_n 2, 1) := dk_44 (dk_at dksL_law_98 6 rfl rfl)
theorem dL_law_2447 : decode cL_law 2447 = .ok (.aload_n 0, 1) := dk_42 (dk_at dksL_law_98 7 rfl rfl)
theorem dL_law_2448 : decode cL_law 2448 = .ok (.iload 4, 2) := dk_21 4 (dk_at dksL_law_98 8 rfl rfl)
theorem dL_law_2450 : decode cL_law 2450 = .ok (.iconst 1, 1) := dk_4 (dk_at dksL_law_98 10 rfl rfl)
theorem dL_law_2451 : decode cL_law 2451 = .ok (.iadd, 1) := dk_96 (dk_at dksL_law_98 11 rfl rfl)
theorem dL_law_2452 : decode cL_law 2452 = .ok (.iaload, 1) := dk_46 (dk_at dksL_law_98 12 rfl rfl)
theorem dL_law_2453 : decode cL_law 2453 = .ok (.invokevirtual 255, 3) := dk_182 0 255 (dk_at dksL_law_98 13 rfl rfl)
theorem dL_law_2456 : decode cL_law 2456 = .ok (.if_icmp .eq 5, 3) := dk_159 0 5 (dk_at dksL_law_98 16 rfl rfl)
theorem dL_law_2459 : decode cL_law 2459 = .ok (.iconst 0, 1) := dk_3 (dk_at dksL_law_98 19 rfl rfl)
theorem dL_law_2460 : decode cL_law 2460 = .ok (.ireturn, 1) := dk_172 (dk_at dksL_law_98 20 rfl rfl)
theorem dL_law_2461 : decode cL_law 2461 = .ok (.iinc 4 6, 3) := dk_132 4 6 (dk_at dksL_law_98 21 rfl rfl)
theorem dL_law_2464 : decode cL_law 2464 = .ok (.goto (-2441), 3) := dk_167 246 119 (dk_at dksL_law_99 0 rfl rfl)
theorem dL_law_2467 : decode cL_law 2467 = .ok (.iconst 1, 1) := dk_4 (dk_at dksL_law_99 3 rfl rfl)
theorem dL_law_2468 : decode cL_law 2468 = .ok (.ireturn, 1) := dk_172 (dk_at dksL_law_99 4 rfl rfl)

/-! TwoSlipsLaw -/
set_option maxRecDepth 100000
def RX0 : String := "TwoSlipsLaw"
abbrev cX0_talk : ByteArray := method_3_code
def yX0_talk : MethodName := ⟨RX0, "talk", "(LTwoSlips;I[J)I"⟩
def dkwX0_talk_0 : List UInt8 := [44, 3, 42, 27, 182, 0, 7, 133, 80, 167, 0, 6, 78, 4, 172, 3, 172]
abbrev dktX0_talk_0 : List UInt8 := dkwX0_talk_0 ++ []
theorem dksX0_talk_0 : cX0_talk.data.toList.drop 0 = dktX0_talk_0 := by decide +kernel
theorem dX0_talk_0 : decode cX0_talk 0 = .ok (.aload_n 2, 1) := dk_44 (dk_at dksX0_talk_0 0 rfl rfl)
theorem dX0_talk_1 : decode cX0_talk 1 = .ok (.iconst 0, 1) := dk_3 (dk_at dksX0_talk_0 1 rfl rfl)
theorem dX0_talk_2 : decode cX0_talk 2 = .ok (.aload_n 0, 1) := dk_42 (dk_at dksX0_talk_0 2 rfl rfl)
theorem dX0_talk_3 : decode cX0_talk 3 = .ok (.iload_n 1, 1) := dk_27 (dk_at dksX0_talk_0 3 rfl rfl)
theorem dX0_talk_4 : decode cX0_talk 4 = .ok (.invokevirtual 7, 3) := dk_182 0 7 (dk_at dksX0_talk_0 4 rfl rfl)
theorem dX0_talk_7 : decode cX0_talk 7 = .ok (.i2l, 1) := dk_133 (dk_at dksX0_talk_0 7 rfl rfl)
theorem dX0_talk_8 : decode cX0_talk 8 = .ok (.lastore, 1) := dk_80 (dk_at dksX0_talk_0 8 rfl rfl)
theorem dX0_talk_9 : decode cX0_talk 9 = .ok (.goto 6, 3) := dk_167 0 6 (dk_at dksX0_talk_0 9 rfl rfl)
theorem dX0_talk_12 : decode cX0_talk 12 = .ok (.astore_n 3, 1) := dk_78 (dk_at dksX0_talk_0 12 rfl rfl)
theorem dX0_talk_13 : decode cX0_talk 13 = .ok (.iconst 1, 1) := dk_4 (dk_at dksX0_talk_0 13 rfl rfl)
theorem dX0_talk_14 : decode cX0_talk 14 = .ok (.ireturn, 1) := dk_172 (dk_at dksX0_talk_0 14 rfl rfl)
theorem dX0_talk_15 : decode cX0_talk 15 = .ok (.iconst 0, 1) := dk_3 (dk_at dksX0_talk_0 15 rfl rfl)
theorem dX0_talk_16 : decode cX0_talk 16 = .ok (.ireturn, 1) := dk_172 (dk_at dksX0_talk_0 16 rfl rfl)
abbrev cX0_world : ByteArray := method_4_code
def yX0_world : MethodName := ⟨RX0, "world", "(LTwoSlips;II[J)I"⟩
def dkwX0_world_0 : List UInt8 := [45, 3, 42, 27, 28, 182, 0, 15, 133, 80, 167, 0, 11, 58, 4, 4, 172, 58, 4, 5, 172, 3, 172]
abbrev dktX0_world_0 : List UInt8 := dkwX0_world_0 ++ []
theorem dksX0_world_0 : cX0_world.data.toList.drop 0 = dktX0_world_0 := by decide +kernel
theorem dX0_world_0 : decode cX0_world 0 = .ok (.aload_n 3, 1) := dk_45 (dk_at dksX0_world_0 0 rfl rfl)
theorem dX0_world_1 : decode cX0_world 1 = .ok (.iconst 0, 1) := dk_3 (dk_at dksX0_world_0 1 rfl rfl)
theorem dX0_world_2 : decode cX0_world 2 = .ok (.aload_n 0, 1) := dk_42 (dk_at dksX0_world_0 2 rfl rfl)
theorem dX0_world_3 : decode cX0_world 3 = .ok (.iload_n 1, 1) := dk_27 (dk_at dksX0_world_0 3 rfl rfl)
theorem dX0_world_4 : decode cX0_world 4 = .ok (.iload_n 2, 1) := dk_28 (dk_at dksX0_world_0 4 rfl rfl)
theorem dX0_world_5 : decode cX0_world 5 = .ok (.invokevirtual 15, 3) := dk_182 0 15 (dk_at dksX0_world_0 5 rfl rfl)
theorem dX0_world_8 : decode cX0_world 8 = .ok (.i2l, 1) := dk_133 (dk_at dksX0_world_0 8 rfl rfl)
theorem dX0_world_9 : decode cX0_world 9 = .ok (.lastore, 1) := dk_80 (dk_at dksX0_world_0 9 rfl rfl)
theorem dX0_world_10 : decode cX0_world 10 = .ok (.goto 11, 3) := dk_167 0 11 (dk_at dksX0_world_0 10 rfl rfl)
theorem dX0_world_13 : decode cX0_world 13 = .ok (.astore 4, 2) := dk_58 4 (dk_at dksX0_world_0 13 rfl rfl)
theorem dX0_world_15 : decode cX0_world 15 = .ok (.iconst 1, 1) := dk_4 (dk_at dksX0_world_0 15 rfl rfl)
theorem dX0_world_16 : decode cX0_world 16 = .ok (.ireturn, 1) := dk_172 (dk_at dksX0_world_0 16 rfl rfl)
theorem dX0_world_17 : decode cX0_world 17 = .ok (.astore 4, 2) := dk_58 4 (dk_at dksX0_world_0 17 rfl rfl)
theorem dX0_world_19 : decode cX0_world 19 = .ok (.iconst 2, 1) := dk_5 (dk_at dksX0_world_0 19 rfl rfl)
theorem dX0_world_20 : decode cX0_world 20 = .ok (.ireturn, 1) := dk_172 (dk_at dksX0_world_0 20 rfl rfl)
theorem dX0_world_21 : decode cX0_world 21 = .ok (.iconst 0, 1) := dk_3 (dk_at dksX0_world_0 21 rfl rfl)
theorem dX0_world_22 : decode cX0_world 22 = .ok (.ireturn, 1) := dk_172 (dk_at dksX0_world_0 22 rfl rfl)
abbrev cX0_told : ByteArray := method_5_code
def yX0_told : MethodName := ⟨RX0, "told", "(LTwoSlips;II[J)I"⟩
def dkwX0_told_0 : List UInt8 := [45, 3, 42, 27, 28, 182, 0, 21, 133, 80, 167, 0, 7, 58, 4, 4, 172, 3, 172]
abbrev dktX0_told_0 : List UInt8 := dkwX0_told_0 ++ []
theorem dksX0_told_0 : cX0_told.data.toList.drop 0 = dktX0_told_0 := by decide +kernel
theorem dX0_told_0 : decode cX0_told 0 = .ok (.aload_n 3, 1) := dk_45 (dk_at dksX0_told_0 0 rfl rfl)
theorem dX0_told_1 : decode cX0_told 1 = .ok (.iconst 0, 1) := dk_3 (dk_at dksX0_told_0 1 rfl rfl)
theorem dX0_told_2 : decode cX0_told 2 = .ok (.aload_n 0, 1) := dk_42 (dk_at dksX0_told_0 2 rfl rfl)
theorem dX0_told_3 : decode cX0_told 3 = .ok (.iload_n 1, 1) := dk_27 (dk_at dksX0_told_0 3 rfl rfl)
theorem dX0_told_4 : decode cX0_told 4 = .ok (.iload_n 2, 1) := dk_28 (dk_at dksX0_told_0 4 rfl rfl)
theorem dX0_told_5 : decode cX0_told 5 = .ok (.invokevirtual 21, 3) := dk_182 0 21 (dk_at dksX0_told_0 5 rfl rfl)
theorem dX0_told_8 : decode cX0_told 8 = .ok (.i2l, 1) := dk_133 (dk_at dksX0_told_0 8 rfl rfl)
theorem dX0_told_9 : decode cX0_told 9 = .ok (.lastore, 1) := dk_80 (dk_at dksX0_told_0 9 rfl rfl)
theorem dX0_told_10 : decode cX0_told 10 = .ok (.goto 7, 3) := dk_167 0 7 (dk_at dksX0_told_0 10 rfl rfl)
theorem dX0_told_13 : decode cX0_told 13 = .ok (.astore 4, 2) := dk_58 4 (dk_at dksX0_told_0 13 rfl rfl)
theorem dX0_told_15 : decode cX0_told 15 = .ok (.iconst 1, 1) := dk_4 (dk_at dksX0_told_0 15 rfl rfl)
theorem dX0_told_16 : decode cX0_told 16 = .ok (.ireturn, 1) := dk_172 (dk_at dksX0_told_0 16 rfl rfl)
theorem dX0_told_17 : decode cX0_told 17 = .ok (.iconst 0, 1) := dk_3 (dk_at dksX0_told_0 17 rfl rfl)
theorem dX0_told_18 : decode cX0_told 18 = .ok (.ireturn, 1) := dk_172 (dk_at dksX0_told_0 18 rfl rfl)
abbrev cX0_speaker : ByteArray := method_6_code
def yX0_speaker : MethodName := ⟨RX0, "speaker", "(LTwoSlips;II[J)I"⟩
def dkwX0_speaker_0 : List UInt8 := [45, 3, 42, 27, 28, 182, 0, 24, 133, 80, 167, 0, 11, 58, 4, 4, 172, 58, 4, 5, 172, 3, 172]
abbrev dktX0_speaker_0 : List UInt8 := dkwX0_speaker_0 ++ []
theorem dksX0_speaker_0 : cX0_speaker.data.toList.drop 0 = dktX0_speaker_0 := by decide +kernel
theorem dX0_speaker_0 : decode cX0_speaker 0 = .ok (.aload_n 3, 1) := dk_45 (dk_at dksX0_speaker_0 0 rfl rfl)
theorem dX0_speaker_1 : decode cX0_speaker 1 = .ok (.iconst 0, 1) := dk_3 (dk_at dksX0_speaker_0 1 rfl rfl)
theorem dX0_speaker_2 : decode cX0_speaker 2 = .ok (.aload_n 0, 1) := dk_42 (dk_at dksX0_speaker_0 2 rfl rfl)
theorem dX0_speaker_3 : decode cX0_speaker 3 = .ok (.iload_n 1, 1) := dk_27 (dk_at dksX0_speaker_0 3 rfl rfl)
theorem dX0_speaker_4 : decode cX0_speaker 4 = .ok (.iload_n 2, 1) := dk_28 (dk_at dksX0_speaker_0 4 rfl rfl)
theorem dX0_speaker_5 : decode cX0_speaker 5 = .ok (.invokevirtual 24, 3) := dk_182 0 24 (dk_at dksX0_speaker_0 5 rfl rfl)
theorem dX0_speaker_8 : decode cX0_speaker 8 = .ok (.i2l, 1) := dk_133 (dk_at dksX0_speaker_0 8 rfl rfl)
theorem dX0_speaker_9 : decode cX0_speaker 9 = .ok (.lastore, 1) := dk_80 (dk_at dksX0_speaker_0 9 rfl rfl)
theorem dX0_speaker_10 : decode cX0_speaker 10 = .ok (.goto 11, 3) := dk_167 0 11 (dk_at dksX0_speaker_0 10 rfl rfl)
theorem dX0_speaker_13 : decode cX0_speaker 13 = .ok (.astore 4, 2) := dk_58 4 (dk_at dksX0_speaker_0 13 rfl rfl)
theorem dX0_speaker_15 : decode cX0_speaker 15 = .ok (.iconst 1, 1) := dk_4 (dk_at dksX0_speaker_0 15 rfl rfl)
theorem dX0_speaker_16 : decode cX0_speaker 16 = .ok (.ireturn, 1) := dk_172 (dk_at dksX0_speaker_0 16 rfl rfl)
theorem dX0_speaker_17 : decode cX0_speaker 17 = .ok (.astore 4, 2) := dk_58 4 (dk_at dksX0_speaker_0 17 rfl rfl)
theorem dX0_speaker_19 : decode cX0_speaker 19 = .ok (.iconst 2, 1) := dk_5 (dk_at dksX0_speaker_0 19 rfl rfl)
theorem dX0_speaker_20 : decode cX0_speaker 20 = .ok (.ireturn, 1) := dk_172 (dk_at dksX0_speaker_0 20 rfl rfl)
theorem dX0_speaker_21 : decode cX0_speaker 21 = .ok (.iconst 0, 1) := dk_3 (dk_at dksX0_speaker_0 21 rfl rfl)
theorem dX0_speaker_22 : decode cX0_speaker 22 = .ok (.ireturn, 1) := dk_172 (dk_at dksX0_speaker_0 22 rfl rfl)
abbrev cX0_turn : ByteArray := method_7_code
def yX0_turn : MethodName := ⟨RX0, "turn", "(LTwoSlips;I[J)I"⟩
def dkwX0_turn_0 : List UInt8 := [44, 3, 42, 27, 182, 0, 27, 133, 80, 167, 0, 6, 78, 4, 172, 3, 172]
abbrev dktX0_turn_0 : List UInt8 := dkwX0_turn_0 ++ []
theorem dksX0_turn_0 : cX0_turn.data.toList.drop 0 = dktX0_turn_0 := by decide +kernel
theorem dX0_turn_0 : decode cX0_turn 0 = .ok (.aload_n 2, 1) := dk_44 (dk_at dksX0_turn_0 0 rfl rfl)
theorem dX0_turn_1 : decode cX0_turn 1 = .ok (.iconst 0, 1) := dk_3 (dk_at dksX0_turn_0 1 rfl rfl)
theorem dX0_turn_2 : decode cX0_turn 2 = .ok (.aload_n 0, 1) := dk_42 (dk_at dksX0_turn_0 2 rfl rfl)
theorem dX0_turn_3 : decode cX0_turn 3 = .ok (.iload_n 1, 1) := dk_27 (dk_at dksX0_turn_0 3 rfl rfl)
theorem dX0_turn_4 : decode cX0_turn 4 = .ok (.invokevirtual 27, 3) := dk_182 0 27 (dk_at dksX0_turn_0 4 rfl rfl)
theorem dX0_turn_7 : decode cX0_turn 7 = .ok (.i2l, 1) := dk_133 (dk_at dksX0_turn_0 7 rfl rfl)
theorem dX0_turn_8 : decode cX0_turn 8 = .ok (.lastore, 1) := dk_80 (dk_at dksX0_turn_0 8 rfl rfl)
theorem dX0_turn_9 : decode cX0_turn 9 = .ok (.goto 6, 3) := dk_167 0 6 (dk_at dksX0_turn_0 9 rfl rfl)
theorem dX0_turn_12 : decode cX0_turn 12 = .ok (.astore_n 3, 1) := dk_78 (dk_at dksX0_turn_0 12 rfl rfl)
theorem dX0_turn_13 : decode cX0_turn 13 = .ok (.iconst 1, 1) := dk_4 (dk_at dksX0_turn_0 13 rfl rfl)
theorem dX0_turn_14 : decode cX0_turn 14 = .ok (.ireturn, 1) := dk_172 (dk_at dksX0_turn_0 14 rfl rfl)
theorem dX0_turn_15 : decode cX0_turn 15 = .ok (.iconst 0, 1) := dk_3 (dk_at dksX0_turn_0 15 rfl rfl)
theorem dX0_turn_16 : decode cX0_turn 16 = .ok (.ireturn, 1) := dk_172 (dk_at dksX0_turn_0 16 rfl rfl)
abbrev cX0_left : ByteArray := method_8_code
def yX0_left : MethodName := ⟨RX0, "left", "(LTwoSlips;I[J)I"⟩
def dkwX0_left_0 : List UInt8 := [44, 3, 42, 27, 182, 0, 30, 133, 80, 167, 0, 6, 78, 4, 172, 3, 172]
abbrev dktX0_left_0 : List UInt8 := dkwX0_left_0 ++ []
theorem dksX0_left_0 : cX0_left.data.toList.drop 0 = dktX0_left_0 := by decide +kernel
theorem dX0_left_0 : decode cX0_left 0 = .ok (.aload_n 2, 1) := dk_44 (dk_at dksX0_left_0 0 rfl rfl)
theorem dX0_left_1 : decode cX0_left 1 = .ok (.iconst 0, 1) := dk_3 (dk_at dksX0_left_0 1 rfl rfl)
theorem dX0_left_2 : decode cX0_left 2 = .ok (.aload_n 0, 1) := dk_42 (dk_at dksX0_left_0 2 rfl rfl)
theorem dX0_left_3 : decode cX0_left 3 = .ok (.iload_n 1, 1) := dk_27 (dk_at dksX0_left_0 3 rfl rfl)
theorem dX0_left_4 : decode cX0_left 4 = .ok (.invokevirtual 30, 3) := dk_182 0 30 (dk_at dksX0_left_0 4 rfl rfl)
theorem dX0_left_7 : decode cX0_left 7 = .ok (.i2l, 1) := dk_133 (dk_at dksX0_left_0 7 rfl rfl)
theorem dX0_left_8 : decode cX0_left 8 = .ok (.lastore, 1) := dk_80 (dk_at dksX0_left_0 8 rfl rfl)
theorem dX0_left_9 : decode cX0_left 9 = .ok (.goto 6, 3) := dk_167 0 6 (dk_at dksX0_left_0 9 rfl rfl)
theorem dX0_left_12 : decode cX0_left 12 = .ok (.astore_n 3, 1) := dk_78 (dk_at dksX0_left_0 12 rfl rfl)
theorem dX0_left_13 : decode cX0_left 13 = .ok (.iconst 1, 1) := dk_4 (dk_at dksX0_left_0 13 rfl rfl)
theorem dX0_left_14 : decode cX0_left 14 = .ok (.ireturn, 1) := dk_172 (dk_at dksX0_left_0 14 rfl rfl)
theorem dX0_left_15 : decode cX0_left 15 = .ok (.iconst 0, 1) := dk_3 (dk_at dksX0_left_0 15 rfl rfl)
theorem dX0_left_16 : decode cX0_left 16 = .ok (.ireturn, 1) := dk_172 (dk_at dksX0_left_0 16 rfl rfl)
abbrev cX0_leftAt : ByteArray := method_9_code
def yX0_leftAt : MethodName := ⟨RX0, "leftAt", "(LTwoSlips;II[J)I"⟩
def dkwX0_leftAt_0 : List UInt8 := [45, 3, 42, 27, 28, 182, 0, 33, 133, 80, 167, 0, 7, 58, 4, 4, 172, 3, 172]
abbrev dktX0_leftAt_0 : List UInt8 := dkwX0_leftAt_0 ++ []
theorem dksX0_leftAt_0 : cX0_leftAt.data.toList.drop 0 = dktX0_leftAt_0 := by decide +kernel
theorem dX0_leftAt_0 : decode cX0_leftAt 0 = .ok (.aload_n 3, 1) := dk_45 (dk_at dksX0_leftAt_0 0 rfl rfl)
theorem dX0_leftAt_1 : decode cX0_leftAt 1 = .ok (.iconst 0, 1) := dk_3 (dk_at dksX0_leftAt_0 1 rfl rfl)
theorem dX0_leftAt_2 : decode cX0_leftAt 2 = .ok (.aload_n 0, 1) := dk_42 (dk_at dksX0_leftAt_0 2 rfl rfl)
theorem dX0_leftAt_3 : decode cX0_leftAt 3 = .ok (.iload_n 1, 1) := dk_27 (dk_at dksX0_leftAt_0 3 rfl rfl)
theorem dX0_leftAt_4 : decode cX0_leftAt 4 = .ok (.iload_n 2, 1) := dk_28 (dk_at dksX0_leftAt_0 4 rfl rfl)
theorem dX0_leftAt_5 : decode cX0_leftAt 5 = .ok (.invokevirtual 33, 3) := dk_182 0 33 (dk_at dksX0_leftAt_0 5 rfl rfl)
theorem dX0_leftAt_8 : decode cX0_leftAt 8 = .ok (.i2l, 1) := dk_133 (dk_at dksX0_leftAt_0 8 rfl rfl)
theorem dX0_leftAt_9 : decode cX0_leftAt 9 = .ok (.lastore, 1) := dk_80 (dk_at dksX0_leftAt_0 9 rfl rfl)
theorem dX0_leftAt_10 : decode cX0_leftAt 10 = .ok (.goto 7, 3) := dk_167 0 7 (dk_at dksX0_leftAt_0 10 rfl rfl)
theorem dX0_leftAt_13 : decode cX0_leftAt 13 = .ok (.astore 4, 2) := dk_58 4 (dk_at dksX0_leftAt_0 13 rfl rfl)
theorem dX0_leftAt_15 : decode cX0_leftAt 15 = .ok (.iconst 1, 1) := dk_4 (dk_at dksX0_leftAt_0 15 rfl rfl)
theorem dX0_leftAt_16 : decode cX0_leftAt 16 = .ok (.ireturn, 1) := dk_172 (dk_at dksX0_leftAt_0 16 rfl rfl)
theorem dX0_leftAt_17 : decode cX0_leftAt 17 = .ok (.iconst 0, 1) := dk_3 (dk_at dksX0_leftAt_0 17 rfl rfl)
theorem dX0_leftAt_18 : decode cX0_leftAt 18 = .ok (.ireturn, 1) := dk_172 (dk_at dksX0_leftAt_0 18 rfl rfl)
abbrev cX0_isLeft : ByteArray := method_10_code
def yX0_isLeft : MethodName := ⟨RX0, "isLeft", "(LTwoSlips;II[J)I"⟩
def dkwX0_isLeft_1 : List UInt8 := [58, 4, 5, 172, 3, 172]
abbrev dktX0_isLeft_1 : List UInt8 := dkwX0_isLeft_1 ++ []
def dkwX0_isLeft_0 : List UInt8 := [45, 3, 42, 27, 28, 182, 0, 36, 153, 0, 7, 10, 167, 0, 4, 9, 80, 167, 0, 11, 58, 4, 4, 172]
abbrev dktX0_isLeft_0 : List UInt8 := dkwX0_isLeft_0 ++ dktX0_isLeft_1
theorem dksX0_isLeft_0 : cX0_isLeft.data.toList.drop 0 = dktX0_isLeft_0 := by decide +kernel
theorem dksX0_isLeft_1 : cX0_isLeft.data.toList.drop 24 = dktX0_isLeft_1 := dk_seg dksX0_isLeft_0 24 rfl rfl
theorem dX0_isLeft_0 : decode cX0_isLeft 0 = .ok (.aload_n 3, 1) := dk_45 (dk_at dksX0_isLeft_0 0 rfl rfl)
theorem dX0_isLeft_1 : decode cX0_isLeft 1 = .ok (.iconst 0, 1) := dk_3 (dk_at dksX0_isLeft_0 1 rfl rfl)
theorem dX0_isLeft_2 : decode cX0_isLeft 2 = .ok (.aload_n 0, 1) := dk_42 (dk_at dksX0_isLeft_0 2 rfl rfl)
theorem dX0_isLeft_3 : decode cX0_isLeft 3 = .ok (.iload_n 1, 1) := dk_27 (dk_at dksX0_isLeft_0 3 rfl rfl)
theorem dX0_isLeft_4 : decode cX0_isLeft 4 = .ok (.iload_n 2, 1) := dk_28 (dk_at dksX0_isLeft_0 4 rfl rfl)
theorem dX0_isLeft_5 : decode cX0_isLeft 5 = .ok (.invokevirtual 36, 3) := dk_182 0 36 (dk_at dksX0_isLeft_0 5 rfl rfl)
theorem dX0_isLeft_8 : decode cX0_isLeft 8 = .ok (.ifCond .eq 7, 3) := dk_153 0 7 (dk_at dksX0_isLeft_0 8 rfl rfl)
theorem dX0_isLeft_11 : decode cX0_isLeft 11 = .ok (.lconst 1, 1) := dk_10 (dk_at dksX0_isLeft_0 11 rfl rfl)
theorem dX0_isLeft_12 : decode cX0_isLeft 12 = .ok (.goto 4, 3) := dk_167 0 4 (dk_at dksX0_isLeft_0 12 rfl rfl)
theorem dX0_isLeft_15 : decode cX0_isLeft 15 = .ok (.lconst 0, 1) := dk_9 (dk_at dksX0_isLeft_0 15 rfl rfl)
theorem dX0_isLeft_16 : decode cX0_isLeft 16 = .ok (.lastore, 1) := dk_80 (dk_at dksX0_isLeft_0 16 rfl rfl)
theorem dX0_isLeft_17 : decode cX0_isLeft 17 = .ok (.goto 11, 3) := dk_167 0 11 (dk_at dksX0_isLeft_0 17 rfl rfl)
theorem dX0_isLeft_20 : decode cX0_isLeft 20 = .ok (.astore 4, 2) := dk_58 4 (dk_at dksX0_isLeft_0 20 rfl rfl)
theorem dX0_isLeft_22 : decode cX0_isLeft 22 = .ok (.iconst 1, 1) := dk_4 (dk_at dksX0_isLeft_0 22 rfl rfl)
theorem dX0_isLeft_23 : decode cX0_isLeft 23 = .ok (.ireturn, 1) := dk_172 (dk_at dksX0_isLeft_0 23 rfl rfl)
theorem dX0_isLeft_24 : decode cX0_isLeft 24 = .ok (.astore 4, 2) := dk_58 4 (dk_at dksX0_isLeft_1 0 rfl rfl)
theorem dX0_isLeft_26 : decode cX0_isLeft 26 = .ok (.iconst 2, 1) := dk_5 (dk_at dksX0_isLeft_1 2 rfl rfl)
theorem dX0_isLeft_27 : decode cX0_isLeft 27 = .ok (.ireturn, 1) := dk_172 (dk_at dksX0_isLeft_1 3 rfl rfl)
theorem dX0_isLeft_28 : decode cX0_isLeft 28 = .ok (.iconst 0, 1) := dk_3 (dk_at dksX0_isLeft_1 4 rfl rfl)
theorem dX0_isLeft_29 : decode cX0_isLeft 29 = .ok (.ireturn, 1) := dk_172 (dk_at dksX0_isLeft_1 5 rfl rfl)
abbrev cX0_so : ByteArray := method_11_code
def yX0_so : MethodName := ⟨RX0, "so", "(LTwoSlips;II[J)I"⟩
def dkwX0_so_1 : List UInt8 := [3, 172]
abbrev dktX0_so_1 : List UInt8 := dkwX0_so_1 ++ []
def dkwX0_so_0 : List UInt8 := [45, 3, 42, 27, 28, 182, 0, 40, 153, 0, 7, 10, 167, 0, 4, 9, 80, 167, 0, 7, 58, 4, 4, 172]
abbrev dktX0_so_0 : List UInt8 := dkwX0_so_0 ++ dktX0_so_1
theorem dksX0_so_0 : cX0_so.data.toList.drop 0 = dktX0_so_0 := by decide +kernel
theorem dksX0_so_1 : cX0_so.data.toList.drop 24 = dktX0_so_1 := dk_seg dksX0_so_0 24 rfl rfl
theorem dX0_so_0 : decode cX0_so 0 = .ok (.aload_n 3, 1) := dk_45 (dk_at dksX0_so_0 0 rfl rfl)
theorem dX0_so_1 : decode cX0_so 1 = .ok (.iconst 0, 1) := dk_3 (dk_at dksX0_so_0 1 rfl rfl)
theorem dX0_so_2 : decode cX0_so 2 = .ok (.aload_n 0, 1) := dk_42 (dk_at dksX0_so_0 2 rfl rfl)
theorem dX0_so_3 : decode cX0_so 3 = .ok (.iload_n 1, 1) := dk_27 (dk_at dksX0_so_0 3 rfl rfl)
theorem dX0_so_4 : decode cX0_so 4 = .ok (.iload_n 2, 1) := dk_28 (dk_at dksX0_so_0 4 rfl rfl)
theorem dX0_so_5 : decode cX0_so 5 = .ok (.invokevirtual 40, 3) := dk_182 0 40 (dk_at dksX0_so_0 5 rfl rfl)
theorem dX0_so_8 : decode cX0_so 8 = .ok (.ifCond .eq 7, 3) := dk_153 0 7 (dk_at dksX0_so_0 8 rfl rfl)
theorem dX0_so_11 : decode cX0_so 11 = .ok (.lconst 1, 1) := dk_10 (dk_at dksX0_so_0 11 rfl rfl)
theorem dX0_so_12 : decode cX0_so 12 = .ok (.goto 4, 3) := dk_167 0 4 (dk_at dksX0_so_0 12 rfl rfl)
theorem dX0_so_15 : decode cX0_so 15 = .ok (.lconst 0, 1) := dk_9 (dk_at dksX0_so_0 15 rfl rfl)
theorem dX0_so_16 : decode cX0_so 16 = .ok (.lastore, 1) := dk_80 (dk_at dksX0_so_0 16 rfl rfl)
theorem dX0_so_17 : decode cX0_so 17 = .ok (.goto 7, 3) := dk_167 0 7 (dk_at dksX0_so_0 17 rfl rfl)
theorem dX0_so_20 : decode cX0_so 20 = .ok (.astore 4, 2) := dk_58 4 (dk_at dksX0_so_0 20 rfl rfl)
theorem dX0_so_22 : decode cX0_so 22 = .ok (.iconst 1, 1) := dk_4 (dk_at dksX0_so_0 22 rfl rfl)
theorem dX0_so_23 : decode cX0_so 23 = .ok (.ireturn, 1) := dk_172 (dk_at dksX0_so_0 23 rfl rfl)
theorem dX0_so_24 : decode cX0_so 24 = .ok (.iconst 0, 1) := dk_3 (dk_at dksX0_so_1 0 rfl rfl)
theorem dX0_so_25 : decode cX0_so 25 = .ok (.ireturn, 1) := dk_172 (dk_at dksX0_so_1 1 rfl rfl)
abbrev cX0_may : ByteArray := method_12_code
def yX0_may : MethodName := ⟨RX0, "may", "(LTwoSlips;II[J)I"⟩
def dkwX0_may_1 : List UInt8 := [3, 172]
abbrev dktX0_may_1 : List UInt8 := dkwX0_may_1 ++ []
def dkwX0_may_0 : List UInt8 := [45, 3, 42, 27, 28, 182, 0, 43, 153, 0, 7, 10, 167, 0, 4, 9, 80, 167, 0, 7, 58, 4, 4, 172]
abbrev dktX0_may_0 : List UInt8 := dkwX0_may_0 ++ dktX0_may_1
theorem dksX0_may_0 : cX0_may.data.toList.drop 0 = dktX0_may_0 := by decide +kernel
theorem dksX0_may_1 : cX0_may.data.toList.drop 24 = dktX0_may_1 := dk_seg dksX0_may_0 24 rfl rfl
theorem dX0_may_0 : decode cX0_may 0 = .ok (.aload_n 3, 1) := dk_45 (dk_at dksX0_may_0 0 rfl rfl)
theorem dX0_may_1 : decode cX0_may 1 = .ok (.iconst 0, 1) := dk_3 (dk_at dksX0_may_0 1 rfl rfl)
theorem dX0_may_2 : decode cX0_may 2 = .ok (.aload_n 0, 1) := dk_42 (dk_at dksX0_may_0 2 rfl rfl)
theorem dX0_may_3 : decode cX0_may 3 = .ok (.iload_n 1, 1) := dk_27 (dk_at dksX0_may_0 3 rfl rfl)
theorem dX0_may_4 : decode cX0_may 4 = .ok (.iload_n 2, 1) := dk_28 (dk_at dksX0_may_0 4 rfl rfl)
theorem dX0_may_5 : decode cX0_may 5 = .ok (.invokevirtual 43, 3) := dk_182 0 43 (dk_at dksX0_may_0 5 rfl rfl)
theorem dX0_may_8 : decode cX0_may 8 = .ok (.ifCond .eq 7, 3) := dk_153 0 7 (dk_at dksX0_may_0 8 rfl rfl)
theorem dX0_may_11 : decode cX0_may 11 = .ok (.lconst 1, 1) := dk_10 (dk_at dksX0_may_0 11 rfl rfl)
theorem dX0_may_12 : decode cX0_may 12 = .ok (.goto 4, 3) := dk_167 0 4 (dk_at dksX0_may_0 12 rfl rfl)
theorem dX0_may_15 : decode cX0_may 15 = .ok (.lconst 0, 1) := dk_9 (dk_at dksX0_may_0 15 rfl rfl)
theorem dX0_may_16 : decode cX0_may 16 = .ok (.lastore, 1) := dk_80 (dk_at dksX0_may_0 16 rfl rfl)
theorem dX0_may_17 : decode cX0_may 17 = .ok (.goto 7, 3) := dk_167 0 7 (dk_at dksX0_may_0 17 rfl rfl)
theorem dX0_may_20 : decode cX0_may 20 = .ok (.astore 4, 2) := dk_58 4 (dk_at dksX0_may_0 20 rfl rfl)
theorem dX0_may_22 : decode cX0_may 22 = .ok (.iconst 1, 1) := dk_4 (dk_at dksX0_may_0 22 rfl rfl)
theorem dX0_may_23 : decode cX0_may 23 = .ok (.ireturn, 1) := dk_172 (dk_at dksX0_may_0 23 rfl rfl)
theorem dX0_may_24 : decode cX0_may 24 = .ok (.iconst 0, 1) := dk_3 (dk_at dksX0_may_1 0 rfl rfl)
theorem dX0_may_25 : decode cX0_may 25 = .ok (.ireturn, 1) := dk_172 (dk_at dksX0_may_1 1 rfl rfl)
abbrev cX0_judge : ByteArray := method_13_code
def yX0_judge : MethodName := ⟨RX0, "judge", "(LTwoSlips;I[J)I"⟩
def dkwX0_judge_0 : List UInt8 := [44, 3, 42, 27, 182, 0, 46, 133, 80, 167, 0, 6, 78, 4, 172, 3, 172]
abbrev dktX0_judge_0 : List UInt8 := dkwX0_judge_0 ++ []
theorem dksX0_judge_0 : cX0_judge.data.toList.drop 0 = dktX0_judge_0 := by decide +kernel
theorem dX0_judge_0 : decode cX0_judge 0 = .ok (.aload_n 2, 1) := dk_44 (dk_at dksX0_judge_0 0 rfl rfl)
theorem dX0_judge_1 : decode cX0_judge 1 = .ok (.iconst 0, 1) := dk_3 (dk_at dksX0_judge_0 1 rfl rfl)
theorem dX0_judge_2 : decode cX0_judge 2 = .ok (.aload_n 0, 1) := dk_42 (dk_at dksX0_judge_0 2 rfl rfl)
theorem dX0_judge_3 : decode cX0_judge 3 = .ok (.iload_n 1, 1) := dk_27 (dk_at dksX0_judge_0 3 rfl rfl)
theorem dX0_judge_4 : decode cX0_judge 4 = .ok (.invokevirtual 46, 3) := dk_182 0 46 (dk_at dksX0_judge_0 4 rfl rfl)
theorem dX0_judge_7 : decode cX0_judge 7 = .ok (.i2l, 1) := dk_133 (dk_at dksX0_judge_0 7 rfl rfl)
theorem dX0_judge_8 : decode cX0_judge 8 = .ok (.lastore, 1) := dk_80 (dk_at dksX0_judge_0 8 rfl rfl)
theorem dX0_judge_9 : decode cX0_judge 9 = .ok (.goto 6, 3) := dk_167 0 6 (dk_at dksX0_judge_0 9 rfl rfl)
theorem dX0_judge_12 : decode cX0_judge 12 = .ok (.astore_n 3, 1) := dk_78 (dk_at dksX0_judge_0 12 rfl rfl)
theorem dX0_judge_13 : decode cX0_judge 13 = .ok (.iconst 1, 1) := dk_4 (dk_at dksX0_judge_0 13 rfl rfl)
theorem dX0_judge_14 : decode cX0_judge 14 = .ok (.ireturn, 1) := dk_172 (dk_at dksX0_judge_0 14 rfl rfl)
theorem dX0_judge_15 : decode cX0_judge 15 = .ok (.iconst 0, 1) := dk_3 (dk_at dksX0_judge_0 15 rfl rfl)
theorem dX0_judge_16 : decode cX0_judge 16 = .ok (.ireturn, 1) := dk_172 (dk_at dksX0_judge_0 16 rfl rfl)
abbrev cX0_knows : ByteArray := method_14_code
def yX0_knows : MethodName := ⟨RX0, "knows", "(LTwoSlips;III[J)I"⟩
def dkwX0_knows_1 : List UInt8 := [4, 172, 58, 5, 5, 172, 3, 172]
abbrev dktX0_knows_1 : List UInt8 := dkwX0_knows_1 ++ []
def dkwX0_knows_0 : List UInt8 := [25, 4, 3, 42, 27, 28, 29, 182, 0, 49, 153, 0, 7, 10, 167, 0, 4, 9, 80, 167, 0, 11, 58, 5]
abbrev dktX0_knows_0 : List UInt8 := dkwX0_knows_0 ++ dktX0_knows_1
theorem dksX0_knows_0 : cX0_knows.data.toList.drop 0 = dktX0_knows_0 := by decide +kernel
theorem dksX0_knows_1 : cX0_knows.data.toList.drop 24 = dktX0_knows_1 := dk_seg dksX0_knows_0 24 rfl rfl
theorem dX0_knows_0 : decode cX0_knows 0 = .ok (.aload 4, 2) := dk_25 4 (dk_at dksX0_knows_0 0 rfl rfl)
theorem dX0_knows_2 : decode cX0_knows 2 = .ok (.iconst 0, 1) := dk_3 (dk_at dksX0_knows_0 2 rfl rfl)
theorem dX0_knows_3 : decode cX0_knows 3 = .ok (.aload_n 0, 1) := dk_42 (dk_at dksX0_knows_0 3 rfl rfl)
theorem dX0_knows_4 : decode cX0_knows 4 = .ok (.iload_n 1, 1) := dk_27 (dk_at dksX0_knows_0 4 rfl rfl)
theorem dX0_knows_5 : decode cX0_knows 5 = .ok (.iload_n 2, 1) := dk_28 (dk_at dksX0_knows_0 5 rfl rfl)
theorem dX0_knows_6 : decode cX0_knows 6 = .ok (.iload_n 3, 1) := dk_29 (dk_at dksX0_knows_0 6 rfl rfl)
theorem dX0_knows_7 : decode cX0_knows 7 = .ok (.invokevirtual 49, 3) := dk_182 0 49 (dk_at dksX0_knows_0 7 rfl rfl)
theorem dX0_knows_10 : decode cX0_knows 10 = .ok (.ifCond .eq 7, 3) := dk_153 0 7 (dk_at dksX0_knows_0 10 rfl rfl)
theorem dX0_knows_13 : decode cX0_knows 13 = .ok (.lconst 1, 1) := dk_10 (dk_at dksX0_knows_0 13 rfl rfl)
theorem dX0_knows_14 : decode cX0_knows 14 = .ok (.goto 4, 3) := dk_167 0 4 (dk_at dksX0_knows_0 14 rfl rfl)
theorem dX0_knows_17 : decode cX0_knows 17 = .ok (.lconst 0, 1) := dk_9 (dk_at dksX0_knows_0 17 rfl rfl)
theorem dX0_knows_18 : decode cX0_knows 18 = .ok (.lastore, 1) := dk_80 (dk_at dksX0_knows_0 18 rfl rfl)
theorem dX0_knows_19 : decode cX0_knows 19 = .ok (.goto 11, 3) := dk_167 0 11 (dk_at dksX0_knows_0 19 rfl rfl)
theorem dX0_knows_22 : decode cX0_knows 22 = .ok (.astore 5, 2) := dk_58 5 (dk_at dksX0_knows_0 22 rfl rfl)
theorem dX0_knows_24 : decode cX0_knows 24 = .ok (.iconst 1, 1) := dk_4 (dk_at dksX0_knows_1 0 rfl rfl)
theorem dX0_knows_25 : decode cX0_knows 25 = .ok (.ireturn, 1) := dk_172 (dk_at dksX0_knows_1 1 rfl rfl)
theorem dX0_knows_26 : decode cX0_knows 26 = .ok (.astore 5, 2) := dk_58 5 (dk_at dksX0_knows_1 2 rfl rfl)
theorem dX0_knows_28 : decode cX0_knows 28 = .ok (.iconst 2, 1) := dk_5 (dk_at dksX0_knows_1 4 rfl rfl)
theorem dX0_knows_29 : decode cX0_knows 29 = .ok (.ireturn, 1) := dk_172 (dk_at dksX0_knows_1 5 rfl rfl)
theorem dX0_knows_30 : decode cX0_knows 30 = .ok (.iconst 0, 1) := dk_3 (dk_at dksX0_knows_1 6 rfl rfl)
theorem dX0_knows_31 : decode cX0_knows 31 = .ok (.ireturn, 1) := dk_172 (dk_at dksX0_knows_1 7 rfl rfl)
abbrev cX0_knowing : ByteArray := method_15_code
def yX0_knowing : MethodName := ⟨RX0, "knowing", "(LTwoSlips;II[J)I"⟩
def dkwX0_knowing_0 : List UInt8 := [45, 3, 42, 27, 28, 182, 0, 53, 133, 80, 167, 0, 11, 58, 4, 4, 172, 58, 4, 5, 172, 3, 172]
abbrev dktX0_knowing_0 : List UInt8 := dkwX0_knowing_0 ++ []
theorem dksX0_knowing_0 : cX0_knowing.data.toList.drop 0 = dktX0_knowing_0 := by decide +kernel
theorem dX0_knowing_0 : decode cX0_knowing 0 = .ok (.aload_n 3, 1) := dk_45 (dk_at dksX0_knowing_0 0 rfl rfl)
theorem dX0_knowing_1 : decode cX0_knowing 1 = .ok (.iconst 0, 1) := dk_3 (dk_at dksX0_knowing_0 1 rfl rfl)
theorem dX0_knowing_2 : decode cX0_knowing 2 = .ok (.aload_n 0, 1) := dk_42 (dk_at dksX0_knowing_0 2 rfl rfl)
theorem dX0_knowing_3 : decode cX0_knowing 3 = .ok (.iload_n 1, 1) := dk_27 (dk_at dksX0_knowing_0 3 rfl rfl)
theorem dX0_knowing_4 : decode cX0_knowing 4 = .ok (.iload_n 2, 1) := dk_28 (dk_at dksX0_knowing_0 4 rfl rfl)
theorem dX0_knowing_5 : decode cX0_knowing 5 = .ok (.invokevirtual 53, 3) := dk_182 0 53 (dk_at dksX0_knowing_0 5 rfl rfl)
theorem dX0_knowing_8 : decode cX0_knowing 8 = .ok (.i2l, 1) := dk_133 (dk_at dksX0_knowing_0 8 rfl rfl)
theorem dX0_knowing_9 : decode cX0_knowing 9 = .ok (.lastore, 1) := dk_80 (dk_at dksX0_knowing_0 9 rfl rfl)
theorem dX0_knowing_10 : decode cX0_knowing 10 = .ok (.goto 11, 3) := dk_167 0 11 (dk_at dksX0_knowing_0 10 rfl rfl)
theorem dX0_knowing_13 : decode cX0_knowing 13 = .ok (.astore 4, 2) := dk_58 4 (dk_at dksX0_knowing_0 13 rfl rfl)
theorem dX0_knowing_15 : decode cX0_knowing 15 = .ok (.iconst 1, 1) := dk_4 (dk_at dksX0_knowing_0 15 rfl rfl)
theorem dX0_knowing_16 : decode cX0_knowing 16 = .ok (.ireturn, 1) := dk_172 (dk_at dksX0_knowing_0 16 rfl rfl)
theorem dX0_knowing_17 : decode cX0_knowing 17 = .ok (.astore 4, 2) := dk_58 4 (dk_at dksX0_knowing_0 17 rfl rfl)
theorem dX0_knowing_19 : decode cX0_knowing 19 = .ok (.iconst 2, 1) := dk_5 (dk_at dksX0_knowing_0 19 rfl rfl)
theorem dX0_knowing_20 : decode cX0_knowing 20 = .ok (.ireturn, 1) := dk_172 (dk_at dksX0_knowing_0 20 rfl rfl)
theorem dX0_knowing_21 : decode cX0_knowing 21 = .ok (.iconst 0, 1) := dk_3 (dk_at dksX0_knowing_0 21 rfl rfl)
theorem dX0_knowing_22 : decode cX0_knowing 22 = .ok (.ireturn, 1) := dk_172 (dk_at dksX0_knowing_0 22 rfl rfl)
abbrev cX0_heap : ByteArray := method_16_code
def yX0_heap : MethodName := ⟨RX0, "heap", "(LTwoSlips;III[J)I"⟩
def dkwX0_heap_1 : List UInt8 := [172]
abbrev dktX0_heap_1 : List UInt8 := dkwX0_heap_1 ++ []
def dkwX0_heap_0 : List UInt8 := [25, 4, 3, 42, 27, 28, 29, 182, 0, 56, 133, 80, 167, 0, 11, 58, 5, 4, 172, 58, 5, 5, 172, 3]
abbrev dktX0_heap_0 : List UInt8 := dkwX0_heap_0 ++ dktX0_heap_1
theorem dksX0_heap_0 : cX0_heap.data.toList.drop 0 = dktX0_heap_0 := by decide +kernel
theorem dksX0_heap_1 : cX0_heap.data.toList.drop 24 = dktX0_heap_1 := dk_seg dksX0_heap_0 24 rfl rfl
theorem dX0_heap_0 : decode cX0_heap 0 = .ok (.aload 4, 2) := dk_25 4 (dk_at dksX0_heap_0 0 rfl rfl)
theorem dX0_heap_2 : decode cX0_heap 2 = .ok (.iconst 0, 1) := dk_3 (dk_at dksX0_heap_0 2 rfl rfl)
theorem dX0_heap_3 : decode cX0_heap 3 = .ok (.aload_n 0, 1) := dk_42 (dk_at dksX0_heap_0 3 rfl rfl)
theorem dX0_heap_4 : decode cX0_heap 4 = .ok (.iload_n 1, 1) := dk_27 (dk_at dksX0_heap_0 4 rfl rfl)
theorem dX0_heap_5 : decode cX0_heap 5 = .ok (.iload_n 2, 1) := dk_28 (dk_at dksX0_heap_0 5 rfl rfl)
theorem dX0_heap_6 : decode cX0_heap 6 = .ok (.iload_n 3, 1) := dk_29 (dk_at dksX0_heap_0 6 rfl rfl)
theorem dX0_heap_7 : decode cX0_heap 7 = .ok (.invokevirtual 56, 3) := dk_182 0 56 (dk_at dksX0_heap_0 7 rfl rfl)
theorem dX0_heap_10 : decode cX0_heap 10 = .ok (.i2l, 1) := dk_133 (dk_at dksX0_heap_0 10 rfl rfl)
theorem dX0_heap_11 : decode cX0_heap 11 = .ok (.lastore, 1) := dk_80 (dk_at dksX0_heap_0 11 rfl rfl)
theorem dX0_heap_12 : decode cX0_heap 12 = .ok (.goto 11, 3) := dk_167 0 11 (dk_at dksX0_heap_0 12 rfl rfl)
theorem dX0_heap_15 : decode cX0_heap 15 = .ok (.astore 5, 2) := dk_58 5 (dk_at dksX0_heap_0 15 rfl rfl)
theorem dX0_heap_17 : decode cX0_heap 17 = .ok (.iconst 1, 1) := dk_4 (dk_at dksX0_heap_0 17 rfl rfl)
theorem dX0_heap_18 : decode cX0_heap 18 = .ok (.ireturn, 1) := dk_172 (dk_at dksX0_heap_0 18 rfl rfl)
theorem dX0_heap_19 : decode cX0_heap 19 = .ok (.astore 5, 2) := dk_58 5 (dk_at dksX0_heap_0 19 rfl rfl)
theorem dX0_heap_21 : decode cX0_heap 21 = .ok (.iconst 2, 1) := dk_5 (dk_at dksX0_heap_0 21 rfl rfl)
theorem dX0_heap_22 : decode cX0_heap 22 = .ok (.ireturn, 1) := dk_172 (dk_at dksX0_heap_0 22 rfl rfl)
theorem dX0_heap_23 : decode cX0_heap 23 = .ok (.iconst 0, 1) := dk_3 (dk_at dksX0_heap_0 23 rfl rfl)
theorem dX0_heap_24 : decode cX0_heap 24 = .ok (.ireturn, 1) := dk_172 (dk_at dksX0_heap_1 0 rfl rfl)
abbrev cX0_strikes : ByteArray := method_17_code
def yX0_strikes : MethodName := ⟨RX0, "strikes", "(LTwoSlips;I[J)I"⟩
def dkwX0_strikes_0 : List UInt8 := [44, 3, 42, 27, 182, 0, 60, 133, 80, 167, 0, 6, 78, 4, 172, 3, 172]
abbrev dktX0_strikes_0 : List UInt8 := dkwX0_strikes_0 ++ []
theorem dksX0_strikes_0 : cX0_strikes.data.toList.drop 0 = dktX0_strikes_0 := by decide +kernel
theorem dX0_strikes_0 : decode cX0_strikes 0 = .ok (.aload_n 2, 1) := dk_44 (dk_at dksX0_strikes_0 0 rfl rfl)
theorem dX0_strikes_1 : decode cX0_strikes 1 = .ok (.iconst 0, 1) := dk_3 (dk_at dksX0_strikes_0 1 rfl rfl)
theorem dX0_strikes_2 : decode cX0_strikes 2 = .ok (.aload_n 0, 1) := dk_42 (dk_at dksX0_strikes_0 2 rfl rfl)
theorem dX0_strikes_3 : decode cX0_strikes 3 = .ok (.iload_n 1, 1) := dk_27 (dk_at dksX0_strikes_0 3 rfl rfl)
theorem dX0_strikes_4 : decode cX0_strikes 4 = .ok (.invokevirtual 60, 3) := dk_182 0 60 (dk_at dksX0_strikes_0 4 rfl rfl)
theorem dX0_strikes_7 : decode cX0_strikes 7 = .ok (.i2l, 1) := dk_133 (dk_at dksX0_strikes_0 7 rfl rfl)
theorem dX0_strikes_8 : decode cX0_strikes 8 = .ok (.lastore, 1) := dk_80 (dk_at dksX0_strikes_0 8 rfl rfl)
theorem dX0_strikes_9 : decode cX0_strikes 9 = .ok (.goto 6, 3) := dk_167 0 6 (dk_at dksX0_strikes_0 9 rfl rfl)
theorem dX0_strikes_12 : decode cX0_strikes 12 = .ok (.astore_n 3, 1) := dk_78 (dk_at dksX0_strikes_0 12 rfl rfl)
theorem dX0_strikes_13 : decode cX0_strikes 13 = .ok (.iconst 1, 1) := dk_4 (dk_at dksX0_strikes_0 13 rfl rfl)
theorem dX0_strikes_14 : decode cX0_strikes 14 = .ok (.ireturn, 1) := dk_172 (dk_at dksX0_strikes_0 14 rfl rfl)
theorem dX0_strikes_15 : decode cX0_strikes 15 = .ok (.iconst 0, 1) := dk_3 (dk_at dksX0_strikes_0 15 rfl rfl)
theorem dX0_strikes_16 : decode cX0_strikes 16 = .ok (.ireturn, 1) := dk_172 (dk_at dksX0_strikes_0 16 rfl rfl)
abbrev cX0_ends : ByteArray := method_18_code
def yX0_ends : MethodName := ⟨RX0, "ends", "(LTwoSlips;II[J)I"⟩
def dkwX0_ends_0 : List UInt8 := [45, 3, 42, 27, 28, 182, 0, 63, 133, 80, 167, 0, 7, 58, 4, 4, 172, 3, 172]
abbrev dktX0_ends_0 : List UInt8 := dkwX0_ends_0 ++ []
theorem dksX0_ends_0 : cX0_ends.data.toList.drop 0 = dktX0_ends_0 := by decide +kernel
theorem dX0_ends_0 : decode cX0_ends 0 = .ok (.aload_n 3, 1) := dk_45 (dk_at dksX0_ends_0 0 rfl rfl)
theorem dX0_ends_1 : decode cX0_ends 1 = .ok (.iconst 0, 1) := dk_3 (dk_at dksX0_ends_0 1 rfl rfl)
theorem dX0_ends_2 : decode cX0_ends 2 = .ok (.aload_n 0, 1) := dk_42 (dk_at dksX0_ends_0 2 rfl rfl)
theorem dX0_ends_3 : decode cX0_ends 3 = .ok (.iload_n 1, 1) := dk_27 (dk_at dksX0_ends_0 3 rfl rfl)
theorem dX0_ends_4 : decode cX0_ends 4 = .ok (.iload_n 2, 1) := dk_28 (dk_at dksX0_ends_0 4 rfl rfl)
theorem dX0_ends_5 : decode cX0_ends 5 = .ok (.invokevirtual 63, 3) := dk_182 0 63 (dk_at dksX0_ends_0 5 rfl rfl)
theorem dX0_ends_8 : decode cX0_ends 8 = .ok (.i2l, 1) := dk_133 (dk_at dksX0_ends_0 8 rfl rfl)
theorem dX0_ends_9 : decode cX0_ends 9 = .ok (.lastore, 1) := dk_80 (dk_at dksX0_ends_0 9 rfl rfl)
theorem dX0_ends_10 : decode cX0_ends 10 = .ok (.goto 7, 3) := dk_167 0 7 (dk_at dksX0_ends_0 10 rfl rfl)
theorem dX0_ends_13 : decode cX0_ends 13 = .ok (.astore 4, 2) := dk_58 4 (dk_at dksX0_ends_0 13 rfl rfl)
theorem dX0_ends_15 : decode cX0_ends 15 = .ok (.iconst 1, 1) := dk_4 (dk_at dksX0_ends_0 15 rfl rfl)
theorem dX0_ends_16 : decode cX0_ends 16 = .ok (.ireturn, 1) := dk_172 (dk_at dksX0_ends_0 16 rfl rfl)
theorem dX0_ends_17 : decode cX0_ends 17 = .ok (.iconst 0, 1) := dk_3 (dk_at dksX0_ends_0 17 rfl rfl)
theorem dX0_ends_18 : decode cX0_ends 18 = .ok (.ireturn, 1) := dk_172 (dk_at dksX0_ends_0 18 rfl rfl)
abbrev cX0_upTo : ByteArray := method_19_code
def yX0_upTo : MethodName := ⟨RX0, "upTo", "(LTwoSlips;I[J)I"⟩
def dkwX0_upTo_0 : List UInt8 := [44, 3, 42, 27, 182, 0, 66, 133, 80, 167, 0, 6, 78, 4, 172, 3, 172]
abbrev dktX0_upTo_0 : List UInt8 := dkwX0_upTo_0 ++ []
theorem dksX0_upTo_0 : cX0_upTo.data.toList.drop 0 = dktX0_upTo_0 := by decide +kernel
theorem dX0_upTo_0 : decode cX0_upTo 0 = .ok (.aload_n 2, 1) := dk_44 (dk_at dksX0_upTo_0 0 rfl rfl)
theorem dX0_upTo_1 : decode cX0_upTo 1 = .ok (.iconst 0, 1) := dk_3 (dk_at dksX0_upTo_0 1 rfl rfl)
theorem dX0_upTo_2 : decode cX0_upTo 2 = .ok (.aload_n 0, 1) := dk_42 (dk_at dksX0_upTo_0 2 rfl rfl)
theorem dX0_upTo_3 : decode cX0_upTo 3 = .ok (.iload_n 1, 1) := dk_27 (dk_at dksX0_upTo_0 3 rfl rfl)
theorem dX0_upTo_4 : decode cX0_upTo 4 = .ok (.invokevirtual 66, 3) := dk_182 0 66 (dk_at dksX0_upTo_0 4 rfl rfl)
theorem dX0_upTo_7 : decode cX0_upTo 7 = .ok (.i2l, 1) := dk_133 (dk_at dksX0_upTo_0 7 rfl rfl)
theorem dX0_upTo_8 : decode cX0_upTo 8 = .ok (.lastore, 1) := dk_80 (dk_at dksX0_upTo_0 8 rfl rfl)
theorem dX0_upTo_9 : decode cX0_upTo 9 = .ok (.goto 6, 3) := dk_167 0 6 (dk_at dksX0_upTo_0 9 rfl rfl)
theorem dX0_upTo_12 : decode cX0_upTo 12 = .ok (.astore_n 3, 1) := dk_78 (dk_at dksX0_upTo_0 12 rfl rfl)
theorem dX0_upTo_13 : decode cX0_upTo 13 = .ok (.iconst 1, 1) := dk_4 (dk_at dksX0_upTo_0 13 rfl rfl)
theorem dX0_upTo_14 : decode cX0_upTo 14 = .ok (.ireturn, 1) := dk_172 (dk_at dksX0_upTo_0 14 rfl rfl)
theorem dX0_upTo_15 : decode cX0_upTo 15 = .ok (.iconst 0, 1) := dk_3 (dk_at dksX0_upTo_0 15 rfl rfl)
theorem dX0_upTo_16 : decode cX0_upTo 16 = .ok (.ireturn, 1) := dk_172 (dk_at dksX0_upTo_0 16 rfl rfl)
abbrev cX0_rest : ByteArray := method_20_code
def yX0_rest : MethodName := ⟨RX0, "rest", "(LTwoSlips;II[J)I"⟩
def dkwX0_rest_0 : List UInt8 := [45, 3, 42, 27, 28, 182, 0, 69, 133, 80, 167, 0, 11, 58, 4, 4, 172, 58, 4, 5, 172, 3, 172]
abbrev dktX0_rest_0 : List UInt8 := dkwX0_rest_0 ++ []
theorem dksX0_rest_0 : cX0_rest.data.toList.drop 0 = dktX0_rest_0 := by decide +kernel
theorem dX0_rest_0 : decode cX0_rest 0 = .ok (.aload_n 3, 1) := dk_45 (dk_at dksX0_rest_0 0 rfl rfl)
theorem dX0_rest_1 : decode cX0_rest 1 = .ok (.iconst 0, 1) := dk_3 (dk_at dksX0_rest_0 1 rfl rfl)
theorem dX0_rest_2 : decode cX0_rest 2 = .ok (.aload_n 0, 1) := dk_42 (dk_at dksX0_rest_0 2 rfl rfl)
theorem dX0_rest_3 : decode cX0_rest 3 = .ok (.iload_n 1, 1) := dk_27 (dk_at dksX0_rest_0 3 rfl rfl)
theorem dX0_rest_4 : decode cX0_rest 4 = .ok (.iload_n 2, 1) := dk_28 (dk_at dksX0_rest_0 4 rfl rfl)
theorem dX0_rest_5 : decode cX0_rest 5 = .ok (.invokevirtual 69, 3) := dk_182 0 69 (dk_at dksX0_rest_0 5 rfl rfl)
theorem dX0_rest_8 : decode cX0_rest 8 = .ok (.i2l, 1) := dk_133 (dk_at dksX0_rest_0 8 rfl rfl)
theorem dX0_rest_9 : decode cX0_rest 9 = .ok (.lastore, 1) := dk_80 (dk_at dksX0_rest_0 9 rfl rfl)
theorem dX0_rest_10 : decode cX0_rest 10 = .ok (.goto 11, 3) := dk_167 0 11 (dk_at dksX0_rest_0 10 rfl rfl)
theorem dX0_rest_13 : decode cX0_rest 13 = .ok (.astore 4, 2) := dk_58 4 (dk_at dksX0_rest_0 13 rfl rfl)
theorem dX0_rest_15 : decode cX0_rest 15 = .ok (.iconst 1, 1) := dk_4 (dk_at dksX0_rest_0 15 rfl rfl)
theorem dX0_rest_16 : decode cX0_rest 16 = .ok (.ireturn, 1) := dk_172 (dk_at dksX0_rest_0 16 rfl rfl)
theorem dX0_rest_17 : decode cX0_rest 17 = .ok (.astore 4, 2) := dk_58 4 (dk_at dksX0_rest_0 17 rfl rfl)
theorem dX0_rest_19 : decode cX0_rest 19 = .ok (.iconst 2, 1) := dk_5 (dk_at dksX0_rest_0 19 rfl rfl)
theorem dX0_rest_20 : decode cX0_rest 20 = .ok (.ireturn, 1) := dk_172 (dk_at dksX0_rest_0 20 rfl rfl)
theorem dX0_rest_21 : decode cX0_rest 21 = .ok (.iconst 0, 1) := dk_3 (dk_at dksX0_rest_0 21 rfl rfl)
theorem dX0_rest_22 : decode cX0_rest 22 = .ok (.ireturn, 1) := dk_172 (dk_at dksX0_rest_0 22 rfl rfl)
abbrev cX0_when : ByteArray := method_21_code
def yX0_when : MethodName := ⟨RX0, "when", "(LTwoSlips;III[J)I"⟩
def dkwX0_when_1 : List UInt8 := [172]
abbrev dktX0_when_1 : List UInt8 := dkwX0_when_1 ++ []
def dkwX0_when_0 : List UInt8 := [25, 4, 3, 42, 27, 28, 29, 182, 0, 72, 133, 80, 167, 0, 11, 58, 5, 4, 172, 58, 5, 5, 172, 3]
abbrev dktX0_when_0 : List UInt8 := dkwX0_when_0 ++ dktX0_when_1
theorem dksX0_when_0 : cX0_when.data.toList.drop 0 = dktX0_when_0 := by decide +kernel
theorem dksX0_when_1 : cX0_when.data.toList.drop 24 = dktX0_when_1 := dk_seg dksX0_when_0 24 rfl rfl
theorem dX0_when_0 : decode cX0_when 0 = .ok (.aload 4, 2) := dk_25 4 (dk_at dksX0_when_0 0 rfl rfl)
theorem dX0_when_2 : decode cX0_when 2 = .ok (.iconst 0, 1) := dk_3 (dk_at dksX0_when_0 2 rfl rfl)
theorem dX0_when_3 : decode cX0_when 3 = .ok (.aload_n 0, 1) := dk_42 (dk_at dksX0_when_0 3 rfl rfl)
theorem dX0_when_4 : decode cX0_when 4 = .ok (.iload_n 1, 1) := dk_27 (dk_at dksX0_when_0 4 rfl rfl)
theorem dX0_when_5 : decode cX0_when 5 = .ok (.iload_n 2, 1) := dk_28 (dk_at dksX0_when_0 5 rfl rfl)
theorem dX0_when_6 : decode cX0_when 6 = .ok (.iload_n 3, 1) := dk_29 (dk_at dksX0_when_0 6 rfl rfl)
theorem dX0_when_7 : decode cX0_when 7 = .ok (.invokevirtual 72, 3) := dk_182 0 72 (dk_at dksX0_when_0 7 rfl rfl)
theorem dX0_when_10 : decode cX0_when 10 = .ok (.i2l, 1) := dk_133 (dk_at dksX0_when_0 10 rfl rfl)
theorem dX0_when_11 : decode cX0_when 11 = .ok (.lastore, 1) := dk_80 (dk_at dksX0_when_0 11 rfl rfl)
theorem dX0_when_12 : decode cX0_when 12 = .ok (.goto 11, 3) := dk_167 0 11 (dk_at dksX0_when_0 12 rfl rfl)
theorem dX0_when_15 : decode cX0_when 15 = .ok (.astore 5, 2) := dk_58 5 (dk_at dksX0_when_0 15 rfl rfl)
theorem dX0_when_17 : decode cX0_when 17 = .ok (.iconst 1, 1) := dk_4 (dk_at dksX0_when_0 17 rfl rfl)
theorem dX0_when_18 : decode cX0_when 18 = .ok (.ireturn, 1) := dk_172 (dk_at dksX0_when_0 18 rfl rfl)
theorem dX0_when_19 : decode cX0_when 19 = .ok (.astore 5, 2) := dk_58 5 (dk_at dksX0_when_0 19 rfl rfl)
theorem dX0_when_21 : decode cX0_when 21 = .ok (.iconst 2, 1) := dk_5 (dk_at dksX0_when_0 21 rfl rfl)
theorem dX0_when_22 : decode cX0_when 22 = .ok (.ireturn, 1) := dk_172 (dk_at dksX0_when_0 22 rfl rfl)
theorem dX0_when_23 : decode cX0_when 23 = .ok (.iconst 0, 1) := dk_3 (dk_at dksX0_when_0 23 rfl rfl)
theorem dX0_when_24 : decode cX0_when 24 = .ok (.ireturn, 1) := dk_172 (dk_at dksX0_when_1 0 rfl rfl)
abbrev cX0_longest : ByteArray := method_22_code
def yX0_longest : MethodName := ⟨RX0, "longest", "(LTwoSlips;III[J)I"⟩
def dkwX0_longest_1 : List UInt8 := [172]
abbrev dktX0_longest_1 : List UInt8 := dkwX0_longest_1 ++ []
def dkwX0_longest_0 : List UInt8 := [25, 4, 3, 42, 27, 28, 29, 182, 0, 75, 133, 80, 167, 0, 11, 58, 5, 4, 172, 58, 5, 5, 172, 3]
abbrev dktX0_longest_0 : List UInt8 := dkwX0_longest_0 ++ dktX0_longest_1
theorem dksX0_longest_0 : cX0_longest.data.toList.drop 0 = dktX0_longest_0 := by decide +kernel
theorem dksX0_longest_1 : cX0_longest.data.toList.drop 24 = dktX0_longest_1 := dk_seg dksX0_longest_0 24 rfl rfl
theorem dX0_longest_0 : decode cX0_longest 0 = .ok (.aload 4, 2) := dk_25 4 (dk_at dksX0_longest_0 0 rfl rfl)
theorem dX0_longest_2 : decode cX0_longest 2 = .ok (.iconst 0, 1) := dk_3 (dk_at dksX0_longest_0 2 rfl rfl)
theorem dX0_longest_3 : decode cX0_longest 3 = .ok (.aload_n 0, 1) := dk_42 (dk_at dksX0_longest_0 3 rfl rfl)
theorem dX0_longest_4 : decode cX0_longest 4 = .ok (.iload_n 1, 1) := dk_27 (dk_at dksX0_longest_0 4 rfl rfl)
theorem dX0_longest_5 : decode cX0_longest 5 = .ok (.iload_n 2, 1) := dk_28 (dk_at dksX0_longest_0 5 rfl rfl)
theorem dX0_longest_6 : decode cX0_longest 6 = .ok (.iload_n 3, 1) := dk_29 (dk_at dksX0_longest_0 6 rfl rfl)
theorem dX0_longest_7 : decode cX0_longest 7 = .ok (.invokevirtual 75, 3) := dk_182 0 75 (dk_at dksX0_longest_0 7 rfl rfl)
theorem dX0_longest_10 : decode cX0_longest 10 = .ok (.i2l, 1) := dk_133 (dk_at dksX0_longest_0 10 rfl rfl)
theorem dX0_longest_11 : decode cX0_longest 11 = .ok (.lastore, 1) := dk_80 (dk_at dksX0_longest_0 11 rfl rfl)
theorem dX0_longest_12 : decode cX0_longest 12 = .ok (.goto 11, 3) := dk_167 0 11 (dk_at dksX0_longest_0 12 rfl rfl)
theorem dX0_longest_15 : decode cX0_longest 15 = .ok (.astore 5, 2) := dk_58 5 (dk_at dksX0_longest_0 15 rfl rfl)
theorem dX0_longest_17 : decode cX0_longest 17 = .ok (.iconst 1, 1) := dk_4 (dk_at dksX0_longest_0 17 rfl rfl)
theorem dX0_longest_18 : decode cX0_longest 18 = .ok (.ireturn, 1) := dk_172 (dk_at dksX0_longest_0 18 rfl rfl)
theorem dX0_longest_19 : decode cX0_longest 19 = .ok (.astore 5, 2) := dk_58 5 (dk_at dksX0_longest_0 19 rfl rfl)
theorem dX0_longest_21 : decode cX0_longest 21 = .ok (.iconst 2, 1) := dk_5 (dk_at dksX0_longest_0 21 rfl rfl)
theorem dX0_longest_22 : decode cX0_longest 22 = .ok (.ireturn, 1) := dk_172 (dk_at dksX0_longest_0 22 rfl rfl)
theorem dX0_longest_23 : decode cX0_longest 23 = .ok (.iconst 0, 1) := dk_3 (dk_at dksX0_longest_0 23 rfl rfl)
theorem dX0_longest_24 : decode cX0_longest 24 = .ok (.ireturn, 1) := dk_172 (dk_at dksX0_longest_1 0 rfl rfl)
abbrev cX0_soonest : ByteArray := method_23_code
def yX0_soonest : MethodName := ⟨RX0, "soonest", "(LTwoSlips;IIII[J)I"⟩
def dkwX0_soonest_1 : List UInt8 := [172, 3, 172]
abbrev dktX0_soonest_1 : List UInt8 := dkwX0_soonest_1 ++ []
def dkwX0_soonest_0 : List UInt8 := [25, 5, 3, 42, 27, 28, 29, 21, 4, 182, 0, 78, 133, 80, 167, 0, 11, 58, 6, 4, 172, 58, 6, 5]
abbrev dktX0_soonest_0 : List UInt8 := dkwX0_soonest_0 ++ dktX0_soonest_1
theorem dksX0_soonest_0 : cX0_soonest.data.toList.drop 0 = dktX0_soonest_0 := by decide +kernel
theorem dksX0_soonest_1 : cX0_soonest.data.toList.drop 24 = dktX0_soonest_1 := dk_seg dksX0_soonest_0 24 rfl rfl
theorem dX0_soonest_0 : decode cX0_soonest 0 = .ok (.aload 5, 2) := dk_25 5 (dk_at dksX0_soonest_0 0 rfl rfl)
theorem dX0_soonest_2 : decode cX0_soonest 2 = .ok (.iconst 0, 1) := dk_3 (dk_at dksX0_soonest_0 2 rfl rfl)
theorem dX0_soonest_3 : decode cX0_soonest 3 = .ok (.aload_n 0, 1) := dk_42 (dk_at dksX0_soonest_0 3 rfl rfl)
theorem dX0_soonest_4 : decode cX0_soonest 4 = .ok (.iload_n 1, 1) := dk_27 (dk_at dksX0_soonest_0 4 rfl rfl)
theorem dX0_soonest_5 : decode cX0_soonest 5 = .ok (.iload_n 2, 1) := dk_28 (dk_at dksX0_soonest_0 5 rfl rfl)
theorem dX0_soonest_6 : decode cX0_soonest 6 = .ok (.iload_n 3, 1) := dk_29 (dk_at dksX0_soonest_0 6 rfl rfl)
theorem dX0_soonest_7 : decode cX0_soonest 7 = .ok (.iload 4, 2) := dk_21 4 (dk_at dksX0_soonest_0 7 rfl rfl)
theorem dX0_soonest_9 : decode cX0_soonest 9 = .ok (.invokevirtual 78, 3) := dk_182 0 78 (dk_at dksX0_soonest_0 9 rfl rfl)
theorem dX0_soonest_12 : decode cX0_soonest 12 = .ok (.i2l, 1) := dk_133 (dk_at dksX0_soonest_0 12 rfl rfl)
theorem dX0_soonest_13 : decode cX0_soonest 13 = .ok (.lastore, 1) := dk_80 (dk_at dksX0_soonest_0 13 rfl rfl)
theorem dX0_soonest_14 : decode cX0_soonest 14 = .ok (.goto 11, 3) := dk_167 0 11 (dk_at dksX0_soonest_0 14 rfl rfl)
theorem dX0_soonest_17 : decode cX0_soonest 17 = .ok (.astore 6, 2) := dk_58 6 (dk_at dksX0_soonest_0 17 rfl rfl)
theorem dX0_soonest_19 : decode cX0_soonest 19 = .ok (.iconst 1, 1) := dk_4 (dk_at dksX0_soonest_0 19 rfl rfl)
theorem dX0_soonest_20 : decode cX0_soonest 20 = .ok (.ireturn, 1) := dk_172 (dk_at dksX0_soonest_0 20 rfl rfl)
theorem dX0_soonest_21 : decode cX0_soonest 21 = .ok (.astore 6, 2) := dk_58 6 (dk_at dksX0_soonest_0 21 rfl rfl)
theorem dX0_soonest_23 : decode cX0_soonest 23 = .ok (.iconst 2, 1) := dk_5 (dk_at dksX0_soonest_0 23 rfl rfl)
theorem dX0_soonest_24 : decode cX0_soonest 24 = .ok (.ireturn, 1) := dk_172 (dk_at dksX0_soonest_1 0 rfl rfl)
theorem dX0_soonest_25 : decode cX0_soonest 25 = .ok (.iconst 0, 1) := dk_3 (dk_at dksX0_soonest_1 1 rfl rfl)
theorem dX0_soonest_26 : decode cX0_soonest 26 = .ok (.ireturn, 1) := dk_172 (dk_at dksX0_soonest_1 2 rfl rfl)
abbrev cX0_shortest : ByteArray := method_24_code
def yX0_shortest : MethodName := ⟨RX0, "shortest", "(LTwoSlips;II[J)I"⟩
def dkwX0_shortest_0 : List UInt8 := [45, 3, 42, 27, 28, 182, 0, 82, 133, 80, 167, 0, 7, 58, 4, 4, 172, 3, 172]
abbrev dktX0_shortest_0 : List UInt8 := dkwX0_shortest_0 ++ []
theorem dksX0_shortest_0 : cX0_shortest.data.toList.drop 0 = dktX0_shortest_0 := by decide +kernel
theorem dX0_shortest_0 : decode cX0_shortest 0 = .ok (.aload_n 3, 1) := dk_45 (dk_at dksX0_shortest_0 0 rfl rfl)
theorem dX0_shortest_1 : decode cX0_shortest 1 = .ok (.iconst 0, 1) := dk_3 (dk_at dksX0_shortest_0 1 rfl rfl)
theorem dX0_shortest_2 : decode cX0_shortest 2 = .ok (.aload_n 0, 1) := dk_42 (dk_at dksX0_shortest_0 2 rfl rfl)
theorem dX0_shortest_3 : decode cX0_shortest 3 = .ok (.iload_n 1, 1) := dk_27 (dk_at dksX0_shortest_0 3 rfl rfl)
theorem dX0_shortest_4 : decode cX0_shortest 4 = .ok (.iload_n 2, 1) := dk_28 (dk_at dksX0_shortest_0 4 rfl rfl)
theorem dX0_shortest_5 : decode cX0_shortest 5 = .ok (.invokevirtual 82, 3) := dk_182 0 82 (dk_at dksX0_shortest_0 5 rfl rfl)
theorem dX0_shortest_8 : decode cX0_shortest 8 = .ok (.i2l, 1) := dk_133 (dk_at dksX0_shortest_0 8 rfl rfl)
theorem dX0_shortest_9 : decode cX0_shortest 9 = .ok (.lastore, 1) := dk_80 (dk_at dksX0_shortest_0 9 rfl rfl)
theorem dX0_shortest_10 : decode cX0_shortest 10 = .ok (.goto 7, 3) := dk_167 0 7 (dk_at dksX0_shortest_0 10 rfl rfl)
theorem dX0_shortest_13 : decode cX0_shortest 13 = .ok (.astore 4, 2) := dk_58 4 (dk_at dksX0_shortest_0 13 rfl rfl)
theorem dX0_shortest_15 : decode cX0_shortest 15 = .ok (.iconst 1, 1) := dk_4 (dk_at dksX0_shortest_0 15 rfl rfl)
theorem dX0_shortest_16 : decode cX0_shortest 16 = .ok (.ireturn, 1) := dk_172 (dk_at dksX0_shortest_0 16 rfl rfl)
theorem dX0_shortest_17 : decode cX0_shortest 17 = .ok (.iconst 0, 1) := dk_3 (dk_at dksX0_shortest_0 17 rfl rfl)
theorem dX0_shortest_18 : decode cX0_shortest 18 = .ok (.ireturn, 1) := dk_172 (dk_at dksX0_shortest_0 18 rfl rfl)
abbrev cX0_liar : ByteArray := method_25_code
def yX0_liar : MethodName := ⟨RX0, "liar", "(LTwoSlips;I[J)I"⟩
def dkwX0_liar_0 : List UInt8 := [44, 3, 42, 27, 182, 0, 85, 133, 80, 167, 0, 6, 78, 4, 172, 3, 172]
abbrev dktX0_liar_0 : List UInt8 := dkwX0_liar_0 ++ []
theorem dksX0_liar_0 : cX0_liar.data.toList.drop 0 = dktX0_liar_0 := by decide +kernel
theorem dX0_liar_0 : decode cX0_liar 0 = .ok (.aload_n 2, 1) := dk_44 (dk_at dksX0_liar_0 0 rfl rfl)
theorem dX0_liar_1 : decode cX0_liar 1 = .ok (.iconst 0, 1) := dk_3 (dk_at dksX0_liar_0 1 rfl rfl)
theorem dX0_liar_2 : decode cX0_liar 2 = .ok (.aload_n 0, 1) := dk_42 (dk_at dksX0_liar_0 2 rfl rfl)
theorem dX0_liar_3 : decode cX0_liar 3 = .ok (.iload_n 1, 1) := dk_27 (dk_at dksX0_liar_0 3 rfl rfl)
theorem dX0_liar_4 : decode cX0_liar 4 = .ok (.invokevirtual 85, 3) := dk_182 0 85 (dk_at dksX0_liar_0 4 rfl rfl)
theorem dX0_liar_7 : decode cX0_liar 7 = .ok (.i2l, 1) := dk_133 (dk_at dksX0_liar_0 7 rfl rfl)
theorem dX0_liar_8 : decode cX0_liar 8 = .ok (.lastore, 1) := dk_80 (dk_at dksX0_liar_0 8 rfl rfl)
theorem dX0_liar_9 : decode cX0_liar 9 = .ok (.goto 6, 3) := dk_167 0 6 (dk_at dksX0_liar_0 9 rfl rfl)
theorem dX0_liar_12 : decode cX0_liar 12 = .ok (.astore_n 3, 1) := dk_78 (dk_at dksX0_liar_0 12 rfl rfl)
theorem dX0_liar_13 : decode cX0_liar 13 = .ok (.iconst 1, 1) := dk_4 (dk_at dksX0_liar_0 13 rfl rfl)
theorem dX0_liar_14 : decode cX0_liar 14 = .ok (.ireturn, 1) := dk_172 (dk_at dksX0_liar_0 14 rfl rfl)
theorem dX0_liar_15 : decode cX0_liar 15 = .ok (.iconst 0, 1) := dk_3 (dk_at dksX0_liar_0 15 rfl rfl)
theorem dX0_liar_16 : decode cX0_liar 16 = .ok (.ireturn, 1) := dk_172 (dk_at dksX0_liar_0 16 rfl rfl)
abbrev cX0_orders : ByteArray := method_26_code
def yX0_orders : MethodName := ⟨RX0, "orders", "(LTwoSlips;II[J)I"⟩
def dkwX0_orders_0 : List UInt8 := [45, 3, 42, 27, 28, 182, 0, 88, 133, 80, 167, 0, 7, 58, 4, 4, 172, 3, 172]
abbrev dktX0_orders_0 : List UInt8 := dkwX0_orders_0 ++ []
theorem dksX0_orders_0 : cX0_orders.data.toList.drop 0 = dktX0_orders_0 := by decide +kernel
theorem dX0_orders_0 : decode cX0_orders 0 = .ok (.aload_n 3, 1) := dk_45 (dk_at dksX0_orders_0 0 rfl rfl)
theorem dX0_orders_1 : decode cX0_orders 1 = .ok (.iconst 0, 1) := dk_3 (dk_at dksX0_orders_0 1 rfl rfl)
theorem dX0_orders_2 : decode cX0_orders 2 = .ok (.aload_n 0, 1) := dk_42 (dk_at dksX0_orders_0 2 rfl rfl)
theorem dX0_orders_3 : decode cX0_orders 3 = .ok (.iload_n 1, 1) := dk_27 (dk_at dksX0_orders_0 3 rfl rfl)
theorem dX0_orders_4 : decode cX0_orders 4 = .ok (.iload_n 2, 1) := dk_28 (dk_at dksX0_orders_0 4 rfl rfl)
theorem dX0_orders_5 : decode cX0_orders 5 = .ok (.invokevirtual 88, 3) := dk_182 0 88 (dk_at dksX0_orders_0 5 rfl rfl)
theorem dX0_orders_8 : decode cX0_orders 8 = .ok (.i2l, 1) := dk_133 (dk_at dksX0_orders_0 8 rfl rfl)
theorem dX0_orders_9 : decode cX0_orders 9 = .ok (.lastore, 1) := dk_80 (dk_at dksX0_orders_0 9 rfl rfl)
theorem dX0_orders_10 : decode cX0_orders 10 = .ok (.goto 7, 3) := dk_167 0 7 (dk_at dksX0_orders_0 10 rfl rfl)
theorem dX0_orders_13 : decode cX0_orders 13 = .ok (.astore 4, 2) := dk_58 4 (dk_at dksX0_orders_0 13 rfl rfl)
theorem dX0_orders_15 : decode cX0_orders 15 = .ok (.iconst 1, 1) := dk_4 (dk_at dksX0_orders_0 15 rfl rfl)
theorem dX0_orders_16 : decode cX0_orders 16 = .ok (.ireturn, 1) := dk_172 (dk_at dksX0_orders_0 16 rfl rfl)
theorem dX0_orders_17 : decode cX0_orders 17 = .ok (.iconst 0, 1) := dk_3 (dk_at dksX0_orders_0 17 rfl rfl)
theorem dX0_orders_18 : decode cX0_orders 18 = .ok (.ireturn, 1) := dk_172 (dk_at dksX0_orders_0 18 rfl rfl)
abbrev cX0_mended : ByteArray := method_27_code
def yX0_mended : MethodName := ⟨RX0, "mended", "(LTwoSlips;I[J)I"⟩
def dkwX0_mended_0 : List UInt8 := [44, 3, 42, 27, 182, 0, 91, 133, 80, 167, 0, 6, 78, 4, 172, 3, 172]
abbrev dktX0_mended_0 : List UInt8 := dkwX0_mended_0 ++ []
theorem dksX0_mended_0 : cX0_mended.data.toList.drop 0 = dktX0_mended_0 := by decide +kernel
theorem dX0_mended_0 : decode cX0_mended 0 = .ok (.aload_n 2, 1) := dk_44 (dk_at dksX0_mended_0 0 rfl rfl)
theorem dX0_mended_1 : decode cX0_mended 1 = .ok (.iconst 0, 1) := dk_3 (dk_at dksX0_mended_0 1 rfl rfl)
theorem dX0_mended_2 : decode cX0_mended 2 = .ok (.aload_n 0, 1) := dk_42 (dk_at dksX0_mended_0 2 rfl rfl)
theorem dX0_mended_3 : decode cX0_mended 3 = .ok (.iload_n 1, 1) := dk_27 (dk_at dksX0_mended_0 3 rfl rfl)
theorem dX0_mended_4 : decode cX0_mended 4 = .ok (.invokevirtual 91, 3) := dk_182 0 91 (dk_at dksX0_mended_0 4 rfl rfl)
theorem dX0_mended_7 : decode cX0_mended 7 = .ok (.i2l, 1) := dk_133 (dk_at dksX0_mended_0 7 rfl rfl)
theorem dX0_mended_8 : decode cX0_mended 8 = .ok (.lastore, 1) := dk_80 (dk_at dksX0_mended_0 8 rfl rfl)
theorem dX0_mended_9 : decode cX0_mended 9 = .ok (.goto 6, 3) := dk_167 0 6 (dk_at dksX0_mended_0 9 rfl rfl)
theorem dX0_mended_12 : decode cX0_mended 12 = .ok (.astore_n 3, 1) := dk_78 (dk_at dksX0_mended_0 12 rfl rfl)
theorem dX0_mended_13 : decode cX0_mended 13 = .ok (.iconst 1, 1) := dk_4 (dk_at dksX0_mended_0 13 rfl rfl)
theorem dX0_mended_14 : decode cX0_mended 14 = .ok (.ireturn, 1) := dk_172 (dk_at dksX0_mended_0 14 rfl rfl)
theorem dX0_mended_15 : decode cX0_mended 15 = .ok (.iconst 0, 1) := dk_3 (dk_at dksX0_mended_0 15 rfl rfl)
theorem dX0_mended_16 : decode cX0_mended 16 = .ok (.ireturn, 1) := dk_172 (dk_at dksX0_mended_0 16 rfl rfl)
abbrev cX0_answers : ByteArray := method_28_code
def yX0_answers : MethodName := ⟨RX0, "answers", "(LTwoSlips;II[J)I"⟩
def dkwX0_answers_1 : List UInt8 := [172, 3, 172]
abbrev dktX0_answers_1 : List UInt8 := dkwX0_answers_1 ++ []
def dkwX0_answers_0 : List UInt8 := [45, 3, 42, 27, 28, 182, 0, 94, 133, 80, 167, 0, 15, 58, 4, 4, 172, 58, 4, 5, 172, 58, 4, 6]
abbrev dktX0_answers_0 : List UInt8 := dkwX0_answers_0 ++ dktX0_answers_1
theorem dksX0_answers_0 : cX0_answers.data.toList.drop 0 = dktX0_answers_0 := by decide +kernel
theorem dksX0_answers_1 : cX0_answers.data.toList.drop 24 = dktX0_answers_1 := dk_seg dksX0_answers_0 24 rfl rfl
theorem dX0_answers_0 : decode cX0_answers 0 = .ok (.aload_n 3, 1) := dk_45 (dk_at dksX0_answers_0 0 rfl rfl)
theorem dX0_answers_1 : decode cX0_answers 1 = .ok (.iconst 0, 1) := dk_3 (dk_at dksX0_answers_0 1 rfl rfl)
theorem dX0_answers_2 : decode cX0_answers 2 = .ok (.aload_n 0, 1) := dk_42 (dk_at dksX0_answers_0 2 rfl rfl)
theorem dX0_answers_3 : decode cX0_answers 3 = .ok (.iload_n 1, 1) := dk_27 (dk_at dksX0_answers_0 3 rfl rfl)
theorem dX0_answers_4 : decode cX0_answers 4 = .ok (.iload_n 2, 1) := dk_28 (dk_at dksX0_answers_0 4 rfl rfl)
theorem dX0_answers_5 : decode cX0_answers 5 = .ok (.invokevirtual 94, 3) := dk_182 0 94 (dk_at dksX0_answers_0 5 rfl rfl)
theorem dX0_answers_8 : decode cX0_answers 8 = .ok (.i2l, 1) := dk_133 (dk_at dksX0_answers_0 8 rfl rfl)
theorem dX0_answers_9 : decode cX0_answers 9 = .ok (.lastore, 1) := dk_80 (dk_at dksX0_answers_0 9 rfl rfl)
theorem dX0_answers_10 : decode cX0_answers 10 = .ok (.goto 15, 3) := dk_167 0 15 (dk_at dksX0_answers_0 10 rfl rfl)
theorem dX0_answers_13 : decode cX0_answers 13 = .ok (.astore 4, 2) := dk_58 4 (dk_at dksX0_answers_0 13 rfl rfl)
theorem dX0_answers_15 : decode cX0_answers 15 = .ok (.iconst 1, 1) := dk_4 (dk_at dksX0_answers_0 15 rfl rfl)
theorem dX0_answers_16 : decode cX0_answers 16 = .ok (.ireturn, 1) := dk_172 (dk_at dksX0_answers_0 16 rfl rfl)
theorem dX0_answers_17 : decode cX0_answers 17 = .ok (.astore 4, 2) := dk_58 4 (dk_at dksX0_answers_0 17 rfl rfl)
theorem dX0_answers_19 : decode cX0_answers 19 = .ok (.iconst 2, 1) := dk_5 (dk_at dksX0_answers_0 19 rfl rfl)
theorem dX0_answers_20 : decode cX0_answers 20 = .ok (.ireturn, 1) := dk_172 (dk_at dksX0_answers_0 20 rfl rfl)
theorem dX0_answers_21 : decode cX0_answers 21 = .ok (.astore 4, 2) := dk_58 4 (dk_at dksX0_answers_0 21 rfl rfl)
theorem dX0_answers_23 : decode cX0_answers 23 = .ok (.iconst 3, 1) := dk_6 (dk_at dksX0_answers_0 23 rfl rfl)
theorem dX0_answers_24 : decode cX0_answers 24 = .ok (.ireturn, 1) := dk_172 (dk_at dksX0_answers_1 0 rfl rfl)
theorem dX0_answers_25 : decode cX0_answers 25 = .ok (.iconst 0, 1) := dk_3 (dk_at dksX0_answers_1 1 rfl rfl)
theorem dX0_answers_26 : decode cX0_answers 26 = .ok (.ireturn, 1) := dk_172 (dk_at dksX0_answers_1 2 rfl rfl)
abbrev cX0_tray : ByteArray := method_29_code
def yX0_tray : MethodName := ⟨RX0, "tray", "(LTwoSlips;III)I"⟩
def dkwX0_tray_0 : List UInt8 := [42, 27, 28, 29, 182, 0, 99, 167, 0, 11, 58, 4, 4, 172, 58, 4, 5, 172, 3, 172]
abbrev dktX0_tray_0 : List UInt8 := dkwX0_tray_0 ++ []
theorem dksX0_tray_0 : cX0_tray.data.toList.drop 0 = dktX0_tray_0 := by decide +kernel
theorem dX0_tray_0 : decode cX0_tray 0 = .ok (.aload_n 0, 1) := dk_42 (dk_at dksX0_tray_0 0 rfl rfl)
theorem dX0_tray_1 : decode cX0_tray 1 = .ok (.iload_n 1, 1) := dk_27 (dk_at dksX0_tray_0 1 rfl rfl)
theorem dX0_tray_2 : decode cX0_tray 2 = .ok (.iload_n 2, 1) := dk_28 (dk_at dksX0_tray_0 2 rfl rfl)
theorem dX0_tray_3 : decode cX0_tray 3 = .ok (.iload_n 3, 1) := dk_29 (dk_at dksX0_tray_0 3 rfl rfl)
theorem dX0_tray_4 : decode cX0_tray 4 = .ok (.invokevirtual 99, 3) := dk_182 0 99 (dk_at dksX0_tray_0 4 rfl rfl)
theorem dX0_tray_7 : decode cX0_tray 7 = .ok (.goto 11, 3) := dk_167 0 11 (dk_at dksX0_tray_0 7 rfl rfl)
theorem dX0_tray_10 : decode cX0_tray 10 = .ok (.astore 4, 2) := dk_58 4 (dk_at dksX0_tray_0 10 rfl rfl)
theorem dX0_tray_12 : decode cX0_tray 12 = .ok (.iconst 1, 1) := dk_4 (dk_at dksX0_tray_0 12 rfl rfl)
theorem dX0_tray_13 : decode cX0_tray 13 = .ok (.ireturn, 1) := dk_172 (dk_at dksX0_tray_0 13 rfl rfl)
theorem dX0_tray_14 : decode cX0_tray 14 = .ok (.astore 4, 2) := dk_58 4 (dk_at dksX0_tray_0 14 rfl rfl)
theorem dX0_tray_16 : decode cX0_tray 16 = .ok (.iconst 2, 1) := dk_5 (dk_at dksX0_tray_0 16 rfl rfl)
theorem dX0_tray_17 : decode cX0_tray 17 = .ok (.ireturn, 1) := dk_172 (dk_at dksX0_tray_0 17 rfl rfl)
theorem dX0_tray_18 : decode cX0_tray 18 = .ok (.iconst 0, 1) := dk_3 (dk_at dksX0_tray_0 18 rfl rfl)
theorem dX0_tray_19 : decode cX0_tray 19 = .ok (.ireturn, 1) := dk_172 (dk_at dksX0_tray_0 19 rfl rfl)
abbrev cX0_write : ByteArray := method_30_code
def yX0_write : MethodName := ⟨RX0, "write", "(LTwoSlips;IIJ[J)I"⟩
def dkwX0_write_1 : List UInt8 := [6, 172, 3, 172]
abbrev dktX0_write_1 : List UInt8 := dkwX0_write_1 ++ []
def dkwX0_write_0 : List UInt8 := [25, 5, 3, 42, 27, 28, 33, 182, 0, 103, 80, 167, 0, 15, 58, 6, 4, 172, 58, 6, 5, 172, 58, 6]
abbrev dktX0_write_0 : List UInt8 := dkwX0_write_0 ++ dktX0_write_1
theorem dksX0_write_0 : cX0_write.data.toList.drop 0 = dktX0_write_0 := by decide +kernel
theorem dksX0_write_1 : cX0_write.data.toList.drop 24 = dktX0_write_1 := dk_seg dksX0_write_0 24 rfl rfl
theorem dX0_write_0 : decode cX0_write 0 = .ok (.aload 5, 2) := dk_25 5 (dk_at dksX0_write_0 0 rfl rfl)
theorem dX0_write_2 : decode cX0_write 2 = .ok (.iconst 0, 1) := dk_3 (dk_at dksX0_write_0 2 rfl rfl)
theorem dX0_write_3 : decode cX0_write 3 = .ok (.aload_n 0, 1) := dk_42 (dk_at dksX0_write_0 3 rfl rfl)
theorem dX0_write_4 : decode cX0_write 4 = .ok (.iload_n 1, 1) := dk_27 (dk_at dksX0_write_0 4 rfl rfl)
theorem dX0_write_5 : decode cX0_write 5 = .ok (.iload_n 2, 1) := dk_28 (dk_at dksX0_write_0 5 rfl rfl)
theorem dX0_write_6 : decode cX0_write 6 = .ok (.lload_n 3, 1) := dk_33 (dk_at dksX0_write_0 6 rfl rfl)
theorem dX0_write_7 : decode cX0_write 7 = .ok (.invokevirtual 103, 3) := dk_182 0 103 (dk_at dksX0_write_0 7 rfl rfl)
theorem dX0_write_10 : decode cX0_write 10 = .ok (.lastore, 1) := dk_80 (dk_at dksX0_write_0 10 rfl rfl)
theorem dX0_write_11 : decode cX0_write 11 = .ok (.goto 15, 3) := dk_167 0 15 (dk_at dksX0_write_0 11 rfl rfl)
theorem dX0_write_14 : decode cX0_write 14 = .ok (.astore 6, 2) := dk_58 6 (dk_at dksX0_write_0 14 rfl rfl)
theorem dX0_write_16 : decode cX0_write 16 = .ok (.iconst 1, 1) := dk_4 (dk_at dksX0_write_0 16 rfl rfl)
theorem dX0_write_17 : decode cX0_write 17 = .ok (.ireturn, 1) := dk_172 (dk_at dksX0_write_0 17 rfl rfl)
theorem dX0_write_18 : decode cX0_write 18 = .ok (.astore 6, 2) := dk_58 6 (dk_at dksX0_write_0 18 rfl rfl)
theorem dX0_write_20 : decode cX0_write 20 = .ok (.iconst 2, 1) := dk_5 (dk_at dksX0_write_0 20 rfl rfl)
theorem dX0_write_21 : decode cX0_write 21 = .ok (.ireturn, 1) := dk_172 (dk_at dksX0_write_0 21 rfl rfl)
theorem dX0_write_22 : decode cX0_write 22 = .ok (.astore 6, 2) := dk_58 6 (dk_at dksX0_write_0 22 rfl rfl)
theorem dX0_write_24 : decode cX0_write 24 = .ok (.iconst 3, 1) := dk_6 (dk_at dksX0_write_1 0 rfl rfl)
theorem dX0_write_25 : decode cX0_write 25 = .ok (.ireturn, 1) := dk_172 (dk_at dksX0_write_1 1 rfl rfl)
theorem dX0_write_26 : decode cX0_write 26 = .ok (.iconst 0, 1) := dk_3 (dk_at dksX0_write_1 2 rfl rfl)
theorem dX0_write_27 : decode cX0_write 27 = .ok (.ireturn, 1) := dk_172 (dk_at dksX0_write_1 3 rfl rfl)
abbrev cX0_pour : ByteArray := method_31_code
def yX0_pour : MethodName := ⟨RX0, "pour", "(LTwoSlips;I[J)I"⟩
def dkwX0_pour_0 : List UInt8 := [44, 3, 42, 27, 182, 0, 109, 133, 80, 167, 0, 9, 78, 4, 172, 78, 5, 172, 3, 172]
abbrev dktX0_pour_0 : List UInt8 := dkwX0_pour_0 ++ []
theorem dksX0_pour_0 : cX0_pour.data.toList.drop 0 = dktX0_pour_0 := by decide +kernel
theorem dX0_pour_0 : decode cX0_pour 0 = .ok (.aload_n 2, 1) := dk_44 (dk_at dksX0_pour_0 0 rfl rfl)
theorem dX0_pour_1 : decode cX0_pour 1 = .ok (.iconst 0, 1) := dk_3 (dk_at dksX0_pour_0 1 rfl rfl)
theorem dX0_pour_2 : decode cX0_pour 2 = .ok (.aload_n 0, 1) := dk_42 (dk_at dksX0_pour_0 2 rfl rfl)
theorem dX0_pour_3 : decode cX0_pour 3 = .ok (.iload_n 1, 1) := dk_27 (dk_at dksX0_pour_0 3 rfl rfl)
theorem dX0_pour_4 : decode cX0_pour 4 = .ok (.invokevirtual 109, 3) := dk_182 0 109 (dk_at dksX0_pour_0 4 rfl rfl)
theorem dX0_pour_7 : decode cX0_pour 7 = .ok (.i2l, 1) := dk_133 (dk_at dksX0_pour_0 7 rfl rfl)
theorem dX0_pour_8 : decode cX0_pour 8 = .ok (.lastore, 1) := dk_80 (dk_at dksX0_pour_0 8 rfl rfl)
theorem dX0_pour_9 : decode cX0_pour 9 = .ok (.goto 9, 3) := dk_167 0 9 (dk_at dksX0_pour_0 9 rfl rfl)
theorem dX0_pour_12 : decode cX0_pour 12 = .ok (.astore_n 3, 1) := dk_78 (dk_at dksX0_pour_0 12 rfl rfl)
theorem dX0_pour_13 : decode cX0_pour 13 = .ok (.iconst 1, 1) := dk_4 (dk_at dksX0_pour_0 13 rfl rfl)
theorem dX0_pour_14 : decode cX0_pour 14 = .ok (.ireturn, 1) := dk_172 (dk_at dksX0_pour_0 14 rfl rfl)
theorem dX0_pour_15 : decode cX0_pour 15 = .ok (.astore_n 3, 1) := dk_78 (dk_at dksX0_pour_0 15 rfl rfl)
theorem dX0_pour_16 : decode cX0_pour 16 = .ok (.iconst 2, 1) := dk_5 (dk_at dksX0_pour_0 16 rfl rfl)
theorem dX0_pour_17 : decode cX0_pour 17 = .ok (.ireturn, 1) := dk_172 (dk_at dksX0_pour_0 17 rfl rfl)
theorem dX0_pour_18 : decode cX0_pour 18 = .ok (.iconst 0, 1) := dk_3 (dk_at dksX0_pour_0 18 rfl rfl)
theorem dX0_pour_19 : decode cX0_pour 19 = .ok (.ireturn, 1) := dk_172 (dk_at dksX0_pour_0 19 rfl rfl)
abbrev cX0_image : ByteArray := method_32_code
def yX0_image : MethodName := ⟨RX0, "image", "(LTwoSlips;I)I"⟩
def dkwX0_image_0 : List UInt8 := [42, 27, 182, 0, 112, 167, 0, 6, 77, 4, 172, 3, 172]
abbrev dktX0_image_0 : List UInt8 := dkwX0_image_0 ++ []
theorem dksX0_image_0 : cX0_image.data.toList.drop 0 = dktX0_image_0 := by decide +kernel
theorem dX0_image_0 : decode cX0_image 0 = .ok (.aload_n 0, 1) := dk_42 (dk_at dksX0_image_0 0 rfl rfl)
theorem dX0_image_1 : decode cX0_image 1 = .ok (.iload_n 1, 1) := dk_27 (dk_at dksX0_image_0 1 rfl rfl)
theorem dX0_image_2 : decode cX0_image 2 = .ok (.invokevirtual 112, 3) := dk_182 0 112 (dk_at dksX0_image_0 2 rfl rfl)
theorem dX0_image_5 : decode cX0_image 5 = .ok (.goto 6, 3) := dk_167 0 6 (dk_at dksX0_image_0 5 rfl rfl)
theorem dX0_image_8 : decode cX0_image 8 = .ok (.astore_n 2, 1) := dk_77 (dk_at dksX0_image_0 8 rfl rfl)
theorem dX0_image_9 : decode cX0_image 9 = .ok (.iconst 1, 1) := dk_4 (dk_at dksX0_image_0 9 rfl rfl)
theorem dX0_image_10 : decode cX0_image 10 = .ok (.ireturn, 1) := dk_172 (dk_at dksX0_image_0 10 rfl rfl)
theorem dX0_image_11 : decode cX0_image 11 = .ok (.iconst 0, 1) := dk_3 (dk_at dksX0_image_0 11 rfl rfl)
theorem dX0_image_12 : decode cX0_image 12 = .ok (.ireturn, 1) := dk_172 (dk_at dksX0_image_0 12 rfl rfl)
abbrev cX0_restore : ByteArray := method_33_code
def yX0_restore : MethodName := ⟨RX0, "restore", "(LTwoSlips;I)I"⟩
def dkwX0_restore_0 : List UInt8 := [42, 27, 182, 0, 116, 167, 0, 9, 77, 4, 172, 77, 5, 172, 3, 172]
abbrev dktX0_restore_0 : List UInt8 := dkwX0_restore_0 ++ []
theorem dksX0_restore_0 : cX0_restore.data.toList.drop 0 = dktX0_restore_0 := by decide +kernel
theorem dX0_restore_0 : decode cX0_restore 0 = .ok (.aload_n 0, 1) := dk_42 (dk_at dksX0_restore_0 0 rfl rfl)
theorem dX0_restore_1 : decode cX0_restore 1 = .ok (.iload_n 1, 1) := dk_27 (dk_at dksX0_restore_0 1 rfl rfl)
theorem dX0_restore_2 : decode cX0_restore 2 = .ok (.invokevirtual 116, 3) := dk_182 0 116 (dk_at dksX0_restore_0 2 rfl rfl)
theorem dX0_restore_5 : decode cX0_restore 5 = .ok (.goto 9, 3) := dk_167 0 9 (dk_at dksX0_restore_0 5 rfl rfl)
theorem dX0_restore_8 : decode cX0_restore 8 = .ok (.astore_n 2, 1) := dk_77 (dk_at dksX0_restore_0 8 rfl rfl)
theorem dX0_restore_9 : decode cX0_restore 9 = .ok (.iconst 1, 1) := dk_4 (dk_at dksX0_restore_0 9 rfl rfl)
theorem dX0_restore_10 : decode cX0_restore 10 = .ok (.ireturn, 1) := dk_172 (dk_at dksX0_restore_0 10 rfl rfl)
theorem dX0_restore_11 : decode cX0_restore 11 = .ok (.astore_n 2, 1) := dk_77 (dk_at dksX0_restore_0 11 rfl rfl)
theorem dX0_restore_12 : decode cX0_restore 12 = .ok (.iconst 2, 1) := dk_5 (dk_at dksX0_restore_0 12 rfl rfl)
theorem dX0_restore_13 : decode cX0_restore 13 = .ok (.ireturn, 1) := dk_172 (dk_at dksX0_restore_0 13 rfl rfl)
theorem dX0_restore_14 : decode cX0_restore 14 = .ok (.iconst 0, 1) := dk_3 (dk_at dksX0_restore_0 14 rfl rfl)
theorem dX0_restore_15 : decode cX0_restore 15 = .ok (.ireturn, 1) := dk_172 (dk_at dksX0_restore_0 15 rfl rfl)
theorem q105 : (Jvm.Cond.initialized "TwoSlipsLaw") ∈ lw_all := lw_g (lw_at lw_m1 0 rfl) rfl
theorem q162 : (Jvm.Cond.classLink "TwoSlipsLaw" (8 : Nat) "TwoSlips") ∈ lw_all := lw_g (lw_at lw_m1 57 rfl) rfl
theorem q164 : (Jvm.Cond.methodLink "TwoSlipsLaw" (119 : Nat) ({ cls := "TwoSlips", name := "<init>", desc := "()V" } : Jvm.MethodName)) ∈ lw_all := lw_g (lw_at lw_m1 59 rfl) rfl
theorem q494 : (Jvm.Cond.methodLink "TwoSlipsLaw" (123 : Nat) ({ cls := "TwoSlips", name := "feed", desc := "(IIIII)I" } : Jvm.MethodName)) ∈ lw_all := lw_g (lw_at lw_m2 149 rfl) rfl
theorem q502 : (Jvm.Cond.methodLink "TwoSlipsLaw" (138 : Nat) ({ cls := "TwoSlips", name := "fault", desc := "(I)I" } : Jvm.MethodName)) ∈ lw_all := lw_g (lw_at lw_m2 157 rfl) rfl
theorem q506 : (Jvm.Cond.methodLink "TwoSlipsLaw" (146 : Nat) ({ cls := "TwoSlips", name := "pair", desc := "(II)I" } : Jvm.MethodName)) ∈ lw_all := lw_g (lw_at lw_m2 161 rfl) rfl
theorem q685 : (Jvm.Cond.methodLink "TwoSlipsLaw" (168 : Nat) ({ cls := "TwoSlips", name := "only", desc := "()I" } : Jvm.MethodName)) ∈ lw_all := lw_g (lw_at lw_m3 100 rfl) rfl
theorem q710 : (Jvm.Cond.methodLink "TwoSlipsLaw" (219 : Nat) ({ cls := "TwoSlips", name := "which", desc := "()I" } : Jvm.MethodName)) ∈ lw_all := lw_g (lw_at lw_m3 125 rfl) rfl
theorem q724 : (Jvm.Cond.methodLink "TwoSlipsLaw" (252 : Nat) ({ cls := "TwoSlips", name := "count", desc := "(I)I" } : Jvm.MethodName)) ∈ lw_all := lw_g (lw_at lw_m3 139 rfl) rfl
theorem q728 : (Jvm.Cond.methodLink "TwoSlipsLaw" (128 : Nat) ({ cls := "TwoSlipsLaw", name := "talk", desc := "(LTwoSlips;I[J)I" } : Jvm.MethodName)) ∈ lw_all := lw_g (lw_at lw_m3 143 rfl) rfl
theorem q729 : (Jvm.Cond.static ({ cls := "TwoSlipsLaw", name := "talk", desc := "(LTwoSlips;I[J)I" } : Jvm.MethodName)) ∈ lw_all := lw_g (lw_at lw_m3 144 rfl) rfl
theorem q730 : (Jvm.Cond.codeWith ({ cls := "TwoSlipsLaw", name := "talk", desc := "(LTwoSlips;I[J)I" } : Jvm.MethodName) method_3_code (4 : Nat) (Option.some Jvm.ClassFile.FieldType.int) [((0 : Nat), (9 : Nat), (12 : Nat), (13 : Nat))]) ∈ lw_all := lw_g (lw_at lw_m3 145 rfl) rfl
theorem q731 : (Jvm.Cond.classLink "TwoSlipsLaw" (13 : Nat) "java/lang/IllegalArgumentException") ∈ lw_all := lw_g (lw_at lw_m3 146 rfl) rfl
theorem q732 : (Jvm.Cond.methodLink "TwoSlipsLaw" (7 : Nat) ({ cls := "TwoSlips", name := "talk", desc := "(I)I" } : Jvm.MethodName)) ∈ lw_all := lw_g (lw_at lw_m3 147 rfl) rfl
theorem q1362 : (Jvm.Cond.methodLink "TwoSlipsLaw" (142 : Nat) ({ cls := "TwoSlipsLaw", name := "world", desc := "(LTwoSlips;II[J)I" } : Jvm.MethodName)) ∈ lw_all := lw_g (lw_at lw_m6 57 rfl) rfl
theorem q1363 : (Jvm.Cond.static ({ cls := "TwoSlipsLaw", name := "world", desc := "(LTwoSlips;II[J)I" } : Jvm.MethodName)) ∈ lw_all := lw_g (lw_at lw_m6 58 rfl) rfl
theorem q1364 : (Jvm.Cond.codeWith ({ cls := "TwoSlipsLaw", name := "world", desc := "(LTwoSlips;II[J)I" } : Jvm.MethodName) method_4_code (5 : Nat) (Option.some Jvm.ClassFile.FieldType.int) [((0 : Nat), (10 : Nat), (13 : Nat), (19 : Nat)), ((0 : Nat), (10 : Nat), (17 : Nat), (13 : Nat))]) ∈ lw_all := lw_g (lw_at lw_m6 59 rfl) rfl
theorem q1365 : (Jvm.Cond.classLink "TwoSlipsLaw" (19 : Nat) "java/util/NoSuchElementException") ∈ lw_all := lw_g (lw_at lw_m6 60 rfl) rfl
theorem q1366 : (Jvm.Cond.methodLink "TwoSlipsLaw" (15 : Nat) ({ cls := "TwoSlips", name := "world", desc := "(II)I" } : Jvm.MethodName)) ∈ lw_all := lw_g (lw_at lw_m6 61 rfl) rfl
theorem q1392 : (Jvm.Cond.methodLink "TwoSlipsLaw" (150 : Nat) ({ cls := "TwoSlipsLaw", name := "told", desc := "(LTwoSlips;II[J)I" } : Jvm.MethodName)) ∈ lw_all := lw_g (lw_at lw_m6 87 rfl) rfl
theorem q1393 : (Jvm.Cond.static ({ cls := "TwoSlipsLaw", name := "told", desc := "(LTwoSlips;II[J)I" } : Jvm.MethodName)) ∈ lw_all := lw_g (lw_at lw_m6 88 rfl) rfl
theorem q1394 : (Jvm.Cond.codeWith ({ cls := "TwoSlipsLaw", name := "told", desc := "(LTwoSlips;II[J)I" } : Jvm.MethodName) method_5_code (5 : Nat) (Option.some Jvm.ClassFile.FieldType.int) [((0 : Nat), (10 : Nat), (13 : Nat), (19 : Nat))]) ∈ lw_all := lw_g (lw_at lw_m6 89 rfl) rfl
theorem q1395 : (Jvm.Cond.methodLink "TwoSlipsLaw" (21 : Nat) ({ cls := "TwoSlips", name := "told", desc := "(II)I" } : Jvm.MethodName)) ∈ lw_all := lw_g (lw_at lw_m6 90 rfl) rfl
theorem q1403 : (Jvm.Cond.methodLink "TwoSlipsLaw" (153 : Nat) ({ cls := "TwoSlipsLaw", name := "speaker", desc := "(LTwoSlips;II[J)I" } : Jvm.MethodName)) ∈ lw_all := lw_g (lw_at lw_m6 98 rfl) rfl
theorem q1404 : (Jvm.Cond.static ({ cls := "TwoSlipsLaw", name := "speaker", desc := "(LTwoSlips;II[J)I" } : Jvm.MethodName)) ∈ lw_all := lw_g (lw_at lw_m6 99 rfl) rfl
theorem q1405 : (Jvm.Cond.codeWith ({ cls := "TwoSlipsLaw", name := "speaker", desc := "(LTwoSlips;II[J)I" } : Jvm.MethodName) method_6_code (5 : Nat) (Option.some Jvm.ClassFile.FieldType.int) [((0 : Nat), (10 : Nat), (13 : Nat), (19 : Nat)), ((0 : Nat), (10 : Nat), (17 : Nat), (13 : Nat))]) ∈ lw_all := lw_g (lw_at lw_m6 100 rfl) rfl
theorem q1406 : (Jvm.Cond.methodLink "TwoSlipsLaw" (24 : Nat) ({ cls := "TwoSlips", name := "speaker", desc := "(II)I" } : Jvm.MethodName)) ∈ lw_all := lw_g (lw_at lw_m6 101 rfl) rfl
theorem q1417 : (Jvm.Cond.methodLink "TwoSlipsLaw" (156 : Nat) ({ cls := "TwoSlipsLaw", name := "turn", desc := "(LTwoSlips;I[J)I" } : Jvm.MethodName)) ∈ lw_all := lw_g (lw_at lw_m6 112 rfl) rfl
theorem q1418 : (Jvm.Cond.static ({ cls := "TwoSlipsLaw", name := "turn", desc := "(LTwoSlips;I[J)I" } : Jvm.MethodName)) ∈ lw_all := lw_g (lw_at lw_m6 113 rfl) rfl
theorem q1419 : (Jvm.Cond.codeWith ({ cls := "TwoSlipsLaw", name := "turn", desc := "(LTwoSlips;I[J)I" } : Jvm.MethodName) method_7_code (4 : Nat) (Option.some Jvm.ClassFile.FieldType.int) [((0 : Nat), (9 : Nat), (12 : Nat), (19 : Nat))]) ∈ lw_all := lw_g (lw_at lw_m6 114 rfl) rfl
theorem q1420 : (Jvm.Cond.methodLink "TwoSlipsLaw" (27 : Nat) ({ cls := "TwoSlips", name := "turn", desc := "(I)I" } : Jvm.MethodName)) ∈ lw_all := lw_g (lw_at lw_m6 115 rfl) rfl
theorem q1428 : (Jvm.Cond.methodLink "TwoSlipsLaw" (159 : Nat) ({ cls := "TwoSlipsLaw", name := "left", desc := "(LTwoSlips;I[J)I" } : Jvm.MethodName)) ∈ lw_all := lw_g (lw_at lw_m6 123 rfl) rfl
theorem q1429 : (Jvm.Cond.static ({ cls := "TwoSlipsLaw", name := "left", desc := "(LTwoSlips;I[J)I" } : Jvm.MethodName)) ∈ lw_all := lw_g (lw_at lw_m6 124 rfl) rfl
theorem q1430 : (Jvm.Cond.codeWith ({ cls := "TwoSlipsLaw", name := "left", desc := "(LTwoSlips;I[J)I" } : Jvm.MethodName) method_8_code (4 : Nat) (Option.some Jvm.ClassFile.FieldType.int) [((0 : Nat), (9 : Nat), (12 : Nat), (13 : Nat))]) ∈ lw_all := lw_g (lw_at lw_m6 125 rfl) rfl
theorem q1431 : (Jvm.Cond.methodLink "TwoSlipsLaw" (30 : Nat) ({ cls := "TwoSlips", name := "left", desc := "(I)I" } : Jvm.MethodName)) ∈ lw_all := lw_g (lw_at lw_m6 126 rfl) rfl
theorem q1440 : (Jvm.Cond.methodLink "TwoSlipsLaw" (162 : Nat) ({ cls := "TwoSlipsLaw", name := "leftAt", desc := "(LTwoSlips;II[J)I" } : Jvm.MethodName)) ∈ lw_all := lw_g (lw_at lw_m6 135 rfl) rfl
theorem q1441 : (Jvm.Cond.static ({ cls := "TwoSlipsLaw", name := "leftAt", desc := "(LTwoSlips;II[J)I" } : Jvm.MethodName)) ∈ lw_all := lw_g (lw_at lw_m6 136 rfl) rfl
theorem q1442 : (Jvm.Cond.codeWith ({ cls := "TwoSlipsLaw", name := "leftAt", desc := "(LTwoSlips;II[J)I" } : Jvm.MethodName) method_9_code (5 : Nat) (Option.some Jvm.ClassFile.FieldType.int) [((0 : Nat), (10 : Nat), (13 : Nat), (13 : Nat))]) ∈ lw_all := lw_g (lw_at lw_m6 137 rfl) rfl
theorem q1443 : (Jvm.Cond.methodLink "TwoSlipsLaw" (33 : Nat) ({ cls := "TwoSlips", name := "leftAt", desc := "(II)I" } : Jvm.MethodName)) ∈ lw_all := lw_g (lw_at lw_m6 138 rfl) rfl
theorem q1448 : (Jvm.Cond.methodLink "TwoSlipsLaw" (165 : Nat) ({ cls := "TwoSlipsLaw", name := "isLeft", desc := "(LTwoSlips;II[J)I" } : Jvm.MethodName)) ∈ lw_all := lw_g (lw_at lw_m6 143 rfl) rfl
theorem q1449 : (Jvm.Cond.static ({ cls := "TwoSlipsLaw", name := "isLeft", desc := "(LTwoSlips;II[J)I" } : Jvm.MethodName)) ∈ lw_all := lw_g (lw_at lw_m6 144 rfl) rfl
theorem q1450 : (Jvm.Cond.codeWith ({ cls := "TwoSlipsLaw", name := "isLeft", desc := "(LTwoSlips;II[J)I" } : Jvm.MethodName) method_10_code (5 : Nat) (Option.some Jvm.ClassFile.FieldType.int) [((0 : Nat), (17 : Nat), (20 : Nat), (19 : Nat)), ((0 : Nat), (17 : Nat), (24 : Nat), (13 : Nat))]) ∈ lw_all := lw_g (lw_at lw_m6 145 rfl) rfl
theorem q1451 : (Jvm.Cond.methodLink "TwoSlipsLaw" (36 : Nat) ({ cls := "TwoSlips", name := "isLeft", desc := "(II)Z" } : Jvm.MethodName)) ∈ lw_all := lw_g (lw_at lw_m6 146 rfl) rfl
theorem q1455 : (Jvm.Cond.methodLink "TwoSlipsLaw" (172 : Nat) ({ cls := "TwoSlipsLaw", name := "so", desc := "(LTwoSlips;II[J)I" } : Jvm.MethodName)) ∈ lw_all := lw_g (lw_at lw_m6 150 rfl) rfl
theorem q1456 : (Jvm.Cond.static ({ cls := "TwoSlipsLaw", name := "so", desc := "(LTwoSlips;II[J)I" } : Jvm.MethodName)) ∈ lw_all := lw_g (lw_at lw_m6 151 rfl) rfl
theorem q1457 : (Jvm.Cond.codeWith ({ cls := "TwoSlipsLaw", name := "so", desc := "(LTwoSlips;II[J)I" } : Jvm.MethodName) method_11_code (5 : Nat) (Option.some Jvm.ClassFile.FieldType.int) [((0 : Nat), (17 : Nat), (20 : Nat), (19 : Nat))]) ∈ lw_all := lw_g (lw_at lw_m6 152 rfl) rfl
theorem q1458 : (Jvm.Cond.methodLink "TwoSlipsLaw" (40 : Nat) ({ cls := "TwoSlips", name := "so", desc := "(II)Z" } : Jvm.MethodName)) ∈ lw_all := lw_g (lw_at lw_m6 153 rfl) rfl
theorem q1465 : (Jvm.Cond.methodLink "TwoSlipsLaw" (175 : Nat) ({ cls := "TwoSlipsLaw", name := "may", desc := "(LTwoSlips;II[J)I" } : Jvm.MethodName)) ∈ lw_all := lw_g (lw_at lw_m6 160 rfl) rfl
theorem q1466 : (Jvm.Cond.static ({ cls := "TwoSlipsLaw", name := "may", desc := "(LTwoSlips;II[J)I" } : Jvm.MethodName)) ∈ lw_all := lw_g (lw_at lw_m6 161 rfl) rfl
theorem q1467 : (Jvm.Cond.codeWith ({ cls := "TwoSlipsLaw", name := "may", desc := "(LTwoSlips;II[J)I" } : Jvm.MethodName) method_12_code (5 : Nat) (Option.some Jvm.ClassFile.FieldType.int) [((0 : Nat), (17 : Nat), (20 : Nat), (19 : Nat))]) ∈ lw_all := lw_g (lw_at lw_m6 162 rfl) rfl
theorem q1468 : (Jvm.Cond.methodLink "TwoSlipsLaw" (43 : Nat) ({ cls := "TwoSlips", name := "may", desc := "(II)Z" } : Jvm.MethodName)) ∈ lw_all := lw_g (lw_at lw_m6 163 rfl) rfl
theorem q1473 : (Jvm.Cond.methodLink "TwoSlipsLaw" (178 : Nat) ({ cls := "TwoSlipsLaw", name := "judge", desc := "(LTwoSlips;I[J)I" } : Jvm.MethodName)) ∈ lw_all := lw_g (lw_at lw_m6 168 rfl) rfl
theorem q1474 : (Jvm.Cond.static ({ cls := "TwoSlipsLaw", name := "judge", desc := "(LTwoSlips;I[J)I" } : Jvm.MethodName)) ∈ lw_all := lw_g (lw_at lw_m6 169 rfl) rfl
theorem q1475 : (Jvm.Cond.codeWith ({ cls := "TwoSlipsLaw", name := "judge", desc := "(LTwoSlips;I[J)I" } : Jvm.MethodName) method_13_code (4 : Nat) (Option.some Jvm.ClassFile.FieldType.int) [((0 : Nat), (9 : Nat), (12 : Nat), (19 : Nat))]) ∈ lw_all := lw_g (lw_at lw_m6 170 rfl) rfl
theorem q1476 : (Jvm.Cond.methodLink "TwoSlipsLaw" (46 : Nat) ({ cls := "TwoSlips", name := "judge", desc := "(I)I" } : Jvm.MethodName)) ∈ lw_all := lw_g (lw_at lw_m6 171 rfl) rfl
theorem q1480 : (Jvm.Cond.methodLink "TwoSlipsLaw" (181 : Nat) ({ cls := "TwoSlipsLaw", name := "knows", desc := "(LTwoSlips;III[J)I" } : Jvm.MethodName)) ∈ lw_all := lw_g (lw_at lw_m6 175 rfl) rfl
theorem q1481 : (Jvm.Cond.static ({ cls := "TwoSlipsLaw", name := "knows", desc := "(LTwoSlips;III[J)I" } : Jvm.MethodName)) ∈ lw_all := lw_g (lw_at lw_m6 176 rfl) rfl
theorem q1482 : (Jvm.Cond.codeWith ({ cls := "TwoSlipsLaw", name := "knows", desc := "(LTwoSlips;III[J)I" } : Jvm.MethodName) method_14_code (6 : Nat) (Option.some Jvm.ClassFile.FieldType.int) [((0 : Nat), (19 : Nat), (22 : Nat), (19 : Nat)), ((0 : Nat), (19 : Nat), (26 : Nat), (13 : Nat))]) ∈ lw_all := lw_g (lw_at lw_m6 177 rfl) rfl
theorem q1483 : (Jvm.Cond.methodLink "TwoSlipsLaw" (49 : Nat) ({ cls := "TwoSlips", name := "knows", desc := "(III)Z" } : Jvm.MethodName)) ∈ lw_all := lw_g (lw_at lw_m6 178 rfl) rfl
theorem q1492 : (Jvm.Cond.methodLink "TwoSlipsLaw" (185 : Nat) ({ cls := "TwoSlipsLaw", name := "knowing", desc := "(LTwoSlips;II[J)I" } : Jvm.MethodName)) ∈ lw_all := lw_g (lw_at lw_m6 187 rfl) rfl
theorem q1493 : (Jvm.Cond.static ({ cls := "TwoSlipsLaw", name := "knowing", desc := "(LTwoSlips;II[J)I" } : Jvm.MethodName)) ∈ lw_all := lw_g (lw_at lw_m6 188 rfl) rfl
theorem q1494 : (Jvm.Cond.codeWith ({ cls := "TwoSlipsLaw", name := "knowing", desc := "(LTwoSlips;II[J)I" } : Jvm.MethodName) method_15_code (5 : Nat) (Option.some Jvm.ClassFile.FieldType.int) [((0 : Nat), (10 : Nat), (13 : Nat), (19 : Nat)), ((0 : Nat), (10 : Nat), (17 : Nat), (13 : Nat))]) ∈ lw_all := lw_g (lw_at lw_m6 189 rfl) rfl
theorem q1495 : (Jvm.Cond.methodLink "TwoSlipsLaw" (53 : Nat) ({ cls := "TwoSlips", name := "knowing", desc := "(II)I" } : Jvm.MethodName)) ∈ lw_all := lw_g (lw_at lw_m6 190 rfl) rfl
theorem q1499 : (Jvm.Cond.methodLink "TwoSlipsLaw" (188 : Nat) ({ cls := "TwoSlipsLaw", name := "heap", desc := "(LTwoSlips;III[J)I" } : Jvm.MethodName)) ∈ lw_all := lw_g (lw_at lw_m6 194 rfl) rfl
theorem q1500 : (Jvm.Cond.static ({ cls := "TwoSlipsLaw", name := "heap", desc := "(LTwoSlips;III[J)I" } : Jvm.MethodName)) ∈ lw_all := lw_g (lw_at lw_m6 195 rfl) rfl
theorem q1501 : (Jvm.Cond.codeWith ({ cls := "TwoSlipsLaw", name := "heap", desc := "(LTwoSlips;III[J)I" } : Jvm.MethodName) method_16_code (6 : Nat) (Option.some Jvm.ClassFile.FieldType.int) [((0 : Nat), (12 : Nat), (15 : Nat), (19 : Nat)), ((0 : Nat), (12 : Nat), (19 : Nat), (13 : Nat))]) ∈ lw_all := lw_g (lw_at lw_m6 196 rfl) rfl
theorem q1502 : (Jvm.Cond.methodLink "TwoSlipsLaw" (56 : Nat) ({ cls := "TwoSlips", name := "heap", desc := "(III)I" } : Jvm.MethodName)) ∈ lw_all := lw_g (lw_at lw_m6 197 rfl) rfl
theorem q1507 : (Jvm.Cond.methodLink "TwoSlipsLaw" (191 : Nat) ({ cls := "TwoSlipsLaw", name := "strikes", desc := "(LTwoSlips;I[J)I" } : Jvm.MethodName)) ∈ lw_all := lw_g (lw_at lw_m6 202 rfl) rfl
theorem q1508 : (Jvm.Cond.static ({ cls := "TwoSlipsLaw", name := "strikes", desc := "(LTwoSlips;I[J)I" } : Jvm.MethodName)) ∈ lw_all := lw_g (lw_at lw_m6 203 rfl) rfl
theorem q1509 : (Jvm.Cond.codeWith ({ cls := "TwoSlipsLaw", name := "strikes", desc := "(LTwoSlips;I[J)I" } : Jvm.MethodName) method_17_code (4 : Nat) (Option.some Jvm.ClassFile.FieldType.int) [((0 : Nat), (9 : Nat), (12 : Nat), (13 : Nat))]) ∈ lw_all := lw_g (lw_at lw_m6 204 rfl) rfl
theorem q1510 : (Jvm.Cond.methodLink "TwoSlipsLaw" (60 : Nat) ({ cls := "TwoSlips", name := "strikes", desc := "(I)I" } : Jvm.MethodName)) ∈ lw_all := lw_g (lw_at lw_m6 205 rfl) rfl
theorem q1514 : (Jvm.Cond.methodLink "TwoSlipsLaw" (194 : Nat) ({ cls := "TwoSlipsLaw", name := "ends", desc := "(LTwoSlips;II[J)I" } : Jvm.MethodName)) ∈ lw_all := lw_g (lw_at lw_m6 209 rfl) rfl
theorem q1515 : (Jvm.Cond.static ({ cls := "TwoSlipsLaw", name := "ends", desc := "(LTwoSlips;II[J)I" } : Jvm.MethodName)) ∈ lw_all := lw_g (lw_at lw_m6 210 rfl) rfl
theorem q1516 : (Jvm.Cond.codeWith ({ cls := "TwoSlipsLaw", name := "ends", desc := "(LTwoSlips;II[J)I" } : Jvm.MethodName) method_18_code (5 : Nat) (Option.some Jvm.ClassFile.FieldType.int) [((0 : Nat), (10 : Nat), (13 : Nat), (13 : Nat))]) ∈ lw_all := lw_g (lw_at lw_m6 211 rfl) rfl
theorem q1517 : (Jvm.Cond.methodLink "TwoSlipsLaw" (63 : Nat) ({ cls := "TwoSlips", name := "ends", desc := "(II)I" } : Jvm.MethodName)) ∈ lw_all := lw_g (lw_at lw_m6 212 rfl) rfl
theorem q1526 : (Jvm.Cond.methodLink "TwoSlipsLaw" (197 : Nat) ({ cls := "TwoSlipsLaw", name := "upTo", desc := "(LTwoSlips;I[J)I" } : Jvm.MethodName)) ∈ lw_all := lw_g (lw_at lw_m6 221 rfl) rfl
theorem q1527 : (Jvm.Cond.static ({ cls := "TwoSlipsLaw", name := "upTo", desc := "(LTwoSlips;I[J)I" } : Jvm.MethodName)) ∈ lw_all := lw_g (lw_at lw_m6 222 rfl) rfl
theorem q1528 : (Jvm.Cond.codeWith ({ cls := "TwoSlipsLaw", name := "upTo", desc := "(LTwoSlips;I[J)I" } : Jvm.MethodName) method_19_code (4 : Nat) (Option.some Jvm.ClassFile.FieldType.int) [((0 : Nat), (9 : Nat), (12 : Nat), (13 : Nat))]) ∈ lw_all := lw_g (lw_at lw_m6 223 rfl) rfl
theorem q1529 : (Jvm.Cond.methodLink "TwoSlipsLaw" (66 : Nat) ({ cls := "TwoSlips", name := "upTo", desc := "(I)I" } : Jvm.MethodName)) ∈ lw_all := lw_g (lw_at lw_m6 224 rfl) rfl
theorem q1533 : (Jvm.Cond.methodLink "TwoSlipsLaw" (200 : Nat) ({ cls := "TwoSlipsLaw", name := "rest", desc := "(LTwoSlips;II[J)I" } : Jvm.MethodName)) ∈ lw_all := lw_g (lw_at lw_m6 228 rfl) rfl
theorem q1534 : (Jvm.Cond.static ({ cls := "TwoSlipsLaw", name := "rest", desc := "(LTwoSlips;II[J)I" } : Jvm.MethodName)) ∈ lw_all := lw_g (lw_at lw_m6 229 rfl) rfl
theorem q1535 : (Jvm.Cond.codeWith ({ cls := "TwoSlipsLaw", name := "rest", desc := "(LTwoSlips;II[J)I" } : Jvm.MethodName) method_20_code (5 : Nat) (Option.some Jvm.ClassFile.FieldType.int) [((0 : Nat), (10 : Nat), (13 : Nat), (19 : Nat)), ((0 : Nat), (10 : Nat), (17 : Nat), (13 : Nat))]) ∈ lw_all := lw_g (lw_at lw_m6 230 rfl) rfl
theorem q1536 : (Jvm.Cond.methodLink "TwoSlipsLaw" (69 : Nat) ({ cls := "TwoSlips", name := "rest", desc := "(II)I" } : Jvm.MethodName)) ∈ lw_all := lw_g (lw_at lw_m6 231 rfl) rfl
theorem q1556 : (Jvm.Cond.methodLink "TwoSlipsLaw" (203 : Nat) ({ cls := "TwoSlipsLaw", name := "when", desc := "(LTwoSlips;III[J)I" } : Jvm.MethodName)) ∈ lw_all := lw_g (lw_at lw_m7 11 rfl) rfl
theorem q1557 : (Jvm.Cond.static ({ cls := "TwoSlipsLaw", name := "when", desc := "(LTwoSlips;III[J)I" } : Jvm.MethodName)) ∈ lw_all := lw_g (lw_at lw_m7 12 rfl) rfl
theorem q1558 : (Jvm.Cond.codeWith ({ cls := "TwoSlipsLaw", name := "when", desc := "(LTwoSlips;III[J)I" } : Jvm.MethodName) method_21_code (6 : Nat) (Option.some Jvm.ClassFile.FieldType.int) [((0 : Nat), (12 : Nat), (15 : Nat), (19 : Nat)), ((0 : Nat), (12 : Nat), (19 : Nat), (13 : Nat))]) ∈ lw_all := lw_g (lw_at lw_m7 13 rfl) rfl
theorem q1559 : (Jvm.Cond.methodLink "TwoSlipsLaw" (72 : Nat) ({ cls := "TwoSlips", name := "when", desc := "(III)I" } : Jvm.MethodName)) ∈ lw_all := lw_g (lw_at lw_m7 14 rfl) rfl
theorem q1563 : (Jvm.Cond.methodLink "TwoSlipsLaw" (206 : Nat) ({ cls := "TwoSlipsLaw", name := "longest", desc := "(LTwoSlips;III[J)I" } : Jvm.MethodName)) ∈ lw_all := lw_g (lw_at lw_m7 18 rfl) rfl
theorem q1564 : (Jvm.Cond.static ({ cls := "TwoSlipsLaw", name := "longest", desc := "(LTwoSlips;III[J)I" } : Jvm.MethodName)) ∈ lw_all := lw_g (lw_at lw_m7 19 rfl) rfl
theorem q1565 : (Jvm.Cond.codeWith ({ cls := "TwoSlipsLaw", name := "longest", desc := "(LTwoSlips;III[J)I" } : Jvm.MethodName) method_22_code (6 : Nat) (Option.some Jvm.ClassFile.FieldType.int) [((0 : Nat), (12 : Nat), (15 : Nat), (19 : Nat)), ((0 : Nat), (12 : Nat), (19 : Nat), (13 : Nat))]) ∈ lw_all := lw_g (lw_at lw_m7 20 rfl) rfl
theorem q1566 : (Jvm.Cond.methodLink "TwoSlipsLaw" (75 : Nat) ({ cls := "TwoSlips", name := "longest", desc := "(III)I" } : Jvm.MethodName)) ∈ lw_all := lw_g (lw_at lw_m7 21 rfl) rfl
theorem q1570 : (Jvm.Cond.methodLink "TwoSlipsLaw" (209 : Nat) ({ cls := "TwoSlipsLaw", name := "soonest", desc := "(LTwoSlips;IIII[J)I" } : Jvm.MethodName)) ∈ lw_all := lw_g (lw_at lw_m7 25 rfl) rfl
theorem q1571 : (Jvm.Cond.static ({ cls := "TwoSlipsLaw", name := "soonest", desc := "(LTwoSlips;IIII[J)I" } : Jvm.MethodName)) ∈ lw_all := lw_g (lw_at lw_m7 26 rfl) rfl
theorem q1572 : (Jvm.Cond.codeWith ({ cls := "TwoSlipsLaw", name := "soonest", desc := "(LTwoSlips;IIII[J)I" } : Jvm.MethodName) method_23_code (7 : Nat) (Option.some Jvm.ClassFile.FieldType.int) [((0 : Nat), (14 : Nat), (17 : Nat), (19 : Nat)), ((0 : Nat), (14 : Nat), (21 : Nat), (13 : Nat))]) ∈ lw_all := lw_g (lw_at lw_m7 27 rfl) rfl
theorem q1573 : (Jvm.Cond.methodLink "TwoSlipsLaw" (78 : Nat) ({ cls := "TwoSlips", name := "soonest", desc := "(IIII)I" } : Jvm.MethodName)) ∈ lw_all := lw_g (lw_at lw_m7 28 rfl) rfl
theorem q1637 : (Jvm.Cond.methodLink "TwoSlipsLaw" (213 : Nat) ({ cls := "TwoSlipsLaw", name := "shortest", desc := "(LTwoSlips;II[J)I" } : Jvm.MethodName)) ∈ lw_all := lw_g (lw_at lw_m7 92 rfl) rfl
theorem q1638 : (Jvm.Cond.static ({ cls := "TwoSlipsLaw", name := "shortest", desc := "(LTwoSlips;II[J)I" } : Jvm.MethodName)) ∈ lw_all := lw_g (lw_at lw_m7 93 rfl) rfl
theorem q1639 : (Jvm.Cond.codeWith ({ cls := "TwoSlipsLaw", name := "shortest", desc := "(LTwoSlips;II[J)I" } : Jvm.MethodName) method_24_code (5 : Nat) (Option.some Jvm.ClassFile.FieldType.int) [((0 : Nat), (10 : Nat), (13 : Nat), (13 : Nat))]) ∈ lw_all := lw_g (lw_at lw_m7 94 rfl) rfl
theorem q1640 : (Jvm.Cond.methodLink "TwoSlipsLaw" (82 : Nat) ({ cls := "TwoSlips", name := "shortest", desc := "(II)I" } : Jvm.MethodName)) ∈ lw_all := lw_g (lw_at lw_m7 95 rfl) rfl
theorem q1650 : (Jvm.Cond.methodLink "TwoSlipsLaw" (216 : Nat) ({ cls := "TwoSlipsLaw", name := "liar", desc := "(LTwoSlips;I[J)I" } : Jvm.MethodName)) ∈ lw_all := lw_g (lw_at lw_m7 105 rfl) rfl
theorem q1651 : (Jvm.Cond.static ({ cls := "TwoSlipsLaw", name := "liar", desc := "(LTwoSlips;I[J)I" } : Jvm.MethodName)) ∈ lw_all := lw_g (lw_at lw_m7 106 rfl) rfl
theorem q1652 : (Jvm.Cond.codeWith ({ cls := "TwoSlipsLaw", name := "liar", desc := "(LTwoSlips;I[J)I" } : Jvm.MethodName) method_25_code (4 : Nat) (Option.some Jvm.ClassFile.FieldType.int) [((0 : Nat), (9 : Nat), (12 : Nat), (19 : Nat))]) ∈ lw_all := lw_g (lw_at lw_m7 107 rfl) rfl
theorem q1653 : (Jvm.Cond.methodLink "TwoSlipsLaw" (85 : Nat) ({ cls := "TwoSlips", name := "liar", desc := "(I)I" } : Jvm.MethodName)) ∈ lw_all := lw_g (lw_at lw_m7 108 rfl) rfl
theorem q1657 : (Jvm.Cond.methodLink "TwoSlipsLaw" (223 : Nat) ({ cls := "TwoSlipsLaw", name := "orders", desc := "(LTwoSlips;II[J)I" } : Jvm.MethodName)) ∈ lw_all := lw_g (lw_at lw_m7 112 rfl) rfl
theorem q1658 : (Jvm.Cond.static ({ cls := "TwoSlipsLaw", name := "orders", desc := "(LTwoSlips;II[J)I" } : Jvm.MethodName)) ∈ lw_all := lw_g (lw_at lw_m7 113 rfl) rfl
theorem q1659 : (Jvm.Cond.codeWith ({ cls := "TwoSlipsLaw", name := "orders", desc := "(LTwoSlips;II[J)I" } : Jvm.MethodName) method_26_code (5 : Nat) (Option.some Jvm.ClassFile.FieldType.int) [((0 : Nat), (10 : Nat), (13 : Nat), (19 : Nat))]) ∈ lw_all := lw_g (lw_at lw_m7 114 rfl) rfl
theorem q1660 : (Jvm.Cond.methodLink "TwoSlipsLaw" (88 : Nat) ({ cls := "TwoSlips", name := "orders", desc := "(II)I" } : Jvm.MethodName)) ∈ lw_all := lw_g (lw_at lw_m7 115 rfl) rfl
theorem q1679 : (Jvm.Cond.methodLink "TwoSlipsLaw" (226 : Nat) ({ cls := "TwoSlipsLaw", name := "mended", desc := "(LTwoSlips;I[J)I" } : Jvm.MethodName)) ∈ lw_all := lw_g (lw_at lw_m7 134 rfl) rfl
theorem q1680 : (Jvm.Cond.static ({ cls := "TwoSlipsLaw", name := "mended", desc := "(LTwoSlips;I[J)I" } : Jvm.MethodName)) ∈ lw_all := lw_g (lw_at lw_m7 135 rfl) rfl
theorem q1681 : (Jvm.Cond.codeWith ({ cls := "TwoSlipsLaw", name := "mended", desc := "(LTwoSlips;I[J)I" } : Jvm.MethodName) method_27_code (4 : Nat) (Option.some Jvm.ClassFile.FieldType.int) [((0 : Nat), (9 : Nat), (12 : Nat), (13 : Nat))]) ∈ lw_all := lw_g (lw_at lw_m7 136 rfl) rfl
theorem q1682 : (Jvm.Cond.methodLink "TwoSlipsLaw" (91 : Nat) ({ cls := "TwoSlips", name := "mended", desc := "(I)I" } : Jvm.MethodName)) ∈ lw_all := lw_g (lw_at lw_m7 137 rfl) rfl
theorem q1687 : (Jvm.Cond.methodLink "TwoSlipsLaw" (229 : Nat) ({ cls := "TwoSlipsLaw", name := "answers", desc := "(LTwoSlips;II[J)I" } : Jvm.MethodName)) ∈ lw_all := lw_g (lw_at lw_m7 142 rfl) rfl
theorem q1688 : (Jvm.Cond.static ({ cls := "TwoSlipsLaw", name := "answers", desc := "(LTwoSlips;II[J)I" } : Jvm.MethodName)) ∈ lw_all := lw_g (lw_at lw_m7 143 rfl) rfl
theorem q1689 : (Jvm.Cond.codeWith ({ cls := "TwoSlipsLaw", name := "answers", desc := "(LTwoSlips;II[J)I" } : Jvm.MethodName) method_28_code (5 : Nat) (Option.some Jvm.ClassFile.FieldType.int) [((0 : Nat), (10 : Nat), (13 : Nat), (19 : Nat)), ((0 : Nat), (10 : Nat), (17 : Nat), (97 : Nat)), ((0 : Nat), (10 : Nat), (21 : Nat), (13 : Nat))]) ∈ lw_all := lw_g (lw_at lw_m7 144 rfl) rfl
theorem q1690 : (Jvm.Cond.classLink "TwoSlipsLaw" (97 : Nat) "java/lang/IllegalStateException") ∈ lw_all := lw_g (lw_at lw_m7 145 rfl) rfl
theorem q1691 : (Jvm.Cond.methodLink "TwoSlipsLaw" (94 : Nat) ({ cls := "TwoSlips", name := "answers", desc := "(II)I" } : Jvm.MethodName)) ∈ lw_all := lw_g (lw_at lw_m7 146 rfl) rfl
theorem q1736 : (Jvm.Cond.methodLink "TwoSlipsLaw" (232 : Nat) ({ cls := "TwoSlipsLaw", name := "tray", desc := "(LTwoSlips;III)I" } : Jvm.MethodName)) ∈ lw_all := lw_g (lw_at lw_m7 191 rfl) rfl
theorem q1737 : (Jvm.Cond.static ({ cls := "TwoSlipsLaw", name := "tray", desc := "(LTwoSlips;III)I" } : Jvm.MethodName)) ∈ lw_all := lw_g (lw_at lw_m7 192 rfl) rfl
theorem q1738 : (Jvm.Cond.codeWith ({ cls := "TwoSlipsLaw", name := "tray", desc := "(LTwoSlips;III)I" } : Jvm.MethodName) method_29_code (5 : Nat) (Option.some Jvm.ClassFile.FieldType.int) [((0 : Nat), (7 : Nat), (10 : Nat), (19 : Nat)), ((0 : Nat), (7 : Nat), (14 : Nat), (13 : Nat))]) ∈ lw_all := lw_g (lw_at lw_m7 193 rfl) rfl
theorem q1739 : (Jvm.Cond.methodLink "TwoSlipsLaw" (99 : Nat) ({ cls := "TwoSlips", name := "tray", desc := "(III)V" } : Jvm.MethodName)) ∈ lw_all := lw_g (lw_at lw_m7 194 rfl) rfl
theorem q1775 : (Jvm.Cond.methodLink "TwoSlipsLaw" (238 : Nat) ({ cls := "TwoSlipsLaw", name := "write", desc := "(LTwoSlips;IIJ[J)I" } : Jvm.MethodName)) ∈ lw_all := lw_g (lw_at lw_m7 230 rfl) rfl
theorem q1776 : (Jvm.Cond.static ({ cls := "TwoSlipsLaw", name := "write", desc := "(LTwoSlips;IIJ[J)I" } : Jvm.MethodName)) ∈ lw_all := lw_g (lw_at lw_m7 231 rfl) rfl
theorem q1777 : (Jvm.Cond.codeWith ({ cls := "TwoSlipsLaw", name := "write", desc := "(LTwoSlips;IIJ[J)I" } : Jvm.MethodName) method_30_code (7 : Nat) (Option.some Jvm.ClassFile.FieldType.int) [((0 : Nat), (11 : Nat), (14 : Nat), (19 : Nat)), ((0 : Nat), (11 : Nat), (18 : Nat), (97 : Nat)), ((0 : Nat), (11 : Nat), (22 : Nat), (107 : Nat))]) ∈ lw_all := lw_g (lw_at lw_m7 232 rfl) rfl
theorem q1778 : (Jvm.Cond.classLink "TwoSlipsLaw" (107 : Nat) "java/lang/IndexOutOfBoundsException") ∈ lw_all := lw_g (lw_at lw_m7 233 rfl) rfl
theorem q1797 : (Jvm.Cond.methodLink "TwoSlipsLaw" (103 : Nat) ({ cls := "TwoSlips", name := "write", desc := "(IIJ)J" } : Jvm.MethodName)) ∈ lw_all := lw_g (lw_at lw_m8 12 rfl) rfl
theorem q1840 : (Jvm.Cond.methodLink "TwoSlipsLaw" (242 : Nat) ({ cls := "TwoSlipsLaw", name := "pour", desc := "(LTwoSlips;I[J)I" } : Jvm.MethodName)) ∈ lw_all := lw_g (lw_at lw_m8 55 rfl) rfl
theorem q1841 : (Jvm.Cond.static ({ cls := "TwoSlipsLaw", name := "pour", desc := "(LTwoSlips;I[J)I" } : Jvm.MethodName)) ∈ lw_all := lw_g (lw_at lw_m8 56 rfl) rfl
theorem q1842 : (Jvm.Cond.codeWith ({ cls := "TwoSlipsLaw", name := "pour", desc := "(LTwoSlips;I[J)I" } : Jvm.MethodName) method_31_code (4 : Nat) (Option.some Jvm.ClassFile.FieldType.int) [((0 : Nat), (9 : Nat), (12 : Nat), (19 : Nat)), ((0 : Nat), (9 : Nat), (15 : Nat), (97 : Nat))]) ∈ lw_all := lw_g (lw_at lw_m8 57 rfl) rfl
theorem q1843 : (Jvm.Cond.methodLink "TwoSlipsLaw" (109 : Nat) ({ cls := "TwoSlips", name := "pour", desc := "(I)I" } : Jvm.MethodName)) ∈ lw_all := lw_g (lw_at lw_m8 58 rfl) rfl
theorem q1847 : (Jvm.Cond.methodLink "TwoSlipsLaw" (245 : Nat) ({ cls := "TwoSlipsLaw", name := "image", desc := "(LTwoSlips;I)I" } : Jvm.MethodName)) ∈ lw_all := lw_g (lw_at lw_m8 62 rfl) rfl
theorem q1848 : (Jvm.Cond.static ({ cls := "TwoSlipsLaw", name := "image", desc := "(LTwoSlips;I)I" } : Jvm.MethodName)) ∈ lw_all := lw_g (lw_at lw_m8 63 rfl) rfl
theorem q1849 : (Jvm.Cond.codeWith ({ cls := "TwoSlipsLaw", name := "image", desc := "(LTwoSlips;I)I" } : Jvm.MethodName) method_32_code (3 : Nat) (Option.some Jvm.ClassFile.FieldType.int) [((0 : Nat), (5 : Nat), (8 : Nat), (19 : Nat))]) ∈ lw_all := lw_g (lw_at lw_m8 64 rfl) rfl
theorem q1850 : (Jvm.Cond.methodLink "TwoSlipsLaw" (112 : Nat) ({ cls := "TwoSlips", name := "image", desc := "(I)V" } : Jvm.MethodName)) ∈ lw_all := lw_g (lw_at lw_m8 65 rfl) rfl
theorem q1854 : (Jvm.Cond.methodLink "TwoSlipsLaw" (249 : Nat) ({ cls := "TwoSlipsLaw", name := "restore", desc := "(LTwoSlips;I)I" } : Jvm.MethodName)) ∈ lw_all := lw_g (lw_at lw_m8 69 rfl) rfl
theorem q1855 : (Jvm.Cond.static ({ cls := "TwoSlipsLaw", name := "restore", desc := "(LTwoSlips;I)I" } : Jvm.MethodName)) ∈ lw_all := lw_g (lw_at lw_m8 70 rfl) rfl
theorem q1856 : (Jvm.Cond.codeWith ({ cls := "TwoSlipsLaw", name := "restore", desc := "(LTwoSlips;I)I" } : Jvm.MethodName) method_33_code (3 : Nat) (Option.some Jvm.ClassFile.FieldType.int) [((0 : Nat), (5 : Nat), (8 : Nat), (19 : Nat)), ((0 : Nat), (5 : Nat), (11 : Nat), (97 : Nat))]) ∈ lw_all := lw_g (lw_at lw_m8 71 rfl) rfl
theorem q1857 : (Jvm.Cond.methodLink "TwoSlipsLaw" (116 : Nat) ({ cls := "TwoSlips", name := "restore", desc := "(I)V" } : Jvm.MethodName)) ∈ lw_all := lw_g (lw_at lw_m8 72 rfl) rfl
theorem q1861 : (Jvm.Cond.classLink "TwoSlipsLaw" (120 : Nat) "TwoSlipsModel") ∈ lw_all := lw_g (lw_at lw_m8 76 rfl) rfl
theorem q1863 : (Jvm.Cond.methodLink "TwoSlipsLaw" (122 : Nat) ({ cls := "TwoSlipsModel", name := "<init>", desc := "()V" } : Jvm.MethodName)) ∈ lw_all := lw_g (lw_at lw_m8 78 rfl) rfl
theorem q1968 : (Jvm.Cond.methodLink "TwoSlipsLaw" (134 : Nat) ({ cls := "TwoSlipsModel", name := "thrown", desc := "()I" } : Jvm.MethodName)) ∈ lw_all := lw_g (lw_at lw_m8 183 rfl) rfl
theorem q1972 : (Jvm.Cond.methodLink "TwoSlipsLaw" (127 : Nat) ({ cls := "TwoSlipsModel", name := "feed", desc := "(IIIII)I" } : Jvm.MethodName)) ∈ lw_all := lw_g (lw_at lw_m8 187 rfl) rfl
theorem q1976 : (Jvm.Cond.methodLink "TwoSlipsLaw" (133 : Nat) ({ cls := "TwoSlipsModel", name := "talk", desc := "(I)I" } : Jvm.MethodName)) ∈ lw_all := lw_g (lw_at lw_m8 191 rfl) rfl
theorem q2104 : (Jvm.Cond.methodLink "TwoSlipsLaw" (141 : Nat) ({ cls := "TwoSlipsModel", name := "fault", desc := "(I)I" } : Jvm.MethodName)) ∈ lw_all := lw_g (lw_at lw_m9 79 rfl) rfl
theorem q2108 : (Jvm.Cond.methodLink "TwoSlipsLaw" (145 : Nat) ({ cls := "TwoSlipsModel", name := "world", desc := "(II)I" } : Jvm.MethodName)) ∈ lw_all := lw_g (lw_at lw_m9 83 rfl) rfl
theorem q2120 : (Jvm.Cond.methodLink "TwoSlipsLaw" (149 : Nat) ({ cls := "TwoSlipsModel", name := "pair", desc := "(II)I" } : Jvm.MethodName)) ∈ lw_all := lw_g (lw_at lw_m9 95 rfl) rfl
theorem q2126 : (Jvm.Cond.methodLink "TwoSlipsLaw" (152 : Nat) ({ cls := "TwoSlipsModel", name := "told", desc := "(II)I" } : Jvm.MethodName)) ∈ lw_all := lw_g (lw_at lw_m9 101 rfl) rfl
theorem q2142 : (Jvm.Cond.methodLink "TwoSlipsLaw" (155 : Nat) ({ cls := "TwoSlipsModel", name := "speaker", desc := "(II)I" } : Jvm.MethodName)) ∈ lw_all := lw_g (lw_at lw_m9 117 rfl) rfl
theorem q2155 : (Jvm.Cond.methodLink "TwoSlipsLaw" (158 : Nat) ({ cls := "TwoSlipsModel", name := "turn", desc := "(I)I" } : Jvm.MethodName)) ∈ lw_all := lw_g (lw_at lw_m9 130 rfl) rfl
theorem q2163 : (Jvm.Cond.methodLink "TwoSlipsLaw" (161 : Nat) ({ cls := "TwoSlipsModel", name := "left", desc := "(I)I" } : Jvm.MethodName)) ∈ lw_all := lw_g (lw_at lw_m9 138 rfl) rfl
theorem q2224 : (Jvm.Cond.methodLink "TwoSlipsLaw" (164 : Nat) ({ cls := "TwoSlipsModel", name := "leftAt", desc := "(II)I" } : Jvm.MethodName)) ∈ lw_all := lw_g (lw_at lw_m9 199 rfl) rfl
theorem q2228 : (Jvm.Cond.methodLink "TwoSlipsLaw" (167 : Nat) ({ cls := "TwoSlipsModel", name := "isLeft", desc := "(II)Z" } : Jvm.MethodName)) ∈ lw_all := lw_g (lw_at lw_m9 203 rfl) rfl
theorem q2232 : (Jvm.Cond.methodLink "TwoSlipsLaw" (171 : Nat) ({ cls := "TwoSlipsModel", name := "only", desc := "()I" } : Jvm.MethodName)) ∈ lw_all := lw_g (lw_at lw_m9 207 rfl) rfl
theorem q2248 : (Jvm.Cond.methodLink "TwoSlipsLaw" (174 : Nat) ({ cls := "TwoSlipsModel", name := "so", desc := "(II)Z" } : Jvm.MethodName)) ∈ lw_all := lw_g (lw_at lw_m9 223 rfl) rfl
theorem q2252 : (Jvm.Cond.methodLink "TwoSlipsLaw" (177 : Nat) ({ cls := "TwoSlipsModel", name := "may", desc := "(II)Z" } : Jvm.MethodName)) ∈ lw_all := lw_g (lw_at lw_m9 227 rfl) rfl
theorem q2256 : (Jvm.Cond.methodLink "TwoSlipsLaw" (180 : Nat) ({ cls := "TwoSlipsModel", name := "judge", desc := "(I)I" } : Jvm.MethodName)) ∈ lw_all := lw_g (lw_at lw_m9 231 rfl) rfl
theorem q2260 : (Jvm.Cond.methodLink "TwoSlipsLaw" (184 : Nat) ({ cls := "TwoSlipsModel", name := "knows", desc := "(III)Z" } : Jvm.MethodName)) ∈ lw_all := lw_g (lw_at lw_m9 235 rfl) rfl
theorem q2268 : (Jvm.Cond.methodLink "TwoSlipsLaw" (187 : Nat) ({ cls := "TwoSlipsModel", name := "knowing", desc := "(II)I" } : Jvm.MethodName)) ∈ lw_all := lw_g (lw_at lw_m10 3 rfl) rfl
theorem q2272 : (Jvm.Cond.methodLink "TwoSlipsLaw" (190 : Nat) ({ cls := "TwoSlipsModel", name := "heap", desc := "(III)I" } : Jvm.MethodName)) ∈ lw_all := lw_g (lw_at lw_m10 7 rfl) rfl
theorem q2276 : (Jvm.Cond.methodLink "TwoSlipsLaw" (193 : Nat) ({ cls := "TwoSlipsModel", name := "strikes", desc := "(I)I" } : Jvm.MethodName)) ∈ lw_all := lw_g (lw_at lw_m10 11 rfl) rfl
theorem q2280 : (Jvm.Cond.methodLink "TwoSlipsLaw" (196 : Nat) ({ cls := "TwoSlipsModel", name := "ends", desc := "(II)I" } : Jvm.MethodName)) ∈ lw_all := lw_g (lw_at lw_m10 15 rfl) rfl
theorem q2289 : (Jvm.Cond.methodLink "TwoSlipsLaw" (199 : Nat) ({ cls := "TwoSlipsModel", name := "upTo", desc := "(I)I" } : Jvm.MethodName)) ∈ lw_all := lw_g (lw_at lw_m10 24 rfl) rfl
theorem q2293 : (Jvm.Cond.methodLink "TwoSlipsLaw" (202 : Nat) ({ cls := "TwoSlipsModel", name := "rest", desc := "(II)I" } : Jvm.MethodName)) ∈ lw_all := lw_g (lw_at lw_m10 28 rfl) rfl
theorem q2309 : (Jvm.Cond.methodLink "TwoSlipsLaw" (205 : Nat) ({ cls := "TwoSlipsModel", name := "when", desc := "(III)I" } : Jvm.MethodName)) ∈ lw_all := lw_g (lw_at lw_m10 44 rfl) rfl
theorem q2313 : (Jvm.Cond.methodLink "TwoSlipsLaw" (208 : Nat) ({ cls := "TwoSlipsModel", name := "longest", desc := "(III)I" } : Jvm.MethodName)) ∈ lw_all := lw_g (lw_at lw_m10 48 rfl) rfl
theorem q2317 : (Jvm.Cond.methodLink "TwoSlipsLaw" (212 : Nat) ({ cls := "TwoSlipsModel", name := "soonest", desc := "(IIII)I" } : Jvm.MethodName)) ∈ lw_all := lw_g (lw_at lw_m10 52 rfl) rfl
theorem q2341 : (Jvm.Cond.methodLink "TwoSlipsLaw" (215 : Nat) ({ cls := "TwoSlipsModel", name := "shortest", desc := "(II)I" } : Jvm.MethodName)) ∈ lw_all := lw_g (lw_at lw_m10 76 rfl) rfl
theorem q2352 : (Jvm.Cond.methodLink "TwoSlipsLaw" (218 : Nat) ({ cls := "TwoSlipsModel", name := "liar", desc := "(I)I" } : Jvm.MethodName)) ∈ lw_all := lw_g (lw_at lw_m10 87 rfl) rfl
theorem q2360 : (Jvm.Cond.methodLink "TwoSlipsLaw" (222 : Nat) ({ cls := "TwoSlipsModel", name := "which", desc := "()I" } : Jvm.MethodName)) ∈ lw_all := lw_g (lw_at lw_m10 95 rfl) rfl
theorem q2364 : (Jvm.Cond.methodLink "TwoSlipsLaw" (225 : Nat) ({ cls := "TwoSlipsModel", name := "orders", desc := "(II)I" } : Jvm.MethodName)) ∈ lw_all := lw_g (lw_at lw_m10 99 rfl) rfl
theorem q2372 : (Jvm.Cond.methodLink "TwoSlipsLaw" (228 : Nat) ({ cls := "TwoSlipsModel", name := "mended", desc := "(I)I" } : Jvm.MethodName)) ∈ lw_all := lw_g (lw_at lw_m10 107 rfl) rfl
theorem q2377 : (Jvm.Cond.methodLink "TwoSlipsLaw" (231 : Nat) ({ cls := "TwoSlipsModel", name := "answers", desc := "(II)I" } : Jvm.MethodName)) ∈ lw_all := lw_g (lw_at lw_m10 112 rfl) rfl
theorem q2388 : (Jvm.Cond.methodLink "TwoSlipsLaw" (235 : Nat) ({ cls := "TwoSlipsModel", name := "tray", desc := "(III)V" } : Jvm.MethodName)) ∈ lw_all := lw_g (lw_at lw_m10 123 rfl) rfl
theorem q2393 : (Jvm.Cond.methodLink "TwoSlipsLaw" (241 : Nat) ({ cls := "TwoSlipsModel", name := "write", desc := "(IIJ)J" } : Jvm.MethodName)) ∈ lw_all := lw_g (lw_at lw_m10 128 rfl) rfl
theorem q2401 : (Jvm.Cond.methodLink "TwoSlipsLaw" (244 : Nat) ({ cls := "TwoSlipsModel", name := "pour", desc := "(I)I" } : Jvm.MethodName)) ∈ lw_all := lw_g (lw_at lw_m10 136 rfl) rfl
theorem q2405 : (Jvm.Cond.methodLink "TwoSlipsLaw" (248 : Nat) ({ cls := "TwoSlipsModel", name := "image", desc := "(I)V" } : Jvm.MethodName)) ∈ lw_all := lw_g (lw_at lw_m10 140 rfl) rfl
theorem q2409 : (Jvm.Cond.methodLink "TwoSlipsLaw" (251 : Nat) ({ cls := "TwoSlipsModel", name := "restore", desc := "(I)V" } : Jvm.MethodName)) ∈ lw_all := lw_g (lw_at lw_m10 144 rfl) rfl
theorem q2413 : (Jvm.Cond.methodLink "TwoSlipsLaw" (255 : Nat) ({ cls := "TwoSlipsModel", name := "count", desc := "(I)I" } : Jvm.MethodName)) ∈ lw_all := lw_g (lw_at lw_m10 148 rfl) rfl
theorem q2417 : (Jvm.Cond.constantLong "TwoSlipsLaw" (236 : Nat) (4294967295 : Int64)) ∈ lw_all := lw_g (lw_at lw_m10 152 rfl) rfl

