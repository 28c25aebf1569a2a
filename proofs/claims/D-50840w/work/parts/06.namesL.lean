/-! the law's own entry -/
set_option maxRecDepth 100000
abbrev cL_law : ByteArray := code
def dkwL_law_102 : List UInt8 := [167, 0, 3, 132, 4, 6, 167, 246, 27, 4, 172]
abbrev dktL_law_102 : List UInt8 := dkwL_law_102 ++ []
def dkwL_law_101 : List UInt8 := [21, 5, 159, 0, 5, 3, 172, 21, 5, 154, 0, 15, 45, 3, 47, 21, 6, 133, 148, 153, 0, 5, 3, 172]
abbrev dktL_law_101 : List UInt8 := dkwL_law_101 ++ dktL_law_102
def dkwL_law_100 : List UInt8 := [46, 45, 184, 1, 14, 54, 5, 44, 42, 21, 4, 4, 96, 46, 182, 1, 16, 54, 6, 44, 182, 0, 145]
abbrev dktL_law_100 : List UInt8 := dkwL_law_100 ++ dktL_law_101
def dkwL_law_99 : List UInt8 := [154, 0, 15, 45, 3, 47, 21, 6, 133, 148, 153, 0, 5, 3, 172, 167, 0, 59, 43, 42, 21, 4, 4, 96]
abbrev dktL_law_99 : List UInt8 := dkwL_law_99 ++ dktL_law_100
def dkwL_law_98 : List UInt8 := [21, 4, 4, 96, 46, 182, 1, 13, 54, 6, 44, 182, 0, 145, 21, 5, 159, 0, 5, 3, 172, 21, 5]
abbrev dktL_law_98 : List UInt8 := dkwL_law_98 ++ dktL_law_99
def dkwL_law_97 : List UInt8 := [182, 1, 10, 159, 0, 117, 3, 172, 43, 42, 21, 4, 4, 96, 46, 45, 184, 1, 11, 54, 5, 44, 42]
abbrev dktL_law_97 : List UInt8 := dkwL_law_97 ++ dktL_law_98
def dkwL_law_96 : List UInt8 := [182, 1, 3, 44, 42, 21, 4, 4, 96, 46, 182, 1, 6, 159, 0, 130, 3, 172, 43, 182, 1, 7, 44]
abbrev dktL_law_96 : List UInt8 := dkwL_law_96 ++ dktL_law_97
def dkwL_law_95 : List UInt8 := [167, 0, 166, 43, 182, 0, 255, 44, 182, 1, 2, 159, 0, 155, 3, 172, 43, 42, 21, 4, 4, 96, 46]
abbrev dktL_law_95 : List UInt8 := dkwL_law_95 ++ dktL_law_96
def dkwL_law_94 : List UInt8 := [21, 5, 159, 0, 5, 3, 172, 21, 5, 154, 0, 15, 45, 3, 47, 21, 6, 133, 148, 153, 0, 5, 3, 172]
abbrev dktL_law_94 : List UInt8 := dkwL_law_94 ++ dktL_law_95
def dkwL_law_93 : List UInt8 := [46, 45, 184, 0, 252, 54, 5, 44, 42, 21, 4, 4, 96, 46, 182, 0, 254, 54, 6, 44, 182, 0, 145]
abbrev dktL_law_93 : List UInt8 := dkwL_law_93 ++ dktL_law_94
def dkwL_law_92 : List UInt8 := [154, 0, 15, 45, 3, 47, 21, 6, 133, 148, 153, 0, 5, 3, 172, 167, 0, 222, 43, 42, 21, 4, 4, 96]
abbrev dktL_law_92 : List UInt8 := dkwL_law_92 ++ dktL_law_93
def dkwL_law_91 : List UInt8 := [42, 21, 4, 6, 96, 46, 182, 0, 251, 54, 6, 44, 182, 0, 145, 21, 5, 159, 0, 5, 3, 172, 21, 5]
abbrev dktL_law_91 : List UInt8 := dkwL_law_91 ++ dktL_law_92
def dkwL_law_90 : List UInt8 := [21, 4, 6, 96, 46, 45, 184, 0, 249, 54, 5, 44, 42, 21, 4, 4, 96, 46, 42, 21, 4, 5, 96, 46]
abbrev dktL_law_90 : List UInt8 := dkwL_law_90 ++ dktL_law_91
def dkwL_law_89 : List UInt8 := [148, 153, 0, 5, 3, 172, 167, 1, 46, 43, 42, 21, 4, 4, 96, 46, 42, 21, 4, 5, 96, 46, 42]
abbrev dktL_law_89 : List UInt8 := dkwL_law_89 ++ dktL_law_90
def dkwL_law_88 : List UInt8 := [54, 6, 44, 182, 0, 145, 21, 5, 159, 0, 5, 3, 172, 21, 5, 154, 0, 15, 45, 3, 47, 21, 6, 133]
abbrev dktL_law_88 : List UInt8 := dkwL_law_88 ++ dktL_law_89
def dkwL_law_87 : List UInt8 := [96, 46, 42, 21, 4, 5, 96, 46, 42, 21, 4, 6, 96, 46, 42, 21, 4, 7, 96, 46, 182, 0, 248]
abbrev dktL_law_87 : List UInt8 := dkwL_law_87 ++ dktL_law_88
def dkwL_law_86 : List UInt8 := [46, 42, 21, 4, 6, 96, 46, 42, 21, 4, 7, 96, 46, 45, 184, 0, 245, 54, 5, 44, 42, 21, 4, 4]
abbrev dktL_law_86 : List UInt8 := dkwL_law_86 ++ dktL_law_87
def dkwL_law_85 : List UInt8 := [21, 6, 133, 148, 153, 0, 5, 3, 172, 167, 1, 138, 43, 42, 21, 4, 4, 96, 46, 42, 21, 4, 5, 96]
abbrev dktL_law_85 : List UInt8 := dkwL_law_85 ++ dktL_law_86
def dkwL_law_84 : List UInt8 := [182, 0, 244, 54, 6, 44, 182, 0, 145, 21, 5, 159, 0, 5, 3, 172, 21, 5, 154, 0, 15, 45, 3, 47]
abbrev dktL_law_84 : List UInt8 := dkwL_law_84 ++ dktL_law_85
def dkwL_law_83 : List UInt8 := [167, 1, 194, 43, 42, 21, 4, 4, 96, 46, 45, 184, 0, 242, 54, 5, 44, 42, 21, 4, 4, 96, 46]
abbrev dktL_law_83 : List UInt8 := dkwL_law_83 ++ dktL_law_84
def dkwL_law_82 : List UInt8 := [21, 5, 159, 0, 5, 3, 172, 21, 5, 154, 0, 15, 45, 3, 47, 21, 6, 133, 148, 153, 0, 5, 3, 172]
abbrev dktL_law_82 : List UInt8 := dkwL_law_82 ++ dktL_law_83
def dkwL_law_81 : List UInt8 := [46, 45, 184, 0, 239, 54, 5, 44, 42, 21, 4, 4, 96, 46, 182, 0, 241, 54, 6, 44, 182, 0, 145]
abbrev dktL_law_81 : List UInt8 := dkwL_law_81 ++ dktL_law_82
def dkwL_law_80 : List UInt8 := [154, 0, 15, 45, 3, 47, 21, 6, 133, 148, 153, 0, 5, 3, 172, 167, 1, 250, 43, 42, 21, 4, 4, 96]
abbrev dktL_law_80 : List UInt8 := dkwL_law_80 ++ dktL_law_81
def dkwL_law_79 : List UInt8 := [21, 4, 4, 96, 46, 182, 0, 238, 54, 6, 44, 182, 0, 145, 21, 5, 159, 0, 5, 3, 172, 21, 5]
abbrev dktL_law_79 : List UInt8 := dkwL_law_79 ++ dktL_law_80
def dkwL_law_78 : List UInt8 := [153, 0, 5, 3, 172, 167, 2, 50, 43, 42, 21, 4, 4, 96, 46, 45, 184, 0, 236, 54, 5, 44, 42]
abbrev dktL_law_78 : List UInt8 := dkwL_law_78 ++ dktL_law_79
def dkwL_law_77 : List UInt8 := [182, 0, 145, 21, 5, 159, 0, 5, 3, 172, 21, 5, 154, 0, 15, 45, 3, 47, 21, 6, 133, 148]
abbrev dktL_law_77 : List UInt8 := dkwL_law_77 ++ dktL_law_78
def dkwL_law_76 : List UInt8 := [184, 0, 233, 54, 5, 44, 42, 21, 4, 4, 96, 46, 42, 21, 4, 5, 96, 46, 182, 0, 235, 54, 6, 44]
abbrev dktL_law_76 : List UInt8 := dkwL_law_76 ++ dktL_law_77
def dkwL_law_75 : List UInt8 := [148, 153, 0, 5, 3, 172, 167, 2, 118, 43, 42, 21, 4, 4, 96, 46, 42, 21, 4, 5, 96, 46, 45]
abbrev dktL_law_75 : List UInt8 := dkwL_law_75 ++ dktL_law_76
def dkwL_law_74 : List UInt8 := [54, 6, 44, 182, 0, 145, 21, 5, 159, 0, 5, 3, 172, 21, 5, 154, 0, 15, 45, 3, 47, 21, 6, 133]
abbrev dktL_law_74 : List UInt8 := dkwL_law_74 ++ dktL_law_75
def dkwL_law_73 : List UInt8 := [46, 45, 184, 0, 230, 54, 5, 44, 42, 21, 4, 4, 96, 46, 42, 21, 4, 5, 96, 46, 182, 0, 232]
abbrev dktL_law_73 : List UInt8 := dkwL_law_73 ++ dktL_law_74
def dkwL_law_72 : List UInt8 := [21, 6, 133, 148, 153, 0, 5, 3, 172, 167, 2, 186, 43, 42, 21, 4, 4, 96, 46, 42, 21, 4, 5, 96]
abbrev dktL_law_72 : List UInt8 := dkwL_law_72 ++ dktL_law_73
def dkwL_law_71 : List UInt8 := [182, 0, 229, 54, 6, 44, 182, 0, 145, 21, 5, 159, 0, 5, 3, 172, 21, 5, 154, 0, 15, 45, 3, 47]
abbrev dktL_law_71 : List UInt8 := dkwL_law_71 ++ dktL_law_72
def dkwL_law_70 : List UInt8 := [167, 2, 242, 43, 42, 21, 4, 4, 96, 46, 45, 184, 0, 227, 54, 5, 44, 42, 21, 4, 4, 96, 46]
abbrev dktL_law_70 : List UInt8 := dkwL_law_70 ++ dktL_law_71
def dkwL_law_69 : List UInt8 := [21, 5, 159, 0, 5, 3, 172, 21, 5, 154, 0, 15, 45, 3, 47, 21, 6, 133, 148, 153, 0, 5, 3, 172]
abbrev dktL_law_69 : List UInt8 := dkwL_law_69 ++ dktL_law_70
def dkwL_law_68 : List UInt8 := [46, 45, 184, 0, 224, 54, 5, 44, 42, 21, 4, 4, 96, 46, 182, 0, 226, 54, 6, 44, 182, 0, 145]
abbrev dktL_law_68 : List UInt8 := dkwL_law_68 ++ dktL_law_69
def dkwL_law_67 : List UInt8 := [154, 0, 15, 45, 3, 47, 21, 6, 133, 148, 153, 0, 5, 3, 172, 167, 3, 42, 43, 42, 21, 4, 4, 96]
abbrev dktL_law_67 : List UInt8 := dkwL_law_67 ++ dktL_law_68
def dkwL_law_66 : List UInt8 := [21, 4, 4, 96, 46, 182, 0, 223, 54, 6, 44, 182, 0, 145, 21, 5, 159, 0, 5, 3, 172, 21, 5]
abbrev dktL_law_66 : List UInt8 := dkwL_law_66 ++ dktL_law_67
def dkwL_law_65 : List UInt8 := [148, 153, 0, 5, 3, 172, 167, 3, 98, 43, 42, 21, 4, 4, 96, 46, 45, 184, 0, 221, 54, 5, 44, 42]
abbrev dktL_law_65 : List UInt8 := dkwL_law_65 ++ dktL_law_66
def dkwL_law_64 : List UInt8 := [54, 6, 44, 182, 0, 145, 21, 5, 159, 0, 5, 3, 172, 21, 5, 154, 0, 15, 45, 3, 47, 21, 6, 133]
abbrev dktL_law_64 : List UInt8 := dkwL_law_64 ++ dktL_law_65
def dkwL_law_63 : List UInt8 := [54, 5, 44, 42, 21, 4, 4, 96, 46, 42, 21, 4, 5, 96, 46, 42, 21, 4, 6, 96, 46, 182, 0, 220]
abbrev dktL_law_63 : List UInt8 := dkwL_law_63 ++ dktL_law_64
def dkwL_law_62 : List UInt8 := [172, 43, 42, 21, 4, 4, 96, 46, 42, 21, 4, 5, 96, 46, 42, 21, 4, 6, 96, 46, 45, 184, 0, 218]
abbrev dktL_law_62 : List UInt8 := dkwL_law_62 ++ dktL_law_63
def dkwL_law_61 : List UInt8 := [21, 6, 133, 148, 153, 0, 5, 3, 172, 167, 3, 191, 43, 182, 0, 214, 44, 182, 0, 217, 159, 3, 180, 3]
abbrev dktL_law_61 : List UInt8 := dkwL_law_61 ++ dktL_law_62
def dkwL_law_60 : List UInt8 := [182, 0, 213, 54, 6, 44, 182, 0, 145, 21, 5, 159, 0, 5, 3, 172, 21, 5, 154, 0, 15, 45, 3, 47]
abbrev dktL_law_60 : List UInt8 := dkwL_law_60 ++ dktL_law_61
def dkwL_law_59 : List UInt8 := [167, 3, 247, 43, 42, 21, 4, 4, 96, 46, 45, 184, 0, 211, 54, 5, 44, 42, 21, 4, 4, 96, 46]
abbrev dktL_law_59 : List UInt8 := dkwL_law_59 ++ dktL_law_60
def dkwL_law_58 : List UInt8 := [154, 0, 22, 45, 3, 47, 21, 6, 153, 0, 7, 10, 167, 0, 4, 9, 148, 153, 0, 5, 3, 172]
abbrev dktL_law_58 : List UInt8 := dkwL_law_58 ++ dktL_law_59
def dkwL_law_57 : List UInt8 := [21, 4, 6, 96, 46, 182, 0, 210, 54, 6, 44, 182, 0, 145, 21, 5, 159, 0, 5, 3, 172, 21, 5]
abbrev dktL_law_57 : List UInt8 := dkwL_law_57 ++ dktL_law_58
def dkwL_law_56 : List UInt8 := [6, 96, 46, 45, 184, 0, 208, 54, 5, 44, 42, 21, 4, 4, 96, 46, 42, 21, 4, 5, 96, 46, 42]
abbrev dktL_law_56 : List UInt8 := dkwL_law_56 ++ dktL_law_57
def dkwL_law_55 : List UInt8 := [153, 0, 5, 3, 172, 167, 4, 78, 43, 42, 21, 4, 4, 96, 46, 42, 21, 4, 5, 96, 46, 42, 21, 4]
abbrev dktL_law_55 : List UInt8 := dkwL_law_55 ++ dktL_law_56
def dkwL_law_54 : List UInt8 := [182, 0, 145, 21, 5, 159, 0, 5, 3, 172, 21, 5, 154, 0, 15, 45, 3, 47, 21, 6, 133, 148]
abbrev dktL_law_54 : List UInt8 := dkwL_law_54 ++ dktL_law_55
def dkwL_law_53 : List UInt8 := [184, 0, 205, 54, 5, 44, 42, 21, 4, 4, 96, 46, 42, 21, 4, 5, 96, 46, 182, 0, 207, 54, 6, 44]
abbrev dktL_law_53 : List UInt8 := dkwL_law_53 ++ dktL_law_54
def dkwL_law_52 : List UInt8 := [148, 153, 0, 5, 3, 172, 167, 4, 146, 43, 42, 21, 4, 4, 96, 46, 42, 21, 4, 5, 96, 46, 45]
abbrev dktL_law_52 : List UInt8 := dkwL_law_52 ++ dktL_law_53
def dkwL_law_51 : List UInt8 := [54, 6, 44, 182, 0, 145, 21, 5, 159, 0, 5, 3, 172, 21, 5, 154, 0, 15, 45, 3, 47, 21, 6, 133]
abbrev dktL_law_51 : List UInt8 := dkwL_law_51 ++ dktL_law_52
def dkwL_law_50 : List UInt8 := [46, 45, 184, 0, 202, 54, 5, 44, 42, 21, 4, 4, 96, 46, 42, 21, 4, 5, 96, 46, 182, 0, 204]
abbrev dktL_law_50 : List UInt8 := dkwL_law_50 ++ dktL_law_51
def dkwL_law_49 : List UInt8 := [21, 6, 133, 148, 153, 0, 5, 3, 172, 167, 4, 214, 43, 42, 21, 4, 4, 96, 46, 42, 21, 4, 5, 96]
abbrev dktL_law_49 : List UInt8 := dkwL_law_49 ++ dktL_law_50
def dkwL_law_48 : List UInt8 := [182, 0, 201, 54, 6, 44, 182, 0, 145, 21, 5, 159, 0, 5, 3, 172, 21, 5, 154, 0, 15, 45, 3, 47]
abbrev dktL_law_48 : List UInt8 := dkwL_law_48 ++ dktL_law_49
def dkwL_law_47 : List UInt8 := [184, 0, 198, 54, 5, 44, 42, 21, 4, 4, 96, 46, 42, 21, 4, 5, 96, 46, 42, 21, 4, 6, 96, 46]
abbrev dktL_law_47 : List UInt8 := dkwL_law_47 ++ dktL_law_48
def dkwL_law_46 : List UInt8 := [167, 5, 38, 43, 42, 21, 4, 4, 96, 46, 42, 21, 4, 5, 96, 46, 42, 21, 4, 6, 96, 46, 45]
abbrev dktL_law_46 : List UInt8 := dkwL_law_46 ++ dktL_law_47
def dkwL_law_45 : List UInt8 := [159, 0, 5, 3, 172, 21, 5, 154, 0, 15, 45, 3, 47, 21, 6, 133, 148, 153, 0, 5, 3, 172]
abbrev dktL_law_45 : List UInt8 := dkwL_law_45 ++ dktL_law_46
def dkwL_law_44 : List UInt8 := [21, 4, 4, 96, 46, 42, 21, 4, 5, 96, 46, 182, 0, 197, 54, 6, 44, 182, 0, 145, 21, 5]
abbrev dktL_law_44 : List UInt8 := dkwL_law_44 ++ dktL_law_45
def dkwL_law_43 : List UInt8 := [167, 5, 106, 43, 42, 21, 4, 4, 96, 46, 42, 21, 4, 5, 96, 46, 45, 184, 0, 195, 54, 5, 44, 42]
abbrev dktL_law_43 : List UInt8 := dkwL_law_43 ++ dktL_law_44
def dkwL_law_42 : List UInt8 := [159, 0, 5, 3, 172, 21, 5, 154, 0, 15, 45, 3, 47, 21, 6, 133, 148, 153, 0, 5, 3, 172]
abbrev dktL_law_42 : List UInt8 := dkwL_law_42 ++ dktL_law_43
def dkwL_law_41 : List UInt8 := [21, 4, 4, 96, 46, 42, 21, 4, 5, 96, 46, 182, 0, 194, 54, 6, 44, 182, 0, 145, 21, 5]
abbrev dktL_law_41 : List UInt8 := dkwL_law_41 ++ dktL_law_42
def dkwL_law_40 : List UInt8 := [167, 5, 174, 43, 42, 21, 4, 4, 96, 46, 42, 21, 4, 5, 96, 46, 45, 184, 0, 192, 54, 5, 44, 42]
abbrev dktL_law_40 : List UInt8 := dkwL_law_40 ++ dktL_law_41
def dkwL_law_39 : List UInt8 := [21, 5, 154, 0, 22, 45, 3, 47, 21, 6, 153, 0, 7, 10, 167, 0, 4, 9, 148, 153, 0, 5, 3, 172]
abbrev dktL_law_39 : List UInt8 := dkwL_law_39 ++ dktL_law_40
def dkwL_law_38 : List UInt8 := [96, 46, 42, 21, 4, 5, 96, 46, 182, 0, 191, 54, 6, 44, 182, 0, 145, 21, 5, 159, 0, 5, 3, 172]
abbrev dktL_law_38 : List UInt8 := dkwL_law_38 ++ dktL_law_39
def dkwL_law_37 : List UInt8 := [43, 42, 21, 4, 4, 96, 46, 42, 21, 4, 5, 96, 46, 45, 184, 0, 189, 54, 5, 44, 42, 21, 4, 4]
abbrev dktL_law_37 : List UInt8 := dkwL_law_37 ++ dktL_law_38
def dkwL_law_36 : List UInt8 := [24, 7, 151, 154, 0, 5, 3, 172, 167, 6, 6, 43, 182, 0, 185, 44, 182, 0, 188, 159, 5, 251, 3, 172]
abbrev dktL_law_36 : List UInt8 := dkwL_law_36 ++ dktL_law_37
def dkwL_law_35 : List UInt8 := [182, 0, 184, 57, 7, 24, 5, 24, 7, 151, 153, 0, 21, 24, 5, 24, 5, 151, 153, 0, 11, 24, 7]
abbrev dktL_law_35 : List UInt8 := dkwL_law_35 ++ dktL_law_36
def dkwL_law_34 : List UInt8 := [167, 6, 60, 43, 182, 0, 176, 44, 182, 0, 179, 159, 6, 49, 3, 172, 43, 182, 0, 180, 57, 5, 44]
abbrev dktL_law_34 : List UInt8 := dkwL_law_34 ++ dktL_law_35
def dkwL_law_33 : List UInt8 := [21, 5, 159, 0, 5, 3, 172, 21, 5, 154, 0, 15, 45, 3, 47, 21, 6, 133, 148, 153, 0, 5, 3, 172]
abbrev dktL_law_33 : List UInt8 := dkwL_law_33 ++ dktL_law_34
def dkwL_law_32 : List UInt8 := [46, 45, 184, 0, 173, 54, 5, 44, 42, 21, 4, 4, 96, 46, 182, 0, 175, 54, 6, 44, 182, 0, 145]
abbrev dktL_law_32 : List UInt8 := dkwL_law_32 ++ dktL_law_33
def dkwL_law_31 : List UInt8 := [154, 0, 15, 45, 3, 47, 21, 6, 133, 148, 153, 0, 5, 3, 172, 167, 6, 116, 43, 42, 21, 4, 4, 96]
abbrev dktL_law_31 : List UInt8 := dkwL_law_31 ++ dktL_law_32
def dkwL_law_30 : List UInt8 := [21, 4, 4, 96, 46, 182, 0, 172, 54, 6, 44, 182, 0, 145, 21, 5, 159, 0, 5, 3, 172, 21, 5]
abbrev dktL_law_30 : List UInt8 := dkwL_law_30 ++ dktL_law_31
def dkwL_law_29 : List UInt8 := [153, 0, 5, 3, 172, 167, 6, 172, 43, 42, 21, 4, 4, 96, 46, 45, 184, 0, 170, 54, 5, 44, 42]
abbrev dktL_law_29 : List UInt8 := dkwL_law_29 ++ dktL_law_30
def dkwL_law_28 : List UInt8 := [182, 0, 145, 21, 5, 159, 0, 5, 3, 172, 21, 5, 154, 0, 15, 45, 3, 47, 21, 6, 133, 148]
abbrev dktL_law_28 : List UInt8 := dkwL_law_28 ++ dktL_law_29
def dkwL_law_27 : List UInt8 := [184, 0, 167, 54, 5, 44, 42, 21, 4, 4, 96, 46, 42, 21, 4, 5, 96, 46, 182, 0, 169, 54, 6, 44]
abbrev dktL_law_27 : List UInt8 := dkwL_law_27 ++ dktL_law_28
def dkwL_law_26 : List UInt8 := [148, 153, 0, 5, 3, 172, 167, 6, 240, 43, 42, 21, 4, 4, 96, 46, 42, 21, 4, 5, 96, 46, 45]
abbrev dktL_law_26 : List UInt8 := dkwL_law_26 ++ dktL_law_27
def dkwL_law_25 : List UInt8 := [54, 6, 44, 182, 0, 145, 21, 5, 159, 0, 5, 3, 172, 21, 5, 154, 0, 15, 45, 3, 47, 21, 6, 133]
abbrev dktL_law_25 : List UInt8 := dkwL_law_25 ++ dktL_law_26
def dkwL_law_24 : List UInt8 := [46, 45, 184, 0, 164, 54, 5, 44, 42, 21, 4, 4, 96, 46, 42, 21, 4, 5, 96, 46, 182, 0, 166]
abbrev dktL_law_24 : List UInt8 := dkwL_law_24 ++ dktL_law_25
def dkwL_law_23 : List UInt8 := [21, 6, 133, 148, 153, 0, 5, 3, 172, 167, 7, 52, 43, 42, 21, 4, 4, 96, 46, 42, 21, 4, 5, 96]
abbrev dktL_law_23 : List UInt8 := dkwL_law_23 ++ dktL_law_24
def dkwL_law_22 : List UInt8 := [182, 0, 163, 54, 6, 44, 182, 0, 145, 21, 5, 159, 0, 5, 3, 172, 21, 5, 154, 0, 15, 45, 3, 47]
abbrev dktL_law_22 : List UInt8 := dkwL_law_22 ++ dktL_law_23
def dkwL_law_21 : List UInt8 := [5, 96, 46, 45, 184, 0, 161, 54, 5, 44, 42, 21, 4, 4, 96, 46, 42, 21, 4, 5, 96, 46]
abbrev dktL_law_21 : List UInt8 := dkwL_law_21 ++ dktL_law_22
def dkwL_law_20 : List UInt8 := [3, 47, 21, 6, 133, 148, 153, 0, 5, 3, 172, 167, 7, 120, 43, 42, 21, 4, 4, 96, 46, 42, 21, 4]
abbrev dktL_law_20 : List UInt8 := dkwL_law_20 ++ dktL_law_21
def dkwL_law_19 : List UInt8 := [96, 46, 182, 0, 160, 54, 6, 44, 182, 0, 145, 21, 5, 159, 0, 5, 3, 172, 21, 5, 154, 0, 15, 45]
abbrev dktL_law_19 : List UInt8 := dkwL_law_19 ++ dktL_law_20
def dkwL_law_18 : List UInt8 := [46, 42, 21, 4, 5, 96, 46, 45, 184, 0, 158, 54, 5, 44, 42, 21, 4, 4, 96, 46, 42, 21, 4, 5]
abbrev dktL_law_18 : List UInt8 := dkwL_law_18 ++ dktL_law_19
def dkwL_law_17 : List UInt8 := [154, 0, 15, 45, 3, 47, 21, 6, 133, 148, 153, 0, 5, 3, 172, 167, 7, 188, 43, 42, 21, 4, 4, 96]
abbrev dktL_law_17 : List UInt8 := dkwL_law_17 ++ dktL_law_18
def dkwL_law_16 : List UInt8 := [42, 21, 4, 5, 96, 46, 182, 0, 157, 54, 6, 44, 182, 0, 145, 21, 5, 159, 0, 5, 3, 172, 21, 5]
abbrev dktL_law_16 : List UInt8 := dkwL_law_16 ++ dktL_law_17
def dkwL_law_15 : List UInt8 := [21, 4, 4, 96, 46, 42, 21, 4, 5, 96, 46, 45, 184, 0, 154, 54, 5, 44, 42, 21, 4, 4, 96, 46]
abbrev dktL_law_15 : List UInt8 := dkwL_law_15 ++ dktL_law_16
def dkwL_law_14 : List UInt8 := [172, 21, 5, 154, 0, 15, 45, 3, 47, 21, 6, 133, 148, 153, 0, 5, 3, 172, 167, 8, 0, 43, 42]
abbrev dktL_law_14 : List UInt8 := dkwL_law_14 ++ dktL_law_15
def dkwL_law_13 : List UInt8 := [54, 5, 44, 42, 21, 4, 4, 96, 46, 182, 0, 153, 54, 6, 44, 182, 0, 145, 21, 5, 159, 0, 5, 3]
abbrev dktL_law_13 : List UInt8 := dkwL_law_13 ++ dktL_law_14
def dkwL_law_12 : List UInt8 := [21, 6, 133, 148, 153, 0, 5, 3, 172, 167, 8, 56, 43, 42, 21, 4, 4, 96, 46, 45, 184, 0, 151]
abbrev dktL_law_12 : List UInt8 := dkwL_law_12 ++ dktL_law_13
def dkwL_law_11 : List UInt8 := [182, 0, 150, 54, 6, 44, 182, 0, 145, 21, 5, 159, 0, 5, 3, 172, 21, 5, 154, 0, 15, 45, 3, 47]
abbrev dktL_law_11 : List UInt8 := dkwL_law_11 ++ dktL_law_12
def dkwL_law_10 : List UInt8 := [167, 8, 112, 43, 42, 21, 4, 4, 96, 46, 45, 184, 0, 148, 54, 5, 44, 42, 21, 4, 4, 96, 46]
abbrev dktL_law_10 : List UInt8 := dkwL_law_10 ++ dktL_law_11
def dkwL_law_9 : List UInt8 := [21, 5, 159, 0, 5, 3, 172, 21, 5, 154, 0, 15, 45, 3, 47, 21, 6, 133, 148, 153, 0, 5, 3, 172]
abbrev dktL_law_9 : List UInt8 := dkwL_law_9 ++ dktL_law_10
def dkwL_law_8 : List UInt8 := [46, 45, 184, 0, 139, 54, 5, 44, 42, 21, 4, 4, 96, 46, 182, 0, 144, 54, 6, 44, 182, 0, 145]
abbrev dktL_law_8 : List UInt8 := dkwL_law_8 ++ dktL_law_9
def dkwL_law_7 : List UInt8 := [159, 8, 183, 3, 172, 43, 182, 0, 135, 44, 182, 0, 138, 159, 8, 170, 3, 172, 43, 42, 21, 4, 4, 96]
abbrev dktL_law_7 : List UInt8 := dkwL_law_7 ++ dktL_law_8
def dkwL_law_6 : List UInt8 := [172, 43, 182, 0, 126, 44, 182, 0, 130, 159, 8, 196, 3, 172, 43, 182, 0, 131, 44, 182, 0, 134]
abbrev dktL_law_6 : List UInt8 := dkwL_law_6 ++ dktL_law_7
def dkwL_law_5 : List UInt8 := [21, 4, 6, 96, 46, 42, 21, 4, 7, 96, 46, 42, 21, 4, 8, 96, 46, 182, 0, 125, 159, 8, 209, 3]
abbrev dktL_law_5 : List UInt8 := dkwL_law_5 ++ dktL_law_6
def dkwL_law_4 : List UInt8 := [46, 42, 21, 4, 8, 96, 46, 182, 0, 121, 44, 42, 21, 4, 4, 96, 46, 42, 21, 4, 5, 96, 46, 42]
abbrev dktL_law_4 : List UInt8 := dkwL_law_4 ++ dktL_law_5
def dkwL_law_3 : List UInt8 := [43, 42, 21, 4, 4, 96, 46, 42, 21, 4, 5, 96, 46, 42, 21, 4, 6, 96, 46, 42, 21, 4, 7, 96]
abbrev dktL_law_3 : List UInt8 := dkwL_law_3 ++ dktL_law_4
def dkwL_law_2 : List UInt8 := [170, 0, 0, 0, 0, 0, 9, 209, 0, 0, 0, 0, 0, 0, 0, 42, 0, 0, 0, 188, 0, 0, 1, 5, 0, 0, 1, 18, 0, 0, 1, 31, 0, 0, 1, 44, 0, 0, 1, 100, 0, 0, 1, 156, 0, 0, 1, 212, 0, 0, 2, 24, 0, 0, 2, 92, 0, 0, 2, 160, 0, 0, 2, 228, 0, 0, 3, 40, 0, 0, 3, 96, 0, 0, 3, 152, 0, 0, 3, 165, 0, 0, 3, 206, 0, 0, 3, 219, 0, 0, 4, 38, 0, 0, 4, 106, 0, 0, 4, 174, 0, 0, 4, 254, 0, 0, 5, 66, 0, 0, 5, 134, 0, 0, 5, 221, 0, 0, 6, 21, 0, 0, 6, 34, 0, 0, 6, 114, 0, 0, 6, 170, 0, 0, 6, 226, 0, 0, 7, 26, 0, 0, 7, 94, 0, 0, 7, 162, 0, 0, 7, 218, 0, 0, 8, 18, 0, 0, 8, 74, 0, 0, 8, 166, 0, 0, 8, 246, 0, 0, 9, 46, 0, 0, 9, 59, 0, 0, 9, 84, 0, 0, 9, 97, 0, 0, 9, 153]
abbrev dktL_law_2 : List UInt8 := dkwL_law_2 ++ dktL_law_3
def dkwL_law_1 : List UInt8 := [21, 4, 42, 190, 16, 6, 100, 163, 9, 225, 42, 21, 4, 46, 16, 63, 126]
abbrev dktL_law_1 : List UInt8 := dkwL_law_1 ++ dktL_law_2
def dkwL_law_0 : List UInt8 := [187, 0, 8, 89, 183, 0, 117, 76, 187, 0, 118, 89, 183, 0, 120, 77, 4, 188, 11, 78, 3, 54, 4]
abbrev dktL_law_0 : List UInt8 := dkwL_law_0 ++ dktL_law_1
theorem dksL_law_0 : cL_law.data.toList.drop 0 = dktL_law_0 := by decide +kernel
theorem dksL_law_1 : cL_law.data.toList.drop 23 = dktL_law_1 := dk_seg dksL_law_0 23 rfl rfl
theorem dksL_law_2 : cL_law.data.toList.drop 40 = dktL_law_2 := dk_seg dksL_law_1 17 rfl rfl
theorem dksL_law_3 : cL_law.data.toList.drop 228 = dktL_law_3 := dk_seg dksL_law_2 188 rfl rfl
theorem dksL_law_4 : cL_law.data.toList.drop 252 = dktL_law_4 := dk_seg dksL_law_3 24 rfl rfl
theorem dksL_law_5 : cL_law.data.toList.drop 276 = dktL_law_5 := dk_seg dksL_law_4 24 rfl rfl
theorem dksL_law_6 : cL_law.data.toList.drop 300 = dktL_law_6 := dk_seg dksL_law_5 24 rfl rfl
theorem dksL_law_7 : cL_law.data.toList.drop 322 = dktL_law_7 := dk_seg dksL_law_6 22 rfl rfl
theorem dksL_law_8 : cL_law.data.toList.drop 346 = dktL_law_8 := dk_seg dksL_law_7 24 rfl rfl
theorem dksL_law_9 : cL_law.data.toList.drop 369 = dktL_law_9 := dk_seg dksL_law_8 23 rfl rfl
theorem dksL_law_10 : cL_law.data.toList.drop 393 = dktL_law_10 := dk_seg dksL_law_9 24 rfl rfl
theorem dksL_law_11 : cL_law.data.toList.drop 416 = dktL_law_11 := dk_seg dksL_law_10 23 rfl rfl
theorem dksL_law_12 : cL_law.data.toList.drop 440 = dktL_law_12 := dk_seg dksL_law_11 24 rfl rfl
theorem dksL_law_13 : cL_law.data.toList.drop 463 = dktL_law_13 := dk_seg dksL_law_12 23 rfl rfl
theorem dksL_law_14 : cL_law.data.toList.drop 487 = dktL_law_14 := dk_seg dksL_law_13 24 rfl rfl
theorem dksL_law_15 : cL_law.data.toList.drop 510 = dktL_law_15 := dk_seg dksL_law_14 23 rfl rfl
theorem dksL_law_16 : cL_law.data.toList.drop 534 = dktL_law_16 := dk_seg dksL_law_15 24 rfl rfl
theorem dksL_law_17 : cL_law.data.toList.drop 558 = dktL_law_17 := dk_seg dksL_law_16 24 rfl rfl
theorem dksL_law_18 : cL_law.data.toList.drop 582 = dktL_law_18 := dk_seg dksL_law_17 24 rfl rfl
theorem dksL_law_19 : cL_law.data.toList.drop 606 = dktL_law_19 := dk_seg dksL_law_18 24 rfl rfl
theorem dksL_law_20 : cL_law.data.toList.drop 630 = dktL_law_20 := dk_seg dksL_law_19 24 rfl rfl
theorem dksL_law_21 : cL_law.data.toList.drop 654 = dktL_law_21 := dk_seg dksL_law_20 24 rfl rfl
theorem dksL_law_22 : cL_law.data.toList.drop 676 = dktL_law_22 := dk_seg dksL_law_21 22 rfl rfl
theorem dksL_law_23 : cL_law.data.toList.drop 700 = dktL_law_23 := dk_seg dksL_law_22 24 rfl rfl
theorem dksL_law_24 : cL_law.data.toList.drop 724 = dktL_law_24 := dk_seg dksL_law_23 24 rfl rfl
theorem dksL_law_25 : cL_law.data.toList.drop 747 = dktL_law_25 := dk_seg dksL_law_24 23 rfl rfl
theorem dksL_law_26 : cL_law.data.toList.drop 771 = dktL_law_26 := dk_seg dksL_law_25 24 rfl rfl
theorem dksL_law_27 : cL_law.data.toList.drop 794 = dktL_law_27 := dk_seg dksL_law_26 23 rfl rfl
theorem dksL_law_28 : cL_law.data.toList.drop 818 = dktL_law_28 := dk_seg dksL_law_27 24 rfl rfl
theorem dksL_law_29 : cL_law.data.toList.drop 840 = dktL_law_29 := dk_seg dksL_law_28 22 rfl rfl
theorem dksL_law_30 : cL_law.data.toList.drop 863 = dktL_law_30 := dk_seg dksL_law_29 23 rfl rfl
theorem dksL_law_31 : cL_law.data.toList.drop 886 = dktL_law_31 := dk_seg dksL_law_30 23 rfl rfl
theorem dksL_law_32 : cL_law.data.toList.drop 910 = dktL_law_32 := dk_seg dksL_law_31 24 rfl rfl
theorem dksL_law_33 : cL_law.data.toList.drop 933 = dktL_law_33 := dk_seg dksL_law_32 23 rfl rfl
theorem dksL_law_34 : cL_law.data.toList.drop 957 = dktL_law_34 := dk_seg dksL_law_33 24 rfl rfl
theorem dksL_law_35 : cL_law.data.toList.drop 980 = dktL_law_35 := dk_seg dksL_law_34 23 rfl rfl
theorem dksL_law_36 : cL_law.data.toList.drop 1003 = dktL_law_36 := dk_seg dksL_law_35 23 rfl rfl
theorem dksL_law_37 : cL_law.data.toList.drop 1027 = dktL_law_37 := dk_seg dksL_law_36 24 rfl rfl
theorem dksL_law_38 : cL_law.data.toList.drop 1051 = dktL_law_38 := dk_seg dksL_law_37 24 rfl rfl
theorem dksL_law_39 : cL_law.data.toList.drop 1075 = dktL_law_39 := dk_seg dksL_law_38 24 rfl rfl
theorem dksL_law_40 : cL_law.data.toList.drop 1099 = dktL_law_40 := dk_seg dksL_law_39 24 rfl rfl
theorem dksL_law_41 : cL_law.data.toList.drop 1123 = dktL_law_41 := dk_seg dksL_law_40 24 rfl rfl
theorem dksL_law_42 : cL_law.data.toList.drop 1145 = dktL_law_42 := dk_seg dksL_law_41 22 rfl rfl
theorem dksL_law_43 : cL_law.data.toList.drop 1167 = dktL_law_43 := dk_seg dksL_law_42 22 rfl rfl
theorem dksL_law_44 : cL_law.data.toList.drop 1191 = dktL_law_44 := dk_seg dksL_law_43 24 rfl rfl
theorem dksL_law_45 : cL_law.data.toList.drop 1213 = dktL_law_45 := dk_seg dksL_law_44 22 rfl rfl
theorem dksL_law_46 : cL_law.data.toList.drop 1235 = dktL_law_46 := dk_seg dksL_law_45 22 rfl rfl
theorem dksL_law_47 : cL_law.data.toList.drop 1258 = dktL_law_47 := dk_seg dksL_law_46 23 rfl rfl
theorem dksL_law_48 : cL_law.data.toList.drop 1282 = dktL_law_48 := dk_seg dksL_law_47 24 rfl rfl
theorem dksL_law_49 : cL_law.data.toList.drop 1306 = dktL_law_49 := dk_seg dksL_law_48 24 rfl rfl
theorem dksL_law_50 : cL_law.data.toList.drop 1330 = dktL_law_50 := dk_seg dksL_law_49 24 rfl rfl
theorem dksL_law_51 : cL_law.data.toList.drop 1353 = dktL_law_51 := dk_seg dksL_law_50 23 rfl rfl
theorem dksL_law_52 : cL_law.data.toList.drop 1377 = dktL_law_52 := dk_seg dksL_law_51 24 rfl rfl
theorem dksL_law_53 : cL_law.data.toList.drop 1400 = dktL_law_53 := dk_seg dksL_law_52 23 rfl rfl
theorem dksL_law_54 : cL_law.data.toList.drop 1424 = dktL_law_54 := dk_seg dksL_law_53 24 rfl rfl
theorem dksL_law_55 : cL_law.data.toList.drop 1446 = dktL_law_55 := dk_seg dksL_law_54 22 rfl rfl
theorem dksL_law_56 : cL_law.data.toList.drop 1470 = dktL_law_56 := dk_seg dksL_law_55 24 rfl rfl
theorem dksL_law_57 : cL_law.data.toList.drop 1493 = dktL_law_57 := dk_seg dksL_law_56 23 rfl rfl
theorem dksL_law_58 : cL_law.data.toList.drop 1516 = dktL_law_58 := dk_seg dksL_law_57 23 rfl rfl
theorem dksL_law_59 : cL_law.data.toList.drop 1538 = dktL_law_59 := dk_seg dksL_law_58 22 rfl rfl
theorem dksL_law_60 : cL_law.data.toList.drop 1561 = dktL_law_60 := dk_seg dksL_law_59 23 rfl rfl
theorem dksL_law_61 : cL_law.data.toList.drop 1585 = dktL_law_61 := dk_seg dksL_law_60 24 rfl rfl
theorem dksL_law_62 : cL_law.data.toList.drop 1609 = dktL_law_62 := dk_seg dksL_law_61 24 rfl rfl
theorem dksL_law_63 : cL_law.data.toList.drop 1633 = dktL_law_63 := dk_seg dksL_law_62 24 rfl rfl
theorem dksL_law_64 : cL_law.data.toList.drop 1657 = dktL_law_64 := dk_seg dksL_law_63 24 rfl rfl
theorem dksL_law_65 : cL_law.data.toList.drop 1681 = dktL_law_65 := dk_seg dksL_law_64 24 rfl rfl
theorem dksL_law_66 : cL_law.data.toList.drop 1705 = dktL_law_66 := dk_seg dksL_law_65 24 rfl rfl
theorem dksL_law_67 : cL_law.data.toList.drop 1728 = dktL_law_67 := dk_seg dksL_law_66 23 rfl rfl
theorem dksL_law_68 : cL_law.data.toList.drop 1752 = dktL_law_68 := dk_seg dksL_law_67 24 rfl rfl
theorem dksL_law_69 : cL_law.data.toList.drop 1775 = dktL_law_69 := dk_seg dksL_law_68 23 rfl rfl
theorem dksL_law_70 : cL_law.data.toList.drop 1799 = dktL_law_70 := dk_seg dksL_law_69 24 rfl rfl
theorem dksL_law_71 : cL_law.data.toList.drop 1822 = dktL_law_71 := dk_seg dksL_law_70 23 rfl rfl
theorem dksL_law_72 : cL_law.data.toList.drop 1846 = dktL_law_72 := dk_seg dksL_law_71 24 rfl rfl
theorem dksL_law_73 : cL_law.data.toList.drop 1870 = dktL_law_73 := dk_seg dksL_law_72 24 rfl rfl
theorem dksL_law_74 : cL_law.data.toList.drop 1893 = dktL_law_74 := dk_seg dksL_law_73 23 rfl rfl
theorem dksL_law_75 : cL_law.data.toList.drop 1917 = dktL_law_75 := dk_seg dksL_law_74 24 rfl rfl
theorem dksL_law_76 : cL_law.data.toList.drop 1940 = dktL_law_76 := dk_seg dksL_law_75 23 rfl rfl
theorem dksL_law_77 : cL_law.data.toList.drop 1964 = dktL_law_77 := dk_seg dksL_law_76 24 rfl rfl
theorem dksL_law_78 : cL_law.data.toList.drop 1986 = dktL_law_78 := dk_seg dksL_law_77 22 rfl rfl
theorem dksL_law_79 : cL_law.data.toList.drop 2009 = dktL_law_79 := dk_seg dksL_law_78 23 rfl rfl
theorem dksL_law_80 : cL_law.data.toList.drop 2032 = dktL_law_80 := dk_seg dksL_law_79 23 rfl rfl
theorem dksL_law_81 : cL_law.data.toList.drop 2056 = dktL_law_81 := dk_seg dksL_law_80 24 rfl rfl
theorem dksL_law_82 : cL_law.data.toList.drop 2079 = dktL_law_82 := dk_seg dksL_law_81 23 rfl rfl
theorem dksL_law_83 : cL_law.data.toList.drop 2103 = dktL_law_83 := dk_seg dksL_law_82 24 rfl rfl
theorem dksL_law_84 : cL_law.data.toList.drop 2126 = dktL_law_84 := dk_seg dksL_law_83 23 rfl rfl
theorem dksL_law_85 : cL_law.data.toList.drop 2150 = dktL_law_85 := dk_seg dksL_law_84 24 rfl rfl
theorem dksL_law_86 : cL_law.data.toList.drop 2174 = dktL_law_86 := dk_seg dksL_law_85 24 rfl rfl
theorem dksL_law_87 : cL_law.data.toList.drop 2198 = dktL_law_87 := dk_seg dksL_law_86 24 rfl rfl
theorem dksL_law_88 : cL_law.data.toList.drop 2221 = dktL_law_88 := dk_seg dksL_law_87 23 rfl rfl
theorem dksL_law_89 : cL_law.data.toList.drop 2245 = dktL_law_89 := dk_seg dksL_law_88 24 rfl rfl
theorem dksL_law_90 : cL_law.data.toList.drop 2268 = dktL_law_90 := dk_seg dksL_law_89 23 rfl rfl
theorem dksL_law_91 : cL_law.data.toList.drop 2292 = dktL_law_91 := dk_seg dksL_law_90 24 rfl rfl
theorem dksL_law_92 : cL_law.data.toList.drop 2316 = dktL_law_92 := dk_seg dksL_law_91 24 rfl rfl
theorem dksL_law_93 : cL_law.data.toList.drop 2340 = dktL_law_93 := dk_seg dksL_law_92 24 rfl rfl
theorem dksL_law_94 : cL_law.data.toList.drop 2363 = dktL_law_94 := dk_seg dksL_law_93 23 rfl rfl
theorem dksL_law_95 : cL_law.data.toList.drop 2387 = dktL_law_95 := dk_seg dksL_law_94 24 rfl rfl
theorem dksL_law_96 : cL_law.data.toList.drop 2410 = dktL_law_96 := dk_seg dksL_law_95 23 rfl rfl
theorem dksL_law_97 : cL_law.data.toList.drop 2433 = dktL_law_97 := dk_seg dksL_law_96 23 rfl rfl
theorem dksL_law_98 : cL_law.data.toList.drop 2456 = dktL_law_98 := dk_seg dksL_law_97 23 rfl rfl
theorem dksL_law_99 : cL_law.data.toList.drop 2479 = dktL_law_99 := dk_seg dksL_law_98 23 rfl rfl
theorem dksL_law_100 : cL_law.data.toList.drop 2503 = dktL_law_100 := dk_seg dksL_law_99 24 rfl rfl
theorem dksL_law_101 : cL_law.data.toList.drop 2526 = dktL_law_101 := dk_seg dksL_law_100 23 rfl rfl
theorem dksL_law_102 : cL_law.data.toList.drop 2550 = dktL_law_102 := dk_seg dksL_law_101 24 rfl rfl
theorem dL_law_0 : decode cL_law 0 = .ok (.new 8, 3) := dk_187 0 8 (dk_at dksL_law_0 0 rfl rfl)
theorem dL_law_3 : decode cL_law 3 = .ok (.dup, 1) := dk_89 (dk_at dksL_law_0 3 rfl rfl)
theorem dL_law_4 : decode cL_law 4 = .ok (.invokespecial 117, 3) := dk_183 0 117 (dk_at dksL_law_0 4 rfl rfl)
theorem dL_law_7 : decode cL_law 7 = .ok (.astore_n 1, 1) := dk_76 (dk_at dksL_law_0 7 rfl rfl)
theorem dL_law_8 : decode cL_law 8 = .ok (.new 118, 3) := dk_187 0 118 (dk_at dksL_law_0 8 rfl rfl)
theorem dL_law_11 : decode cL_law 11 = .ok (.dup, 1) := dk_89 (dk_at dksL_law_0 11 rfl rfl)
theorem dL_law_12 : decode cL_law 12 = .ok (.invokespecial 120, 3) := dk_183 0 120 (dk_at dksL_law_0 12 rfl rfl)
theorem dL_law_15 : decode cL_law 15 = .ok (.astore_n 2, 1) := dk_77 (dk_at dksL_law_0 15 rfl rfl)
theorem dL_law_16 : decode cL_law 16 = .ok (.iconst 1, 1) := dk_4 (dk_at dksL_law_0 16 rfl rfl)
theorem dL_law_17 : decode cL_law 17 = .ok (.newarray .long, 2) := dk_188_11 (dk_at dksL_law_0 17 rfl rfl)
theorem dL_law_19 : decode cL_law 19 = .ok (.astore_n 3, 1) := dk_78 (dk_at dksL_law_0 19 rfl rfl)
theorem dL_law_20 : decode cL_law 20 = .ok (.iconst 0, 1) := dk_3 (dk_at dksL_law_0 20 rfl rfl)
theorem dL_law_21 : decode cL_law 21 = .ok (.istore 4, 2) := dk_54 4 (dk_at dksL_law_0 21 rfl rfl)
theorem dL_law_23 : decode cL_law 23 = .ok (.iload 4, 2) := dk_21 4 (dk_at dksL_law_1 0 rfl rfl)
theorem dL_law_25 : decode cL_law 25 = .ok (.aload_n 0, 1) := dk_42 (dk_at dksL_law_1 2 rfl rfl)
theorem dL_law_26 : decode cL_law 26 = .ok (.arraylength, 1) := dk_190 (dk_at dksL_law_1 3 rfl rfl)
theorem dL_law_27 : decode cL_law 27 = .ok (.bipush 6, 2) := dk_16 6 (dk_at dksL_law_1 4 rfl rfl)
theorem dL_law_29 : decode cL_law 29 = .ok (.isub, 1) := dk_100 (dk_at dksL_law_1 6 rfl rfl)
theorem dL_law_30 : decode cL_law 30 = .ok (.if_icmp .gt 2529, 3) := dk_163 9 225 (dk_at dksL_law_1 7 rfl rfl)
theorem dL_law_33 : decode cL_law 33 = .ok (.aload_n 0, 1) := dk_42 (dk_at dksL_law_1 10 rfl rfl)
theorem dL_law_34 : decode cL_law 34 = .ok (.iload 4, 2) := dk_21 4 (dk_at dksL_law_1 11 rfl rfl)
theorem dL_law_36 : decode cL_law 36 = .ok (.iaload, 1) := dk_46 (dk_at dksL_law_1 13 rfl rfl)
theorem dL_law_37 : decode cL_law 37 = .ok (.bipush 63, 2) := dk_16 63 (dk_at dksL_law_1 14 rfl rfl)
theorem dL_law_39 : decode cL_law 39 = .ok (.iand, 1) := dk_126 (dk_at dksL_law_1 16 rfl rfl)
theorem dL_law_40 : decode cL_law 40 = .ok (.tableswitch 2513 0 42 #[188, 261, 274, 287, 300, 356, 412, 468, 536, 604, 672, 740, 808, 864, 920, 933, 974, 987, 1062, 1130, 1198, 1278, 1346, 1414, 1501, 1557, 1570, 1650, 1706, 1762, 1818, 1886, 1954, 2010, 2066, 2122, 2214, 2294, 2350, 2363, 2388, 2401, 2457], 188) := by decide +kernel
theorem dL_law_228 : decode cL_law 228 = .ok (.aload_n 1, 1) := dk_43 (dk_at dksL_law_3 0 rfl rfl)
theorem dL_law_229 : decode cL_law 229 = .ok (.aload_n 0, 1) := dk_42 (dk_at dksL_law_3 1 rfl rfl)
theorem dL_law_230 : decode cL_law 230 = .ok (.iload 4, 2) := dk_21 4 (dk_at dksL_law_3 2 rfl rfl)
theorem dL_law_232 : decode cL_law 232 = .ok (.iconst 1, 1) := dk_4 (dk_at dksL_law_3 4 rfl rfl)
theorem dL_law_233 : decode cL_law 233 = .ok (.iadd, 1) := dk_96 (dk_at dksL_law_3 5 rfl rfl)
theorem dL_law_234 : decode cL_law 234 = .ok (.iaload, 1) := dk_46 (dk_at dksL_law_3 6 rfl rfl)
theorem dL_law_235 : decode cL_law 235 = .ok (.aload_n 0, 1) := dk_42 (dk_at dksL_law_3 7 rfl rfl)
theorem dL_law_236 : decode cL_law 236 = .ok (.iload 4, 2) := dk_21 4 (dk_at dksL_law_3 8 rfl rfl)
theorem dL_law_238 : decode cL_law 238 = .ok (.iconst 2, 1) := dk_5 (dk_at dksL_law_3 10 rfl rfl)
theorem dL_law_239 : decode cL_law 239 = .ok (.iadd, 1) := dk_96 (dk_at dksL_law_3 11 rfl rfl)
theorem dL_law_240 : decode cL_law 240 = .ok (.iaload, 1) := dk_46 (dk_at dksL_law_3 12 rfl rfl)
theorem dL_law_241 : decode cL_law 241 = .ok (.aload_n 0, 1) := dk_42 (dk_at dksL_law_3 13 rfl rfl)
theorem dL_law_242 : decode cL_law 242 = .ok (.iload 4, 2) := dk_21 4 (dk_at dksL_law_3 14 rfl rfl)
theorem dL_law_244 : decode cL_law 244 = .ok (.iconst 3, 1) := dk_6 (dk_at dksL_law_3 16 rfl rfl)
theorem dL_law_245 : decode cL_law 245 = .ok (.iadd, 1) := dk_96 (dk_at dksL_law_3 17 rfl rfl)
theorem dL_law_246 : decode cL_law 246 = .ok (.iaload, 1) := dk_46 (dk_at dksL_law_3 18 rfl rfl)
theorem dL_law_247 : decode cL_law 247 = .ok (.aload_n 0, 1) := dk_42 (dk_at dksL_law_3 19 rfl rfl)
theorem dL_law_248 : decode cL_law 248 = .ok (.iload 4, 2) := dk_21 4 (dk_at dksL_law_3 20 rfl rfl)
theorem dL_law_250 : decode cL_law 250 = .ok (.iconst 4, 1) := dk_7 (dk_at dksL_law_3 22 rfl rfl)
theorem dL_law_251 : decode cL_law 251 = .ok (.iadd, 1) := dk_96 (dk_at dksL_law_3 23 rfl rfl)
theorem dL_law_252 : decode cL_law 252 = .ok (.iaload, 1) := dk_46 (dk_at dksL_law_4 0 rfl rfl)
theorem dL_law_253 : decode cL_law 253 = .ok (.aload_n 0, 1) := dk_42 (dk_at dksL_law_4 1 rfl rfl)
theorem dL_law_254 : decode cL_law 254 = .ok (.iload 4, 2) := dk_21 4 (dk_at dksL_law_4 2 rfl rfl)
theorem dL_law_256 : decode cL_law 256 = .ok (.iconst 5, 1) := dk_8 (dk_at dksL_law_4 4 rfl rfl)
theorem dL_law_257 : decode cL_law 257 = .ok (.iadd, 1) := dk_96 (dk_at dksL_law_4 5 rfl rfl)
theorem dL_law_258 : decode cL_law 258 = .ok (.iaload, 1) := dk_46 (dk_at dksL_law_4 6 rfl rfl)
theorem dL_law_259 : decode cL_law 259 = .ok (.invokevirtual 121, 3) := dk_182 0 121 (dk_at dksL_law_4 7 rfl rfl)
theorem dL_law_262 : decode cL_law 262 = .ok (.aload_n 2, 1) := dk_44 (dk_at dksL_law_4 10 rfl rfl)
theorem dL_law_263 : decode cL_law 263 = .ok (.aload_n 0, 1) := dk_42 (dk_at dksL_law_4 11 rfl rfl)
theorem dL_law_264 : decode cL_law 264 = .ok (.iload 4, 2) := dk_21 4 (dk_at dksL_law_4 12 rfl rfl)
theorem dL_law_266 : decode cL_law 266 = .ok (.iconst 1, 1) := dk_4 (dk_at dksL_law_4 14 rfl rfl)
theorem dL_law_267 : decode cL_law 267 = .ok (.iadd, 1) := dk_96 (dk_at dksL_law_4 15 rfl rfl)
theorem dL_law_268 : decode cL_law 268 = .ok (.iaload, 1) := dk_46 (dk_at dksL_law_4 16 rfl rfl)
theorem dL_law_269 : decode cL_law 269 = .ok (.aload_n 0, 1) := dk_42 (dk_at dksL_law_4 17 rfl rfl)
theorem dL_law_270 : decode cL_law 270 = .ok (.iload 4, 2) := dk_21 4 (dk_at dksL_law_4 18 rfl rfl)
theorem dL_law_272 : decode cL_law 272 = .ok (.iconst 2, 1) := dk_5 (dk_at dksL_law_4 20 rfl rfl)
theorem dL_law_273 : decode cL_law 273 = .ok (.iadd, 1) := dk_96 (dk_at dksL_law_4 21 rfl rfl)
theorem dL_law_274 : decode cL_law 274 = .ok (.iaload, 1) := dk_46 (dk_at dksL_law_4 22 rfl rfl)
theorem dL_law_275 : decode cL_law 275 = .ok (.aload_n 0, 1) := dk_42 (dk_at dksL_law_4 23 rfl rfl)
theorem dL_law_276 : decode cL_law 276 = .ok (.iload 4, 2) := dk_21 4 (dk_at dksL_law_5 0 rfl rfl)
theorem dL_law_278 : decode cL_law 278 = .ok (.iconst 3, 1) := dk_6 (dk_at dksL_law_5 2 rfl rfl)
theorem dL_law_279 : decode cL_law 279 = .ok (.iadd, 1) := dk_96 (dk_at dksL_law_5 3 rfl rfl)
theorem dL_law_280 : decode cL_law 280 = .ok (.iaload, 1) := dk_46 (dk_at dksL_law_5 4 rfl rfl)
theorem dL_law_281 : decode cL_law 281 = .ok (.aload_n 0, 1) := dk_42 (dk_at dksL_law_5 5 rfl rfl)
theorem dL_law_282 : decode cL_law 282 = .ok (.iload 4, 2) := dk_21 4 (dk_at dksL_law_5 6 rfl rfl)
theorem dL_law_284 : decode cL_law 284 = .ok (.iconst 4, 1) := dk_7 (dk_at dksL_law_5 8 rfl rfl)
theorem dL_law_285 : decode cL_law 285 = .ok (.iadd, 1) := dk_96 (dk_at dksL_law_5 9 rfl rfl)
theorem dL_law_286 : decode cL_law 286 = .ok (.iaload, 1) := dk_46 (dk_at dksL_law_5 10 rfl rfl)
theorem dL_law_287 : decode cL_law 287 = .ok (.aload_n 0, 1) := dk_42 (dk_at dksL_law_5 11 rfl rfl)
theorem dL_law_288 : decode cL_law 288 = .ok (.iload 4, 2) := dk_21 4 (dk_at dksL_law_5 12 rfl rfl)
theorem dL_law_290 : decode cL_law 290 = .ok (.iconst 5, 1) := dk_8 (dk_at dksL_law_5 14 rfl rfl)
theorem dL_law_291 : decode cL_law 291 = .ok (.iadd, 1) := dk_96 (dk_at dksL_law_5 15 rfl rfl)
theorem dL_law_292 : decode cL_law 292 = .ok (.iaload, 1) := dk_46 (dk_at dksL_law_5 16 rfl rfl)
theorem dL_law_293 : decode cL_law 293 = .ok (.invokevirtual 125, 3) := dk_182 0 125 (dk_at dksL_law_5 17 rfl rfl)
theorem dL_law_296 : decode cL_law 296 = .ok (.if_icmp .eq 2257, 3) := dk_159 8 209 (dk_at dksL_law_5 20 rfl rfl)
theorem dL_law_299 : decode cL_law 299 = .ok (.iconst 0, 1) := dk_3 (dk_at dksL_law_5 23 rfl rfl)
theorem dL_law_300 : decode cL_law 300 = .ok (.ireturn, 1) := dk_172 (dk_at dksL_law_6 0 rfl rfl)
theorem dL_law_301 : decode cL_law 301 = .ok (.aload_n 1, 1) := dk_43 (dk_at dksL_law_6 1 rfl rfl)
theorem dL_law_302 : decode cL_law 302 = .ok (.invokevirtual 126, 3) := dk_182 0 126 (dk_at dksL_law_6 2 rfl rfl)
theorem dL_law_305 : decode cL_law 305 = .ok (.aload_n 2, 1) := dk_44 (dk_at dksL_law_6 5 rfl rfl)
theorem dL_law_306 : decode cL_law 306 = .ok (.invokevirtual 130, 3) := dk_182 0 130 (dk_at dksL_law_6 6 rfl rfl)
theorem dL_law_309 : decode cL_law 309 = .ok (.if_icmp .eq 2244, 3) := dk_159 8 196 (dk_at dksL_law_6 9 rfl rfl)
theorem dL_law_312 : decode cL_law 312 = .ok (.iconst 0, 1) := dk_3 (dk_at dksL_law_6 12 rfl rfl)
theorem dL_law_313 : decode cL_law 313 = .ok (.ireturn, 1) := dk_172 (dk_at dksL_law_6 13 rfl rfl)
theorem dL_law_314 : decode cL_law 314 = .ok (.aload_n 1, 1) := dk_43 (dk_at dksL_law_6 14 rfl rfl)
theorem dL_law_315 : decode cL_law 315 = .ok (.invokevirtual 131, 3) := dk_182 0 131 (dk_at dksL_law_6 15 rfl rfl)
theorem dL_law_318 : decode cL_law 318 = .ok (.aload_n 2, 1) := dk_44 (dk_at dksL_law_6 18 rfl rfl)
theorem dL_law_319 : decode cL_law 319 = .ok (.invokevirtual 134, 3) := dk_182 0 134 (dk_at dksL_law_6 19 rfl rfl)
theorem dL_law_322 : decode cL_law 322 = .ok (.if_icmp .eq 2231, 3) := dk_159 8 183 (dk_at dksL_law_7 0 rfl rfl)
theorem dL_law_325 : decode cL_law 325 = .ok (.iconst 0, 1) := dk_3 (dk_at dksL_law_7 3 rfl rfl)
theorem dL_law_326 : decode cL_law 326 = .ok (.ireturn, 1) := dk_172 (dk_at dksL_law_7 4 rfl rfl)
theorem dL_law_327 : decode cL_law 327 = .ok (.aload_n 1, 1) := dk_43 (dk_at dksL_law_7 5 rfl rfl)
theorem dL_law_328 : decode cL_law 328 = .ok (.invokevirtual 135, 3) := dk_182 0 135 (dk_at dksL_law_7 6 rfl rfl)
theorem dL_law_331 : decode cL_law 331 = .ok (.aload_n 2, 1) := dk_44 (dk_at dksL_law_7 9 rfl rfl)
theorem dL_law_332 : decode cL_law 332 = .ok (.invokevirtual 138, 3) := dk_182 0 138 (dk_at dksL_law_7 10 rfl rfl)
theorem dL_law_335 : decode cL_law 335 = .ok (.if_icmp .eq 2218, 3) := dk_159 8 170 (dk_at dksL_law_7 13 rfl rfl)
theorem dL_law_338 : decode cL_law 338 = .ok (.iconst 0, 1) := dk_3 (dk_at dksL_law_7 16 rfl rfl)
theorem dL_law_339 : decode cL_law 339 = .ok (.ireturn, 1) := dk_172 (dk_at dksL_law_7 17 rfl rfl)
theorem dL_law_340 : decode cL_law 340 = .ok (.aload_n 1, 1) := dk_43 (dk_at dksL_law_7 18 rfl rfl)
theorem dL_law_341 : decode cL_law 341 = .ok (.aload_n 0, 1) := dk_42 (dk_at dksL_law_7 19 rfl rfl)
theorem dL_law_342 : decode cL_law 342 = .ok (.iload 4, 2) := dk_21 4 (dk_at dksL_law_7 20 rfl rfl)
theorem dL_law_344 : decode cL_law 344 = .ok (.iconst 1, 1) := dk_4 (dk_at dksL_law_7 22 rfl rfl)
theorem dL_law_345 : decode cL_law 345 = .ok (.iadd, 1) := dk_96 (dk_at dksL_law_7 23 rfl rfl)
theorem dL_law_346 : decode cL_law 346 = .ok (.iaload, 1) := dk_46 (dk_at dksL_law_8 0 rfl rfl)
theorem dL_law_347 : decode cL_law 347 = .ok (.aload_n 3, 1) := dk_45 (dk_at dksL_law_8 1 rfl rfl)
theorem dL_law_348 : decode cL_law 348 = .ok (.invokestatic 139, 3) := dk_184 0 139 (dk_at dksL_law_8 2 rfl rfl)
theorem dL_law_351 : decode cL_law 351 = .ok (.istore 5, 2) := dk_54 5 (dk_at dksL_law_8 5 rfl rfl)
theorem dL_law_353 : decode cL_law 353 = .ok (.aload_n 2, 1) := dk_44 (dk_at dksL_law_8 7 rfl rfl)
theorem dL_law_354 : decode cL_law 354 = .ok (.aload_n 0, 1) := dk_42 (dk_at dksL_law_8 8 rfl rfl)
theorem dL_law_355 : decode cL_law 355 = .ok (.iload 4, 2) := dk_21 4 (dk_at dksL_law_8 9 rfl rfl)
theorem dL_law_357 : decode cL_law 357 = .ok (.iconst 1, 1) := dk_4 (dk_at dksL_law_8 11 rfl rfl)
theorem dL_law_358 : decode cL_law 358 = .ok (.iadd, 1) := dk_96 (dk_at dksL_law_8 12 rfl rfl)
theorem dL_law_359 : decode cL_law 359 = .ok (.iaload, 1) := dk_46 (dk_at dksL_law_8 13 rfl rfl)
theorem dL_law_360 : decode cL_law 360 = .ok (.invokevirtual 144, 3) := dk_182 0 144 (dk_at dksL_law_8 14 rfl rfl)
theorem dL_law_363 : decode cL_law 363 = .ok (.istore 6, 2) := dk_54 6 (dk_at dksL_law_8 17 rfl rfl)
theorem dL_law_365 : decode cL_law 365 = .ok (.aload_n 2, 1) := dk_44 (dk_at dksL_law_8 19 rfl rfl)
theorem dL_law_366 : decode cL_law 366 = .ok (.invokevirtual 145, 3) := dk_182 0 145 (dk_at dksL_law_8 20 rfl rfl)
theorem dL_law_369 : decode cL_law 369 = .ok (.iload 5, 2) := dk_21 5 (dk_at dksL_law_9 0 rfl rfl)
theorem dL_law_371 : decode cL_law 371 = .ok (.if_icmp .eq 5, 3) := dk_159 0 5 (dk_at dksL_law_9 2 rfl rfl)
theorem dL_law_374 : decode cL_law 374 = .ok (.iconst 0, 1) := dk_3 (dk_at dksL_law_9 5 rfl rfl)
theorem dL_law_375 : decode cL_law 375 = .ok (.ireturn, 1) := dk_172 (dk_at dksL_law_9 6 rfl rfl)
theorem dL_law_376 : decode cL_law 376 = .ok (.iload 5, 2) := dk_21 5 (dk_at dksL_law_9 7 rfl rfl)
theorem dL_law_378 : decode cL_law 378 = .ok (.ifCond .ne 15, 3) := dk_154 0 15 (dk_at dksL_law_9 9 rfl rfl)
theorem dL_law_381 : decode cL_law 381 = .ok (.aload_n 3, 1) := dk_45 (dk_at dksL_law_9 12 rfl rfl)
theorem dL_law_382 : decode cL_law 382 = .ok (.iconst 0, 1) := dk_3 (dk_at dksL_law_9 13 rfl rfl)
theorem dL_law_383 : decode cL_law 383 = .ok (.laload, 1) := dk_47 (dk_at dksL_law_9 14 rfl rfl)
theorem dL_law_384 : decode cL_law 384 = .ok (.iload 6, 2) := dk_21 6 (dk_at dksL_law_9 15 rfl rfl)
theorem dL_law_386 : decode cL_law 386 = .ok (.i2l, 1) := dk_133 (dk_at dksL_law_9 17 rfl rfl)
theorem dL_law_387 : decode cL_law 387 = .ok (.lcmp, 1) := dk_148 (dk_at dksL_law_9 18 rfl rfl)
theorem dL_law_388 : decode cL_law 388 = .ok (.ifCond .eq 5, 3) := dk_153 0 5 (dk_at dksL_law_9 19 rfl rfl)
theorem dL_law_391 : decode cL_law 391 = .ok (.iconst 0, 1) := dk_3 (dk_at dksL_law_9 22 rfl rfl)
theorem dL_law_392 : decode cL_law 392 = .ok (.ireturn, 1) := dk_172 (dk_at dksL_law_9 23 rfl rfl)
theorem dL_law_393 : decode cL_law 393 = .ok (.goto 2160, 3) := dk_167 8 112 (dk_at dksL_law_10 0 rfl rfl)
theorem dL_law_396 : decode cL_law 396 = .ok (.aload_n 1, 1) := dk_43 (dk_at dksL_law_10 3 rfl rfl)
theorem dL_law_397 : decode cL_law 397 = .ok (.aload_n 0, 1) := dk_42 (dk_at dksL_law_10 4 rfl rfl)
theorem dL_law_398 : decode cL_law 398 = .ok (.iload 4, 2) := dk_21 4 (dk_at dksL_law_10 5 rfl rfl)
theorem dL_law_400 : decode cL_law 400 = .ok (.iconst 1, 1) := dk_4 (dk_at dksL_law_10 7 rfl rfl)
theorem dL_law_401 : decode cL_law 401 = .ok (.iadd, 1) := dk_96 (dk_at dksL_law_10 8 rfl rfl)
theorem dL_law_402 : decode cL_law 402 = .ok (.iaload, 1) := dk_46 (dk_at dksL_law_10 9 rfl rfl)
theorem dL_law_403 : decode cL_law 403 = .ok (.aload_n 3, 1) := dk_45 (dk_at dksL_law_10 10 rfl rfl)
theorem dL_law_404 : decode cL_law 404 = .ok (.invokestatic 148, 3) := dk_184 0 148 (dk_at dksL_law_10 11 rfl rfl)
theorem dL_law_407 : decode cL_law 407 = .ok (.istore 5, 2) := dk_54 5 (dk_at dksL_law_10 14 rfl rfl)
theorem dL_law_409 : decode cL_law 409 = .ok (.aload_n 2, 1) := dk_44 (dk_at dksL_law_10 16 rfl rfl)
theorem dL_law_410 : decode cL_law 410 = .ok (.aload_n 0, 1) := dk_42 (dk_at dksL_law_10 17 rfl rfl)
theorem dL_law_411 : decode cL_law 411 = .ok (.iload 4, 2) := dk_21 4 (dk_at dksL_law_10 18 rfl rfl)
theorem dL_law_413 : decode cL_law 413 = .ok (.iconst 1, 1) := dk_4 (dk_at dksL_law_10 20 rfl rfl)
theorem dL_law_414 : decode cL_law 414 = .ok (.iadd, 1) := dk_96 (dk_at dksL_law_10 21 rfl rfl)
theorem dL_law_415 : decode cL_law 415 = .ok (.iaload, 1) := dk_46 (dk_at dksL_law_10 22 rfl rfl)
theorem dL_law_416 : decode cL_law 416 = .ok (.invokevirtual 150, 3) := dk_182 0 150 (dk_at dksL_law_11 0 rfl rfl)
theorem dL_law_419 : decode cL_law 419 = .ok (.istore 6, 2) := dk_54 6 (dk_at dksL_law_11 3 rfl rfl)
theorem dL_law_421 : decode cL_law 421 = .ok (.aload_n 2, 1) := dk_44 (dk_at dksL_law_11 5 rfl rfl)
theorem dL_law_422 : decode cL_law 422 = .ok (.invokevirtual 145, 3) := dk_182 0 145 (dk_at dksL_law_11 6 rfl rfl)
theorem dL_law_425 : decode cL_law 425 = .ok (.iload 5, 2) := dk_21 5 (dk_at dksL_law_11 9 rfl rfl)
theorem dL_law_427 : decode cL_law 427 = .ok (.if_icmp .eq 5, 3) := dk_159 0 5 (dk_at dksL_law_11 11 rfl rfl)
theorem dL_law_430 : decode cL_law 430 = .ok (.iconst 0, 1) := dk_3 (dk_at dksL_law_11 14 rfl rfl)
theorem dL_law_431 : decode cL_law 431 = .ok (.ireturn, 1) := dk_172 (dk_at dksL_law_11 15 rfl rfl)
theorem dL_law_432 : decode cL_law 432 = .ok (.iload 5, 2) := dk_21 5 (dk_at dksL_law_11 16 rfl rfl)
theorem dL_law_434 : decode cL_law 434 = .ok (.ifCond .ne 15, 3) := dk_154 0 15 (dk_at dksL_law_11 18 rfl rfl)
theorem dL_law_437 : decode cL_law 437 = .ok (.aload_n 3, 1) := dk_45 (dk_at dksL_law_11 21 rfl rfl)
theorem dL_law_438 : decode cL_law 438 = .ok (.iconst 0, 1) := dk_3 (dk_at dksL_law_11 22 rfl rfl)
theorem dL_law_439 : decode cL_law 439 = .ok (.laload, 1) := dk_47 (dk_at dksL_law_11 23 rfl rfl)
theorem dL_law_440 : decode cL_law 440 = .ok (.iload 6, 2) := dk_21 6 (dk_at dksL_law_12 0 rfl rfl)
theorem dL_law_442 : decode cL_law 442 = .ok (.i2l, 1) := dk_133 (dk_at dksL_law_12 2 rfl rfl)
theorem dL_law_443 : decode cL_law 443 = .ok (.lcmp, 1) := dk_148 (dk_at dksL_law_12 3 rfl rfl)
theorem dL_law_444 : decode cL_law 444 = .ok (.ifCond .eq 5, 3) := dk_153 0 5 (dk_at dksL_law_12 4 rfl rfl)
theorem dL_law_447 : decode cL_law 447 = .ok (.iconst 0, 1) := dk_3 (dk_at dksL_law_12 7 rfl rfl)
theorem dL_law_448 : decode cL_law 448 = .ok (.ireturn, 1) := dk_172 (dk_at dksL_law_12 8 rfl rfl)
theorem dL_law_449 : decode cL_law 449 = .ok (.goto 2104, 3) := dk_167 8 56 (dk_at dksL_law_12 9 rfl rfl)
theorem dL_law_452 : decode cL_law 452 = .ok (.aload_n 1, 1) := dk_43 (dk_at dksL_law_12 12 rfl rfl)
theorem dL_law_453 : decode cL_law 453 = .ok (.aload_n 0, 1) := dk_42 (dk_at dksL_law_12 13 rfl rfl)
theorem dL_law_454 : decode cL_law 454 = .ok (.iload 4, 2) := dk_21 4 (dk_at dksL_law_12 14 rfl rfl)
theorem dL_law_456 : decode cL_law 456 = .ok (.iconst 1, 1) := dk_4 (dk_at dksL_law_12 16 rfl rfl)
theorem dL_law_457 : decode cL_law 457 = .ok (.iadd, 1) := dk_96 (dk_at dksL_law_12 17 rfl rfl)
theorem dL_law_458 : decode cL_law 458 = .ok (.iaload, 1) := dk_46 (dk_at dksL_law_12 18 rfl rfl)
theorem dL_law_459 : decode cL_law 459 = .ok (.aload_n 3, 1) := dk_45 (dk_at dksL_law_12 19 rfl rfl)
theorem dL_law_460 : decode cL_law 460 = .ok (.invokestatic 151, 3) := dk_184 0 151 (dk_at dksL_law_12 20 rfl rfl)
theorem dL_law_463 : decode cL_law 463 = .ok (.istore 5, 2) := dk_54 5 (dk_at dksL_law_13 0 rfl rfl)
theorem dL_law_465 : decode cL_law 465 = .ok (.aload_n 2, 1) := dk_44 (dk_at dksL_law_13 2 rfl rfl)
theorem dL_law_466 : decode cL_law 466 = .ok (.aload_n 0, 1) := dk_42 (dk_at dksL_law_13 3 rfl rfl)
theorem dL_law_467 : decode cL_law 467 = .ok (.iload 4, 2) := dk_21 4 (dk_at dksL_law_13 4 rfl rfl)
theorem dL_law_469 : decode cL_law 469 = .ok (.iconst 1, 1) := dk_4 (dk_at dksL_law_13 6 rfl rfl)
theorem dL_law_470 : decode cL_law 470 = .ok (.iadd, 1) := dk_96 (dk_at dksL_law_13 7 rfl rfl)
theorem dL_law_471 : decode cL_law 471 = .ok (.iaload, 1) := dk_46 (dk_at dksL_law_13 8 rfl rfl)
theorem dL_law_472 : decode cL_law 472 = .ok (.invokevirtual 153, 3) := dk_182 0 153 (dk_at dksL_law_13 9 rfl rfl)
theorem dL_law_475 : decode cL_law 475 = .ok (.istore 6, 2) := dk_54 6 (dk_at dksL_law_13 12 rfl rfl)
theorem dL_law_477 : decode cL_law 477 = .ok (.aload_n 2, 1) := dk_44 (dk_at dksL_law_13 14 rfl rfl)
theorem dL_law_478 : decode cL_law 478 = .ok (.invokevirtual 145, 3) := dk_182 0 145 (dk_at dksL_law_13 15 rfl rfl)
theorem dL_law_481 : decode cL_law 481 = .ok (.iload 5, 2) := dk_21 5 (dk_at dksL_law_13 18 rfl rfl)
theorem dL_law_483 : decode cL_law 483 = .ok (.if_icmp .eq 5, 3) := dk_159 0 5 (dk_at dksL_law_13 20 rfl rfl)
theorem dL_law_486 : decode cL_law 486 = .ok (.iconst 0, 1) := dk_3 (dk_at dksL_law_13 23 rfl rfl)
theorem dL_law_487 : decode cL_law 487 = .ok (.ireturn, 1) := dk_172 (dk_at dksL_law_14 0 rfl rfl)
theorem dL_law_488 : decode cL_law 488 = .ok (.iload 5, 2) := dk_21 5 (dk_at dksL_law_14 1 rfl rfl)
theorem dL_law_490 : decode cL_law 490 = .ok (.ifCond .ne 15, 3) := dk_154 0 15 (dk_at dksL_law_14 3 rfl rfl)
theorem dL_law_493 : decode cL_law 493 = .ok (.aload_n 3, 1) := dk_45 (dk_at dksL_law_14 6 rfl rfl)
theorem dL_law_494 : decode cL_law 494 = .ok (.iconst 0, 1) := dk_3 (dk_at dksL_law_14 7 rfl rfl)
theorem dL_law_495 : decode cL_law 495 = .ok (.laload, 1) := dk_47 (dk_at dksL_law_14 8 rfl rfl)
theorem dL_law_496 : decode cL_law 496 = .ok (.iload 6, 2) := dk_21 6 (dk_at dksL_law_14 9 rfl rfl)
theorem dL_law_498 : decode cL_law 498 = .ok (.i2l, 1) := dk_133 (dk_at dksL_law_14 11 rfl rfl)
theorem dL_law_499 : decode cL_law 499 = .ok (.lcmp, 1) := dk_148 (dk_at dksL_law_14 12 rfl rfl)
theorem dL_law_500 : decode cL_law 500 = .ok (.ifCond .eq 5, 3) := dk_153 0 5 (dk_at dksL_law_14 13 rfl rfl)
theorem dL_law_503 : decode cL_law 503 = .ok (.iconst 0, 1) := dk_3 (dk_at dksL_law_14 16 rfl rfl)
theorem dL_law_504 : decode cL_law 504 = .ok (.ireturn, 1) := dk_172 (dk_at dksL_law_14 17 rfl rfl)
theorem dL_law_505 : decode cL_law 505 = .ok (.goto 2048, 3) := dk_167 8 0 (dk_at dksL_law_14 18 rfl rfl)
theorem dL_law_508 : decode cL_law 508 = .ok (.aload_n 1, 1) := dk_43 (dk_at dksL_law_14 21 rfl rfl)
theorem dL_law_509 : decode cL_law 509 = .ok (.aload_n 0, 1) := dk_42 (dk_at dksL_law_14 22 rfl rfl)
theorem dL_law_510 : decode cL_law 510 = .ok (.iload 4, 2) := dk_21 4 (dk_at dksL_law_15 0 rfl rfl)
theorem dL_law_512 : decode cL_law 512 = .ok (.iconst 1, 1) := dk_4 (dk_at dksL_law_15 2 rfl rfl)
theorem dL_law_513 : decode cL_law 513 = .ok (.iadd, 1) := dk_96 (dk_at dksL_law_15 3 rfl rfl)
theorem dL_law_514 : decode cL_law 514 = .ok (.iaload, 1) := dk_46 (dk_at dksL_law_15 4 rfl rfl)
theorem dL_law_515 : decode cL_law 515 = .ok (.aload_n 0, 1) := dk_42 (dk_at dksL_law_15 5 rfl rfl)
theorem dL_law_516 : decode cL_law 516 = .ok (.iload 4, 2) := dk_21 4 (dk_at dksL_law_15 6 rfl rfl)
theorem dL_law_518 : decode cL_law 518 = .ok (.iconst 2, 1) := dk_5 (dk_at dksL_law_15 8 rfl rfl)
theorem dL_law_519 : decode cL_law 519 = .ok (.iadd, 1) := dk_96 (dk_at dksL_law_15 9 rfl rfl)
theorem dL_law_520 : decode cL_law 520 = .ok (.iaload, 1) := dk_46 (dk_at dksL_law_15 10 rfl rfl)
theorem dL_law_521 : decode cL_law 521 = .ok (.aload_n 3, 1) := dk_45 (dk_at dksL_law_15 11 rfl rfl)
theorem dL_law_522 : decode cL_law 522 = .ok (.invokestatic 154, 3) := dk_184 0 154 (dk_at dksL_law_15 12 rfl rfl)
theorem dL_law_525 : decode cL_law 525 = .ok (.istore 5, 2) := dk_54 5 (dk_at dksL_law_15 15 rfl rfl)
theorem dL_law_527 : decode cL_law 527 = .ok (.aload_n 2, 1) := dk_44 (dk_at dksL_law_15 17 rfl rfl)
theorem dL_law_528 : decode cL_law 528 = .ok (.aload_n 0, 1) := dk_42 (dk_at dksL_law_15 18 rfl rfl)
theorem dL_law_529 : decode cL_law 529 = .ok (.iload 4, 2) := dk_21 4 (dk_at dksL_law_15 19 rfl rfl)
theorem dL_law_531 : decode cL_law 531 = .ok (.iconst 1, 1) := dk_4 (dk_at dksL_law_15 21 rfl rfl)
theorem dL_law_532 : decode cL_law 532 = .ok (.iadd, 1) := dk_96 (dk_at dksL_law_15 22 rfl rfl)
theorem dL_law_533 : decode cL_law 533 = .ok (.iaload, 1) := dk_46 (dk_at dksL_law_15 23 rfl rfl)
theorem dL_law_534 : decode cL_law 534 = .ok (.aload_n 0, 1) := dk_42 (dk_at dksL_law_16 0 rfl rfl)
theorem dL_law_535 : decode cL_law 535 = .ok (.iload 4, 2) := dk_21 4 (dk_at dksL_law_16 1 rfl rfl)
theorem dL_law_537 : decode cL_law 537 = .ok (.iconst 2, 1) := dk_5 (dk_at dksL_law_16 3 rfl rfl)
theorem dL_law_538 : decode cL_law 538 = .ok (.iadd, 1) := dk_96 (dk_at dksL_law_16 4 rfl rfl)
theorem dL_law_539 : decode cL_law 539 = .ok (.iaload, 1) := dk_46 (dk_at dksL_law_16 5 rfl rfl)
theorem dL_law_540 : decode cL_law 540 = .ok (.invokevirtual 157, 3) := dk_182 0 157 (dk_at dksL_law_16 6 rfl rfl)
theorem dL_law_543 : decode cL_law 543 = .ok (.istore 6, 2) := dk_54 6 (dk_at dksL_law_16 9 rfl rfl)
theorem dL_law_545 : decode cL_law 545 = .ok (.aload_n 2, 1) := dk_44 (dk_at dksL_law_16 11 rfl rfl)
theorem dL_law_546 : decode cL_law 546 = .ok (.invokevirtual 145, 3) := dk_182 0 145 (dk_at dksL_law_16 12 rfl rfl)
theorem dL_law_549 : decode cL_law 549 = .ok (.iload 5, 2) := dk_21 5 (dk_at dksL_law_16 15 rfl rfl)
theorem dL_law_551 : decode cL_law 551 = .ok (.if_icmp .eq 5, 3) := dk_159 0 5 (dk_at dksL_law_16 17 rfl rfl)
theorem dL_law_554 : decode cL_law 554 = .ok (.iconst 0, 1) := dk_3 (dk_at dksL_law_16 20 rfl rfl)
theorem dL_law_555 : decode cL_law 555 = .ok (.ireturn, 1) := dk_172 (dk_at dksL_law_16 21 rfl rfl)
theorem dL_law_556 : decode cL_law 556 = .ok (.iload 5, 2) := dk_21 5 (dk_at dksL_law_16 22 rfl rfl)
theorem dL_law_558 : decode cL_law 558 = .ok (.ifCond .ne 15, 3) := dk_154 0 15 (dk_at dksL_law_17 0 rfl rfl)
theorem dL_law_561 : decode cL_law 561 = .ok (.aload_n 3, 1) := dk_45 (dk_at dksL_law_17 3 rfl rfl)
theorem dL_law_562 : decode cL_law 562 = .ok (.iconst 0, 1) := dk_3 (dk_at dksL_law_17 4 rfl rfl)
theorem dL_law_563 : decode cL_law 563 = .ok (.laload, 1) := dk_47 (dk_at dksL_law_17 5 rfl rfl)
theorem dL_law_564 : decode cL_law 564 = .ok (.iload 6, 2) := dk_21 6 (dk_at dksL_law_17 6 rfl rfl)
theorem dL_law_566 : decode cL_law 566 = .ok (.i2l, 1) := dk_133 (dk_at dksL_law_17 8 rfl rfl)
theorem dL_law_567 : decode cL_law 567 = .ok (.lcmp, 1) := dk_148 (dk_at dksL_law_17 9 rfl rfl)
theorem dL_law_568 : decode cL_law 568 = .ok (.ifCond .eq 5, 3) := dk_153 0 5 (dk_at dksL_law_17 10 rfl rfl)
theorem dL_law_571 : decode cL_law 571 = .ok (.iconst 0, 1) := dk_3 (dk_at dksL_law_17 13 rfl rfl)
theorem dL_law_572 : decode cL_law 572 = .ok (.ireturn, 1) := dk_172 (dk_at dksL_law_17 14 rfl rfl)
theorem dL_law_573 : decode cL_law 573 = .ok (.goto 1980, 3) := dk_167 7 188 (dk_at dksL_law_17 15 rfl rfl)
theorem dL_law_576 : decode cL_law 576 = .ok (.aload_n 1, 1) := dk_43 (dk_at dksL_law_17 18 rfl rfl)
theorem dL_law_577 : decode cL_law 577 = .ok (.aload_n 0, 1) := dk_42 (dk_at dksL_law_17 19 rfl rfl)
theorem dL_law_578 : decode cL_law 578 = .ok (.iload 4, 2) := dk_21 4 (dk_at dksL_law_17 20 rfl rfl)
theorem dL_law_580 : decode cL_law 580 = .ok (.iconst 1, 1) := dk_4 (dk_at dksL_law_17 22 rfl rfl)
theorem dL_law_581 : decode cL_law 581 = .ok (.iadd, 1) := dk_96 (dk_at dksL_law_17 23 rfl rfl)
theorem dL_law_582 : decode cL_law 582 = .ok (.iaload, 1) := dk_46 (dk_at dksL_law_18 0 rfl rfl)
theorem dL_law_583 : decode cL_law 583 = .ok (.aload_n 0, 1) := dk_42 (dk_at dksL_law_18 1 rfl rfl)
theorem dL_law_584 : decode cL_law 584 = .ok (.iload 4, 2) := dk_21 4 (dk_at dksL_law_18 2 rfl rfl)
theorem dL_law_586 : decode cL_law 586 = .ok (.iconst 2, 1) := dk_5 (dk_at dksL_law_18 4 rfl rfl)
theorem dL_law_587 : decode cL_law 587 = .ok (.iadd, 1) := dk_96 (dk_at dksL_law_18 5 rfl rfl)
theorem dL_law_588 : decode cL_law 588 = .ok (.iaload, 1) := dk_46 (dk_at dksL_law_18 6 rfl rfl)
theorem dL_law_589 : decode cL_law 589 = .ok (.aload_n 3, 1) := dk_45 (dk_at dksL_law_18 7 rfl rfl)
theorem dL_law_590 : decode cL_law 590 = .ok (.invokestatic 158, 3) := dk_184 0 158 (dk_at dksL_law_18 8 rfl rfl)
theorem dL_law_593 : decode cL_law 593 = .ok (.istore 5, 2) := dk_54 5 (dk_at dksL_law_18 11 rfl rfl)
theorem dL_law_595 : decode cL_law 595 = .ok (.aload_n 2, 1) := dk_44 (dk_at dksL_law_18 13 rfl rfl)
theorem dL_law_596 : decode cL_law 596 = .ok (.aload_n 0, 1) := dk_42 (dk_at dksL_law_18 14 rfl rfl)
theorem dL_law_597 : decode cL_law 597 = .ok (.iload 4, 2) := dk_21 4 (dk_at dksL_law_18 15 rfl rfl)
theorem dL_law_599 : decode cL_law 599 = .ok (.iconst 1, 1) := dk_4 (dk_at dksL_law_18 17 rfl rfl)
theorem dL_law_600 : decode cL_law 600 = .ok (.iadd, 1) := dk_96 (dk_at dksL_law_18 18 rfl rfl)
theorem dL_law_601 : decode cL_law 601 = .ok (.iaload, 1) := dk_46 (dk_at dksL_law_18 19 rfl rfl)
theorem dL_law_602 : decode cL_law 602 = .ok (.aload_n 0, 1) := dk_42 (dk_at dksL_law_18 20 rfl rfl)
theorem dL_law_603 : decode cL_law 603 = .ok (.iload 4, 2) := dk_21 4 (dk_at dksL_law_18 21 rfl rfl)
theorem dL_law_605 : decode cL_law 605 = .ok (.iconst 2, 1) := dk_5 (dk_at dksL_law_18 23 rfl rfl)
theorem dL_law_606 : decode cL_law 606 = .ok (.iadd, 1) := dk_96 (dk_at dksL_law_19 0 rfl rfl)
theorem dL_law_607 : decode cL_law 607 = .ok (.iaload, 1) := dk_46 (dk_at dksL_law_19 1 rfl rfl)
theorem dL_law_608 : decode cL_law 608 = .ok (.invokevirtual 160, 3) := dk_182 0 160 (dk_at dksL_law_19 2 rfl rfl)
theorem dL_law_611 : decode cL_law 611 = .ok (.istore 6, 2) := dk_54 6 (dk_at dksL_law_19 5 rfl rfl)
theorem dL_law_613 : decode cL_law 613 = .ok (.aload_n 2, 1) := dk_44 (dk_at dksL_law_19 7 rfl rfl)
theorem dL_law_614 : decode cL_law 614 = .ok (.invokevirtual 145, 3) := dk_182 0 145 (dk_at dksL_law_19 8 rfl rfl)
theorem dL_law_617 : decode cL_law 617 = .ok (.iload 5, 2) := dk_21 5 (dk_at dksL_law_19 11 rfl rfl)
theorem dL_law_619 : decode cL_law 619 = .ok (.if_icmp .eq 5, 3) := dk_159 0 5 (dk_at dksL_law_19 13 rfl rfl)
theorem dL_law_622 : decode cL_law 622 = .ok (.iconst 0, 1) := dk_3 (dk_at dksL_law_19 16 rfl rfl)
theorem dL_law_623 : decode cL_law 623 = .ok (.ireturn, 1) := dk_172 (dk_at dksL_law_19 17 rfl rfl)
theorem dL_law_624 : decode cL_law 624 = .ok (.iload 5, 2) := dk_21 5 (dk_at dksL_law_19 18 rfl rfl)
theorem dL_law_626 : decode cL_law 626 = .ok (.ifCond .ne 15, 3) := dk_154 0 15 (dk_at dksL_law_19 20 rfl rfl)
theorem dL_law_629 : decode cL_law 629 = .ok (.aload_n 3, 1) := dk_45 (dk_at dksL_law_19 23 rfl rfl)
theorem dL_law_630 : decode cL_law 630 = .ok (.iconst 0, 1) := dk_3 (dk_at dksL_law_20 0 rfl rfl)
theorem dL_law_631 : decode cL_law 631 = .ok (.laload, 1) := dk_47 (dk_at dksL_law_20 1 rfl rfl)
theorem dL_law_632 : decode cL_law 632 = .ok (.iload 6, 2) := dk_21 6 (dk_at dksL_law_20 2 rfl rfl)
theorem dL_law_634 : decode cL_law 634 = .ok (.i2l, 1) := dk_133 (dk_at dksL_law_20 4 rfl rfl)
theorem dL_law_635 : decode cL_law 635 = .ok (.lcmp, 1) := dk_148 (dk_at dksL_law_20 5 rfl rfl)
theorem dL_law_636 : decode cL_law 636 = .ok (.ifCond .eq 5, 3) := dk_153 0 5 (dk_at dksL_law_20 6 rfl rfl)
theorem dL_law_639 : decode cL_law 639 = .ok (.iconst 0, 1) := dk_3 (dk_at dksL_law_20 9 rfl rfl)
theorem dL_law_640 : decode cL_law 640 = .ok (.ireturn, 1) := dk_172 (dk_at dksL_law_20 10 rfl rfl)
theorem dL_law_641 : decode cL_law 641 = .ok (.goto 1912, 3) := dk_167 7 120 (dk_at dksL_law_20 11 rfl rfl)
theorem dL_law_644 : decode cL_law 644 = .ok (.aload_n 1, 1) := dk_43 (dk_at dksL_law_20 14 rfl rfl)
theorem dL_law_645 : decode cL_law 645 = .ok (.aload_n 0, 1) := dk_42 (dk_at dksL_law_20 15 rfl rfl)
theorem dL_law_646 : decode cL_law 646 = .ok (.iload 4, 2) := dk_21 4 (dk_at dksL_law_20 16 rfl rfl)
theorem dL_law_648 : decode cL_law 648 = .ok (.iconst 1, 1) := dk_4 (dk_at dksL_law_20 18 rfl rfl)
theorem dL_law_649 : decode cL_law 649 = .ok (.iadd, 1) := dk_96 (dk_at dksL_law_20 19 rfl rfl)
theorem dL_law_650 : decode cL_law 650 = .ok (.iaload, 1) := dk_46 (dk_at dksL_law_20 20 rfl rfl)
theorem dL_law_651 : decode cL_law 651 = .ok (.aload_n 0, 1) := dk_42 (dk_at dksL_law_20 21 rfl rfl)
theorem dL_law_652 : decode cL_law 652 = .ok (.iload 4, 2) := dk_21 4 (dk_at dksL_law_20 22 rfl rfl)
theorem dL_law_654 : decode cL_law 654 = .ok (.iconst 2, 1) := dk_5 (dk_at dksL_law_21 0 rfl rfl)
theorem dL_law_655 : decode cL_law 655 = .ok (.iadd, 1) := dk_96 (dk_at dksL_law_21 1 rfl rfl)
theorem dL_law_656 : decode cL_law 656 = .ok (.iaload, 1) := dk_46 (dk_at dksL_law_21 2 rfl rfl)
theorem dL_law_657 : decode cL_law 657 = .ok (.aload_n 3, 1) := dk_45 (dk_at dksL_law_21 3 rfl rfl)
theorem dL_law_658 : decode cL_law 658 = .ok (.invokestatic 161, 3) := dk_184 0 161 (dk_at dksL_law_21 4 rfl rfl)
theorem dL_law_661 : decode cL_law 661 = .ok (.istore 5, 2) := dk_54 5 (dk_at dksL_law_21 7 rfl rfl)
theorem dL_law_663 : decode cL_law 663 = .ok (.aload_n 2, 1) := dk_44 (dk_at dksL_law_21 9 rfl rfl)
theorem dL_law_664 : decode cL_law 664 = .ok (.aload_n 0, 1) := dk_42 (dk_at dksL_law_21 10 rfl rfl)
theorem dL_law_665 : decode cL_law 665 = .ok (.iload 4, 2) := dk_21 4 (dk_at dksL_law_21 11 rfl rfl)
theorem dL_law_667 : decode cL_law 667 = .ok (.iconst 1, 1) := dk_4 (dk_at dksL_law_21 13 rfl rfl)
theorem dL_law_668 : decode cL_law 668 = .ok (.iadd, 1) := dk_96 (dk_at dksL_law_21 14 rfl rfl)
theorem dL_law_669 : decode cL_law 669 = .ok (.iaload, 1) := dk_46 (dk_at dksL_law_21 15 rfl rfl)
theorem dL_law_670 : decode cL_law 670 = .ok (.aload_n 0, 1) := dk_42 (dk_at dksL_law_21 16 rfl rfl)
theorem dL_law_671 : decode cL_law 671 = .ok (.iload 4, 2) := dk_21 4 (dk_at dksL_law_21 17 rfl rfl)
theorem dL_law_673 : decode cL_law 673 = .ok (.iconst 2, 1) := dk_5 (dk_at dksL_law_21 19 rfl rfl)
theorem dL_law_674 : decode cL_law 674 = .ok (.iadd, 1) := dk_96 (dk_at dksL_law_21 20 rfl rfl)
theorem dL_law_675 : decode cL_law 675 = .ok (.iaload, 1) := dk_46 (dk_at dksL_law_21 21 rfl rfl)
theorem dL_law_676 : decode cL_law 676 = .ok (.invokevirtual 163, 3) := dk_182 0 163 (dk_at dksL_law_22 0 rfl rfl)
theorem dL_law_679 : decode cL_law 679 = .ok (.istore 6, 2) := dk_54 6 (dk_at dksL_law_22 3 rfl rfl)
theorem dL_law_681 : decode cL_law 681 = .ok (.aload_n 2, 1) := dk_44 (dk_at dksL_law_22 5 rfl rfl)
theorem dL_law_682 : decode cL_law 682 = .ok (.invokevirtual 145, 3) := dk_182 0 145 (dk_at dksL_law_22 6 rfl rfl)
theorem dL_law_685 : decode cL_law 685 = .ok (.iload 5, 2) := dk_21 5 (dk_at dksL_law_22 9 rfl rfl)
theorem dL_law_687 : decode cL_law 687 = .ok (.if_icmp .eq 5, 3) := dk_159 0 5 (dk_at dksL_law_22 11 rfl rfl)
theorem dL_law_690 : decode cL_law 690 = .ok (.iconst 0, 1) := dk_3 (dk_at dksL_law_22 14 rfl rfl)
theorem dL_law_691 : decode cL_law 691 = .ok (.ireturn, 1) := dk_172 (dk_at dksL_law_22 15 rfl rfl)
theorem dL_law_692 : decode cL_law 692 = .ok (.iload 5, 2) := dk_21 5 (dk_at dksL_law_22 16 rfl rfl)
theorem dL_law_694 : decode cL_law 694 = .ok (.ifCond .ne 15, 3) := dk_154 0 15 (dk_at dksL_law_22 18 rfl rfl)
theorem dL_law_697 : decode cL_law 697 = .ok (.aload_n 3, 1) := dk_45 (dk_at dksL_law_22 21 rfl rfl)
theorem dL_law_698 : decode cL_law 698 = .ok (.iconst 0, 1) := dk_3 (dk_at dksL_law_22 22 rfl rfl)
theorem dL_law_699 : decode cL_law 699 = .ok (.laload, 1) := dk_47 (dk_at dksL_law_22 23 rfl rfl)
theorem dL_law_700 : decode cL_law 700 = .ok (.iload 6, 2) := dk_21 6 (dk_at dksL_law_23 0 rfl rfl)
theorem dL_law_702 : decode cL_law 702 = .ok (.i2l, 1) := dk_133 (dk_at dksL_law_23 2 rfl rfl)
theorem dL_law_703 : decode cL_law 703 = .ok (.lcmp, 1) := dk_148 (dk_at dksL_law_23 3 rfl rfl)
theorem dL_law_704 : decode cL_law 704 = .ok (.ifCond .eq 5, 3) := dk_153 0 5 (dk_at dksL_law_23 4 rfl rfl)
theorem dL_law_707 : decode cL_law 707 = .ok (.iconst 0, 1) := dk_3 (dk_at dksL_law_23 7 rfl rfl)
theorem dL_law_708 : decode cL_law 708 = .ok (.ireturn, 1) := dk_172 (dk_at dksL_law_23 8 rfl rfl)
theorem dL_law_709 : decode cL_law 709 = .ok (.goto 1844, 3) := dk_167 7 52 (dk_at dksL_law_23 9 rfl rfl)
theorem dL_law_712 : decode cL_law 712 = .ok (.aload_n 1, 1) := dk_43 (dk_at dksL_law_23 12 rfl rfl)
theorem dL_law_713 : decode cL_law 713 = .ok (.aload_n 0, 1) := dk_42 (dk_at dksL_law_23 13 rfl rfl)
theorem dL_law_714 : decode cL_law 714 = .ok (.iload 4, 2) := dk_21 4 (dk_at dksL_law_23 14 rfl rfl)
theorem dL_law_716 : decode cL_law 716 = .ok (.iconst 1, 1) := dk_4 (dk_at dksL_law_23 16 rfl rfl)
theorem dL_law_717 : decode cL_law 717 = .ok (.iadd, 1) := dk_96 (dk_at dksL_law_23 17 rfl rfl)
theorem dL_law_718 : decode cL_law 718 = .ok (.iaload, 1) := dk_46 (dk_at dksL_law_23 18 rfl rfl)
theorem dL_law_719 : decode cL_law 719 = .ok (.aload_n 0, 1) := dk_42 (dk_at dksL_law_23 19 rfl rfl)
theorem dL_law_720 : decode cL_law 720 = .ok (.iload 4, 2) := dk_21 4 (dk_at dksL_law_23 20 rfl rfl)
theorem dL_law_722 : decode cL_law 722 = .ok (.iconst 2, 1) := dk_5 (dk_at dksL_law_23 22 rfl rfl)
theorem dL_law_723 : decode cL_law 723 = .ok (.iadd, 1) := dk_96 (dk_at dksL_law_23 23 rfl rfl)
theorem dL_law_724 : decode cL_law 724 = .ok (.iaload, 1) := dk_46 (dk_at dksL_law_24 0 rfl rfl)
theorem dL_law_725 : decode cL_law 725 = .ok (.aload_n 3, 1) := dk_45 (dk_at dksL_law_24 1 rfl rfl)
theorem dL_law_726 : decode cL_law 726 = .ok (.invokestatic 164, 3) := dk_184 0 164 (dk_at dksL_law_24 2 rfl rfl)
theorem dL_law_729 : decode cL_law 729 = .ok (.istore 5, 2) := dk_54 5 (dk_at dksL_law_24 5 rfl rfl)
theorem dL_law_731 : decode cL_law 731 = .ok (.aload_n 2, 1) := dk_44 (dk_at dksL_law_24 7 rfl rfl)
theorem dL_law_732 : decode cL_law 732 = .ok (.aload_n 0, 1) := dk_42 (dk_at dksL_law_24 8 rfl rfl)
theorem dL_law_733 : decode cL_law 733 = .ok (.iload 4, 2) := dk_21 4 (dk_at dksL_law_24 9 rfl rfl)
theorem dL_law_735 : decode cL_law 735 = .ok (.iconst 1, 1) := dk_4 (dk_at dksL_law_24 11 rfl rfl)
theorem dL_law_736 : decode cL_law 736 = .ok (.iadd, 1) := dk_96 (dk_at dksL_law_24 12 rfl rfl)
theorem dL_law_737 : decode cL_law 737 = .ok (.iaload, 1) := dk_46 (dk_at dksL_law_24 13 rfl rfl)
theorem dL_law_738 : decode cL_law 738 = .ok (.aload_n 0, 1) := dk_42 (dk_at dksL_law_24 14 rfl rfl)
theorem dL_law_739 : decode cL_law 739 = .ok (.iload 4, 2) := dk_21 4 (dk_at dksL_law_24 15 rfl rfl)
theorem dL_law_741 : decode cL_law 741 = .ok (.iconst 2, 1) := dk_5 (dk_at dksL_law_24 17 rfl rfl)
theorem dL_law_742 : decode cL_law 742 = .ok (.iadd, 1) := dk_96 (dk_at dksL_law_24 18 rfl rfl)
theorem dL_law_743 : decode cL_law 743 = .ok (.iaload, 1) := dk_46 (dk_at dksL_law_24 19 rfl rfl)
theorem dL_law_744 : decode cL_law 744 = .ok (.invokevirtual 166, 3) := dk_182 0 166 (dk_at dksL_law_24 20 rfl rfl)
theorem dL_law_747 : decode cL_law 747 = .ok (.istore 6, 2) := dk_54 6 (dk_at dksL_law_25 0 rfl rfl)
theorem dL_law_749 : decode cL_law 749 = .ok (.aload_n 2, 1) := dk_44 (dk_at dksL_law_25 2 rfl rfl)
theorem dL_law_750 : decode cL_law 750 = .ok (.invokevirtual 145, 3) := dk_182 0 145 (dk_at dksL_law_25 3 rfl rfl)
theorem dL_law_753 : decode cL_law 753 = .ok (.iload 5, 2) := dk_21 5 (dk_at dksL_law_25 6 rfl rfl)
theorem dL_law_755 : decode cL_law 755 = .ok (.if_icmp .eq 5, 3) := dk_159 0 5 (dk_at dksL_law_25 8 rfl rfl)
theorem dL_law_758 : decode cL_law 758 = .ok (.iconst 0, 1) := dk_3 (dk_at dksL_law_25 11 rfl rfl)
theorem dL_law_759 : decode cL_law 759 = .ok (.ireturn, 1) := dk_172 (dk_at dksL_law_25 12 rfl rfl)
theorem dL_law_760 : decode cL_law 760 = .ok (.iload 5, 2) := dk_21 5 (dk_at dksL_law_25 13 rfl rfl)
theorem dL_law_762 : decode cL_law 762 = .ok (.ifCond .ne 15, 3) := dk_154 0 15 (dk_at dksL_law_25 15 rfl rfl)
theorem dL_law_765 : decode cL_law 765 = .ok (.aload_n 3, 1) := dk_45 (dk_at dksL_law_25 18 rfl rfl)
theorem dL_law_766 : decode cL_law 766 = .ok (.iconst 0, 1) := dk_3 (dk_at dksL_law_25 19 rfl rfl)
theorem dL_law_767 : decode cL_law 767 = .ok (.laload, 1) := dk_47 (dk_at dksL_law_25 20 rfl rfl)
theorem dL_law_768 : decode cL_law 768 = .ok (.iload 6, 2) := dk_21 6 (dk_at dksL_law_25 21 rfl rfl)
theorem dL_law_770 : decode cL_law 770 = .ok (.i2l, 1) := dk_133 (dk_at dksL_law_25 23 rfl rfl)
theorem dL_law_771 : decode cL_law 771 = .ok (.lcmp, 1) := dk_148 (dk_at dksL_law_26 0 rfl rfl)
theorem dL_law_772 : decode cL_law 772 = .ok (.ifCond .eq 5, 3) := dk_153 0 5 (dk_at dksL_law_26 1 rfl rfl)
theorem dL_law_775 : decode cL_law 775 = .ok (.iconst 0, 1) := dk_3 (dk_at dksL_law_26 4 rfl rfl)
theorem dL_law_776 : decode cL_law 776 = .ok (.ireturn, 1) := dk_172 (dk_at dksL_law_26 5 rfl rfl)
theorem dL_law_777 : decode cL_law 777 = .ok (.goto 1776, 3) := dk_167 6 240 (dk_at dksL_law_26 6 rfl rfl)
theorem dL_law_780 : decode cL_law 780 = .ok (.aload_n 1, 1) := dk_43 (dk_at dksL_law_26 9 rfl rfl)
theorem dL_law_781 : decode cL_law 781 = .ok (.aload_n 0, 1) := dk_42 (dk_at dksL_law_26 10 rfl rfl)
theorem dL_law_782 : decode cL_law 782 = .ok (.iload 4, 2) := dk_21 4 (dk_at dksL_law_26 11 rfl rfl)
theorem dL_law_784 : decode cL_law 784 = .ok (.iconst 1, 1) := dk_4 (dk_at dksL_law_26 13 rfl rfl)
theorem dL_law_785 : decode cL_law 785 = .ok (.iadd, 1) := dk_96 (dk_at dksL_law_26 14 rfl rfl)
theorem dL_law_786 : decode cL_law 786 = .ok (.iaload, 1) := dk_46 (dk_at dksL_law_26 15 rfl rfl)
theorem dL_law_787 : decode cL_law 787 = .ok (.aload_n 0, 1) := dk_42 (dk_at dksL_law_26 16 rfl rfl)
theorem dL_law_788 : decode cL_law 788 = .ok (.iload 4, 2) := dk_21 4 (dk_at dksL_law_26 17 rfl rfl)
theorem dL_law_790 : decode cL_law 790 = .ok (.iconst 2, 1) := dk_5 (dk_at dksL_law_26 19 rfl rfl)
theorem dL_law_791 : decode cL_law 791 = .ok (.iadd, 1) := dk_96 (dk_at dksL_law_26 20 rfl rfl)
theorem dL_law_792 : decode cL_law 792 = .ok (.iaload, 1) := dk_46 (dk_at dksL_law_26 21 rfl rfl)
theorem dL_law_793 : decode cL_law 793 = .ok (.aload_n 3, 1) := dk_45 (dk_at dksL_law_26 22 rfl rfl)
theorem dL_law_794 : decode cL_law 794 = .ok (.invokestatic 167, 3) := dk_184 0 167 (dk_at dksL_law_27 0 rfl rfl)
theorem dL_law_797 : decode cL_law 797 = .ok (.istore 5, 2) := dk_54 5 (dk_at dksL_law_27 3 rfl rfl)
theorem dL_law_799 : decode cL_law 799 = .ok (.aload_n 2, 1) := dk_44 (dk_at dksL_law_27 5 rfl rfl)
theorem dL_law_800 : decode cL_law 800 = .ok (.aload_n 0, 1) := dk_42 (dk_at dksL_law_27 6 rfl rfl)
theorem dL_law_801 : decode cL_law 801 = .ok (.iload 4, 2) := dk_21 4 (dk_at dksL_law_27 7 rfl rfl)
theorem dL_law_803 : decode cL_law 803 = .ok (.iconst 1, 1) := dk_4 (dk_at dksL_law_27 9 rfl rfl)
theorem dL_law_804 : decode cL_law 804 = .ok (.iadd, 1) := dk_96 (dk_at dksL_law_27 10 rfl rfl)
theorem dL_law_805 : decode cL_law 805 = .ok (.iaload, 1) := dk_46 (dk_at dksL_law_27 11 rfl rfl)
theorem dL_law_806 : decode cL_law 806 = .ok (.aload_n 0, 1) := dk_42 (dk_at dksL_law_27 12 rfl rfl)
theorem dL_law_807 : decode cL_law 807 = .ok (.iload 4, 2) := dk_21 4 (dk_at dksL_law_27 13 rfl rfl)
theorem dL_law_809 : decode cL_law 809 = .ok (.iconst 2, 1) := dk_5 (dk_at dksL_law_27 15 rfl rfl)
theorem dL_law_810 : decode cL_law 810 = .ok (.iadd, 1) := dk_96 (dk_at dksL_law_27 16 rfl rfl)
theorem dL_law_811 : decode cL_law 811 = .ok (.iaload, 1) := dk_46 (dk_at dksL_law_27 17 rfl rfl)
theorem dL_law_812 : decode cL_law 812 = .ok (.invokevirtual 169, 3) := dk_182 0 169 (dk_at dksL_law_27 18 rfl rfl)
theorem dL_law_815 : decode cL_law 815 = .ok (.istore 6, 2) := dk_54 6 (dk_at dksL_law_27 21 rfl rfl)
theorem dL_law_817 : decode cL_law 817 = .ok (.aload_n 2, 1) := dk_44 (dk_at dksL_law_27 23 rfl rfl)
theorem dL_law_818 : decode cL_law 818 = .ok (.invokevirtual 145, 3) := dk_182 0 145 (dk_at dksL_law_28 0 rfl rfl)
theorem dL_law_821 : decode cL_law 821 = .ok (.iload 5, 2) := dk_21 5 (dk_at dksL_law_28 3 rfl rfl)
theorem dL_law_823 : decode cL_law 823 = .ok (.if_icmp .eq 5, 3) := dk_159 0 5 (dk_at dksL_law_28 5 rfl rfl)
theorem dL_law_826 : decode cL_law 826 = .ok (.iconst 0, 1) := dk_3 (dk_at dksL_law_28 8 rfl rfl)
theorem dL_law_827 : decode cL_law 827 = .ok (.ireturn, 1) := dk_172 (dk_at dksL_law_28 9 rfl rfl)
theorem dL_law_828 : decode cL_law 828 = .ok (.iload 5, 2) := dk_21 5 (dk_at dksL_law_28 10 rfl rfl)
theorem dL_law_830 : decode cL_law 830 = .ok (.ifCond .ne 15, 3) := dk_154 0 15 (dk_at dksL_law_28 12 rfl rfl)
theorem dL_law_833 : decode cL_law 833 = .ok (.aload_n 3, 1) := dk_45 (dk_at dksL_law_28 15 rfl rfl)
theorem dL_law_834 : decode cL_law 834 = .ok (.iconst 0, 1) := dk_3 (dk_at dksL_law_28 16 rfl rfl)
theorem dL_law_835 : decode cL_law 835 = .ok (.laload, 1) := dk_47 (dk_at dksL_law_28 17 rfl rfl)
theorem dL_law_836 : decode cL_law 836 = .ok (.iload 6, 2) := dk_21 6 (dk_at dksL_law_28 18 rfl rfl)
theorem dL_law_838 : decode cL_law 838 = .ok (.i2l, 1) := dk_133 (dk_at dksL_law_28 20 rfl rfl)
theorem dL_law_839 : decode cL_law 839 = .ok (.lcmp, 1) := dk_148 (dk_at dksL_law_28 21 rfl rfl)
theorem dL_law_840 : decode cL_law 840 = .ok (.ifCond .eq 5, 3) := dk_153 0 5 (dk_at dksL_law_29 0 rfl rfl)
theorem dL_law_843 : decode cL_law 843 = .ok (.iconst 0, 1) := dk_3 (dk_at dksL_law_29 3 rfl rfl)
theorem dL_law_844 : decode cL_law 844 = .ok (.ireturn, 1) := dk_172 (dk_at dksL_law_29 4 rfl rfl)
theorem dL_law_845 : decode cL_law 845 = .ok (.goto 1708, 3) := dk_167 6 172 (dk_at dksL_law_29 5 rfl rfl)
theorem dL_law_848 : decode cL_law 848 = .ok (.aload_n 1, 1) := dk_43 (dk_at dksL_law_29 8 rfl rfl)
theorem dL_law_849 : decode cL_law 849 = .ok (.aload_n 0, 1) := dk_42 (dk_at dksL_law_29 9 rfl rfl)
theorem dL_law_850 : decode cL_law 850 = .ok (.iload 4, 2) := dk_21 4 (dk_at dksL_law_29 10 rfl rfl)
theorem dL_law_852 : decode cL_law 852 = .ok (.iconst 1, 1) := dk_4 (dk_at dksL_law_29 12 rfl rfl)
theorem dL_law_853 : decode cL_law 853 = .ok (.iadd, 1) := dk_96 (dk_at dksL_law_29 13 rfl rfl)
theorem dL_law_854 : decode cL_law 854 = .ok (.iaload, 1) := dk_46 (dk_at dksL_law_29 14 rfl rfl)
theorem dL_law_855 : decode cL_law 855 = .ok (.aload_n 3, 1) := dk_45 (dk_at dksL_law_29 15 rfl rfl)
theorem dL_law_856 : decode cL_law 856 = .ok (.invokestatic 170, 3) := dk_184 0 170 (dk_at dksL_law_29 16 rfl rfl)
theorem dL_law_859 : decode cL_law 859 = .ok (.istore 5, 2) := dk_54 5 (dk_at dksL_law_29 19 rfl rfl)
theorem dL_law_861 : decode cL_law 861 = .ok (.aload_n 2, 1) := dk_44 (dk_at dksL_law_29 21 rfl rfl)
theorem dL_law_862 : decode cL_law 862 = .ok (.aload_n 0, 1) := dk_42 (dk_at dksL_law_29 22 rfl rfl)
theorem dL_law_863 : decode cL_law 863 = .ok (.iload 4, 2) := dk_21 4 (dk_at dksL_law_30 0 rfl rfl)
theorem dL_law_865 : decode cL_law 865 = .ok (.iconst 1, 1) := dk_4 (dk_at dksL_law_30 2 rfl rfl)
theorem dL_law_866 : decode cL_law 866 = .ok (.iadd, 1) := dk_96 (dk_at dksL_law_30 3 rfl rfl)
theorem dL_law_867 : decode cL_law 867 = .ok (.iaload, 1) := dk_46 (dk_at dksL_law_30 4 rfl rfl)
theorem dL_law_868 : decode cL_law 868 = .ok (.invokevirtual 172, 3) := dk_182 0 172 (dk_at dksL_law_30 5 rfl rfl)
theorem dL_law_871 : decode cL_law 871 = .ok (.istore 6, 2) := dk_54 6 (dk_at dksL_law_30 8 rfl rfl)
theorem dL_law_873 : decode cL_law 873 = .ok (.aload_n 2, 1) := dk_44 (dk_at dksL_law_30 10 rfl rfl)
theorem dL_law_874 : decode cL_law 874 = .ok (.invokevirtual 145, 3) := dk_182 0 145 (dk_at dksL_law_30 11 rfl rfl)
theorem dL_law_877 : decode cL_law 877 = .ok (.iload 5, 2) := dk_21 5 (dk_at dksL_law_30 14 rfl rfl)
theorem dL_law_879 : decode cL_law 879 = .ok (.if_icmp .eq 5, 3) := dk_159 0 5 (dk_at dksL_law_30 16 rfl rfl)
theorem dL_law_882 : decode cL_law 882 = .ok (.iconst 0, 1) := dk_3 (dk_at dksL_law_30 19 rfl rfl)
theorem dL_law_883 : decode cL_law 883 = .ok (.ireturn, 1) := dk_172 (dk_at dksL_law_30 20 rfl rfl)
theorem dL_law_884 : decode cL_law 884 = .ok (.iload 5, 2) := dk_21 5 (dk_at dksL_law_30 21 rfl rfl)
theorem dL_law_886 : decode cL_law 886 = .ok (.ifCond .ne 15, 3) := dk_154 0 15 (dk_at dksL_law_31 0 rfl rfl)
theorem dL_law_889 : decode cL_law 889 = .ok (.aload_n 3, 1) := dk_45 (dk_at dksL_law_31 3 rfl rfl)
theorem dL_law_890 : decode cL_law 890 = .ok (.iconst 0, 1) := dk_3 (dk_at dksL_law_31 4 rfl rfl)
theorem dL_law_891 : decode cL_law 891 = .ok (.laload, 1) := dk_47 (dk_at dksL_law_31 5 rfl rfl)
theorem dL_law_892 : decode cL_law 892 = .ok (.iload 6, 2) := dk_21 6 (dk_at dksL_law_31 6 rfl rfl)
theorem dL_law_894 : decode cL_law 894 = .ok (.i2l, 1) := dk_133 (dk_at dksL_law_31 8 rfl rfl)
theorem dL_law_895 : decode cL_law 895 = .ok (.lcmp, 1) := dk_148 (dk_at dksL_law_31 9 rfl rfl)
theorem dL_law_896 : decode cL_law 896 = .ok (.ifCond .eq 5, 3) := dk_153 0 5 (dk_at dksL_law_31 10 rfl rfl)
theorem dL_law_899 : decode cL_law 899 = .ok (.iconst 0, 1) := dk_3 (dk_at dksL_law_31 13 rfl rfl)
theorem dL_law_900 : decode cL_law 900 = .ok (.ireturn, 1) := dk_172 (dk_at dksL_law_31 14 rfl rfl)
theorem dL_law_901 : decode cL_law 901 = .ok (.goto 1652, 3) := dk_167 6 116 (dk_at dksL_law_31 15 rfl rfl)
theorem dL_law_904 : decode cL_law 904 = .ok (.aload_n 1, 1) := dk_43 (dk_at dksL_law_31 18 rfl rfl)
theorem dL_law_905 : decode cL_law 905 = .ok (.aload_n 0, 1) := dk_42 (dk_at dksL_law_31 19 rfl rfl)
theorem dL_law_906 : decode cL_law 906 = .ok (.iload 4, 2) := dk_21 4 (dk_at dksL_law_31 20 rfl rfl)
theorem dL_law_908 : decode cL_law 908 = .ok (.iconst 1, 1) := dk_4 (dk_at dksL_law_31 22 rfl rfl)
theorem dL_law_909 : decode cL_law 909 = .ok (.iadd, 1) := dk_96 (dk_at dksL_law_31 23 rfl rfl)
theorem dL_law_910 : decode cL_law 910 = .ok (.iaload, 1) := dk_46 (dk_at dksL_law_32 0 rfl rfl)
theorem dL_law_911 : decode cL_law 911 = .ok (.aload_n 3, 1) := dk_45 (dk_at dksL_law_32 1 rfl rfl)
theorem dL_law_912 : decode cL_law 912 = .ok (.invokestatic 173, 3) := dk_184 0 173 (dk_at dksL_law_32 2 rfl rfl)
theorem dL_law_915 : decode cL_law 915 = .ok (.istore 5, 2) := dk_54 5 (dk_at dksL_law_32 5 rfl rfl)
theorem dL_law_917 : decode cL_law 917 = .ok (.aload_n 2, 1) := dk_44 (dk_at dksL_law_32 7 rfl rfl)
theorem dL_law_918 : decode cL_law 918 = .ok (.aload_n 0, 1) := dk_42 (dk_at dksL_law_32 8 rfl rfl)
theorem dL_law_919 : decode cL_law 919 = .ok (.iload 4, 2) := dk_21 4 (dk_at dksL_law_32 9 rfl rfl)
theorem dL_law_921 : decode cL_law 921 = .ok (.iconst 1, 1) := dk_4 (dk_at dksL_law_32 11 rfl rfl)
theorem dL_law_922 : decode cL_law 922 = .ok (.iadd, 1) := dk_96 (dk_at dksL_law_32 12 rfl rfl)
theorem dL_law_923 : decode cL_law 923 = .ok (.iaload, 1) := dk_46 (dk_at dksL_law_32 13 rfl rfl)
theorem dL_law_924 : decode cL_law 924 = .ok (.invokevirtual 175, 3) := dk_182 0 175 (dk_at dksL_law_32 14 rfl rfl)
theorem dL_law_927 : decode cL_law 927 = .ok (.istore 6, 2) := dk_54 6 (dk_at dksL_law_32 17 rfl rfl)
theorem dL_law_929 : decode cL_law 929 = .ok (.aload_n 2, 1) := dk_44 (dk_at dksL_law_32 19 rfl rfl)
theorem dL_law_930 : decode cL_law 930 = .ok (.invokevirtual 145, 3) := dk_182 0 145 (dk_at dksL_law_32 20 rfl rfl)
theorem dL_law_933 : decode cL_law 933 = .ok (.iload 5, 2) := dk_21 5 (dk_at dksL_law_33 0 rfl rfl)
theorem dL_law_935 : decode cL_law 935 = .ok (.if_icmp .eq 5, 3) := dk_159 0 5 (dk_at dksL_law_33 2 rfl rfl)
theorem dL_law_938 : decode cL_law 938 = .ok (.iconst 0, 1) := dk_3 (dk_at dksL_law_33 5 rfl rfl)
theorem dL_law_939 : decode cL_law 939 = .ok (.ireturn, 1) := dk_172 (dk_at dksL_law_33 6 rfl rfl)
theorem dL_law_940 : decode cL_law 940 = .ok (.iload 5, 2) := dk_21 5 (dk_at dksL_law_33 7 rfl rfl)
theorem dL_law_942 : decode cL_law 942 = .ok (.ifCond .ne 15, 3) := dk_154 0 15 (dk_at dksL_law_33 9 rfl rfl)
theorem dL_law_945 : decode cL_law 945 = .ok (.aload_n 3, 1) := dk_45 (dk_at dksL_law_33 12 rfl rfl)
theorem dL_law_946 : decode cL_law 946 = .ok (.iconst 0, 1) := dk_3 (dk_at dksL_law_33 13 rfl rfl)
theorem dL_law_947 : decode cL_law 947 = .ok (.laload, 1) := dk_47 (dk_at dksL_law_33 14 rfl rfl)
theorem dL_law_948 : decode cL_law 948 = .ok (.iload 6, 2) := dk_21 6 (dk_at dksL_law_33 15 rfl rfl)
theorem dL_law_950 : decode cL_law 950 = .ok (.i2l, 1) := dk_133 (dk_at dksL_law_33 17 rfl rfl)
theorem dL_law_951 : decode cL_law 951 = .ok (.lcmp, 1) := dk_148 (dk_at dksL_law_33 18 rfl rfl)
theorem dL_law_952 : decode cL_law 952 = .ok (.ifCond .eq 5, 3) := dk_153 0 5 (dk_at dksL_law_33 19 rfl rfl)
theorem dL_law_955 : decode cL_law 955 = .ok (.iconst 0, 1) := dk_3 (dk_at dksL_law_33 22 rfl rfl)
theorem dL_law_956 : decode cL_law 956 = .ok (.ireturn, 1) := dk_172 (dk_at dksL_law_33 23 rfl rfl)
theorem dL_law_957 : decode cL_law 957 = .ok (.goto 1596, 3) := dk_167 6 60 (dk_at dksL_law_34 0 rfl rfl)
theorem dL_law_960 : decode cL_law 960 = .ok (.aload_n 1, 1) := dk_43 (dk_at dksL_law_34 3 rfl rfl)
theorem dL_law_961 : decode cL_law 961 = .ok (.invokevirtual 176, 3) := dk_182 0 176 (dk_at dksL_law_34 4 rfl rfl)
theorem dL_law_964 : decode cL_law 964 = .ok (.aload_n 2, 1) := dk_44 (dk_at dksL_law_34 7 rfl rfl)
theorem dL_law_965 : decode cL_law 965 = .ok (.invokevirtual 179, 3) := dk_182 0 179 (dk_at dksL_law_34 8 rfl rfl)
theorem dL_law_968 : decode cL_law 968 = .ok (.if_icmp .eq 1585, 3) := dk_159 6 49 (dk_at dksL_law_34 11 rfl rfl)
theorem dL_law_971 : decode cL_law 971 = .ok (.iconst 0, 1) := dk_3 (dk_at dksL_law_34 14 rfl rfl)
theorem dL_law_972 : decode cL_law 972 = .ok (.ireturn, 1) := dk_172 (dk_at dksL_law_34 15 rfl rfl)
theorem dL_law_973 : decode cL_law 973 = .ok (.aload_n 1, 1) := dk_43 (dk_at dksL_law_34 16 rfl rfl)
theorem dL_law_974 : decode cL_law 974 = .ok (.invokevirtual 180, 3) := dk_182 0 180 (dk_at dksL_law_34 17 rfl rfl)
theorem dL_law_977 : decode cL_law 977 = .ok (.dstore 5, 2) := dk_57 5 (dk_at dksL_law_34 20 rfl rfl)
theorem dL_law_979 : decode cL_law 979 = .ok (.aload_n 2, 1) := dk_44 (dk_at dksL_law_34 22 rfl rfl)
theorem dL_law_980 : decode cL_law 980 = .ok (.invokevirtual 184, 3) := dk_182 0 184 (dk_at dksL_law_35 0 rfl rfl)
theorem dL_law_983 : decode cL_law 983 = .ok (.dstore 7, 2) := dk_57 7 (dk_at dksL_law_35 3 rfl rfl)
theorem dL_law_985 : decode cL_law 985 = .ok (.dload 5, 2) := dk_24 5 (dk_at dksL_law_35 5 rfl rfl)
theorem dL_law_987 : decode cL_law 987 = .ok (.dload 7, 2) := dk_24 7 (dk_at dksL_law_35 7 rfl rfl)
theorem dL_law_989 : decode cL_law 989 = .ok (.dcmp .l, 1) := dk_151 (dk_at dksL_law_35 9 rfl rfl)
theorem dL_law_990 : decode cL_law 990 = .ok (.ifCond .eq 21, 3) := dk_153 0 21 (dk_at dksL_law_35 10 rfl rfl)
theorem dL_law_993 : decode cL_law 993 = .ok (.dload 5, 2) := dk_24 5 (dk_at dksL_law_35 13 rfl rfl)
theorem dL_law_995 : decode cL_law 995 = .ok (.dload 5, 2) := dk_24 5 (dk_at dksL_law_35 15 rfl rfl)
theorem dL_law_997 : decode cL_law 997 = .ok (.dcmp .l, 1) := dk_151 (dk_at dksL_law_35 17 rfl rfl)
theorem dL_law_998 : decode cL_law 998 = .ok (.ifCond .eq 11, 3) := dk_153 0 11 (dk_at dksL_law_35 18 rfl rfl)
theorem dL_law_1001 : decode cL_law 1001 = .ok (.dload 7, 2) := dk_24 7 (dk_at dksL_law_35 21 rfl rfl)
theorem dL_law_1003 : decode cL_law 1003 = .ok (.dload 7, 2) := dk_24 7 (dk_at dksL_law_36 0 rfl rfl)
theorem dL_law_1005 : decode cL_law 1005 = .ok (.dcmp .l, 1) := dk_151 (dk_at dksL_law_36 2 rfl rfl)
theorem dL_law_1006 : decode cL_law 1006 = .ok (.ifCond .ne 5, 3) := dk_154 0 5 (dk_at dksL_law_36 3 rfl rfl)
theorem dL_law_1009 : decode cL_law 1009 = .ok (.iconst 0, 1) := dk_3 (dk_at dksL_law_36 6 rfl rfl)
theorem dL_law_1010 : decode cL_law 1010 = .ok (.ireturn, 1) := dk_172 (dk_at dksL_law_36 7 rfl rfl)
theorem dL_law_1011 : decode cL_law 1011 = .ok (.goto 1542, 3) := dk_167 6 6 (dk_at dksL_law_36 8 rfl rfl)
theorem dL_law_1014 : decode cL_law 1014 = .ok (.aload_n 1, 1) := dk_43 (dk_at dksL_law_36 11 rfl rfl)
theorem dL_law_1015 : decode cL_law 1015 = .ok (.invokevirtual 185, 3) := dk_182 0 185 (dk_at dksL_law_36 12 rfl rfl)
theorem dL_law_1018 : decode cL_law 1018 = .ok (.aload_n 2, 1) := dk_44 (dk_at dksL_law_36 15 rfl rfl)
theorem dL_law_1019 : decode cL_law 1019 = .ok (.invokevirtual 188, 3) := dk_182 0 188 (dk_at dksL_law_36 16 rfl rfl)
theorem dL_law_1022 : decode cL_law 1022 = .ok (.if_icmp .eq 1531, 3) := dk_159 5 251 (dk_at dksL_law_36 19 rfl rfl)
theorem dL_law_1025 : decode cL_law 1025 = .ok (.iconst 0, 1) := dk_3 (dk_at dksL_law_36 22 rfl rfl)
theorem dL_law_1026 : decode cL_law 1026 = .ok (.ireturn, 1) := dk_172 (dk_at dksL_law_36 23 rfl rfl)
theorem dL_law_1027 : decode cL_law 1027 = .ok (.aload_n 1, 1) := dk_43 (dk_at dksL_law_37 0 rfl rfl)
theorem dL_law_1028 : decode cL_law 1028 = .ok (.aload_n 0, 1) := dk_42 (dk_at dksL_law_37 1 rfl rfl)
theorem dL_law_1029 : decode cL_law 1029 = .ok (.iload 4, 2) := dk_21 4 (dk_at dksL_law_37 2 rfl rfl)
theorem dL_law_1031 : decode cL_law 1031 = .ok (.iconst 1, 1) := dk_4 (dk_at dksL_law_37 4 rfl rfl)
theorem dL_law_1032 : decode cL_law 1032 = .ok (.iadd, 1) := dk_96 (dk_at dksL_law_37 5 rfl rfl)
theorem dL_law_1033 : decode cL_law 1033 = .ok (.iaload, 1) := dk_46 (dk_at dksL_law_37 6 rfl rfl)
theorem dL_law_1034 : decode cL_law 1034 = .ok (.aload_n 0, 1) := dk_42 (dk_at dksL_law_37 7 rfl rfl)
theorem dL_law_1035 : decode cL_law 1035 = .ok (.iload 4, 2) := dk_21 4 (dk_at dksL_law_37 8 rfl rfl)
theorem dL_law_1037 : decode cL_law 1037 = .ok (.iconst 2, 1) := dk_5 (dk_at dksL_law_37 10 rfl rfl)
theorem dL_law_1038 : decode cL_law 1038 = .ok (.iadd, 1) := dk_96 (dk_at dksL_law_37 11 rfl rfl)
theorem dL_law_1039 : decode cL_law 1039 = .ok (.iaload, 1) := dk_46 (dk_at dksL_law_37 12 rfl rfl)
theorem dL_law_1040 : decode cL_law 1040 = .ok (.aload_n 3, 1) := dk_45 (dk_at dksL_law_37 13 rfl rfl)
theorem dL_law_1041 : decode cL_law 1041 = .ok (.invokestatic 189, 3) := dk_184 0 189 (dk_at dksL_law_37 14 rfl rfl)
theorem dL_law_1044 : decode cL_law 1044 = .ok (.istore 5, 2) := dk_54 5 (dk_at dksL_law_37 17 rfl rfl)
theorem dL_law_1046 : decode cL_law 1046 = .ok (.aload_n 2, 1) := dk_44 (dk_at dksL_law_37 19 rfl rfl)
theorem dL_law_1047 : decode cL_law 1047 = .ok (.aload_n 0, 1) := dk_42 (dk_at dksL_law_37 20 rfl rfl)
theorem dL_law_1048 : decode cL_law 1048 = .ok (.iload 4, 2) := dk_21 4 (dk_at dksL_law_37 21 rfl rfl)
theorem dL_law_1050 : decode cL_law 1050 = .ok (.iconst 1, 1) := dk_4 (dk_at dksL_law_37 23 rfl rfl)
theorem dL_law_1051 : decode cL_law 1051 = .ok (.iadd, 1) := dk_96 (dk_at dksL_law_38 0 rfl rfl)
theorem dL_law_1052 : decode cL_law 1052 = .ok (.iaload, 1) := dk_46 (dk_at dksL_law_38 1 rfl rfl)
theorem dL_law_1053 : decode cL_law 1053 = .ok (.aload_n 0, 1) := dk_42 (dk_at dksL_law_38 2 rfl rfl)
theorem dL_law_1054 : decode cL_law 1054 = .ok (.iload 4, 2) := dk_21 4 (dk_at dksL_law_38 3 rfl rfl)
theorem dL_law_1056 : decode cL_law 1056 = .ok (.iconst 2, 1) := dk_5 (dk_at dksL_law_38 5 rfl rfl)
theorem dL_law_1057 : decode cL_law 1057 = .ok (.iadd, 1) := dk_96 (dk_at dksL_law_38 6 rfl rfl)
theorem dL_law_1058 : decode cL_law 1058 = .ok (.iaload, 1) := dk_46 (dk_at dksL_law_38 7 rfl rfl)
theorem dL_law_1059 : decode cL_law 1059 = .ok (.invokevirtual 191, 3) := dk_182 0 191 (dk_at dksL_law_38 8 rfl rfl)
theorem dL_law_1062 : decode cL_law 1062 = .ok (.istore 6, 2) := dk_54 6 (dk_at dksL_law_38 11 rfl rfl)
theorem dL_law_1064 : decode cL_law 1064 = .ok (.aload_n 2, 1) := dk_44 (dk_at dksL_law_38 13 rfl rfl)
theorem dL_law_1065 : decode cL_law 1065 = .ok (.invokevirtual 145, 3) := dk_182 0 145 (dk_at dksL_law_38 14 rfl rfl)
theorem dL_law_1068 : decode cL_law 1068 = .ok (.iload 5, 2) := dk_21 5 (dk_at dksL_law_38 17 rfl rfl)
theorem dL_law_1070 : decode cL_law 1070 = .ok (.if_icmp .eq 5, 3) := dk_159 0 5 (dk_at dksL_law_38 19 rfl rfl)
theorem dL_law_1073 : decode cL_law 1073 = .ok (.iconst 0, 1) := dk_3 (dk_at dksL_law_38 22 rfl rfl)
theorem dL_law_1074 : decode cL_law 1074 = .ok (.ireturn, 1) := dk_172 (dk_at dksL_law_38 23 rfl rfl)
theorem dL_law_1075 : decode cL_law 1075 = .ok (.iload 5, 2) := dk_21 5 (dk_at dksL_law_39 0 rfl rfl)
theorem dL_law_1077 : decode cL_law 1077 = .ok (.ifCond .ne 22, 3) := dk_154 0 22 (dk_at dksL_law_39 2 rfl rfl)
theorem dL_law_1080 : decode cL_law 1080 = .ok (.aload_n 3, 1) := dk_45 (dk_at dksL_law_39 5 rfl rfl)
theorem dL_law_1081 : decode cL_law 1081 = .ok (.iconst 0, 1) := dk_3 (dk_at dksL_law_39 6 rfl rfl)
theorem dL_law_1082 : decode cL_law 1082 = .ok (.laload, 1) := dk_47 (dk_at dksL_law_39 7 rfl rfl)
theorem dL_law_1083 : decode cL_law 1083 = .ok (.iload 6, 2) := dk_21 6 (dk_at dksL_law_39 8 rfl rfl)
theorem dL_law_1085 : decode cL_law 1085 = .ok (.ifCond .eq 7, 3) := dk_153 0 7 (dk_at dksL_law_39 10 rfl rfl)
theorem dL_law_1088 : decode cL_law 1088 = .ok (.lconst 1, 1) := dk_10 (dk_at dksL_law_39 13 rfl rfl)
theorem dL_law_1089 : decode cL_law 1089 = .ok (.goto 4, 3) := dk_167 0 4 (dk_at dksL_law_39 14 rfl rfl)
theorem dL_law_1092 : decode cL_law 1092 = .ok (.lconst 0, 1) := dk_9 (dk_at dksL_law_39 17 rfl rfl)
theorem dL_law_1093 : decode cL_law 1093 = .ok (.lcmp, 1) := dk_148 (dk_at dksL_law_39 18 rfl rfl)
theorem dL_law_1094 : decode cL_law 1094 = .ok (.ifCond .eq 5, 3) := dk_153 0 5 (dk_at dksL_law_39 19 rfl rfl)
theorem dL_law_1097 : decode cL_law 1097 = .ok (.iconst 0, 1) := dk_3 (dk_at dksL_law_39 22 rfl rfl)
theorem dL_law_1098 : decode cL_law 1098 = .ok (.ireturn, 1) := dk_172 (dk_at dksL_law_39 23 rfl rfl)
theorem dL_law_1099 : decode cL_law 1099 = .ok (.goto 1454, 3) := dk_167 5 174 (dk_at dksL_law_40 0 rfl rfl)
theorem dL_law_1102 : decode cL_law 1102 = .ok (.aload_n 1, 1) := dk_43 (dk_at dksL_law_40 3 rfl rfl)
theorem dL_law_1103 : decode cL_law 1103 = .ok (.aload_n 0, 1) := dk_42 (dk_at dksL_law_40 4 rfl rfl)
theorem dL_law_1104 : decode cL_law 1104 = .ok (.iload 4, 2) := dk_21 4 (dk_at dksL_law_40 5 rfl rfl)
theorem dL_law_1106 : decode cL_law 1106 = .ok (.iconst 1, 1) := dk_4 (dk_at dksL_law_40 7 rfl rfl)
theorem dL_law_1107 : decode cL_law 1107 = .ok (.iadd, 1) := dk_96 (dk_at dksL_law_40 8 rfl rfl)
theorem dL_law_1108 : decode cL_law 1108 = .ok (.iaload, 1) := dk_46 (dk_at dksL_law_40 9 rfl rfl)
theorem dL_law_1109 : decode cL_law 1109 = .ok (.aload_n 0, 1) := dk_42 (dk_at dksL_law_40 10 rfl rfl)
theorem dL_law_1110 : decode cL_law 1110 = .ok (.iload 4, 2) := dk_21 4 (dk_at dksL_law_40 11 rfl rfl)
theorem dL_law_1112 : decode cL_law 1112 = .ok (.iconst 2, 1) := dk_5 (dk_at dksL_law_40 13 rfl rfl)
theorem dL_law_1113 : decode cL_law 1113 = .ok (.iadd, 1) := dk_96 (dk_at dksL_law_40 14 rfl rfl)
theorem dL_law_1114 : decode cL_law 1114 = .ok (.iaload, 1) := dk_46 (dk_at dksL_law_40 15 rfl rfl)
theorem dL_law_1115 : decode cL_law 1115 = .ok (.aload_n 3, 1) := dk_45 (dk_at dksL_law_40 16 rfl rfl)
theorem dL_law_1116 : decode cL_law 1116 = .ok (.invokestatic 192, 3) := dk_184 0 192 (dk_at dksL_law_40 17 rfl rfl)
theorem dL_law_1119 : decode cL_law 1119 = .ok (.istore 5, 2) := dk_54 5 (dk_at dksL_law_40 20 rfl rfl)
theorem dL_law_1121 : decode cL_law 1121 = .ok (.aload_n 2, 1) := dk_44 (dk_at dksL_law_40 22 rfl rfl)
theorem dL_law_1122 : decode cL_law 1122 = .ok (.aload_n 0, 1) := dk_42 (dk_at dksL_law_40 23 rfl rfl)
theorem dL_law_1123 : decode cL_law 1123 = .ok (.iload 4, 2) := dk_21 4 (dk_at dksL_law_41 0 rfl rfl)
theorem dL_law_1125 : decode cL_law 1125 = .ok (.iconst 1, 1) := dk_4 (dk_at dksL_law_41 2 rfl rfl)
theorem dL_law_1126 : decode cL_law 1126 = .ok (.iadd, 1) := dk_96 (dk_at dksL_law_41 3 rfl rfl)
theorem dL_law_1127 : decode cL_law 1127 = .ok (.iaload, 1) := dk_46 (dk_at dksL_law_41 4 rfl rfl)
theorem dL_law_1128 : decode cL_law 1128 = .ok (.aload_n 0, 1) := dk_42 (dk_at dksL_law_41 5 rfl rfl)
theorem dL_law_1129 : decode cL_law 1129 = .ok (.iload 4, 2) := dk_21 4 (dk_at dksL_law_41 6 rfl rfl)
theorem dL_law_1131 : decode cL_law 1131 = .ok (.iconst 2, 1) := dk_5 (dk_at dksL_law_41 8 rfl rfl)
theorem dL_law_1132 : decode cL_law 1132 = .ok (.iadd, 1) := dk_96 (dk_at dksL_law_41 9 rfl rfl)
theorem dL_law_1133 : decode cL_law 1133 = .ok (.iaload, 1) := dk_46 (dk_at dksL_law_41 10 rfl rfl)
theorem dL_law_1134 : decode cL_law 1134 = .ok (.invokevirtual 194, 3) := dk_182 0 194 (dk_at dksL_law_41 11 rfl rfl)
theorem dL_law_1137 : decode cL_law 1137 = .ok (.istore 6, 2) := dk_54 6 (dk_at dksL_law_41 14 rfl rfl)
theorem dL_law_1139 : decode cL_law 1139 = .ok (.aload_n 2, 1) := dk_44 (dk_at dksL_law_41 16 rfl rfl)
theorem dL_law_1140 : decode cL_law 1140 = .ok (.invokevirtual 145, 3) := dk_182 0 145 (dk_at dksL_law_41 17 rfl rfl)
theorem dL_law_1143 : decode cL_law 1143 = .ok (.iload 5, 2) := dk_21 5 (dk_at dksL_law_41 20 rfl rfl)
theorem dL_law_1145 : decode cL_law 1145 = .ok (.if_icmp .eq 5, 3) := dk_159 0 5 (dk_at dksL_law_42 0 rfl rfl)
theorem dL_law_1148 : decode cL_law 1148 = .ok (.iconst 0, 1) := dk_3 (dk_at dksL_law_42 3 rfl rfl)
theorem dL_law_1149 : decode cL_law 1149 = .ok (.ireturn, 1) := dk_172 (dk_at dksL_law_42 4 rfl rfl)
theorem dL_law_1150 : decode cL_law 1150 = .ok (.iload 5, 2) := dk_21 5 (dk_at dksL_law_42 5 rfl rfl)
theorem dL_law_1152 : decode cL_law 1152 = .ok (.ifCond .ne 15, 3) := dk_154 0 15 (dk_at dksL_law_42 7 rfl rfl)
theorem dL_law_1155 : decode cL_law 1155 = .ok (.aload_n 3, 1) := dk_45 (dk_at dksL_law_42 10 rfl rfl)
theorem dL_law_1156 : decode cL_law 1156 = .ok (.iconst 0, 1) := dk_3 (dk_at dksL_law_42 11 rfl rfl)
theorem dL_law_1157 : decode cL_law 1157 = .ok (.laload, 1) := dk_47 (dk_at dksL_law_42 12 rfl rfl)
theorem dL_law_1158 : decode cL_law 1158 = .ok (.iload 6, 2) := dk_21 6 (dk_at dksL_law_42 13 rfl rfl)
theorem dL_law_1160 : decode cL_law 1160 = .ok (.i2l, 1) := dk_133 (dk_at dksL_law_42 15 rfl rfl)
theorem dL_law_1161 : decode cL_law 1161 = .ok (.lcmp, 1) := dk_148 (dk_at dksL_law_42 16 rfl rfl)
theorem dL_law_1162 : decode cL_law 1162 = .ok (.ifCond .eq 5, 3) := dk_153 0 5 (dk_at dksL_law_42 17 rfl rfl)
theorem dL_law_1165 : decode cL_law 1165 = .ok (.iconst 0, 1) := dk_3 (dk_at dksL_law_42 20 rfl rfl)
theorem dL_law_1166 : decode cL_law 1166 = .ok (.ireturn, 1) := dk_172 (dk_at dksL_law_42 21 rfl rfl)
theorem dL_law_1167 : decode cL_law 1167 = .ok (.goto 1386, 3) := dk_167 5 106 (dk_at dksL_law_43 0 rfl rfl)
theorem dL_law_1170 : decode cL_law 1170 = .ok (.aload_n 1, 1) := dk_43 (dk_at dksL_law_43 3 rfl rfl)
theorem dL_law_1171 : decode cL_law 1171 = .ok (.aload_n 0, 1) := dk_42 (dk_at dksL_law_43 4 rfl rfl)
theorem dL_law_1172 : decode cL_law 1172 = .ok (.iload 4, 2) := dk_21 4 (dk_at dksL_law_43 5 rfl rfl)
theorem dL_law_1174 : decode cL_law 1174 = .ok (.iconst 1, 1) := dk_4 (dk_at dksL_law_43 7 rfl rfl)
theorem dL_law_1175 : decode cL_law 1175 = .ok (.iadd, 1) := dk_96 (dk_at dksL_law_43 8 rfl rfl)
theorem dL_law_1176 : decode cL_law 1176 = .ok (.iaload, 1) := dk_46 (dk_at dksL_law_43 9 rfl rfl)
theorem dL_law_1177 : decode cL_law 1177 = .ok (.aload_n 0, 1) := dk_42 (dk_at dksL_law_43 10 rfl rfl)
theorem dL_law_1178 : decode cL_law 1178 = .ok (.iload 4, 2) := dk_21 4 (dk_at dksL_law_43 11 rfl rfl)
theorem dL_law_1180 : decode cL_law 1180 = .ok (.iconst 2, 1) := dk_5 (dk_at dksL_law_43 13 rfl rfl)
theorem dL_law_1181 : decode cL_law 1181 = .ok (.iadd, 1) := dk_96 (dk_at dksL_law_43 14 rfl rfl)
theorem dL_law_1182 : decode cL_law 1182 = .ok (.iaload, 1) := dk_46 (dk_at dksL_law_43 15 rfl rfl)
theorem dL_law_1183 : decode cL_law 1183 = .ok (.aload_n 3, 1) := dk_45 (dk_at dksL_law_43 16 rfl rfl)
theorem dL_law_1184 : decode cL_law 1184 = .ok (.invokestatic 195, 3) := dk_184 0 195 (dk_at dksL_law_43 17 rfl rfl)
theorem dL_law_1187 : decode cL_law 1187 = .ok (.istore 5, 2) := dk_54 5 (dk_at dksL_law_43 20 rfl rfl)
theorem dL_law_1189 : decode cL_law 1189 = .ok (.aload_n 2, 1) := dk_44 (dk_at dksL_law_43 22 rfl rfl)
theorem dL_law_1190 : decode cL_law 1190 = .ok (.aload_n 0, 1) := dk_42 (dk_at dksL_law_43 23 rfl rfl)
theorem dL_law_1191 : decode cL_law 1191 = .ok (.iload 4, 2) := dk_21 4 (dk_at dksL_law_44 0 rfl rfl)
theorem dL_law_1193 : decode cL_law 1193 = .ok (.iconst 1, 1) := dk_4 (dk_at dksL_law_44 2 rfl rfl)
theorem dL_law_1194 : decode cL_law 1194 = .ok (.iadd, 1) := dk_96 (dk_at dksL_law_44 3 rfl rfl)
theorem dL_law_1195 : decode cL_law 1195 = .ok (.iaload, 1) := dk_46 (dk_at dksL_law_44 4 rfl rfl)
theorem dL_law_1196 : decode cL_law 1196 = .ok (.aload_n 0, 1) := dk_42 (dk_at dksL_law_44 5 rfl rfl)
theorem dL_law_1197 : decode cL_law 1197 = .ok (.iload 4, 2) := dk_21 4 (dk_at dksL_law_44 6 rfl rfl)
theorem dL_law_1199 : decode cL_law 1199 = .ok (.iconst 2, 1) := dk_5 (dk_at dksL_law_44 8 rfl rfl)
theorem dL_law_1200 : decode cL_law 1200 = .ok (.iadd, 1) := dk_96 (dk_at dksL_law_44 9 rfl rfl)
theorem dL_law_1201 : decode cL_law 1201 = .ok (.iaload, 1) := dk_46 (dk_at dksL_law_44 10 rfl rfl)
theorem dL_law_1202 : decode cL_law 1202 = .ok (.invokevirtual 197, 3) := dk_182 0 197 (dk_at dksL_law_44 11 rfl rfl)
theorem dL_law_1205 : decode cL_law 1205 = .ok (.istore 6, 2) := dk_54 6 (dk_at dksL_law_44 14 rfl rfl)
theorem dL_law_1207 : decode cL_law 1207 = .ok (.aload_n 2, 1) := dk_44 (dk_at dksL_law_44 16 rfl rfl)
theorem dL_law_1208 : decode cL_law 1208 = .ok (.invokevirtual 145, 3) := dk_182 0 145 (dk_at dksL_law_44 17 rfl rfl)
theorem dL_law_1211 : decode cL_law 1211 = .ok (.iload 5, 2) := dk_21 5 (dk_at dksL_law_44 20 rfl rfl)
theorem dL_law_1213 : decode cL_law 1213 = .ok (.if_icmp .eq 5, 3) := dk_159 0 5 (dk_at dksL_law_45 0 rfl rfl)
theorem dL_law_1216 : decode cL_law 1216 = .ok (.iconst 0, 1) := dk_3 (dk_at dksL_law_45 3 rfl rfl)
theorem dL_law_1217 : decode cL_law 1217 = .ok (.ireturn, 1) := dk_172 (dk_at dksL_law_45 4 rfl rfl)
theorem dL_law_1218 : decode cL_law 1218 = .ok (.iload 5, 2) := dk_21 5 (dk_at dksL_law_45 5 rfl rfl)
theorem dL_law_1220 : decode cL_law 1220 = .ok (.ifCond .ne 15, 3) := dk_154 0 15 (dk_at dksL_law_45 7 rfl rfl)
theorem dL_law_1223 : decode cL_law 1223 = .ok (.aload_n 3, 1) := dk_45 (dk_at dksL_law_45 10 rfl rfl)
theorem dL_law_1224 : decode cL_law 1224 = .ok (.iconst 0, 1) := dk_3 (dk_at dksL_law_45 11 rfl rfl)
theorem dL_law_1225 : decode cL_law 1225 = .ok (.laload, 1) := dk_47 (dk_at dksL_law_45 12 rfl rfl)
theorem dL_law_1226 : decode cL_law 1226 = .ok (.iload 6, 2) := dk_21 6 (dk_at dksL_law_45 13 rfl rfl)
theorem dL_law_1228 : decode cL_law 1228 = .ok (.i2l, 1) := dk_133 (dk_at dksL_law_45 15 rfl rfl)
theorem dL_law_1229 : decode cL_law 1229 = .ok (.lcmp, 1) := dk_148 (dk_at dksL_law_45 16 rfl rfl)
theorem dL_law_1230 : decode cL_law 1230 = .ok (.ifCond .eq 5, 3) := dk_153 0 5 (dk_at dksL_law_45 17 rfl rfl)
theorem dL_law_1233 : decode cL_law 1233 = .ok (.iconst 0, 1) := dk_3 (dk_at dksL_law_45 20 rfl rfl)
theorem dL_law_1234 : decode cL_law 1234 = .ok (.ireturn, 1) := dk_172 (dk_at dksL_law_45 21 rfl rfl)
theorem dL_law_1235 : decode cL_law 1235 = .ok (.goto 1318, 3) := dk_167 5 38 (dk_at dksL_law_46 0 rfl rfl)
theorem dL_law_1238 : decode cL_law 1238 = .ok (.aload_n 1, 1) := dk_43 (dk_at dksL_law_46 3 rfl rfl)
theorem dL_law_1239 : decode cL_law 1239 = .ok (.aload_n 0, 1) := dk_42 (dk_at dksL_law_46 4 rfl rfl)
theorem dL_law_1240 : decode cL_law 1240 = .ok (.iload 4, 2) := dk_21 4 (dk_at dksL_law_46 5 rfl rfl)
theorem dL_law_1242 : decode cL_law 1242 = .ok (.iconst 1, 1) := dk_4 (dk_at dksL_law_46 7 rfl rfl)
theorem dL_law_1243 : decode cL_law 1243 = .ok (.iadd, 1) := dk_96 (dk_at dksL_law_46 8 rfl rfl)
theorem dL_law_1244 : decode cL_law 1244 = .ok (.iaload, 1) := dk_46 (dk_at dksL_law_46 9 rfl rfl)
theorem dL_law_1245 : decode cL_law 1245 = .ok (.aload_n 0, 1) := dk_42 (dk_at dksL_law_46 10 rfl rfl)
theorem dL_law_1246 : decode cL_law 1246 = .ok (.iload 4, 2) := dk_21 4 (dk_at dksL_law_46 11 rfl rfl)
theorem dL_law_1248 : decode cL_law 1248 = .ok (.iconst 2, 1) := dk_5 (dk_at dksL_law_46 13 rfl rfl)
theorem dL_law_1249 : decode cL_law 1249 = .ok (.iadd, 1) := dk_96 (dk_at dksL_law_46 14 rfl rfl)
theorem dL_law_1250 : decode cL_law 1250 = .ok (.iaload, 1) := dk_46 (dk_at dksL_law_46 15 rfl rfl)
theorem dL_law_1251 : decode cL_law 1251 = .ok (.aload_n 0, 1) := dk_42 (dk_at dksL_law_46 16 rfl rfl)
theorem dL_law_1252 : decode cL_law 1252 = .ok (.iload 4, 2) := dk_21 4 (dk_at dksL_law_46 17 rfl rfl)
theorem dL_law_1254 : decode cL_law 1254 = .ok (.iconst 3, 1) := dk_6 (dk_at dksL_law_46 19 rfl rfl)
theorem dL_law_1255 : decode cL_law 1255 = .ok (.iadd, 1) := dk_96 (dk_at dksL_law_46 20 rfl rfl)
theorem dL_law_1256 : decode cL_law 1256 = .ok (.iaload, 1) := dk_46 (dk_at dksL_law_46 21 rfl rfl)
theorem dL_law_1257 : decode cL_law 1257 = .ok (.aload_n 3, 1) := dk_45 (dk_at dksL_law_46 22 rfl rfl)
theorem dL_law_1258 : decode cL_law 1258 = .ok (.invokestatic 198, 3) := dk_184 0 198 (dk_at dksL_law_47 0 rfl rfl)
theorem dL_law_1261 : decode cL_law 1261 = .ok (.istore 5, 2) := dk_54 5 (dk_at dksL_law_47 3 rfl rfl)
theorem dL_law_1263 : decode cL_law 1263 = .ok (.aload_n 2, 1) := dk_44 (dk_at dksL_law_47 5 rfl rfl)
theorem dL_law_1264 : decode cL_law 1264 = .ok (.aload_n 0, 1) := dk_42 (dk_at dksL_law_47 6 rfl rfl)
theorem dL_law_1265 : decode cL_law 1265 = .ok (.iload 4, 2) := dk_21 4 (dk_at dksL_law_47 7 rfl rfl)
theorem dL_law_1267 : decode cL_law 1267 = .ok (.iconst 1, 1) := dk_4 (dk_at dksL_law_47 9 rfl rfl)
theorem dL_law_1268 : decode cL_law 1268 = .ok (.iadd, 1) := dk_96 (dk_at dksL_law_47 10 rfl rfl)
theorem dL_law_1269 : decode cL_law 1269 = .ok (.iaload, 1) := dk_46 (dk_at dksL_law_47 11 rfl rfl)
theorem dL_law_1270 : decode cL_law 1270 = .ok (.aload_n 0, 1) := dk_42 (dk_at dksL_law_47 12 rfl rfl)
theorem dL_law_1271 : decode cL_law 1271 = .ok (.iload 4, 2) := dk_21 4 (dk_at dksL_law_47 13 rfl rfl)
theorem dL_law_1273 : decode cL_law 1273 = .ok (.iconst 2, 1) := dk_5 (dk_at dksL_law_47 15 rfl rfl)
theorem dL_law_1274 : decode cL_law 1274 = .ok (.iadd, 1) := dk_96 (dk_at dksL_law_47 16 rfl rfl)
theorem dL_law_1275 : decode cL_law 1275 = .ok (.iaload, 1) := dk_46 (dk_at dksL_law_47 17 rfl rfl)
theorem dL_law_1276 : decode cL_law 1276 = .ok (.aload_n 0, 1) := dk_42 (dk_at dksL_law_47 18 rfl rfl)
theorem dL_law_1277 : decode cL_law 1277 = .ok (.iload 4, 2) := dk_21 4 (dk_at dksL_law_47 19 rfl rfl)
theorem dL_law_1279 : decode cL_law 1279 = .ok (.iconst 3, 1) := dk_6 (dk_at dksL_law_47 21 rfl rfl)
theorem dL_law_1280 : decode cL_law 1280 = .ok (.iadd, 1) := dk_96 (dk_at dksL_law_47 22 rfl rfl)
theorem dL_law_1281 : decode cL_law 1281 = .ok (.iaload, 1) := dk_46 (dk_at dksL_law_47 23 rfl rfl)
theorem dL_law_1282 : decode cL_law 1282 = .ok (.invokevirtual 201, 3) := dk_182 0 201 (dk_at dksL_law_48 0 rfl rfl)
theorem dL_law_1285 : decode cL_law 1285 = .ok (.istore 6, 2) := dk_54 6 (dk_at dksL_law_48 3 rfl rfl)
theorem dL_law_1287 : decode cL_law 1287 = .ok (.aload_n 2, 1) := dk_44 (dk_at dksL_law_48 5 rfl rfl)
theorem dL_law_1288 : decode cL_law 1288 = .ok (.invokevirtual 145, 3) := dk_182 0 145 (dk_at dksL_law_48 6 rfl rfl)
theorem dL_law_1291 : decode cL_law 1291 = .ok (.iload 5, 2) := dk_21 5 (dk_at dksL_law_48 9 rfl rfl)
theorem dL_law_1293 : decode cL_law 1293 = .ok (.if_icmp .eq 5, 3) := dk_159 0 5 (dk_at dksL_law_48 11 rfl rfl)
theorem dL_law_1296 : decode cL_law 1296 = .ok (.iconst 0, 1) := dk_3 (dk_at dksL_law_48 14 rfl rfl)
theorem dL_law_1297 : decode cL_law 1297 = .ok (.ireturn, 1) := dk_172 (dk_at dksL_law_48 15 rfl rfl)
theorem dL_law_1298 : decode cL_law 1298 = .ok (.iload 5, 2) := dk_21 5 (dk_at dksL_law_48 16 rfl rfl)
theorem dL_law_1300 : decode cL_law 1300 = .ok (.ifCond .ne 15, 3) := dk_154 0 15 (dk_at dksL_law_48 18 rfl rfl)
theorem dL_law_1303 : decode cL_law 1303 = .ok (.aload_n 3, 1) := dk_45 (dk_at dksL_law_48 21 rfl rfl)
theorem dL_law_1304 : decode cL_law 1304 = .ok (.iconst 0, 1) := dk_3 (dk_at dksL_law_48 22 rfl rfl)
theorem dL_law_1305 : decode cL_law 1305 = .ok (.laload, 1) := dk_47 (dk_at dksL_law_48 23 rfl rfl)
theorem dL_law_1306 : decode cL_law 1306 = .ok (.iload 6, 2) := dk_21 6 (dk_at dksL_law_49 0 rfl rfl)
theorem dL_law_1308 : decode cL_law 1308 = .ok (.i2l, 1) := dk_133 (dk_at dksL_law_49 2 rfl rfl)
theorem dL_law_1309 : decode cL_law 1309 = .ok (.lcmp, 1) := dk_148 (dk_at dksL_law_49 3 rfl rfl)
theorem dL_law_1310 : decode cL_law 1310 = .ok (.ifCond .eq 5, 3) := dk_153 0 5 (dk_at dksL_law_49 4 rfl rfl)
theorem dL_law_1313 : decode cL_law 1313 = .ok (.iconst 0, 1) := dk_3 (dk_at dksL_law_49 7 rfl rfl)
theorem dL_law_1314 : decode cL_law 1314 = .ok (.ireturn, 1) := dk_172 (dk_at dksL_law_49 8 rfl rfl)
theorem dL_law_1315 : decode cL_law 1315 = .ok (.goto 1238, 3) := dk_167 4 214 (dk_at dksL_law_49 9 rfl rfl)
theorem dL_law_1318 : decode cL_law 1318 = .ok (.aload_n 1, 1) := dk_43 (dk_at dksL_law_49 12 rfl rfl)
theorem dL_law_1319 : decode cL_law 1319 = .ok (.aload_n 0, 1) := dk_42 (dk_at dksL_law_49 13 rfl rfl)
theorem dL_law_1320 : decode cL_law 1320 = .ok (.iload 4, 2) := dk_21 4 (dk_at dksL_law_49 14 rfl rfl)
theorem dL_law_1322 : decode cL_law 1322 = .ok (.iconst 1, 1) := dk_4 (dk_at dksL_law_49 16 rfl rfl)
theorem dL_law_1323 : decode cL_law 1323 = .ok (.iadd, 1) := dk_96 (dk_at dksL_law_49 17 rfl rfl)
theorem dL_law_1324 : decode cL_law 1324 = .ok (.iaload, 1) := dk_46 (dk_at dksL_law_49 18 rfl rfl)
theorem dL_law_1325 : decode cL_law 1325 = .ok (.aload_n 0, 1) := dk_42 (dk_at dksL_law_49 19 rfl rfl)
theorem dL_law_1326 : decode cL_law 1326 = .ok (.iload 4, 2) := dk_21 4 (dk_at dksL_law_49 20 rfl rfl)
theorem dL_law_1328 : decode cL_law 1328 = .ok (.iconst 2, 1) := dk_5 (dk_at dksL_law_49 22 rfl rfl)
theorem dL_law_1329 : decode cL_law 1329 = .ok (.iadd, 1) := dk_96 (dk_at dksL_law_49 23 rfl rfl)
theorem dL_law_1330 : decode cL_law 1330 = .ok (.iaload, 1) := dk_46 (dk_at dksL_law_50 0 rfl rfl)
theorem dL_law_1331 : decode cL_law 1331 = .ok (.aload_n 3, 1) := dk_45 (dk_at dksL_law_50 1 rfl rfl)
theorem dL_law_1332 : decode cL_law 1332 = .ok (.invokestatic 202, 3) := dk_184 0 202 (dk_at dksL_law_50 2 rfl rfl)
theorem dL_law_1335 : decode cL_law 1335 = .ok (.istore 5, 2) := dk_54 5 (dk_at dksL_law_50 5 rfl rfl)
theorem dL_law_1337 : decode cL_law 1337 = .ok (.aload_n 2, 1) := dk_44 (dk_at dksL_law_50 7 rfl rfl)
theorem dL_law_1338 : decode cL_law 1338 = .ok (.aload_n 0, 1) := dk_42 (dk_at dksL_law_50 8 rfl rfl)
theorem dL_law_1339 : decode cL_law 1339 = .ok (.iload 4, 2) := dk_21 4 (dk_at dksL_law_50 9 rfl rfl)
theorem dL_law_1341 : decode cL_law 1341 = .ok (.iconst 1, 1) := dk_4 (dk_at dksL_law_50 11 rfl rfl)
theorem dL_law_1342 : decode cL_law 1342 = .ok (.iadd, 1) := dk_96 (dk_at dksL_law_50 12 rfl rfl)
theorem dL_law_1343 : decode cL_law 1343 = .ok (.iaload, 1) := dk_46 (dk_at dksL_law_50 13 rfl rfl)
theorem dL_law_1344 : decode cL_law 1344 = .ok (.aload_n 0, 1) := dk_42 (dk_at dksL_law_50 14 rfl rfl)
theorem dL_law_1345 : decode cL_law 1345 = .ok (.iload 4, 2) := dk_21 4 (dk_at dksL_law_50 15 rfl rfl)
theorem dL_law_1347 : decode cL_law 1347 = .ok (.iconst 2, 1) := dk_5 (dk_at dksL_law_50 17 rfl rfl)
theorem dL_law_1348 : decode cL_law 1348 = .ok (.iadd, 1) := dk_96 (dk_at dksL_law_50 18 rfl rfl)
theorem dL_law_1349 : decode cL_law 1349 = .ok (.iaload, 1) := dk_46 (dk_at dksL_law_50 19 rfl rfl)
theorem dL_law_1350 : decode cL_law 1350 = .ok (.invokevirtual 204, 3) := dk_182 0 204 (dk_at dksL_law_50 20 rfl rfl)
theorem dL_law_1353 : decode cL_law 1353 = .ok (.istore 6, 2) := dk_54 6 (dk_at dksL_law_51 0 rfl rfl)
theorem dL_law_1355 : decode cL_law 1355 = .ok (.aload_n 2, 1) := dk_44 (dk_at dksL_law_51 2 rfl rfl)
theorem dL_law_1356 : decode cL_law 1356 = .ok (.invokevirtual 145, 3) := dk_182 0 145 (dk_at dksL_law_51 3 rfl rfl)
theorem dL_law_1359 : decode cL_law 1359 = .ok (.iload 5, 2) := dk_21 5 (dk_at dksL_law_51 6 rfl rfl)
theorem dL_law_1361 : decode cL_law 1361 = .ok (.if_icmp .eq 5, 3) := dk_159 0 5 (dk_at dksL_law_51 8 rfl rfl)
theorem dL_law_1364 : decode cL_law 1364 = .ok (.iconst 0, 1) := dk_3 (dk_at dksL_law_51 11 rfl rfl)
theorem dL_law_1365 : decode cL_law 1365 = .ok (.ireturn, 1) := dk_172 (dk_at dksL_law_51 12 rfl rfl)
theorem dL_law_1366 : decode cL_law 1366 = .ok (.iload 5, 2) := dk_21 5 (dk_at dksL_law_51 13 rfl rfl)
theorem dL_law_1368 : decode cL_law 1368 = .ok (.ifCond .ne 15, 3) := dk_154 0 15 (dk_at dksL_law_51 15 rfl rfl)
theorem dL_law_1371 : decode cL_law 1371 = .ok (.aload_n 3, 1) := dk_45 (dk_at dksL_law_51 18 rfl rfl)
theorem dL_law_1372 : decode cL_law 1372 = .ok (.iconst 0, 1) := dk_3 (dk_at dksL_law_51 19 rfl rfl)
theorem dL_law_1373 : decode cL_law 1373 = .ok (.laload, 1) := dk_47 (dk_at dksL_law_51 20 rfl rfl)
theorem dL_law_1374 : decode cL_law 1374 = .ok (.iload 6, 2) := dk_21 6 (dk_at dksL_law_51 21 rfl rfl)
theorem dL_law_1376 : decode cL_law 1376 = .ok (.i2l, 1) := dk_133 (dk_at dksL_law_51 23 rfl rfl)
theorem dL_law_1377 : decode cL_law 1377 = .ok (.lcmp, 1) := dk_148 (dk_at dksL_law_52 0 rfl rfl)
theorem dL_law_1378 : decode cL_law 1378 = .ok (.ifCond .eq 5, 3) := dk_153 0 5 (dk_at dksL_law_52 1 rfl rfl)
theorem dL_law_1381 : decode cL_law 1381 = .ok (.iconst 0, 1) := dk_3 (dk_at dksL_law_52 4 rfl rfl)
theorem dL_law_1382 : decode cL_law 1382 = .ok (.ireturn, 1) := dk_172 (dk_at dksL_law_52 5 rfl rfl)
theorem dL_law_1383 : decode cL_law 1383 = .ok (.goto 1170, 3) := dk_167 4 146 (dk_at dksL_law_52 6 rfl rfl)
theorem dL_law_1386 : decode cL_law 1386 = .ok (.aload_n 1, 1) := dk_43 (dk_at dksL_law_52 9 rfl rfl)
theorem dL_law_1387 : decode cL_law 1387 = .ok (.aload_n 0, 1) := dk_42 (dk_at dksL_law_52 10 rfl rfl)
theorem dL_law_1388 : decode cL_law 1388 = .ok (.iload 4, 2) := dk_21 4 (dk_at dksL_law_52 11 rfl rfl)
theorem dL_law_1390 : decode cL_law 1390 = .ok (.iconst 1, 1) := dk_4 (dk_at dksL_law_52 13 rfl rfl)
theorem dL_law_1391 : decode cL_law 1391 = .ok (.iadd, 1) := dk_96 (dk_at dksL_law_52 14 rfl rfl)
theorem dL_law_1392 : decode cL_law 1392 = .ok (.iaload, 1) := dk_46 (dk_at dksL_law_52 15 rfl rfl)
theorem dL_law_1393 : decode cL_law 1393 = .ok (.aload_n 0, 1) := dk_42 (dk_at dksL_law_52 16 rfl rfl)
theorem dL_law_1394 : decode cL_law 1394 = .ok (.iload 4, 2) := dk_21 4 (dk_at dksL_law_52 17 rfl rfl)
theorem dL_law_1396 : decode cL_law 1396 = .ok (.iconst 2, 1) := dk_5 (dk_at dksL_law_52 19 rfl rfl)
theorem dL_law_1397 : decode cL_law 1397 = .ok (.iadd, 1) := dk_96 (dk_at dksL_law_52 20 rfl rfl)
theorem dL_law_1398 : decode cL_law 1398 = .ok (.iaload, 1) := dk_46 (dk_at dksL_law_52 21 rfl rfl)
theorem dL_law_1399 : decode cL_law 1399 = .ok (.aload_n 3, 1) := dk_45 (dk_at dksL_law_52 22 rfl rfl)
theorem dL_law_1400 : decode cL_law 1400 = .ok (.invokestatic 205, 3) := dk_184 0 205 (dk_at dksL_law_53 0 rfl rfl)
theorem dL_law_1403 : decode cL_law 1403 = .ok (.istore 5, 2) := dk_54 5 (dk_at dksL_law_53 3 rfl rfl)
theorem dL_law_1405 : decode cL_law 1405 = .ok (.aload_n 2, 1) := dk_44 (dk_at dksL_law_53 5 rfl rfl)
theorem dL_law_1406 : decode cL_law 1406 = .ok (.aload_n 0, 1) := dk_42 (dk_at dksL_law_53 6 rfl rfl)
theorem dL_law_1407 : decode cL_law 1407 = .ok (.iload 4, 2) := dk_21 4 (dk_at dksL_law_53 7 rfl rfl)
theorem dL_law_1409 : decode cL_law 1409 = .ok (.iconst 1, 1) := dk_4 (dk_at dksL_law_53 9 rfl rfl)
theorem dL_law_1410 : decode cL_law 1410 = .ok (.iadd, 1) := dk_96 (dk_at dksL_law_53 10 rfl rfl)
theorem dL_law_1411 : decode cL_law 1411 = .ok (.iaload, 1) := dk_46 (dk_at dksL_law_53 11 rfl rfl)
theorem dL_law_1412 : decode cL_law 1412 = .ok (.aload_n 0, 1) := dk_42 (dk_at dksL_law_53 12 rfl rfl)
theorem dL_law_1413 : decode cL_law 1413 = .ok (.iload 4, 2) := dk_21 4 (dk_at dksL_law_53 13 rfl rfl)
theorem dL_law_1415 : decode cL_law 1415 = .ok (.iconst 2, 1) := dk_5 (dk_at dksL_law_53 15 rfl rfl)
theorem dL_law_1416 : decode cL_law 1416 = .ok (.iadd, 1) := dk_96 (dk_at dksL_law_53 16 rfl rfl)
theorem dL_law_1417 : decode cL_law 1417 = .ok (.iaload, 1) := dk_46 (dk_at dksL_law_53 17 rfl rfl)
theorem dL_law_1418 : decode cL_law 1418 = .ok (.invokevirtual 207, 3) := dk_182 0 207 (dk_at dksL_law_53 18 rfl rfl)
theorem dL_law_1421 : decode cL_law 1421 = .ok (.istore 6, 2) := dk_54 6 (dk_at dksL_law_53 21 rfl rfl)
theorem dL_law_1423 : decode cL_law 1423 = .ok (.aload_n 2, 1) := dk_44 (dk_at dksL_law_53 23 rfl rfl)
theorem dL_law_1424 : decode cL_law 1424 = .ok (.invokevirtual 145, 3) := dk_182 0 145 (dk_at dksL_law_54 0 rfl rfl)
theorem dL_law_1427 : decode cL_law 1427 = .ok (.iload 5, 2) := dk_21 5 (dk_at dksL_law_54 3 rfl rfl)
theorem dL_law_1429 : decode cL_law 1429 = .ok (.if_icmp .eq 5, 3) := dk_159 0 5 (dk_at dksL_law_54 5 rfl rfl)
theorem dL_law_1432 : decode cL_law 1432 = .ok (.iconst 0, 1) := dk_3 (dk_at dksL_law_54 8 rfl rfl)
theorem dL_law_1433 : decode cL_law 1433 = .ok (.ireturn, 1) := dk_172 (dk_at dksL_law_54 9 rfl rfl)
theorem dL_law_1434 : decode cL_law 1434 = .ok (.iload 5, 2) := dk_21 5 (dk_at dksL_law_54 10 rfl rfl)
theorem dL_law_1436 : decode cL_law 1436 = .ok (.ifCond .ne 15, 3) := dk_154 0 15 (dk_at dksL_law_54 12 rfl rfl)
theorem dL_law_1439 : decode cL_law 1439 = .ok (.aload_n 3, 1) := dk_45 (dk_at dksL_law_54 15 rfl rfl)
theorem dL_law_1440 : decode cL_law 1440 = .ok (.iconst 0, 1) := dk_3 (dk_at dksL_law_54 16 rfl rfl)
theorem dL_law_1441 : decode cL_law 1441 = .ok (.laload, 1) := dk_47 (dk_at dksL_law_54 17 rfl rfl)
theorem dL_law_1442 : decode cL_law 1442 = .ok (.iload 6, 2) := dk_21 6 (dk_at dksL_law_54 18 rfl rfl)
theorem dL_law_1444 : decode cL_law 1444 = .ok (.i2l, 1) := dk_133 (dk_at dksL_law_54 20 rfl rfl)
theorem dL_law_1445 : decode cL_law 1445 = .ok (.lcmp, 1) := dk_148 (dk_at dksL_law_54 21 rfl rfl)
theorem dL_law_1446 : decode cL_law 1446 = .ok (.ifCond .eq 5, 3) := dk_153 0 5 (dk_at dksL_law_55 0 rfl rfl)
theorem dL_law_1449 : decode cL_law 1449 = .ok (.iconst 0, 1) := dk_3 (dk_at dksL_law_55 3 rfl rfl)
theorem dL_law_1450 : decode cL_law 1450 = .ok (.ireturn, 1) := dk_172 (dk_at dksL_law_55 4 rfl rfl)
theorem dL_law_1451 : decode cL_law 1451 = .ok (.goto 1102, 3) := dk_167 4 78 (dk_at dksL_law_55 5 rfl rfl)
theorem dL_law_1454 : decode cL_law 1454 = .ok (.aload_n 1, 1) := dk_43 (dk_at dksL_law_55 8 rfl rfl)
theorem dL_law_1455 : decode cL_law 1455 = .ok (.aload_n 0, 1) := dk_42 (dk_at dksL_law_55 9 rfl rfl)
theorem dL_law_1456 : decode cL_law 1456 = .ok (.iload 4, 2) := dk_21 4 (dk_at dksL_law_55 10 rfl rfl)
theorem dL_law_1458 : decode cL_law 1458 = .ok (.iconst 1, 1) := dk_4 (dk_at dksL_law_55 12 rfl rfl)
theorem dL_law_1459 : decode cL_law 1459 = .ok (.iadd, 1) := dk_96 (dk_at dksL_law_55 13 rfl rfl)
theorem dL_law_1460 : decode cL_law 1460 = .ok (.iaload, 1) := dk_46 (dk_at dksL_law_55 14 rfl rfl)
theorem dL_law_1461 : decode cL_law 1461 = .ok (.aload_n 0, 1) := dk_42 (dk_at dksL_law_55 15 rfl rfl)
theorem dL_law_1462 : decode cL_law 1462 = .ok (.iload 4, 2) := dk_21 4 (dk_at dksL_law_55 16 rfl rfl)
theorem dL_law_1464 : decode cL_law 1464 = .ok (.iconst 2, 1) := dk_5 (dk_at dksL_law_55 18 rfl rfl)
theorem dL_law_1465 : decode cL_law 1465 = .ok (.iadd, 1) := dk_96 (dk_at dksL_law_55 19 rfl rfl)
theorem dL_law_1466 : decode cL_law 1466 = .ok (.iaload, 1) := dk_46 (dk_at dksL_law_55 20 rfl rfl)
theorem dL_law_1467 : decode cL_law 1467 = .ok (.aload_n 0, 1) := dk_42 (dk_at dksL_law_55 21 rfl rfl)
theorem dL_law_1468 : decode cL_law 1468 = .ok (.iload 4, 2) := dk_21 4 (dk_at dksL_law_55 22 rfl rfl)
theorem dL_law_1470 : decode cL_law 1470 = .ok (.iconst 3, 1) := dk_6 (dk_at dksL_law_56 0 rfl rfl)
theorem dL_law_1471 : decode cL_law 1471 = .ok (.iadd, 1) := dk_96 (dk_at dksL_law_56 1 rfl rfl)
theorem dL_law_1472 : decode cL_law 1472 = .ok (.iaload, 1) := dk_46 (dk_at dksL_law_56 2 rfl rfl)
theorem dL_law_1473 : decode cL_law 1473 = .ok (.aload_n 3, 1) := dk_45 (dk_at dksL_law_56 3 rfl rfl)
theorem dL_law_1474 : decode cL_law 1474 = .ok (.invokestatic 208, 3) := dk_184 0 208 (dk_at dksL_law_56 4 rfl rfl)
theorem dL_law_1477 : decode cL_law 1477 = .ok (.istore 5, 2) := dk_54 5 (dk_at dksL_law_56 7 rfl rfl)
theorem dL_law_1479 : decode cL_law 1479 = .ok (.aload_n 2, 1) := dk_44 (dk_at dksL_law_56 9 rfl rfl)
theorem dL_law_1480 : decode cL_law 1480 = .ok (.aload_n 0, 1) := dk_42 (dk_at dksL_law_56 10 rfl rfl)
theorem dL_law_1481 : decode cL_law 1481 = .ok (.iload 4, 2) := dk_21 4 (dk_at dksL_law_56 11 rfl rfl)
theorem dL_law_1483 : decode cL_law 1483 = .ok (.iconst 1, 1) := dk_4 (dk_at dksL_law_56 13 rfl rfl)
theorem dL_law_1484 : decode cL_law 1484 = .ok (.iadd, 1) := dk_96 (dk_at dksL_law_56 14 rfl rfl)
theorem dL_law_1485 : decode cL_law 1485 = .ok (.iaload, 1) := dk_46 (dk_at dksL_law_56 15 rfl rfl)
theorem dL_law_1486 : decode cL_law 1486 = .ok (.aload_n 0, 1) := dk_42 (dk_at dksL_law_56 16 rfl rfl)
theorem dL_law_1487 : decode cL_law 1487 = .ok (.iload 4, 2) := dk_21 4 (dk_at dksL_law_56 17 rfl rfl)
theorem dL_law_1489 : decode cL_law 1489 = .ok (.iconst 2, 1) := dk_5 (dk_at dksL_law_56 19 rfl rfl)
theorem dL_law_1490 : decode cL_law 1490 = .ok (.iadd, 1) := dk_96 (dk_at dksL_law_56 20 rfl rfl)
theorem dL_law_1491 : decode cL_law 1491 = .ok (.iaload, 1) := dk_46 (dk_at dksL_law_56 21 rfl rfl)
theorem dL_law_1492 : decode cL_law 1492 = .ok (.aload_n 0, 1) := dk_42 (dk_at dksL_law_56 22 rfl rfl)
theorem dL_law_1493 : decode cL_law 1493 = .ok (.iload 4, 2) := dk_21 4 (dk_at dksL_law_57 0 rfl rfl)
theorem dL_law_1495 : decode cL_law 1495 = .ok (.iconst 3, 1) := dk_6 (dk_at dksL_law_57 2 rfl rfl)
theorem dL_law_1496 : decode cL_law 1496 = .ok (.iadd, 1) := dk_96 (dk_at dksL_law_57 3 rfl rfl)
theorem dL_law_1497 : decode cL_law 1497 = .ok (.iaload, 1) := dk_46 (dk_at dksL_law_57 4 rfl rfl)
theorem dL_law_1498 : decode cL_law 1498 = .ok (.invokevirtual 210, 3) := dk_182 0 210 (dk_at dksL_law_57 5 rfl rfl)
theorem dL_law_1501 : decode cL_law 1501 = .ok (.istore 6, 2) := dk_54 6 (dk_at dksL_law_57 8 rfl rfl)
theorem dL_law_1503 : decode cL_law 1503 = .ok (.aload_n 2, 1) := dk_44 (dk_at dksL_law_57 10 rfl rfl)
theorem dL_law_1504 : decode cL_law 1504 = .ok (.invokevirtual 145, 3) := dk_182 0 145 (dk_at dksL_law_57 11 rfl rfl)
theorem dL_law_1507 : decode cL_law 1507 = .ok (.iload 5, 2) := dk_21 5 (dk_at dksL_law_57 14 rfl rfl)
theorem dL_law_1509 : decode cL_law 1509 = .ok (.if_icmp .eq 5, 3) := dk_159 0 5 (dk_at dksL_law_57 16 rfl rfl)
theorem dL_law_1512 : decode cL_law 1512 = .ok (.iconst 0, 1) := dk_3 (dk_at dksL_law_57 19 rfl rfl)
theorem dL_law_1513 : decode cL_law 1513 = .ok (.ireturn, 1) := dk_172 (dk_at dksL_law_57 20 rfl rfl)
theorem dL_law_1514 : decode cL_law 1514 = .ok (.iload 5, 2) := dk_21 5 (dk_at dksL_law_57 21 rfl rfl)
theorem dL_law_1516 : decode cL_law 1516 = .ok (.ifCond .ne 22, 3) := dk_154 0 22 (dk_at dksL_law_58 0 rfl rfl)
theorem dL_law_1519 : decode cL_law 1519 = .ok (.aload_n 3, 1) := dk_45 (dk_at dksL_law_58 3 rfl rfl)
theorem dL_law_1520 : decode cL_law 1520 = .ok (.iconst 0, 1) := dk_3 (dk_at dksL_law_58 4 rfl rfl)
theorem dL_law_1521 : decode cL_law 1521 = .ok (.laload, 1) := dk_47 (dk_at dksL_law_58 5 rfl rfl)
theorem dL_law_1522 : decode cL_law 1522 = .ok (.iload 6, 2) := dk_21 6 (dk_at dksL_law_58 6 rfl rfl)
theorem dL_law_1524 : decode cL_law 1524 = .ok (.ifCond .eq 7, 3) := dk_153 0 7 (dk_at dksL_law_58 8 rfl rfl)
theorem dL_law_1527 : decode cL_law 1527 = .ok (.lconst 1, 1) := dk_10 (dk_at dksL_law_58 11 rfl rfl)
theorem dL_law_1528 : decode cL_law 1528 = .ok (.goto 4, 3) := dk_167 0 4 (dk_at dksL_law_58 12 rfl rfl)
theorem dL_law_1531 : decode cL_law 1531 = .ok (.lconst 0, 1) := dk_9 (dk_at dksL_law_58 15 rfl rfl)
theorem dL_law_1532 : decode cL_law 1532 = .ok (.lcmp, 1) := dk_148 (dk_at dksL_law_58 16 rfl rfl)
theorem dL_law_1533 : decode cL_law 1533 = .ok (.ifCond .eq 5, 3) := dk_153 0 5 (dk_at dksL_law_58 17 rfl rfl)
theorem dL_law_1536 : decode cL_law 1536 = .ok (.iconst 0, 1) := dk_3 (dk_at dksL_law_58 20 rfl rfl)
theorem dL_law_1537 : decode cL_law 1537 = .ok (.ireturn, 1) := dk_172 (dk_at dksL_law_58 21 rfl rfl)
theorem dL_law_1538 : decode cL_law 1538 = .ok (.goto 1015, 3) := dk_167 3 247 (dk_at dksL_law_59 0 rfl rfl)
theorem dL_law_1541 : decode cL_law 1541 = .ok (.aload_n 1, 1) := dk_43 (dk_at dksL_law_59 3 rfl rfl)
theorem dL_law_1542 : decode cL_law 1542 = .ok (.aload_n 0, 1) := dk_42 (dk_at dksL_law_59 4 rfl rfl)
theorem dL_law_1543 : decode cL_law 1543 = .ok (.iload 4, 2) := dk_21 4 (dk_at dksL_law_59 5 rfl rfl)
theorem dL_law_1545 : decode cL_law 1545 = .ok (.iconst 1, 1) := dk_4 (dk_at dksL_law_59 7 rfl rfl)
theorem dL_law_1546 : decode cL_law 1546 = .ok (.iadd, 1) := dk_96 (dk_at dksL_law_59 8 rfl rfl)
theorem dL_law_1547 : decode cL_law 1547 = .ok (.iaload, 1) := dk_46 (dk_at dksL_law_59 9 rfl rfl)
theorem dL_law_1548 : decode cL_law 1548 = .ok (.aload_n 3, 1) := dk_45 (dk_at dksL_law_59 10 rfl rfl)
theorem dL_law_1549 : decode cL_law 1549 = .ok (.invokestatic 211, 3) := dk_184 0 211 (dk_at dksL_law_59 11 rfl rfl)
theorem dL_law_1552 : decode cL_law 1552 = .ok (.istore 5, 2) := dk_54 5 (dk_at dksL_law_59 14 rfl rfl)
theorem dL_law_1554 : decode cL_law 1554 = .ok (.aload_n 2, 1) := dk_44 (dk_at dksL_law_59 16 rfl rfl)
theorem dL_law_1555 : decode cL_law 1555 = .ok (.aload_n 0, 1) := dk_42 (dk_at dksL_law_59 17 rfl rfl)
theorem dL_law_1556 : decode cL_law 1556 = .ok (.iload 4, 2) := dk_21 4 (dk_at dksL_law_59 18 rfl rfl)
theorem dL_law_1558 : decode cL_law 1558 = .ok (.iconst 1, 1) := dk_4 (dk_at dksL_law_59 20 rfl rfl)
theorem dL_law_1559 : decode cL_law 1559 = .ok (.iadd, 1) := dk_96 (dk_at dksL_law_59 21 rfl rfl)
theorem dL_law_1560 : decode cL_law 1560 = .ok (.iaload, 1) := dk_46 (dk_at dksL_law_59 22 rfl rfl)
theorem dL_law_1561 : decode cL_law 1561 = .ok (.invokevirtual 213, 3) := dk_182 0 213 (dk_at dksL_law_60 0 rfl rfl)
theorem dL_law_1564 : decode cL_law 1564 = .ok (.istore 6, 2) := dk_54 6 (dk_at dksL_law_60 3 rfl rfl)
theorem dL_law_1566 : decode cL_law 1566 = .ok (.aload_n 2, 1) := dk_44 (dk_at dksL_law_60 5 rfl rfl)
theorem dL_law_1567 : decode cL_law 1567 = .ok (.invokevirtual 145, 3) := dk_182 0 145 (dk_at dksL_law_60 6 rfl rfl)
theorem dL_law_1570 : decode cL_law 1570 = .ok (.iload 5, 2) := dk_21 5 (dk_at dksL_law_60 9 rfl rfl)
theorem dL_law_1572 : decode cL_law 1572 = .ok (.if_icmp .eq 5, 3) := dk_159 0 5 (dk_at dksL_law_60 11 rfl rfl)
theorem dL_law_1575 : decode cL_law 1575 = .ok (.iconst 0, 1) := dk_3 (dk_at dksL_law_60 14 rfl rfl)
theorem dL_law_1576 : decode cL_law 1576 = .ok (.ireturn, 1) := dk_172 (dk_at dksL_law_60 15 rfl rfl)
theorem dL_law_1577 : decode cL_law 1577 = .ok (.iload 5, 2) := dk_21 5 (dk_at dksL_law_60 16 rfl rfl)
theorem dL_law_1579 : decode cL_law 1579 = .ok (.ifCond .ne 15, 3) := dk_154 0 15 (dk_at dksL_law_60 18 rfl rfl)
theorem dL_law_1582 : decode cL_law 1582 = .ok (.aload_n 3, 1) := dk_45 (dk_at dksL_law_60 21 rfl rfl)
theorem dL_law_1583 : decode cL_law 1583 = .ok (.iconst 0, 1) := dk_3 (dk_at dksL_law_60 22 rfl rfl)
theorem dL_law_1584 : decode cL_law 1584 = .ok (.laload, 1) := dk_47 (dk_at dksL_law_60 23 rfl rfl)
theorem dL_law_1585 : decode cL_law 1585 = .ok (.iload 6, 2) := dk_21 6 (dk_at dksL_law_61 0 rfl rfl)
theorem dL_law_1587 : decode cL_law 1587 = .ok (.i2l, 1) := dk_133 (dk_at dksL_law_61 2 rfl rfl)
theorem dL_law_1588 : decode cL_law 1588 = .ok (.lcmp, 1) := dk_148 (dk_at dksL_law_61 3 rfl rfl)
theorem dL_law_1589 : decode cL_law 1589 = .ok (.ifCond .eq 5, 3) := dk_153 0 5 (dk_at dksL_law_61 4 rfl rfl)
theorem dL_law_1592 : decode cL_law 1592 = .ok (.iconst 0, 1) := dk_3 (dk_at dksL_law_61 7 rfl rfl)
theorem dL_law_1593 : decode cL_law 1593 = .ok (.ireturn, 1) := dk_172 (dk_at dksL_law_61 8 rfl rfl)
theorem dL_law_1594 : decode cL_law 1594 = .ok (.goto 959, 3) := dk_167 3 191 (dk_at dksL_law_61 9 rfl rfl)
theorem dL_law_1597 : decode cL_law 1597 = .ok (.aload_n 1, 1) := dk_43 (dk_at dksL_law_61 12 rfl rfl)
theorem dL_law_1598 : decode cL_law 1598 = .ok (.invokevirtual 214, 3) := dk_182 0 214 (dk_at dksL_law_61 13 rfl rfl)
theorem dL_law_1601 : decode cL_law 1601 = .ok (.aload_n 2, 1) := dk_44 (dk_at dksL_law_61 16 rfl rfl)
theorem dL_law_1602 : decode cL_law 1602 = .ok (.invokevirtual 217, 3) := dk_182 0 217 (dk_at dksL_law_61 17 rfl rfl)
theorem dL_law_1605 : decode cL_law 1605 = .ok (.if_icmp .eq 948, 3) := dk_159 3 180 (dk_at dksL_law_61 20 rfl rfl)
theorem dL_law_1608 : decode cL_law 1608 = .ok (.iconst 0, 1) := dk_3 (dk_at dksL_law_61 23 rfl rfl)
theorem dL_law_1609 : decode cL_law 1609 = .ok (.ireturn, 1) := dk_172 (dk_at dksL_law_62 0 rfl rfl)
theorem dL_law_1610 : decode cL_law 1610 = .ok (.aload_n 1, 1) := dk_43 (dk_at dksL_law_62 1 rfl rfl)
theorem dL_law_1611 : decode cL_law 1611 = .ok (.aload_n 0, 1) := dk_42 (dk_at dksL_law_62 2 rfl rfl)
theorem dL_law_1612 : decode cL_law 1612 = .ok (.iload 4, 2) := dk_21 4 (dk_at dksL_law_62 3 rfl rfl)
theorem dL_law_1614 : decode cL_law 1614 = .ok (.iconst 1, 1) := dk_4 (dk_at dksL_law_62 5 rfl rfl)
theorem dL_law_1615 : decode cL_law 1615 = .ok (.iadd, 1) := dk_96 (dk_at dksL_law_62 6 rfl rfl)
theorem dL_law_1616 : decode cL_law 1616 = .ok (.iaload, 1) := dk_46 (dk_at dksL_law_62 7 rfl rfl)
theorem dL_law_1617 : decode cL_law 1617 = .ok (.aload_n 0, 1) := dk_42 (dk_at dksL_law_62 8 rfl rfl)
theorem dL_law_1618 : decode cL_law 1618 = .ok (.iload 4, 2) := dk_21 4 (dk_at dksL_law_62 9 rfl rfl)
theorem dL_law_1620 : decode cL_law 1620 = .ok (.iconst 2, 1) := dk_5 (dk_at dksL_law_62 11 rfl rfl)
theorem dL_law_1621 : decode cL_law 1621 = .ok (.iadd, 1) := dk_96 (dk_at dksL_law_62 12 rfl rfl)
theorem dL_law_1622 : decode cL_law 1622 = .ok (.iaload, 1) := dk_46 (dk_at dksL_law_62 13 rfl rfl)
theorem dL_law_1623 : decode cL_law 1623 = .ok (.aload_n 0, 1) := dk_42 (dk_at dksL_law_62 14 rfl rfl)
theorem dL_law_1624 : decode cL_law 1624 = .ok (.iload 4, 2) := dk_21 4 (dk_at dksL_law_62 15 rfl rfl)
theorem dL_law_1626 : decode cL_law 1626 = .ok (.iconst 3, 1) := dk_6 (dk_at dksL_law_62 17 rfl rfl)
theorem dL_law_1627 : decode cL_law 1627 = .ok (.iadd, 1) := dk_96 (dk_at dksL_law_62 18 rfl rfl)
theorem dL_law_1628 : decode cL_law 1628 = .ok (.iaload, 1) := dk_46 (dk_at dksL_law_62 19 rfl rfl)
theorem dL_law_1629 : decode cL_law 1629 = .ok (.aload_n 3, 1) := dk_45 (dk_at dksL_law_62 20 rfl rfl)
theorem dL_law_1630 : decode cL_law 1630 = .ok (.invokestatic 218, 3) := dk_184 0 218 (dk_at dksL_law_62 21 rfl rfl)
theorem dL_law_1633 : decode cL_law 1633 = .ok (.istore 5, 2) := dk_54 5 (dk_at dksL_law_63 0 rfl rfl)
theorem dL_law_1635 : decode cL_law 1635 = .ok (.aload_n 2, 1) := dk_44 (dk_at dksL_law_63 2 rfl rfl)
theorem dL_law_1636 : decode cL_law 1636 = .ok (.aload_n 0, 1) := dk_42 (dk_at dksL_law_63 3 rfl rfl)
theorem dL_law_1637 : decode cL_law 1637 = .ok (.iload 4, 2) := dk_21 4 (dk_at dksL_law_63 4 rfl rfl)
theorem dL_law_1639 : decode cL_law 1639 = .ok (.iconst 1, 1) := dk_4 (dk_at dksL_law_63 6 rfl rfl)
theorem dL_law_1640 : decode cL_law 1640 = .ok (.iadd, 1) := dk_96 (dk_at dksL_law_63 7 rfl rfl)
theorem dL_law_1641 : decode cL_law 1641 = .ok (.iaload, 1) := dk_46 (dk_at dksL_law_63 8 rfl rfl)
theorem dL_law_1642 : decode cL_law 1642 = .ok (.aload_n 0, 1) := dk_42 (dk_at dksL_law_63 9 rfl rfl)
theorem dL_law_1643 : decode cL_law 1643 = .ok (.iload 4, 2) := dk_21 4 (dk_at dksL_law_63 10 rfl rfl)
theorem dL_law_1645 : decode cL_law 1645 = .ok (.iconst 2, 1) := dk_5 (dk_at dksL_law_63 12 rfl rfl)
theorem dL_law_1646 : decode cL_law 1646 = .ok (.iadd, 1) := dk_96 (dk_at dksL_law_63 13 rfl rfl)
theorem dL_law_1647 : decode cL_law 1647 = .ok (.iaload, 1) := dk_46 (dk_at dksL_law_63 14 rfl rfl)
theorem dL_law_1648 : decode cL_law 1648 = .ok (.aload_n 0, 1) := dk_42 (dk_at dksL_law_63 15 rfl rfl)
theorem dL_law_1649 : decode cL_law 1649 = .ok (.iload 4, 2) := dk_21 4 (dk_at dksL_law_63 16 rfl rfl)
theorem dL_law_1651 : decode cL_law 1651 = .ok (.iconst 3, 1) := dk_6 (dk_at dksL_law_63 18 rfl rfl)
theorem dL_law_1652 : decode cL_law 1652 = .ok (.iadd, 1) := dk_96 (dk_at dksL_law_63 19 rfl rfl)
theorem dL_law_1653 : decode cL_law 1653 = .ok (.iaload, 1) := dk_46 (dk_at dksL_law_63 20 rfl rfl)
theorem dL_law_1654 : decode cL_law 1654 = .ok (.invokevirtual 220, 3) := dk_182 0 220 (dk_at dksL_law_63 21 rfl rfl)
theorem dL_law_1657 : decode cL_law 1657 = .ok (.istore 6, 2) := dk_54 6 (dk_at dksL_law_64 0 rfl rfl)
theorem dL_law_1659 : decode cL_law 1659 = .ok (.aload_n 2, 1) := dk_44 (dk_at dksL_law_64 2 rfl rfl)
theorem dL_law_1660 : decode cL_law 1660 = .ok (.invokevirtual 145, 3) := dk_182 0 145 (dk_at dksL_law_64 3 rfl rfl)
theorem dL_law_1663 : decode cL_law 1663 = .ok (.iload 5, 2) := dk_21 5 (dk_at dksL_law_64 6 rfl rfl)
theorem dL_law_1665 : decode cL_law 1665 = .ok (.if_icmp .eq 5, 3) := dk_159 0 5 (dk_at dksL_law_64 8 rfl rfl)
theorem dL_law_1668 : decode cL_law 1668 = .ok (.iconst 0, 1) := dk_3 (dk_at dksL_law_64 11 rfl rfl)
theorem dL_law_1669 : decode cL_law 1669 = .ok (.ireturn, 1) := dk_172 (dk_at dksL_law_64 12 rfl rfl)
theorem dL_law_1670 : decode cL_law 1670 = .ok (.iload 5, 2) := dk_21 5 (dk_at dksL_law_64 13 rfl rfl)
theorem dL_law_1672 : decode cL_law 1672 = .ok (.ifCond .ne 15, 3) := dk_154 0 15 (dk_at dksL_law_64 15 rfl rfl)
theorem dL_law_1675 : decode cL_law 1675 = .ok (.aload_n 3, 1) := dk_45 (dk_at dksL_law_64 18 rfl rfl)
theorem dL_law_1676 : decode cL_law 1676 = .ok (.iconst 0, 1) := dk_3 (dk_at dksL_law_64 19 rfl rfl)
theorem dL_law_1677 : decode cL_law 1677 = .ok (.laload, 1) := dk_47 (dk_at dksL_law_64 20 rfl rfl)
theorem dL_law_1678 : decode cL_law 1678 = .ok (.iload 6, 2) := dk_21 6 (dk_at dksL_law_64 21 rfl rfl)
theorem dL_law_1680 : decode cL_law 1680 = .ok (.i2l, 1) := dk_133 (dk_at dksL_law_64 23 rfl rfl)
theorem dL_law_1681 : decode cL_law 1681 = .ok (.lcmp, 1) := dk_148 (dk_at dksL_law_65 0 rfl rfl)
theorem dL_law_1682 : decode cL_law 1682 = .ok (.ifCond .eq 5, 3) := dk_153 0 5 (dk_at dksL_law_65 1 rfl rfl)
theorem dL_law_1685 : decode cL_law 1685 = .ok (.iconst 0, 1) := dk_3 (dk_at dksL_law_65 4 rfl rfl)
theorem dL_law_1686 : decode cL_law 1686 = .ok (.ireturn, 1) := dk_172 (dk_at dksL_law_65 5 rfl rfl)
theorem dL_law_1687 : decode cL_law 1687 = .ok (.goto 866, 3) := dk_167 3 98 (dk_at dksL_law_65 6 rfl rfl)
theorem dL_law_1690 : decode cL_law 1690 = .ok (.aload_n 1, 1) := dk_43 (dk_at dksL_law_65 9 rfl rfl)
theorem dL_law_1691 : decode cL_law 1691 = .ok (.aload_n 0, 1) := dk_42 (dk_at dksL_law_65 10 rfl rfl)
theorem dL_law_1692 : decode cL_law 1692 = .ok (.iload 4, 2) := dk_21 4 (dk_at dksL_law_65 11 rfl rfl)
theorem dL_law_1694 : decode cL_law 1694 = .ok (.iconst 1, 1) := dk_4 (dk_at dksL_law_65 13 rfl rfl)
theorem dL_law_1695 : decode cL_law 1695 = .ok (.iadd, 1) := dk_96 (dk_at dksL_law_65 14 rfl rfl)
theorem dL_law_1696 : decode cL_law 1696 = .ok (.iaload, 1) := dk_46 (dk_at dksL_law_65 15 rfl rfl)
theorem dL_law_1697 : decode cL_law 1697 = .ok (.aload_n 3, 1) := dk_45 (dk_at dksL_law_65 16 rfl rfl)
theorem dL_law_1698 : decode cL_law 1698 = .ok (.invokestatic 221, 3) := dk_184 0 221 (dk_at dksL_law_65 17 rfl rfl)
theorem dL_law_1701 : decode cL_law 1701 = .ok (.istore 5, 2) := dk_54 5 (dk_at dksL_law_65 20 rfl rfl)
theorem dL_law_1703 : decode cL_law 1703 = .ok (.aload_n 2, 1) := dk_44 (dk_at dksL_law_65 22 rfl rfl)
theorem dL_law_1704 : decode cL_law 1704 = .ok (.aload_n 0, 1) := dk_42 (dk_at dksL_law_65 23 rfl rfl)
theorem dL_law_1705 : decode cL_law 1705 = .ok (.iload 4, 2) := dk_21 4 (dk_at dksL_law_66 0 rfl rfl)
theorem dL_law_1707 : decode cL_law 1707 = .ok (.iconst 1, 1) := dk_4 (dk_at dksL_law_66 2 rfl rfl)
theorem dL_law_1708 : decode cL_law 1708 = .ok (.iadd, 1) := dk_96 (dk_at dksL_law_66 3 rfl rfl)
theorem dL_law_1709 : decode cL_law 1709 = .ok (.iaload, 1) := dk_46 (dk_at dksL_law_66 4 rfl rfl)
theorem dL_law_1710 : decode cL_law 1710 = .ok (.invokevirtual 223, 3) := dk_182 0 223 (dk_at dksL_law_66 5 rfl rfl)
theorem dL_law_1713 : decode cL_law 1713 = .ok (.istore 6, 2) := dk_54 6 (dk_at dksL_law_66 8 rfl rfl)
theorem dL_law_1715 : decode cL_law 1715 = .ok (.aload_n 2, 1) := dk_44 (dk_at dksL_law_66 10 rfl rfl)
theorem dL_law_1716 : decode cL_law 1716 = .ok (.invokevirtual 145, 3) := dk_182 0 145 (dk_at dksL_law_66 11 rfl rfl)
theorem dL_law_1719 : decode cL_law 1719 = .ok (.iload 5, 2) := dk_21 5 (dk_at dksL_law_66 14 rfl rfl)
theorem dL_law_1721 : decode cL_law 1721 = .ok (.if_icmp .eq 5, 3) := dk_159 0 5 (dk_at dksL_law_66 16 rfl rfl)
theorem dL_law_1724 : decode cL_law 1724 = .ok (.iconst 0, 1) := dk_3 (dk_at dksL_law_66 19 rfl rfl)
theorem dL_law_1725 : decode cL_law 1725 = .ok (.ireturn, 1) := dk_172 (dk_at dksL_law_66 20 rfl rfl)
theorem dL_law_1726 : decode cL_law 1726 = .ok (.iload 5, 2) := dk_21 5 (dk_at dksL_law_66 21 rfl rfl)
theorem dL_law_1728 : decode cL_law 1728 = .ok (.ifCond .ne 15, 3) := dk_154 0 15 (dk_at dksL_law_67 0 rfl rfl)
theorem dL_law_1731 : decode cL_law 1731 = .ok (.aload_n 3, 1) := dk_45 (dk_at dksL_law_67 3 rfl rfl)
theorem dL_law_1732 : decode cL_law 1732 = .ok (.iconst 0, 1) := dk_3 (dk_at dksL_law_67 4 rfl rfl)
theorem dL_law_1733 : decode cL_law 1733 = .ok (.laload, 1) := dk_47 (dk_at dksL_law_67 5 rfl rfl)
theorem dL_law_1734 : decode cL_law 1734 = .ok (.iload 6, 2) := dk_21 6 (dk_at dksL_law_67 6 rfl rfl)
theorem dL_law_1736 : decode cL_law 1736 = .ok (.i2l, 1) := dk_133 (dk_at dksL_law_67 8 rfl rfl)
theorem dL_law_1737 : decode cL_law 1737 = .ok (.lcmp, 1) := dk_148 (dk_at dksL_law_67 9 rfl rfl)
theorem dL_law_1738 : decode cL_law 1738 = .ok (.ifCond .eq 5, 3) := dk_153 0 5 (dk_at dksL_law_67 10 rfl rfl)
theorem dL_law_1741 : decode cL_law 1741 = .ok (.iconst 0, 1) := dk_3 (dk_at dksL_law_67 13 rfl rfl)
theorem dL_law_1742 : decode cL_law 1742 = .ok (.ireturn, 1) := dk_172 (dk_at dksL_law_67 14 rfl rfl)
theorem dL_law_1743 : decode cL_law 1743 = .ok (.goto 810, 3) := dk_167 3 42 (dk_at dksL_law_67 15 rfl rfl)
theorem dL_law_1746 : decode cL_law 1746 = .ok (.aload_n 1, 1) := dk_43 (dk_at dksL_law_67 18 rfl rfl)
theorem dL_law_1747 : decode cL_law 1747 = .ok (.aload_n 0, 1) := dk_42 (dk_at dksL_law_67 19 rfl rfl)
theorem dL_law_1748 : decode cL_law 1748 = .ok (.iload 4, 2) := dk_21 4 (dk_at dksL_law_67 20 rfl rfl)
theorem dL_law_1750 : decode cL_law 1750 = .ok (.iconst 1, 1) := dk_4 (dk_at dksL_law_67 22 rfl rfl)
theorem dL_law_1751 : decode cL_law 1751 = .ok (.iadd, 1) := dk_96 (dk_at dksL_law_67 23 rfl rfl)
theorem dL_law_1752 : decode cL_law 1752 = .ok (.iaload, 1) := dk_46 (dk_at dksL_law_68 0 rfl rfl)
theorem dL_law_1753 : decode cL_law 1753 = .ok (.aload_n 3, 1) := dk_45 (dk_at dksL_law_68 1 rfl rfl)
theorem dL_law_1754 : decode cL_law 1754 = .ok (.invokestatic 224, 3) := dk_184 0 224 (dk_at dksL_law_68 2 rfl rfl)
theorem dL_law_1757 : decode cL_law 1757 = .ok (.istore 5, 2) := dk_54 5 (dk_at dksL_law_68 5 rfl rfl)
theorem dL_law_1759 : decode cL_law 1759 = .ok (.aload_n 2, 1) := dk_44 (dk_at dksL_law_68 7 rfl rfl)
theorem dL_law_1760 : decode cL_law 1760 = .ok (.aload_n 0, 1) := dk_42 (dk_at dksL_law_68 8 rfl rfl)
theorem dL_law_1761 : decode cL_law 1761 = .ok (.iload 4, 2) := dk_21 4 (dk_at dksL_law_68 9 rfl rfl)
theorem dL_law_1763 : decode cL_law 1763 = .ok (.iconst 1, 1) := dk_4 (dk_at dksL_law_68 11 rfl rfl)
theorem dL_law_1764 : decode cL_law 1764 = .ok (.iadd, 1) := dk_96 (dk_at dksL_law_68 12 rfl rfl)
theorem dL_law_1765 : decode cL_law 1765 = .ok (.iaload, 1) := dk_46 (dk_at dksL_law_68 13 rfl rfl)
theorem dL_law_1766 : decode cL_law 1766 = .ok (.invokevirtual 226, 3) := dk_182 0 226 (dk_at dksL_law_68 14 rfl rfl)
theorem dL_law_1769 : decode cL_law 1769 = .ok (.istore 6, 2) := dk_54 6 (dk_at dksL_law_68 17 rfl rfl)
theorem dL_law_1771 : decode cL_law 1771 = .ok (.aload_n 2, 1) := dk_44 (dk_at dksL_law_68 19 rfl rfl)
theorem dL_law_1772 : decode cL_law 1772 = .ok (.invokevirtual 145, 3) := dk_182 0 145 (dk_at dksL_law_68 20 rfl rfl)
theorem dL_law_1775 : decode cL_law 1775 = .ok (.iload 5, 2) := dk_21 5 (dk_at dksL_law_69 0 rfl rfl)
theorem dL_law_1777 : decode cL_law 1777 = .ok (.if_icmp .eq 5, 3) := dk_159 0 5 (dk_at dksL_law_69 2 rfl rfl)
theorem dL_law_1780 : decode cL_law 1780 = .ok (.iconst 0, 1) := dk_3 (dk_at dksL_law_69 5 rfl rfl)
theorem dL_law_1781 : decode cL_law 1781 = .ok (.ireturn, 1) := dk_172 (dk_at dksL_law_69 6 rfl rfl)
theorem dL_law_1782 : decode cL_law 1782 = .ok (.iload 5, 2) := dk_21 5 (dk_at dksL_law_69 7 rfl rfl)
theorem dL_law_1784 : decode cL_law 1784 = .ok (.ifCond .ne 15, 3) := dk_154 0 15 (dk_at dksL_law_69 9 rfl rfl)
theorem dL_law_1787 : decode cL_law 1787 = .ok (.aload_n 3, 1) := dk_45 (dk_at dksL_law_69 12 rfl rfl)
theorem dL_law_1788 : decode cL_law 1788 = .ok (.iconst 0, 1) := dk_3 (dk_at dksL_law_69 13 rfl rfl)
theorem dL_law_1789 : decode cL_law 1789 = .ok (.laload, 1) := dk_47 (dk_at dksL_law_69 14 rfl rfl)
theorem dL_law_1790 : decode cL_law 1790 = .ok (.iload 6, 2) := dk_21 6 (dk_at dksL_law_69 15 rfl rfl)
theorem dL_law_1792 : decode cL_law 1792 = .ok (.i2l, 1) := dk_133 (dk_at dksL_law_69 17 rfl rfl)
theorem dL_law_1793 : decode cL_law 1793 = .ok (.lcmp, 1) := dk_148 (dk_at dksL_law_69 18 rfl rfl)
theorem dL_law_1794 : decode cL_law 1794 = .ok (.ifCond .eq 5, 3) := dk_153 0 5 (dk_at dksL_law_69 19 rfl rfl)
theorem dL_law_1797 : decode cL_law 1797 = .ok (.iconst 0, 1) := dk_3 (dk_at dksL_law_69 22 rfl rfl)
theorem dL_law_1798 : decode cL_law 1798 = .ok (.ireturn, 1) := dk_172 (dk_at dksL_law_69 23 rfl rfl)
theorem dL_law_1799 : decode cL_law 1799 = .ok (.goto 754, 3) := dk_167 2 242 (dk_at dksL_law_70 0 rfl rfl)
theorem dL_law_1802 : decode cL_law 1802 = .ok (.aload_n 1, 1) := dk_43 (dk_at dksL_law_70 3 rfl rfl)
theorem dL_law_1803 : decode cL_law 1803 = .ok (.aload_n 0, 1) := dk_42 (dk_at dksL_law_70 4 rfl rfl)
theorem dL_law_1804 : decode cL_law 1804 = .ok (.iload 4, 2) := dk_21 4 (dk_at dksL_law_70 5 rfl rfl)
theorem dL_law_1806 : decode cL_law 1806 = .ok (.iconst 1, 1) := dk_4 (dk_at dksL_law_70 7 rfl rfl)
theorem dL_law_1807 : decode cL_law 1807 = .ok (.iadd, 1) := dk_96 (dk_at dksL_law_70 8 rfl rfl)
theorem dL_law_1808 : decode cL_law 1808 = .ok (.iaload, 1) := dk_46 (dk_at dksL_law_70 9 rfl rfl)
theorem dL_law_1809 : decode cL_law 1809 = .ok (.aload_n 3, 1) := dk_45 (dk_at dksL_law_70 10 rfl rfl)
theorem dL_law_1810 : decode cL_law 1810 = .ok (.invokestatic 227, 3) := dk_184 0 227 (dk_at dksL_law_70 11 rfl rfl)
theorem dL_law_1813 : decode cL_law 1813 = .ok (.istore 5, 2) := dk_54 5 (dk_at dksL_law_70 14 rfl rfl)
theorem dL_law_1815 : decode cL_law 1815 = .ok (.aload_n 2, 1) := dk_44 (dk_at dksL_law_70 16 rfl rfl)
theorem dL_law_1816 : decode cL_law 1816 = .ok (.aload_n 0, 1) := dk_42 (dk_at dksL_law_70 17 rfl rfl)
theorem dL_law_1817 : decode cL_law 1817 = .ok (.iload 4, 2) := dk_21 4 (dk_at dksL_law_70 18 rfl rfl)
theorem dL_law_1819 : decode cL_law 1819 = .ok (.iconst 1, 1) := dk_4 (dk_at dksL_law_70 20 rfl rfl)
theorem dL_law_1820 : decode cL_law 1820 = .ok (.iadd, 1) := dk_96 (dk_at dksL_law_70 21 rfl rfl)
theorem dL_law_1821 : decode cL_law 1821 = .ok (.iaload, 1) := dk_46 (dk_at dksL_law_70 22 rfl rfl)
theorem dL_law_1822 : decode cL_law 1822 = .ok (.invokevirtual 229, 3) := dk_182 0 229 (dk_at dksL_law_71 0 rfl rfl)
theorem dL_law_1825 : decode cL_law 1825 = .ok (.istore 6, 2) := dk_54 6 (dk_at dksL_law_71 3 rfl rfl)
theorem dL_law_1827 : decode cL_law 1827 = .ok (.aload_n 2, 1) := dk_44 (dk_at dksL_law_71 5 rfl rfl)
theorem dL_law_1828 : decode cL_law 1828 = .ok (.invokevirtual 145, 3) := dk_182 0 145 (dk_at dksL_law_71 6 rfl rfl)
theorem dL_law_1831 : decode cL_law 1831 = .ok (.iload 5, 2) := dk_21 5 (dk_at dksL_law_71 9 rfl rfl)
theorem dL_law_1833 : decode cL_law 1833 = .ok (.if_icmp .eq 5, 3) := dk_159 0 5 (dk_at dksL_law_71 11 rfl rfl)
theorem dL_law_1836 : decode cL_law 1836 = .ok (.iconst 0, 1) := dk_3 (dk_at dksL_law_71 14 rfl rfl)
theorem dL_law_1837 : decode cL_law 1837 = .ok (.ireturn, 1) := dk_172 (dk_at dksL_law_71 15 rfl rfl)
theorem dL_law_1838 : decode cL_law 1838 = .ok (.iload 5, 2) := dk_21 5 (dk_at dksL_law_71 16 rfl rfl)
theorem dL_law_1840 : decode cL_law 1840 = .ok (.ifCond .ne 15, 3) := dk_154 0 15 (dk_at dksL_law_71 18 rfl rfl)
theorem dL_law_1843 : decode cL_law 1843 = .ok (.aload_n 3, 1) := dk_45 (dk_at dksL_law_71 21 rfl rfl)
theorem dL_law_1844 : decode cL_law 1844 = .ok (.iconst 0, 1) := dk_3 (dk_at dksL_law_71 22 rfl rfl)
theorem dL_law_1845 : decode cL_law 1845 = .ok (.laload, 1) := dk_47 (dk_at dksL_law_71 23 rfl rfl)
theorem dL_law_1846 : decode cL_law 1846 = .ok (.iload 6, 2) := dk_21 6 (dk_at dksL_law_72 0 rfl rfl)
theorem dL_law_1848 : decode cL_law 1848 = .ok (.i2l, 1) := dk_133 (dk_at dksL_law_72 2 rfl rfl)
theorem dL_law_1849 : decode cL_law 1849 = .ok (.lcmp, 1) := dk_148 (dk_at dksL_law_72 3 rfl rfl)
theorem dL_law_1850 : decode cL_law 1850 = .ok (.ifCond .eq 5, 3) := dk_153 0 5 (dk_at dksL_law_72 4 rfl rfl)
theorem dL_law_1853 : decode cL_law 1853 = .ok (.iconst 0, 1) := dk_3 (dk_at dksL_law_72 7 rfl rfl)
theorem dL_law_1854 : decode cL_law 1854 = .ok (.ireturn, 1) := dk_172 (dk_at dksL_law_72 8 rfl rfl)
theorem dL_law_1855 : decode cL_law 1855 = .ok (.goto 698, 3) := dk_167 2 186 (dk_at dksL_law_72 9 rfl rfl)
theorem dL_law_1858 : decode cL_law 1858 = .ok (.aload_n 1, 1) := dk_43 (dk_at dksL_law_72 12 rfl rfl)
theorem dL_law_1859 : decode cL_law 1859 = .ok (.aload_n 0, 1) := dk_42 (dk_at dksL_law_72 13 rfl rfl)
theorem dL_law_1860 : decode cL_law 1860 = .ok (.iload 4, 2) := dk_21 4 (dk_at dksL_law_72 14 rfl rfl)
theorem dL_law_1862 : decode cL_law 1862 = .ok (.iconst 1, 1) := dk_4 (dk_at dksL_law_72 16 rfl rfl)
theorem dL_law_1863 : decode cL_law 1863 = .ok (.iadd, 1) := dk_96 (dk_at dksL_law_72 17 rfl rfl)
theorem dL_law_1864 : decode cL_law 1864 = .ok (.iaload, 1) := dk_46 (dk_at dksL_law_72 18 rfl rfl)
theorem dL_law_1865 : decode cL_law 1865 = .ok (.aload_n 0, 1) := dk_42 (dk_at dksL_law_72 19 rfl rfl)
theorem dL_law_1866 : decode cL_law 1866 = .ok (.iload 4, 2) := dk_21 4 (dk_at dksL_law_72 20 rfl rfl)
theorem dL_law_1868 : decode cL_law 1868 = .ok (.iconst 2, 1) := dk_5 (dk_at dksL_law_72 22 rfl rfl)
theorem dL_law_1869 : decode cL_law 1869 = .ok (.iadd, 1) := dk_96 (dk_at dksL_law_72 23 rfl rfl)
theorem dL_law_1870 : decode cL_law 1870 = .ok (.iaload, 1) := dk_46 (dk_at dksL_law_73 0 rfl rfl)
theorem dL_law_1871 : decode cL_law 1871 = .ok (.aload_n 3, 1) := dk_45 (dk_at dksL_law_73 1 rfl rfl)
theorem dL_law_1872 : decode cL_law 1872 = .ok (.invokestatic 230, 3) := dk_184 0 230 (dk_at dksL_law_73 2 rfl rfl)
theorem dL_law_1875 : decode cL_law 1875 = .ok (.istore 5, 2) := dk_54 5 (dk_at dksL_law_73 5 rfl rfl)
theorem dL_law_1877 : decode cL_law 1877 = .ok (.aload_n 2, 1) := dk_44 (dk_at dksL_law_73 7 rfl rfl)
theorem dL_law_1878 : decode cL_law 1878 = .ok (.aload_n 0, 1) := dk_42 (dk_at dksL_law_73 8 rfl rfl)
theorem dL_law_1879 : decode cL_law 1879 = .ok (.iload 4, 2) := dk_21 4 (dk_at dksL_law_73 9 rfl rfl)
theorem dL_law_1881 : decode cL_law 1881 = .ok (.iconst 1, 1) := dk_4 (dk_at dksL_law_73 11 rfl rfl)
theorem dL_law_1882 : decode cL_law 1882 = .ok (.iadd, 1) := dk_96 (dk_at dksL_law_73 12 rfl rfl)
theorem dL_law_1883 : decode cL_law 1883 = .ok (.iaload, 1) := dk_46 (dk_at dksL_law_73 13 rfl rfl)
theorem dL_law_1884 : decode cL_law 1884 = .ok (.aload_n 0, 1) := dk_42 (dk_at dksL_law_73 14 rfl rfl)
theorem dL_law_1885 : decode cL_law 1885 = .ok (.iload 4, 2) := dk_21 4 (dk_at dksL_law_73 15 rfl rfl)
theorem dL_law_1887 : decode cL_law 1887 = .ok (.iconst 2, 1) := dk_5 (dk_at dksL_law_73 17 rfl rfl)
theorem dL_law_1888 : decode cL_law 1888 = .ok (.iadd, 1) := dk_96 (dk_at dksL_law_73 18 rfl rfl)
theorem dL_law_1889 : decode cL_law 1889 = .ok (.iaload, 1) := dk_46 (dk_at dksL_law_73 19 rfl rfl)
theorem dL_law_1890 : decode cL_law 1890 = .ok (.invokevirtual 232, 3) := dk_182 0 232 (dk_at dksL_law_73 20 rfl rfl)
theorem dL_law_1893 : decode cL_law 1893 = .ok (.istore 6, 2) := dk_54 6 (dk_at dksL_law_74 0 rfl rfl)
theorem dL_law_1895 : decode cL_law 1895 = .ok (.aload_n 2, 1) := dk_44 (dk_at dksL_law_74 2 rfl rfl)
theorem dL_law_1896 : decode cL_law 1896 = .ok (.invokevirtual 145, 3) := dk_182 0 145 (dk_at dksL_law_74 3 rfl rfl)
theorem dL_law_1899 : decode cL_law 1899 = .ok (.iload 5, 2) := dk_21 5 (dk_at dksL_law_74 6 rfl rfl)
theorem dL_law_1901 : decode cL_law 1901 = .ok (.if_icmp .eq 5, 3) := dk_159 0 5 (dk_at dksL_law_74 8 rfl rfl)
theorem dL_law_1904 : decode cL_law 1904 = .ok (.iconst 0, 1) := dk_3 (dk_at dksL_law_74 11 rfl rfl)
theorem dL_law_1905 : decode cL_law 1905 = .ok (.ireturn, 1) := dk_172 (dk_at dksL_law_74 12 rfl rfl)
theorem dL_law_1906 : decode cL_law 1906 = .ok (.iload 5, 2) := dk_21 5 (dk_at dksL_law_74 13 rfl rfl)
theorem dL_law_1908 : decode cL_law 1908 = .ok (.ifCond .ne 15, 3) := dk_154 0 15 (dk_at dksL_law_74 15 rfl rfl)
theorem dL_law_1911 : decode cL_law 1911 = .ok (.aload_n 3, 1) := dk_45 (dk_at dksL_law_74 18 rfl rfl)
theorem dL_law_1912 : decode cL_law 1912 = .ok (.iconst 0, 1) := dk_3 (dk_at dksL_law_74 19 rfl rfl)
theorem dL_law_1913 : decode cL_law 1913 = .ok (.laload, 1) := dk_47 (dk_at dksL_law_74 20 rfl rfl)
theorem dL_law_1914 : decode cL_law 1914 = .ok (.iload 6, 2) := dk_21 6 (dk_at dksL_law_74 21 rfl rfl)
theorem dL_law_1916 : decode cL_law 1916 = .ok (.i2l, 1) := dk_133 (dk_at dksL_law_74 23 rfl rfl)
theorem dL_law_1917 : decode cL_law 1917 = .ok (.lcmp, 1) := dk_148 (dk_at dksL_law_75 0 rfl rfl)
theorem dL_law_1918 : decode cL_law 1918 = .ok (.ifCond .eq 5, 3) := dk_153 0 5 (dk_at dksL_law_75 1 rfl rfl)
theorem dL_law_1921 : decode cL_law 1921 = .ok (.iconst 0, 1) := dk_3 (dk_at dksL_law_75 4 rfl rfl)
theorem dL_law_1922 : decode cL_law 1922 = .ok (.ireturn, 1) := dk_172 (dk_at dksL_law_75 5 rfl rfl)
theorem dL_law_1923 : decode cL_law 1923 = .ok (.goto 630, 3) := dk_167 2 118 (dk_at dksL_law_75 6 rfl rfl)
theorem dL_law_1926 : decode cL_law 1926 = .ok (.aload_n 1, 1) := dk_43 (dk_at dksL_law_75 9 rfl rfl)
theorem dL_law_1927 : decode cL_law 1927 = .ok (.aload_n 0, 1) := dk_42 (dk_at dksL_law_75 10 rfl rfl)
theorem dL_law_1928 : decode cL_law 1928 = .ok (.iload 4, 2) := dk_21 4 (dk_at dksL_law_75 11 rfl rfl)
theorem dL_law_1930 : decode cL_law 1930 = .ok (.iconst 1, 1) := dk_4 (dk_at dksL_law_75 13 rfl rfl)
theorem dL_law_1931 : decode cL_law 1931 = .ok (.iadd, 1) := dk_96 (dk_at dksL_law_75 14 rfl rfl)
theorem dL_law_1932 : decode cL_law 1932 = .ok (.iaload, 1) := dk_46 (dk_at dksL_law_75 15 rfl rfl)
theorem dL_law_1933 : decode cL_law 1933 = .ok (.aload_n 0, 1) := dk_42 (dk_at dksL_law_75 16 rfl rfl)
theorem dL_law_1934 : decode cL_law 1934 = .ok (.iload 4, 2) := dk_21 4 (dk_at dksL_law_75 17 rfl rfl)
theorem dL_law_1936 : decode cL_law 1936 = .ok (.iconst 2, 1) := dk_5 (dk_at dksL_law_75 19 rfl rfl)
theorem dL_law_1937 : decode cL_law 1937 = .ok (.iadd, 1) := dk_96 (dk_at dksL_law_75 20 rfl rfl)
theorem dL_law_1938 : decode cL_law 1938 = .ok (.iaload, 1) := dk_46 (dk_at dksL_law_75 21 rfl rfl)
theorem dL_law_1939 : decode cL_law 1939 = .ok (.aload_n 3, 1) := dk_45 (dk_at dksL_law_75 22 rfl rfl)
theorem dL_law_1940 : decode cL_law 1940 = .ok (.invokestatic 233, 3) := dk_184 0 233 (dk_at dksL_law_76 0 rfl rfl)
theorem dL_law_1943 : decode cL_law 1943 = .ok (.istore 5, 2) := dk_54 5 (dk_at dksL_law_76 3 rfl rfl)
theorem dL_law_1945 : decode cL_law 1945 = .ok (.aload_n 2, 1) := dk_44 (dk_at dksL_law_76 5 rfl rfl)
theorem dL_law_1946 : decode cL_law 1946 = .ok (.aload_n 0, 1) := dk_42 (dk_at dksL_law_76 6 rfl rfl)
theorem dL_law_1947 : decode cL_law 1947 = .ok (.iload 4, 2) := dk_21 4 (dk_at dksL_law_76 7 rfl rfl)
theorem dL_law_1949 : decode cL_law 1949 = .ok (.iconst 1, 1) := dk_4 (dk_at dksL_law_76 9 rfl rfl)
theorem dL_law_1950 : decode cL_law 1950 = .ok (.iadd, 1) := dk_96 (dk_at dksL_law_76 10 rfl rfl)
theorem dL_law_1951 : decode cL_law 1951 = .ok (.iaload, 1) := dk_46 (dk_at dksL_law_76 11 rfl rfl)
theorem dL_law_1952 : decode cL_law 1952 = .ok (.aload_n 0, 1) := dk_42 (dk_at dksL_law_76 12 rfl rfl)
theorem dL_law_1953 : decode cL_law 1953 = .ok (.iload 4, 2) := dk_21 4 (dk_at dksL_law_76 13 rfl rfl)
theorem dL_law_1955 : decode cL_law 1955 = .ok (.iconst 2, 1) := dk_5 (dk_at dksL_law_76 15 rfl rfl)
theorem dL_law_1956 : decode cL_law 1956 = .ok (.iadd, 1) := dk_96 (dk_at dksL_law_76 16 rfl rfl)
theorem dL_law_1957 : decode cL_law 1957 = .ok (.iaload, 1) := dk_46 (dk_at dksL_law_76 17 rfl rfl)
theorem dL_law_1958 : decode cL_law 1958 = .ok (.invokevirtual 235, 3) := dk_182 0 235 (dk_at dksL_law_76 18 rfl rfl)
theorem dL_law_1961 : decode cL_law 1961 = .ok (.istore 6, 2) := dk_54 6 (dk_at dksL_law_76 21 rfl rfl)
theorem dL_law_1963 : decode cL_law 1963 = .ok (.aload_n 2, 1) := dk_44 (dk_at dksL_law_76 23 rfl rfl)
theorem dL_law_1964 : decode cL_law 1964 = .ok (.invokevirtual 145, 3) := dk_182 0 145 (dk_at dksL_law_77 0 rfl rfl)
theorem dL_law_1967 : decode cL_law 1967 = .ok (.iload 5, 2) := dk_21 5 (dk_at dksL_law_77 3 rfl rfl)
theorem dL_law_1969 : decode cL_law 1969 = .ok (.if_icmp .eq 5, 3) := dk_159 0 5 (dk_at dksL_law_77 5 rfl rfl)
theorem dL_law_1972 : decode cL_law 1972 = .ok (.iconst 0, 1) := dk_3 (dk_at dksL_law_77 8 rfl rfl)
theorem dL_law_1973 : decode cL_law 1973 = .ok (.ireturn, 1) := dk_172 (dk_at dksL_law_77 9 rfl rfl)
theorem dL_law_1974 : decode cL_law 1974 = .ok (.iload 5, 2) := dk_21 5 (dk_at dksL_law_77 10 rfl rfl)
theorem dL_law_1976 : decode cL_law 1976 = .ok (.ifCond .ne 15, 3) := dk_154 0 15 (dk_at dksL_law_77 12 rfl rfl)
theorem dL_law_1979 : decode cL_law 1979 = .ok (.aload_n 3, 1) := dk_45 (dk_at dksL_law_77 15 rfl rfl)
theorem dL_law_1980 : decode cL_law 1980 = .ok (.iconst 0, 1) := dk_3 (dk_at dksL_law_77 16 rfl rfl)
theorem dL_law_1981 : decode cL_law 1981 = .ok (.laload, 1) := dk_47 (dk_at dksL_law_77 17 rfl rfl)
theorem dL_law_1982 : decode cL_law 1982 = .ok (.iload 6, 2) := dk_21 6 (dk_at dksL_law_77 18 rfl rfl)
theorem dL_law_1984 : decode cL_law 1984 = .ok (.i2l, 1) := dk_133 (dk_at dksL_law_77 20 rfl rfl)
theorem dL_law_1985 : decode cL_law 1985 = .ok (.lcmp, 1) := dk_148 (dk_at dksL_law_77 21 rfl rfl)
theorem dL_law_1986 : decode cL_law 1986 = .ok (.ifCond .eq 5, 3) := dk_153 0 5 (dk_at dksL_law_78 0 rfl rfl)
theorem dL_law_1989 : decode cL_law 1989 = .ok (.iconst 0, 1) := dk_3 (dk_at dksL_law_78 3 rfl rfl)
theorem dL_law_1990 : decode cL_law 1990 = .ok (.ireturn, 1) := dk_172 (dk_at dksL_law_78 4 rfl rfl)
theorem dL_law_1991 : decode cL_law 1991 = .ok (.goto 562, 3) := dk_167 2 50 (dk_at dksL_law_78 5 rfl rfl)
theorem dL_law_1994 : decode cL_law 1994 = .ok (.aload_n 1, 1) := dk_43 (dk_at dksL_law_78 8 rfl rfl)
theorem dL_law_1995 : decode cL_law 1995 = .ok (.aload_n 0, 1) := dk_42 (dk_at dksL_law_78 9 rfl rfl)
theorem dL_law_1996 : decode cL_law 1996 = .ok (.iload 4, 2) := dk_21 4 (dk_at dksL_law_78 10 rfl rfl)
theorem dL_law_1998 : decode cL_law 1998 = .ok (.iconst 1, 1) := dk_4 (dk_at dksL_law_78 12 rfl rfl)
theorem dL_law_1999 : decode cL_law 1999 = .ok (.iadd, 1) := dk_96 (dk_at dksL_law_78 13 rfl rfl)
theorem dL_law_2000 : decode cL_law 2000 = .ok (.iaload, 1) := dk_46 (dk_at dksL_law_78 14 rfl rfl)
theorem dL_law_2001 : decode cL_law 2001 = .ok (.aload_n 3, 1) := dk_45 (dk_at dksL_law_78 15 rfl rfl)
theorem dL_law_2002 : decode cL_law 2002 = .ok (.invokestatic 236, 3) := dk_184 0 236 (dk_at dksL_law_78 16 rfl rfl)
theorem dL_law_2005 : decode cL_law 2005 = .ok (.istore 5, 2) := dk_54 5 (dk_at dksL_law_78 19 rfl rfl)
theorem dL_law_2007 : decode cL_law 2007 = .ok (.aload_n 2, 1) := dk_44 (dk_at dksL_law_78 21 rfl rfl)
theorem dL_law_2008 : decode cL_law 2008 = .ok (.aload_n 0, 1) := dk_42 (dk_at dksL_law_78 22 rfl rfl)
theorem dL_law_2009 : decode cL_law 2009 = .ok (.iload 4, 2) := dk_21 4 (dk_at dksL_law_79 0 rfl rfl)
theorem dL_law_2011 : decode cL_law 2011 = .ok (.iconst 1, 1) := dk_4 (dk_at dksL_law_79 2 rfl rfl)
theorem dL_law_2012 : decode cL_law 2012 = .ok (.iadd, 1) := dk_96 (dk_at dksL_law_79 3 rfl rfl)
theorem dL_law_2013 : decode cL_law 2013 = .ok (.iaload, 1) := dk_46 (dk_at dksL_law_79 4 rfl rfl)
theorem dL_law_2014 : decode cL_law 2014 = .ok (.invokevirtual 238, 3) := dk_182 0 238 (dk_at dksL_law_79 5 rfl rfl)
theorem dL_law_2017 : decode cL_law 2017 = .ok (.istore 6, 2) := dk_54 6 (dk_at dksL_law_79 8 rfl rfl)
theorem dL_law_2019 : decode cL_law 2019 = .ok (.aload_n 2, 1) := dk_44 (dk_at dksL_law_79 10 rfl rfl)
theorem dL_law_2020 : decode cL_law 2020 = .ok (.invokevirtual 145, 3) := dk_182 0 145 (dk_at dksL_law_79 11 rfl rfl)
theorem dL_law_2023 : decode cL_law 2023 = .ok (.iload 5, 2) := dk_21 5 (dk_at dksL_law_79 14 rfl rfl)
theorem dL_law_2025 : decode cL_law 2025 = .ok (.if_icmp .eq 5, 3) := dk_159 0 5 (dk_at dksL_law_79 16 rfl rfl)
theorem dL_law_2028 : decode cL_law 2028 = .ok (.iconst 0, 1) := dk_3 (dk_at dksL_law_79 19 rfl rfl)
theorem dL_law_2029 : decode cL_law 2029 = .ok (.ireturn, 1) := dk_172 (dk_at dksL_law_79 20 rfl rfl)
theorem dL_law_2030 : decode cL_law 2030 = .ok (.iload 5, 2) := dk_21 5 (dk_at dksL_law_79 21 rfl rfl)
theorem dL_law_2032 : decode cL_law 2032 = .ok (.ifCond .ne 15, 3) := dk_154 0 15 (dk_at dksL_law_80 0 rfl rfl)
theorem dL_law_2035 : decode cL_law 2035 = .ok (.aload_n 3, 1) := dk_45 (dk_at dksL_law_80 3 rfl rfl)
theorem dL_law_2036 : decode cL_law 2036 = .ok (.iconst 0, 1) := dk_3 (dk_at dksL_law_80 4 rfl rfl)
theorem dL_law_2037 : decode cL_law 2037 = .ok (.laload, 1) := dk_47 (dk_at dksL_law_80 5 rfl rfl)
theorem dL_law_2038 : decode cL_law 2038 = .ok (.iload 6, 2) := dk_21 6 (dk_at dksL_law_80 6 rfl rfl)
theorem dL_law_2040 : decode cL_law 2040 = .ok (.i2l, 1) := dk_133 (dk_at dksL_law_80 8 rfl rfl)
theorem dL_law_2041 : decode cL_law 2041 = .ok (.lcmp, 1) := dk_148 (dk_at dksL_law_80 9 rfl rfl)
theorem dL_law_2042 : decode cL_law 2042 = .ok (.ifCond .eq 5, 3) := dk_153 0 5 (dk_at dksL_law_80 10 rfl rfl)
theorem dL_law_2045 : decode cL_law 2045 = .ok (.iconst 0, 1) := dk_3 (dk_at dksL_law_80 13 rfl rfl)
theorem dL_law_2046 : decode cL_law 2046 = .ok (.ireturn, 1) := dk_172 (dk_at dksL_law_80 14 rfl rfl)
theorem dL_law_2047 : decode cL_law 2047 = .ok (.goto 506, 3) := dk_167 1 250 (dk_at dksL_law_80 15 rfl rfl)
theorem dL_law_2050 : decode cL_law 2050 = .ok (.aload_n 1, 1) := dk_43 (dk_at dksL_law_80 18 rfl rfl)
theorem dL_law_2051 : decode cL_law 2051 = .ok (.aload_n 0, 1) := dk_42 (dk_at dksL_law_80 19 rfl rfl)
theorem dL_law_2052 : decode cL_law 2052 = .ok (.iload 4, 2) := dk_21 4 (dk_at dksL_law_80 20 rfl rfl)
theorem dL_law_2054 : decode cL_law 2054 = .ok (.iconst 1, 1) := dk_4 (dk_at dksL_law_80 22 rfl rfl)
theorem dL_law_2055 : decode cL_law 2055 = .ok (.iadd, 1) := dk_96 (dk_at dksL_law_80 23 rfl rfl)
theorem dL_law_2056 : decode cL_law 2056 = .ok (.iaload, 1) := dk_46 (dk_at dksL_law_81 0 rfl rfl)
theorem dL_law_2057 : decode cL_law 2057 = .ok (.aload_n 3, 1) := dk_45 (dk_at dksL_law_81 1 rfl rfl)
theorem dL_law_2058 : decode cL_law 2058 = .ok (.invokestatic 239, 3) := dk_184 0 239 (dk_at dksL_law_81 2 rfl rfl)
theorem dL_law_2061 : decode cL_law 2061 = .ok (.istore 5, 2) := dk_54 5 (dk_at dksL_law_81 5 rfl rfl)
theorem dL_law_2063 : decode cL_law 2063 = .ok (.aload_n 2, 1) := dk_44 (dk_at dksL_law_81 7 rfl rfl)
theorem dL_law_2064 : decode cL_law 2064 = .ok (.aload_n 0, 1) := dk_42 (dk_at dksL_law_81 8 rfl rfl)
theorem dL_law_2065 : decode cL_law 2065 = .ok (.iload 4, 2) := dk_21 4 (dk_at dksL_law_81 9 rfl rfl)
theorem dL_law_2067 : decode cL_law 2067 = .ok (.iconst 1, 1) := dk_4 (dk_at dksL_law_81 11 rfl rfl)
theorem dL_law_2068 : decode cL_law 2068 = .ok (.iadd, 1) := dk_96 (dk_at dksL_law_81 12 rfl rfl)
theorem dL_law_2069 : decode cL_law 2069 = .ok (.iaload, 1) := dk_46 (dk_at dksL_law_81 13 rfl rfl)
theorem dL_law_2070 : decode cL_law 2070 = .ok (.invokevirtual 241, 3) := dk_182 0 241 (dk_at dksL_law_81 14 rfl rfl)
theorem dL_law_2073 : decode cL_law 2073 = .ok (.istore 6, 2) := dk_54 6 (dk_at dksL_law_81 17 rfl rfl)
theorem dL_law_2075 : decode cL_law 2075 = .ok (.aload_n 2, 1) := dk_44 (dk_at dksL_law_81 19 rfl rfl)
theorem dL_law_2076 : decode cL_law 2076 = .ok (.invokevirtual 145, 3) := dk_182 0 145 (dk_at dksL_law_81 20 rfl rfl)
theorem dL_law_2079 : decode cL_law 2079 = .ok (.iload 5, 2) := dk_21 5 (dk_at dksL_law_82 0 rfl rfl)
theorem dL_law_2081 : decode cL_law 2081 = .ok (.if_icmp .eq 5, 3) := dk_159 0 5 (dk_at dksL_law_82 2 rfl rfl)
theorem dL_law_2084 : decode cL_law 2084 = .ok (.iconst 0, 1) := dk_3 (dk_at dksL_law_82 5 rfl rfl)
theorem dL_law_2085 : decode cL_law 2085 = .ok (.ireturn, 1) := dk_172 (dk_at dksL_law_82 6 rfl rfl)
theorem dL_law_2086 : decode cL_law 2086 = .ok (.iload 5, 2) := dk_21 5 (dk_at dksL_law_82 7 rfl rfl)
theorem dL_law_2088 : decode cL_law 2088 = .ok (.ifCond .ne 15, 3) := dk_154 0 15 (dk_at dksL_law_82 9 rfl rfl)
theorem dL_law_2091 : decode cL_law 2091 = .ok (.aload_n 3, 1) := dk_45 (dk_at dksL_law_82 12 rfl rfl)
theorem dL_law_2092 : decode cL_law 2092 = .ok (.iconst 0, 1) := dk_3 (dk_at dksL_law_82 13 rfl rfl)
theorem dL_law_2093 : decode cL_law 2093 = .ok (.laload, 1) := dk_47 (dk_at dksL_law_82 14 rfl rfl)
theorem dL_law_2094 : decode cL_law 2094 = .ok (.iload 6, 2) := dk_21 6 (dk_at dksL_law_82 15 rfl rfl)
theorem dL_law_2096 : decode cL_law 2096 = .ok (.i2l, 1) := dk_133 (dk_at dksL_law_82 17 rfl rfl)
theorem dL_law_2097 : decode cL_law 2097 = .ok (.lcmp, 1) := dk_148 (dk_at dksL_law_82 18 rfl rfl)
theorem dL_law_2098 : decode cL_law 2098 = .ok (.ifCond .eq 5, 3) := dk_153 0 5 (dk_at dksL_law_82 19 rfl rfl)
theorem dL_law_2101 : decode cL_law 2101 = .ok (.iconst 0, 1) := dk_3 (dk_at dksL_law_82 22 rfl rfl)
theorem dL_law_2102 : decode cL_law 2102 = .ok (.ireturn, 1) := dk_172 (dk_at dksL_law_82 23 rfl rfl)
theorem dL_law_2103 : decode cL_law 2103 = .ok (.goto 450, 3) := dk_167 1 194 (dk_at dksL_law_83 0 rfl rfl)
theorem dL_law_2106 : decode cL_law 2106 = .ok (.aload_n 1, 1) := dk_43 (dk_at dksL_law_83 3 rfl rfl)
theorem dL_law_2107 : decode cL_law 2107 = .ok (.aload_n 0, 1) := dk_42 (dk_at dksL_law_83 4 rfl rfl)
theorem dL_law_2108 : decode cL_law 2108 = .ok (.iload 4, 2) := dk_21 4 (dk_at dksL_law_83 5 rfl rfl)
theorem dL_law_2110 : decode cL_law 2110 = .ok (.iconst 1, 1) := dk_4 (dk_at dksL_law_83 7 rfl rfl)
theorem dL_law_2111 : decode cL_law 2111 = .ok (.iadd, 1) := dk_96 (dk_at dksL_law_83 8 rfl rfl)
theorem dL_law_2112 : decode cL_law 2112 = .ok (.iaload, 1) := dk_46 (dk_at dksL_law_83 9 rfl rfl)
theorem dL_law_2113 : decode cL_law 2113 = .ok (.aload_n 3, 1) := dk_45 (dk_at dksL_law_83 10 rfl rfl)
theorem dL_law_2114 : decode cL_law 2114 = .ok (.invokestatic 242, 3) := dk_184 0 242 (dk_at dksL_law_83 11 rfl rfl)
theorem dL_law_2117 : decode cL_law 2117 = .ok (.istore 5, 2) := dk_54 5 (dk_at dksL_law_83 14 rfl rfl)
theorem dL_law_2119 : decode cL_law 2119 = .ok (.aload_n 2, 1) := dk_44 (dk_at dksL_law_83 16 rfl rfl)
theorem dL_law_2120 : decode cL_law 2120 = .ok (.aload_n 0, 1) := dk_42 (dk_at dksL_law_83 17 rfl rfl)
theorem dL_law_2121 : decode cL_law 2121 = .ok (.iload 4, 2) := dk_21 4 (dk_at dksL_law_83 18 rfl rfl)
theorem dL_law_2123 : decode cL_law 2123 = .ok (.iconst 1, 1) := dk_4 (dk_at dksL_law_83 20 rfl rfl)
theorem dL_law_2124 : decode cL_law 2124 = .ok (.iadd, 1) := dk_96 (dk_at dksL_law_83 21 rfl rfl)
theorem dL_law_2125 : decode cL_law 2125 = .ok (.iaload, 1) := dk_46 (dk_at dksL_law_83 22 rfl rfl)
theorem dL_law_2126 : decode cL_law 2126 = .ok (.invokevirtual 244, 3) := dk_182 0 244 (dk_at dksL_law_84 0 rfl rfl)
theorem dL_law_2129 : decode cL_law 2129 = .ok (.istore 6, 2) := dk_54 6 (dk_at dksL_law_84 3 rfl rfl)
theorem dL_law_2131 : decode cL_law 2131 = .ok (.aload_n 2, 1) := dk_44 (dk_at dksL_law_84 5 rfl rfl)
theorem dL_law_2132 : decode cL_law 2132 = .ok (.invokevirtual 145, 3) := dk_182 0 145 (dk_at dksL_law_84 6 rfl rfl)
theorem dL_law_2135 : decode cL_law 2135 = .ok (.iload 5, 2) := dk_21 5 (dk_at dksL_law_84 9 rfl rfl)
theorem dL_law_2137 : decode cL_law 2137 = .ok (.if_icmp .eq 5, 3) := dk_159 0 5 (dk_at dksL_law_84 11 rfl rfl)
theorem dL_law_2140 : decode cL_law 2140 = .ok (.iconst 0, 1) := dk_3 (dk_at dksL_law_84 14 rfl rfl)
theorem dL_law_2141 : decode cL_law 2141 = .ok (.ireturn, 1) := dk_172 (dk_at dksL_law_84 15 rfl rfl)
theorem dL_law_2142 : decode cL_law 2142 = .ok (.iload 5, 2) := dk_21 5 (dk_at dksL_law_84 16 rfl rfl)
theorem dL_law_2144 : decode cL_law 2144 = .ok (.ifCond .ne 15, 3) := dk_154 0 15 (dk_at dksL_law_84 18 rfl rfl)
theorem dL_law_2147 : decode cL_law 2147 = .ok (.aload_n 3, 1) := dk_45 (dk_at dksL_law_84 21 rfl rfl)
theorem dL_law_2148 : decode cL_law 2148 = .ok (.iconst 0, 1) := dk_3 (dk_at dksL_law_84 22 rfl rfl)
theorem dL_law_2149 : decode cL_law 2149 = .ok (.laload, 1) := dk_47 (dk_at dksL_law_84 23 rfl rfl)
theorem dL_law_2150 : decode cL_law 2150 = .ok (.iload 6, 2) := dk_21 6 (dk_at dksL_law_85 0 rfl rfl)
theorem dL_law_2152 : decode cL_law 2152 = .ok (.i2l, 1) := dk_133 (dk_at dksL_law_85 2 rfl rfl)
theorem dL_law_2153 : decode cL_law 2153 = .ok (.lcmp, 1) := dk_148 (dk_at dksL_law_85 3 rfl rfl)
theorem dL_law_2154 : decode cL_law 2154 = .ok (.ifCond .eq 5, 3) := dk_153 0 5 (dk_at dksL_law_85 4 rfl rfl)
theorem dL_law_2157 : decode cL_law 2157 = .ok (.iconst 0, 1) := dk_3 (dk_at dksL_law_85 7 rfl rfl)
theorem dL_law_2158 : decode cL_law 2158 = .ok (.ireturn, 1) := dk_172 (dk_at dksL_law_85 8 rfl rfl)
theorem dL_law_2159 : decode cL_law 2159 = .ok (.goto 394, 3) := dk_167 1 138 (dk_at dksL_law_85 9 rfl rfl)
theorem dL_law_2162 : decode cL_law 2162 = .ok (.aload_n 1, 1) := dk_43 (dk_at dksL_law_85 12 rfl rfl)
theorem dL_law_2163 : decode cL_law 2163 = .ok (.aload_n 0, 1) := dk_42 (dk_at dksL_law_85 13 rfl rfl)
theorem dL_law_2164 : decode cL_law 2164 = .ok (.iload 4, 2) := dk_21 4 (dk_at dksL_law_85 14 rfl rfl)
theorem dL_law_2166 : decode cL_law 2166 = .ok (.iconst 1, 1) := dk_4 (dk_at dksL_law_85 16 rfl rfl)
theorem dL_law_2167 : decode cL_law 2167 = .ok (.iadd, 1) := dk_96 (dk_at dksL_law_85 17 rfl rfl)
theorem dL_law_2168 : decode cL_law 2168 = .ok (.iaload, 1) := dk_46 (dk_at dksL_law_85 18 rfl rfl)
theorem dL_law_2169 : decode cL_law 2169 = .ok (.aload_n 0, 1) := dk_42 (dk_at dksL_law_85 19 rfl rfl)
theorem dL_law_2170 : decode cL_law 2170 = .ok (.iload 4, 2) := dk_21 4 (dk_at dksL_law_85 20 rfl rfl)
theorem dL_law_2172 : decode cL_law 2172 = .ok (.iconst 2, 1) := dk_5 (dk_at dksL_law_85 22 rfl rfl)
theorem dL_law_2173 : decode cL_law 2173 = .ok (.iadd, 1) := dk_96 (dk_at dksL_law_85 23 rfl rfl)
theorem dL_law_2174 : decode cL_law 2174 = .ok (.iaload, 1) := dk_46 (dk_at dksL_law_86 0 rfl rfl)
theorem dL_law_2175 : decode cL_law 2175 = .ok (.aload_n 0, 1) := dk_42 (dk_at dksL_law_86 1 rfl rfl)
theorem dL_law_2176 : decode cL_law 2176 = .ok (.iload 4, 2) := dk_21 4 (dk_at dksL_law_86 2 rfl rfl)
theorem dL_law_2178 : decode cL_law 2178 = .ok (.iconst 3, 1) := dk_6 (dk_at dksL_law_86 4 rfl rfl)
theorem dL_law_2179 : decode cL_law 2179 = .ok (.iadd, 1) := dk_96 (dk_at dksL_law_86 5 rfl rfl)
theorem dL_law_2180 : decode cL_law 2180 = .ok (.iaload, 1) := dk_46 (dk_at dksL_law_86 6 rfl rfl)
theorem dL_law_2181 : decode cL_law 2181 = .ok (.aload_n 0, 1) := dk_42 (dk_at dksL_law_86 7 rfl rfl)
theorem dL_law_2182 : decode cL_law 2182 = .ok (.iload 4, 2) := dk_21 4 (dk_at dksL_law_86 8 rfl rfl)
theorem dL_law_2184 : decode cL_law 2184 = .ok (.iconst 4, 1) := dk_7 (dk_at dksL_law_86 10 rfl rfl)
theorem dL_law_2185 : decode cL_law 2185 = .ok (.iadd, 1) := dk_96 (dk_at dksL_law_86 11 rfl rfl)
theorem dL_law_2186 : decode cL_law 2186 = .ok (.iaload, 1) := dk_46 (dk_at dksL_law_86 12 rfl rfl)
theorem dL_law_2187 : decode cL_law 2187 = .ok (.aload_n 3, 1) := dk_45 (dk_at dksL_law_86 13 rfl rfl)
theorem dL_law_2188 : decode cL_law 2188 = .ok (.invokestatic 245, 3) := dk_184 0 245 (dk_at dksL_law_86 14 rfl rfl)
theorem dL_law_2191 : decode cL_law 2191 = .ok (.istore 5, 2) := dk_54 5 (dk_at dksL_law_86 17 rfl rfl)
theorem dL_law_2193 : decode cL_law 2193 = .ok (.aload_n 2, 1) := dk_44 (dk_at dksL_law_86 19 rfl rfl)
theorem dL_law_2194 : decode cL_law 2194 = .ok (.aload_n 0, 1) := dk_42 (dk_at dksL_law_86 20 rfl rfl)
theorem dL_law_2195 : decode cL_law 2195 = .ok (.iload 4, 2) := dk_21 4 (dk_at dksL_law_86 21 rfl rfl)
theorem dL_law_2197 : decode cL_law 2197 = .ok (.iconst 1, 1) := dk_4 (dk_at dksL_law_86 23 rfl rfl)
theorem dL_law_2198 : decode cL_law 2198 = .ok (.iadd, 1) := dk_96 (dk_at dksL_law_87 0 rfl rfl)
theorem dL_law_2199 : decode cL_law 2199 = .ok (.iaload, 1) := dk_46 (dk_at dksL_law_87 1 rfl rfl)
theorem dL_law_2200 : decode cL_law 2200 = .ok (.aload_n 0, 1) := dk_42 (dk_at dksL_law_87 2 rfl rfl)
theorem dL_law_2201 : decode cL_law 2201 = .ok (.iload 4, 2) := dk_21 4 (dk_at dksL_law_87 3 rfl rfl)
theorem dL_law_2203 : decode cL_law 2203 = .ok (.iconst 2, 1) := dk_5 (dk_at dksL_law_87 5 rfl rfl)
theorem dL_law_2204 : decode cL_law 2204 = .ok (.iadd, 1) := dk_96 (dk_at dksL_law_87 6 rfl rfl)
theorem dL_law_2205 : decode cL_law 2205 = .ok (.iaload, 1) := dk_46 (dk_at dksL_law_87 7 rfl rfl)
theorem dL_law_2206 : decode cL_law 2206 = .ok (.aload_n 0, 1) := dk_42 (dk_at dksL_law_87 8 rfl rfl)
theorem dL_law_2207 : decode cL_law 2207 = .ok (.iload 4, 2) := dk_21 4 (dk_at dksL_law_87 9 rfl rfl)
theorem dL_law_2209 : decode cL_law 2209 = .ok (.iconst 3, 1) := dk_6 (dk_at dksL_law_87 11 rfl rfl)
theorem dL_law_2210 : decode cL_law 2210 = .ok (.iadd, 1) := dk_96 (dk_at dksL_law_87 12 rfl rfl)
theorem dL_law_2211 : decode cL_law 2211 = .ok (.iaload, 1) := dk_46 (dk_at dksL_law_87 13 rfl rfl)
theorem dL_law_2212 : decode cL_law 2212 = .ok (.aload_n 0, 1) := dk_42 (dk_at dksL_law_87 14 rfl rfl)
theorem dL_law_2213 : decode cL_law 2213 = .ok (.iload 4, 2) := dk_21 4 (dk_at dksL_law_87 15 rfl rfl)
theorem dL_law_2215 : decode cL_law 2215 = .ok (.iconst 4, 1) := dk_7 (dk_at dksL_law_87 17 rfl rfl)
theorem dL_law_2216 : decode cL_law 2216 = .ok (.iadd, 1) := dk_96 (dk_at dksL_law_87 18 rfl rfl)
theorem dL_law_2217 : decode cL_law 2217 = .ok (.iaload, 1) := dk_46 (dk_at dksL_law_87 19 rfl rfl)
theorem dL_law_2218 : decode cL_law 2218 = .ok (.invokevirtual 248, 3) := dk_182 0 248 (dk_at dksL_law_87 20 rfl rfl)
theorem dL_law_2221 : decode cL_law 2221 = .ok (.istore 6, 2) := dk_54 6 (dk_at dksL_law_88 0 rfl rfl)
theorem dL_law_2223 : decode cL_law 2223 = .ok (.aload_n 2, 1) := dk_44 (dk_at dksL_law_88 2 rfl rfl)
theorem dL_law_2224 : decode cL_law 2224 = .ok (.invokevirtual 145, 3) := dk_182 0 145 (dk_at dksL_law_88 3 rfl rfl)
theorem dL_law_2227 : decode cL_law 2227 = .ok (.iload 5, 2) := dk_21 5 (dk_at dksL_law_88 6 rfl rfl)
theorem dL_law_2229 : decode cL_law 2229 = .ok (.if_icmp .eq 5, 3) := dk_159 0 5 (dk_at dksL_law_88 8 rfl rfl)
theorem dL_law_2232 : decode cL_law 2232 = .ok (.iconst 0, 1) := dk_3 (dk_at dksL_law_88 11 rfl rfl)
theorem dL_law_2233 : decode cL_law 2233 = .ok (.ireturn, 1) := dk_172 (dk_at dksL_law_88 12 rfl rfl)
theorem dL_law_2234 : decode cL_law 2234 = .ok (.iload 5, 2) := dk_21 5 (dk_at dksL_law_88 13 rfl rfl)
theorem dL_law_2236 : decode cL_law 2236 = .ok (.ifCond .ne 15, 3) := dk_154 0 15 (dk_at dksL_law_88 15 rfl rfl)
theorem dL_law_2239 : decode cL_law 2239 = .ok (.aload_n 3, 1) := dk_45 (dk_at dksL_law_88 18 rfl rfl)
theorem dL_law_2240 : decode cL_law 2240 = .ok (.iconst 0, 1) := dk_3 (dk_at dksL_law_88 19 rfl rfl)
theorem dL_law_2241 : decode cL_law 2241 = .ok (.laload, 1) := dk_47 (dk_at dksL_law_88 20 rfl rfl)
theorem dL_law_2242 : decode cL_law 2242 = .ok (.iload 6, 2) := dk_21 6 (dk_at dksL_law_88 21 rfl rfl)
theorem dL_law_2244 : decode cL_law 2244 = .ok (.i2l, 1) := dk_133 (dk_at dksL_law_88 23 rfl rfl)
theorem dL_law_2245 : decode cL_law 2245 = .ok (.lcmp, 1) := dk_148 (dk_at dksL_law_89 0 rfl rfl)
theorem dL_law_2246 : decode cL_law 2246 = .ok (.ifCond .eq 5, 3) := dk_153 0 5 (dk_at dksL_law_89 1 rfl rfl)
theorem dL_law_2249 : decode cL_law 2249 = .ok (.iconst 0, 1) := dk_3 (dk_at dksL_law_89 4 rfl rfl)
theorem dL_law_2250 : decode cL_law 2250 = .ok (.ireturn, 1) := dk_172 (dk_at dksL_law_89 5 rfl rfl)
theorem dL_law_2251 : decode cL_law 2251 = .ok (.goto 302, 3) := dk_167 1 46 (dk_at dksL_law_89 6 rfl rfl)
theorem dL_law_2254 : decode cL_law 2254 = .ok (.aload_n 1, 1) := dk_43 (dk_at dksL_law_89 9 rfl rfl)
theorem dL_law_2255 : decode cL_law 2255 = .ok (.aload_n 0, 1) := dk_42 (dk_at dksL_law_89 10 rfl rfl)
theorem dL_law_2256 : decode cL_law 2256 = .ok (.iload 4, 2) := dk_21 4 (dk_at dksL_law_89 11 rfl rfl)
theorem dL_law_2258 : decode cL_law 2258 = .ok (.iconst 1, 1) := dk_4 (dk_at dksL_law_89 13 rfl rfl)
theorem dL_law_2259 : decode cL_law 2259 = .ok (.iadd, 1) := dk_96 (dk_at dksL_law_89 14 rfl rfl)
theorem dL_law_2260 : decode cL_law 2260 = .ok (.iaload, 1) := dk_46 (dk_at dksL_law_89 15 rfl rfl)
theorem dL_law_2261 : decode cL_law 2261 = .ok (.aload_n 0, 1) := dk_42 (dk_at dksL_law_89 16 rfl rfl)
theorem dL_law_2262 : decode cL_law 2262 = .ok (.iload 4, 2) := dk_21 4 (dk_at dksL_law_89 17 rfl rfl)
theorem dL_law_2264 : decode cL_law 2264 = .ok (.iconst 2, 1) := dk_5 (dk_at dksL_law_89 19 rfl rfl)
theorem dL_law_2265 : decode cL_law 2265 = .ok (.iadd, 1) := dk_96 (dk_at dksL_law_89 20 rfl rfl)
theorem dL_law_2266 : decode cL_law 2266 = .ok (.iaload, 1) := dk_46 (dk_at dksL_law_89 21 rfl rfl)
theorem dL_law_2267 : decode cL_law 2267 = .ok (.aload_n 0, 1) := dk_42 (dk_at dksL_law_89 22 rfl rfl)
theorem dL_law_2268 : decode cL_law 2268 = .ok (.iload 4, 2) := dk_21 4 (dk_at dksL_law_90 0 rfl rfl)
theorem dL_law_2270 : decode cL_law 2270 = .ok (.iconst 3, 1) := dk_6 (dk_at dksL_law_90 2 rfl rfl)
theorem dL_law_2271 : decode cL_law 2271 = .ok (.iadd, 1) := dk_96 (dk_at dksL_law_90 3 rfl rfl)
theorem dL_law_2272 : decode cL_law 2272 = .ok (.iaload, 1) := dk_46 (dk_at dksL_law_90 4 rfl rfl)
theorem dL_law_2273 : decode cL_law 2273 = .ok (.aload_n 3, 1) := dk_45 (dk_at dksL_law_90 5 rfl rfl)
theorem dL_law_2274 : decode cL_law 2274 = .ok (.invokestatic 249, 3) := dk_184 0 249 (dk_at dksL_law_90 6 rfl rfl)
theorem dL_law_2277 : decode cL_law 2277 = .ok (.istore 5, 2) := dk_54 5 (dk_at dksL_law_90 9 rfl rfl)
theorem dL_law_2279 : decode cL_law 2279 = .ok (.aload_n 2, 1) := dk_44 (dk_at dksL_law_90 11 rfl rfl)
theorem dL_law_2280 : decode cL_law 2280 = .ok (.aload_n 0, 1) := dk_42 (dk_at dksL_law_90 12 rfl rfl)
theorem dL_law_2281 : decode cL_law 2281 = .ok (.iload 4, 2) := dk_21 4 (dk_at dksL_law_90 13 rfl rfl)
theorem dL_law_2283 : decode cL_law 2283 = .ok (.iconst 1, 1) := dk_4 (dk_at dksL_law_90 15 rfl rfl)
theorem dL_law_2284 : decode cL_law 2284 = .ok (.iadd, 1) := dk_96 (dk_at dksL_law_90 16 rfl rfl)
theorem dL_law_2285 : decode cL_law 2285 = .ok (.iaload, 1) := dk_46 (dk_at dksL_law_90 17 rfl rfl)
theorem dL_law_2286 : decode cL_law 2286 = .ok (.aload_n 0, 1) := dk_42 (dk_at dksL_law_90 18 rfl rfl)
theorem dL_law_2287 : decode cL_law 2287 = .ok (.iload 4, 2) := dk_21 4 (dk_at dksL_law_90 19 rfl rfl)
theorem dL_law_2289 : decode cL_law 2289 = .ok (.iconst 2, 1) := dk_5 (dk_at dksL_law_90 21 rfl rfl)
theorem dL_law_2290 : decode cL_law 2290 = .ok (.iadd, 1) := dk_96 (dk_at dksL_law_90 22 rfl rfl)
theorem dL_law_2291 : decode cL_law 2291 = .ok (.iaload, 1) := dk_46 (dk_at dksL_law_90 23 rfl rfl)
theorem dL_law_2292 : decode cL_law 2292 = .ok (.aload_n 0, 1) := dk_42 (dk_at dksL_law_91 0 rfl rfl)
theorem dL_law_2293 : decode cL_law 2293 = .ok (.iload 4, 2) := dk_21 4 (dk_at dksL_law_91 1 rfl rfl)
theorem dL_law_2295 : decode cL_law 2295 = .ok (.iconst 3, 1) := dk_6 (dk_at dksL_law_91 3 rfl rfl)
theorem dL_law_2296 : decode cL_law 2296 = .ok (.iadd, 1) := dk_96 (dk_at dksL_law_91 4 rfl rfl)
theorem dL_law_2297 : decode cL_law 2297 = .ok (.iaload, 1) := dk_46 (dk_at dksL_law_91 5 rfl rfl)
theorem dL_law_2298 : decode cL_law 2298 = .ok (.invokevirtual 251, 3) := dk_182 0 251 (dk_at dksL_law_91 6 rfl rfl)
theorem dL_law_2301 : decode cL_law 2301 = .ok (.istore 6, 2) := dk_54 6 (dk_at dksL_law_91 9 rfl rfl)
theorem dL_law_2303 : decode cL_law 2303 = .ok (.aload_n 2, 1) := dk_44 (dk_at dksL_law_91 11 rfl rfl)
theorem dL_law_2304 : decode cL_law 2304 = .ok (.invokevirtual 145, 3) := dk_182 0 145 (dk_at dksL_law_91 12 rfl rfl)
theorem dL_law_2307 : decode cL_law 2307 = .ok (.iload 5, 2) := dk_21 5 (dk_at dksL_law_91 15 rfl rfl)
theorem dL_law_2309 : decode cL_law 2309 = .ok (.if_icmp .eq 5, 3) := dk_159 0 5 (dk_at dksL_law_91 17 rfl rfl)
theorem dL_law_2312 : decode cL_law 2312 = .ok (.iconst 0, 1) := dk_3 (dk_at dksL_law_91 20 rfl rfl)
theorem dL_law_2313 : decode cL_law 2313 = .ok (.ireturn, 1) := dk_172 (dk_at dksL_law_91 21 rfl rfl)
theorem dL_law_2314 : decode cL_law 2314 = .ok (.iload 5, 2) := dk_21 5 (dk_at dksL_law_91 22 rfl rfl)
theorem dL_law_2316 : decode cL_law 2316 = .ok (.ifCond .ne 15, 3) := dk_154 0 15 (dk_at dksL_law_92 0 rfl rfl)
theorem dL_law_2319 : decode cL_law 2319 = .ok (.aload_n 3, 1) := dk_45 (dk_at dksL_law_92 3 rfl rfl)
theorem dL_law_2320 : decode cL_law 2320 = .ok (.iconst 0, 1) := dk_3 (dk_at dksL_law_92 4 rfl rfl)
theorem dL_law_2321 : decode cL_law 2321 = .ok (.laload, 1) := dk_47 (dk_at dksL_law_92 5 rfl rfl)
theorem dL_law_2322 : decode cL_law 2322 = .ok (.iload 6, 2) := dk_21 6 (dk_at dksL_law_92 6 rfl rfl)
theorem dL_law_2324 : decode cL_law 2324 = .ok (.i2l, 1) := dk_133 (dk_at dksL_law_92 8 rfl rfl)
theorem dL_law_2325 : decode cL_law 2325 = .ok (.lcmp, 1) := dk_148 (dk_at dksL_law_92 9 rfl rfl)
theorem dL_law_2326 : decode cL_law 2326 = .ok (.ifCond .eq 5, 3) := dk_153 0 5 (dk_at dksL_law_92 10 rfl rfl)
theorem dL_law_2329 : decode cL_law 2329 = .ok (.iconst 0, 1) := dk_3 (dk_at dksL_law_92 13 rfl rfl)
theorem dL_law_2330 : decode cL_law 2330 = .ok (.ireturn, 1) := dk_172 (dk_at dksL_law_92 14 rfl rfl)
theorem dL_law_2331 : decode cL_law 2331 = .ok (.goto 222, 3) := dk_167 0 222 (dk_at dksL_law_92 15 rfl rfl)
theorem dL_law_2334 : decode cL_law 2334 = .ok (.aload_n 1, 1) := dk_43 (dk_at dksL_law_92 18 rfl rfl)
theorem dL_law_2335 : decode cL_law 2335 = .ok (.aload_n 0, 1) := dk_42 (dk_at dksL_law_92 19 rfl rfl)
theorem dL_law_2336 : decode cL_law 2336 = .ok (.iload 4, 2) := dk_21 4 (dk_at dksL_law_92 20 rfl rfl)
theorem dL_law_2338 : decode cL_law 2338 = .ok (.iconst 1, 1) := dk_4 (dk_at dksL_law_92 22 rfl rfl)
theorem dL_law_2339 : decode cL_law 2339 = .ok (.iadd, 1) := dk_96 (dk_at dksL_law_92 23 rfl rfl)
theorem dL_law_2340 : decode cL_law 2340 = .ok (.iaload, 1) := dk_46 (dk_at dksL_law_93 0 rfl rfl)
theorem dL_law_2341 : decode cL_law 2341 = .ok (.aload_n 3, 1) := dk_45 (dk_at dksL_law_93 1 rfl rfl)
theorem dL_law_2342 : decode cL_law 2342 = .ok (.invokestatic 252, 3) := dk_184 0 252 (dk_at dksL_law_93 2 rfl rfl)
theorem dL_law_2345 : decode cL_law 2345 = .ok (.istore 5, 2) := dk_54 5 (dk_at dksL_law_93 5 rfl rfl)
theorem dL_law_2347 : decode cL_law 2347 = .ok (.aload_n 2, 1) := dk_44 (dk_at dksL_law_93 7 rfl rfl)
theorem dL_law_2348 : decode cL_law 2348 = .ok (.aload_n 0, 1) := dk_42 (dk_at dksL_law_93 8 rfl rfl)
theorem dL_law_2349 : decode cL_law 2349 = .ok (.iload 4, 2) := dk_21 4 (dk_at dksL_law_93 9 rfl rfl)
theorem dL_law_2351 : decode cL_law 2351 = .ok (.iconst 1, 1) := dk_4 (dk_at dksL_law_93 11 rfl rfl)
theorem dL_law_2352 : decode cL_law 2352 = .ok (.iadd, 1) := dk_96 (dk_at dksL_law_93 12 rfl rfl)
theorem dL_law_2353 : decode cL_law 2353 = .ok (.iaload, 1) := dk_46 (dk_at dksL_law_93 13 rfl rfl)
theorem dL_law_2354 : decode cL_law 2354 = .ok (.invokevirtual 254, 3) := dk_182 0 254 (dk_at dksL_law_93 14 rfl rfl)
theorem dL_law_2357 : decode cL_law 2357 = .ok (.istore 6, 2) := dk_54 6 (dk_at dksL_law_93 17 rfl rfl)
theorem dL_law_2359 : decode cL_law 2359 = .ok (.aload_n 2, 1) := dk_44 (dk_at dksL_law_93 19 rfl rfl)
theorem dL_law_2360 : decode cL_law 2360 = .ok (.invokevirtual 145, 3) := dk_182 0 145 (dk_at dksL_law_93 20 rfl rfl)
theorem dL_law_2363 : decode cL_law 2363 = .ok (.iload 5, 2) := dk_21 5 (dk_at dksL_law_94 0 rfl rfl)
theorem dL_law_2365 : decode cL_law 2365 = .ok (.if_icmp .eq 5, 3) := dk_159 0 5 (dk_at dksL_law_94 2 rfl rfl)
theorem dL_law_2368 : decode cL_law 2368 = .ok (.iconst 0, 1) := dk_3 (dk_at dksL_law_94 5 rfl rfl)
theorem dL_law_2369 : decode cL_law 2369 = .ok (.ireturn, 1) := dk_172 (dk_at dksL_law_94 6 rfl rfl)
theorem dL_law_2370 : decode cL_law 2370 = .ok (.iload 5, 2) := dk_21 5 (dk_at dksL_law_94 7 rfl rfl)
theorem dL_law_2372 : decode cL_law 2372 = .ok (.ifCond .ne 15, 3) := dk_154 0 15 (dk_at dksL_law_94 9 rfl rfl)
theorem dL_law_2375 : decode cL_law 2375 = .ok (.aload_n 3, 1) := dk_45 (dk_at dksL_law_94 12 rfl rfl)
theorem dL_law_2376 : decode cL_law 2376 = .ok (.iconst 0, 1) := dk_3 (dk_at dksL_law_94 13 rfl rfl)
theorem dL_law_2377 : decode cL_law 2377 = .ok (.laload, 1) := dk_47 (dk_at dksL_law_94 14 rfl rfl)
theorem dL_law_2378 : decode cL_law 2378 = .ok (.iload 6, 2) := dk_21 6 (dk_at dksL_law_94 15 rfl rfl)
theorem dL_law_2380 : decode cL_law 2380 = .ok (.i2l, 1) := dk_133 (dk_at dksL_law_94 17 rfl rfl)
theorem dL_law_2381 : decode cL_law 2381 = .ok (.lcmp, 1) := dk_148 (dk_at dksL_law_94 18 rfl rfl)
theorem dL_law_2382 : decode cL_law 2382 = .ok (.ifCond .eq 5, 3) := dk_153 0 5 (dk_at dksL_law_94 19 rfl rfl)
theorem dL_law_2385 : decode cL_law 2385 = .ok (.iconst 0, 1) := dk_3 (dk_at dksL_law_94 22 rfl rfl)
theorem dL_law_2386 : decode cL_law 2386 = .ok (.ireturn, 1) := dk_172 (dk_at dksL_law_94 23 rfl rfl)
theorem dL_law_2387 : decode cL_law 2387 = .ok (.goto 166, 3) := dk_167 0 166 (dk_at dksL_law_95 0 rfl rfl)
theorem dL_law_2390 : decode cL_law 2390 = .ok (.aload_n 1, 1) := dk_43 (dk_at dksL_law_95 3 rfl rfl)
theorem dL_law_2391 : decode cL_law 2391 = .ok (.invokevirtual 255, 3) := dk_182 0 255 (dk_at dksL_law_95 4 rfl rfl)
theorem dL_law_2394 : decode cL_law 2394 = .ok (.aload_n 2, 1) := dk_44 (dk_at dksL_law_95 7 rfl rfl)
theorem dL_law_2395 : decode cL_law 2395 = .ok (.invokevirtual 258, 3) := dk_182 1 2 (dk_at dksL_law_95 8 rfl rfl)
theorem dL_law_2398 : decode cL_law 2398 = .ok (.if_icmp .eq 155, 3) := dk_159 0 155 (dk_at dksL_law_95 11 rfl rfl)
theorem dL_law_2401 : decode cL_law 2401 = .ok (.iconst 0, 1) := dk_3 (dk_at dksL_law_95 14 rfl rfl)
theorem dL_law_2402 : decode cL_law 2402 = .ok (.ireturn, 1) := dk_172 (dk_at dksL_law_95 15 rfl rfl)
theorem dL_law_2403 : decode cL_law 2403 = .ok (.aload_n 1, 1) := dk_43 (dk_at dksL_law_95 16 rfl rfl)
theorem dL_law_2404 : decode cL_law 2404 = .ok (.aload_n 0, 1) := dk_42 (dk_at dksL_law_95 17 rfl rfl)
theorem dL_law_2405 : decode cL_law 2405 = .ok (.iload 4, 2) := dk_21 4 (dk_at dksL_law_95 18 rfl rfl)
theorem dL_law_2407 : decode cL_law 2407 = .ok (.iconst 1, 1) := dk_4 (dk_at dksL_law_95 20 rfl rfl)
theorem dL_law_2408 : decode cL_law 2408 = .ok (.iadd, 1) := dk_96 (dk_at dksL_law_95 21 rfl rfl)
theorem dL_law_2409 : decode cL_law 2409 = .ok (.iaload, 1) := dk_46 (dk_at dksL_law_95 22 rfl rfl)
theorem dL_law_2410 : decode cL_law 2410 = .ok (.invokevirtual 259, 3) := dk_182 1 3 (dk_at dksL_law_96 0 rfl rfl)
theorem dL_law_2413 : decode cL_law 2413 = .ok (.aload_n 2, 1) := dk_44 (dk_at dksL_law_96 3 rfl rfl)
theorem dL_law_2414 : decode cL_law 2414 = .ok (.aload_n 0, 1) := dk_42 (dk_at dksL_law_96 4 rfl rfl)
theorem dL_law_2415 : decode cL_law 2415 = .ok (.iload 4, 2) := dk_21 4 (dk_at dksL_law_96 5 rfl rfl)
theorem dL_law_2417 : decode cL_law 2417 = .ok (.iconst 1, 1) := dk_4 (dk_at dksL_law_96 7 rfl rfl)
theorem dL_law_2418 : decode cL_law 2418 = .ok (.iadd, 1) := dk_96 (dk_at dksL_law_96 8 rfl rfl)
theorem dL_law_2419 : decode cL_law 2419 = .ok (.iaload, 1) := dk_46 (dk_at dksL_law_96 9 rfl rfl)
theorem dL_law_2420 : decode cL_law 2420 = .ok (.invokevirtual 262, 3) := dk_182 1 6 (dk_at dksL_law_96 10 rfl rfl)
theorem dL_law_2423 : decode cL_law 2423 = .ok (.if_icmp .eq 130, 3) := dk_159 0 130 (dk_at dksL_law_96 13 rfl rfl)
theorem dL_law_2426 : decode cL_law 2426 = .ok (.iconst 0, 1) := dk_3 (dk_at dksL_law_96 16 rfl rfl)
theorem dL_law_2427 : decode cL_law 2427 = .ok (.ireturn, 1) := dk_172 (dk_at dksL_law_96 17 rfl rfl)
theorem dL_law_2428 : decode cL_law 2428 = .ok (.aload_n 1, 1) := dk_43 (dk_at dksL_law_96 18 rfl rfl)
theorem dL_law_2429 : decode cL_law 2429 = .ok (.invokevirtual 263, 3) := dk_182 1 7 (dk_at dksL_law_96 19 rfl rfl)
theorem dL_law_2432 : decode cL_law 2432 = .ok (.aload_n 2, 1) := dk_44 (dk_at dksL_law_96 22 rfl rfl)
theorem dL_law_2433 : decode cL_law 2433 = .ok (.invokevirtual 266, 3) := dk_182 1 10 (dk_at dksL_law_97 0 rfl rfl)
theorem dL_law_2436 : decode cL_law 2436 = .ok (.if_icmp .eq 117, 3) := dk_159 0 117 (dk_at dksL_law_97 3 rfl rfl)
theorem dL_law_2439 : decode cL_law 2439 = .ok (.iconst 0, 1) := dk_3 (dk_at dksL_law_97 6 rfl rfl)
theorem dL_law_2440 : decode cL_law 2440 = .ok (.ireturn, 1) := dk_172 (dk_at dksL_law_97 7 rfl rfl)
theorem dL_law_2441 : decode cL_law 2441 = .ok (.aload_n 1, 1) := dk_43 (dk_at dksL_law_97 8 rfl rfl)
theorem dL_law_2442 : decode cL_law 2442 = .ok (.aload_n 0, 1) := dk_42 (dk_at dksL_law_97 9 rfl rfl)
theorem dL_law_2443 : decode cL_law 2443 = .ok (.iload 4, 2) := dk_21 4 (dk_at dksL_law_97 10 rfl rfl)
theorem dL_law_2445 : decode cL_law 2445 = .ok (.iconst 1, 1) := dk_4 (dk_at dksL_law_97 12 rfl rfl)
theorem dL_law_2446 : decode cL_law 2446 = .ok (.iadd, 1) := dk_96 (dk_at dksL_law_97 13 rfl rfl)
theorem dL_law_2447 : decode cL_law 2447 = .ok (.iaload, 1) := dk_46 (dk_at dksL_law_97 14 rfl rfl)
theorem dL_law_2448 : decode cL_law 2448 = .ok (.aload_n 3, 1) := dk_45 (dk_at dksL_law_97 15 rfl rfl)
theorem dL_law_2449 : decode cL_law 2449 = .ok (.invokestatic 267, 3) := dk_184 1 11 (dk_at dksL_law_97 16 rfl rfl)
theorem dL_law_2452 : decode cL_law 2452 = .ok (.istore 5, 2) := dk_54 5 (dk_at dksL_law_97 19 rfl rfl)
theorem dL_law_2454 : decode cL_law 2454 = .ok (.aload_n 2, 1) := dk_44 (dk_at dksL_law_97 21 rfl rfl)
theorem dL_law_2455 : decode cL_law 2455 = .ok (.aload_n 0, 1) := dk_42 (dk_at dksL_law_97 22 rfl rfl)
theorem dL_law_2456 : decode cL_law 2456 = .ok (.iload 4, 2) := dk_21 4 (dk_at dksL_law_98 0 rfl rfl)
theorem dL_law_2458 : decode cL_law 2458 = .ok (.iconst 1, 1) := dk_4 (dk_at dksL_law_98 2 rfl rfl)
theorem dL_law_2459 : decode cL_law 2459 = .ok (.iadd, 1) := dk_96 (dk_at dksL_law_98 3 rfl rfl)
theorem dL_law_2460 : decode cL_law 2460 = .ok (.iaload, 1) := dk_46 (dk_at dksL_law_98 4 rfl rfl)
theorem dL_law_2461 : decode cL_law 2461 = .ok (.invokevirtual 269, 3) := dk_182 1 13 (dk_at dksL_law_98 5 rfl rfl)
theorem dL_law_2464 : decode cL_law 2464 = .ok (.istore 6, 2) := dk_54 6 (dk_at dksL_law_98 8 rfl rfl)
theorem dL_law_2466 : decode cL_law 2466 = .ok (.aload_n 2, 1) := dk_44 (dk_at dksL_law_98 10 rfl rfl)
theorem dL_law_2467 : decode cL_law 2467 = .ok (.invokevirtual 145, 3) := dk_182 0 145 (dk_at dksL_law_98 11 rfl rfl)
theorem dL_law_2470 : decode cL_law 2470 = .ok (.iload 5, 2) := dk_21 5 (dk_at dksL_law_98 14 rfl rfl)
theorem dL_law_2472 : decode cL_law 2472 = .ok (.if_icmp .eq 5, 3) := dk_159 0 5 (dk_at dksL_law_98 16 rfl rfl)
theorem dL_law_2475 : decode cL_law 2475 = .ok (.iconst 0, 1) := dk_3 (dk_at dksL_law_98 19 rfl rfl)
theorem dL_law_2476 : decode cL_law 2476 = .ok (.ireturn, 1) := dk_172 (dk_at dksL_law_98 20 rfl rfl)
theorem dL_law_2477 : decode cL_law 2477 = .ok (.iload 5, 2) := dk_21 5 (dk_at dksL_law_98 21 rfl rfl)
theorem dL_law_2479 : decode cL_law 2479 = .ok (.ifCond .ne 15, 3) := dk_154 0 15 (dk_at dksL_law_99 0 rfl rfl)
theorem dL_law_2482 : decode cL_law 2482 = .ok (.aload_n 3, 1) := dk_45 (dk_at dksL_law_99 3 rfl rfl)
theorem dL_law_2483 : decode cL_law 2483 = .ok (.iconst 0, 1) := dk_3 (dk_at dksL_law_99 4 rfl rfl)
theorem dL_law_2484 : decode cL_law 2484 = .ok (.laload, 1) := dk_47 (dk_at dksL_law_99 5 rfl rfl)
theorem dL_law_2485 : decode cL_law 2485 = .ok (.iload 6, 2) := dk_21 6 (dk_at dksL_law_99 6 rfl rfl)
theorem dL_law_2487 : decode cL_law 2487 = .ok (.i2l, 1) := dk_133 (dk_at dksL_law_99 8 rfl rfl)
theorem dL_law_2488 : decode cL_law 2488 = .ok (.lcmp, 1) := dk_148 (dk_at dksL_law_99 9 rfl rfl)
theorem dL_law_2489 : decode cL_law 2489 = .ok (.ifCond .eq 5, 3) := dk_153 0 5 (dk_at dksL_law_99 10 rfl rfl)
theorem dL_law_2492 : decode cL_law 2492 = .ok (.iconst 0, 1) := dk_3 (dk_at dksL_law_99 13 rfl rfl)
theorem dL_law_2493 : decode cL_law 2493 = .ok (.ireturn, 1) := dk_172 (dk_at dksL_law_99 14 rfl rfl)
theorem dL_law_2494 : decode cL_law 2494 = .ok (.goto 59, 3) := dk_167 0 59 (dk_at dksL_law_99 15 rfl rfl)
theorem dL_law_2497 : decode cL_law 2497 = .ok (.aload_n 1, 1) := dk_43 (dk_at dksL_law_99 18 rfl rfl)
theorem dL_law_2498 : decode cL_law 2498 = .ok (.aload_n 0, 1) := dk_42 (dk_at dksL_law_99 19 rfl rfl)
theorem dL_law_2499 : decode cL_law 2499 = .ok (.iload 4, 2) := dk_21 4 (dk_at dksL_law_99 20 rfl rfl)
theorem dL_law_2501 : decode cL_law 2501 = .ok (.iconst 1, 1) := dk_4 (dk_at dksL_law_99 22 rfl rfl)
theorem dL_law_2502 : decode cL_law 2502 = .ok (.iadd, 1) := dk_96 (dk_at dksL_law_99 23 rfl rfl)
theorem dL_law_2503 : decode cL_law 2503 = .ok (.iaload, 1) := dk_46 (dk_at dksL_law_100 0 rfl rfl)
theorem dL_law_2504 : decode cL_law 2504 = .ok (.aload_n 3, 1) := dk_45 (dk_at dksL_law_100 1 rfl rfl)
theorem dL_law_2505 : decode cL_law 2505 = .ok (.invokestatic 270, 3) := dk_184 1 14 (dk_at dksL_law_100 2 rfl rfl)
theorem dL_law_2508 : decode cL_law 2508 = .ok (.istore 5, 2) := dk_54 5 (dk_at dksL_law_100 5 rfl rfl)
theorem dL_law_2510 : decode cL_law 2510 = .ok (.aload_n 2, 1) := dk_44 (dk_at dksL_law_100 7 rfl rfl)
theorem dL_law_2511 : decode cL_law 2511 = .ok (.aload_n 0, 1) := dk_42 (dk_at dksL_law_100 8 rfl rfl)
theorem dL_law_2512 : decode cL_law 2512 = .ok (.iload 4, 2) := dk_21 4 (dk_at dksL_law_100 9 rfl rfl)
theorem dL_law_2514 : decode cL_law 2514 = .ok (.iconst 1, 1) := dk_4 (dk_at dksL_law_100 11 rfl rfl)
theorem dL_law_2515 : decode cL_law 2515 = .ok (.iadd, 1) := dk_96 (dk_at dksL_law_100 12 rfl rfl)
theorem dL_law_2516 : decode cL_law 2516 = .ok (.iaload, 1) := dk_46 (dk_at dksL_law_100 13 rfl rfl)
theorem dL_law_2517 : decode cL_law 2517 = .ok (.invokevirtual 272, 3) := dk_182 1 16 (dk_at dksL_law_100 14 rfl rfl)
theorem dL_law_2520 : decode cL_law 2520 = .ok (.istore 6, 2) := dk_54 6 (dk_at dksL_law_100 17 rfl rfl)
theorem dL_law_2522 : decode cL_law 2522 = .ok (.aload_n 2, 1) := dk_44 (dk_at dksL_law_100 19 rfl rfl)
theorem dL_law_2523 : decode cL_law 2523 = .ok (.invokevirtual 145, 3) := dk_182 0 145 (dk_at dksL_law_100 20 rfl rfl)
theorem dL_law_2526 : decode cL_law 2526 = .ok (.iload 5, 2) := dk_21 5 (dk_at dksL_law_101 0 rfl rfl)
theorem dL_law_2528 : decode cL_law 2528 = .ok (.if_icmp .eq 5, 3) := dk_159 0 5 (dk_at dksL_law_101 2 rfl rfl)
theorem dL_law_2531 : decode cL_law 2531 = .ok (.iconst 0, 1) := dk_3 (dk_at dksL_law_101 5 rfl rfl)
theorem dL_law_2532 : decode cL_law 2532 = .ok (.ireturn, 1) := dk_172 (dk_at dksL_law_101 6 rfl rfl)
theorem dL_law_2533 : decode cL_law 2533 = .ok (.iload 5, 2) := dk_21 5 (dk_at dksL_law_101 7 rfl rfl)
theorem dL_law_2535 : decode cL_law 2535 = .ok (.ifCond .ne 15, 3) := dk_154 0 15 (dk_at dksL_law_101 9 rfl rfl)
theorem dL_law_2538 : decode cL_law 2538 = .ok (.aload_n 3, 1) := dk_45 (dk_at dksL_law_101 12 rfl rfl)
theorem dL_law_2539 : decode cL_law 2539 = .ok (.iconst 0, 1) := dk_3 (dk_at dksL_law_101 13 rfl rfl)
theorem dL_law_2540 : decode cL_law 2540 = .ok (.laload, 1) := dk_47 (dk_at dksL_law_101 14 rfl rfl)
theorem dL_law_2541 : decode cL_law 2541 = .ok (.iload 6, 2) := dk_21 6 (dk_at dksL_law_101 15 rfl rfl)
theorem dL_law_2543 : decode cL_law 2543 = .ok (.i2l, 1) := dk_133 (dk_at dksL_law_101 17 rfl rfl)
theorem dL_law_2544 : decode cL_law 2544 = .ok (.lcmp, 1) := dk_148 (dk_at dksL_law_101 18 rfl rfl)
theorem dL_law_2545 : decode cL_law 2545 = .ok (.ifCond .eq 5, 3) := dk_153 0 5 (dk_at dksL_law_101 19 rfl rfl)
theorem dL_law_2548 : decode cL_law 2548 = .ok (.iconst 0, 1) := dk_3 (dk_at dksL_law_101 22 rfl rfl)
theorem dL_law_2549 : decode cL_law 2549 = .ok (.ireturn, 1) := dk_172 (dk_at dksL_law_101 23 rfl rfl)
theorem dL_law_2550 : decode cL_law 2550 = .ok (.goto 3, 3) := dk_167 0 3 (dk_at dksL_law_102 0 rfl rfl)
theorem dL_law_2553 : decode cL_law 2553 = .ok (.iinc 4 6, 3) := dk_132 4 6 (dk_at dksL_law_102 3 rfl rfl)
theorem dL_law_2556 : decode cL_law 2556 = .ok (.goto (-2533), 3) := dk_167 246 27 (dk_at dksL_law_102 6 rfl rfl)
theorem dL_law_2559 : decode cL_law 2559 = .ok (.iconst 1, 1) := dk_4 (dk_at dksL_law_102 9 rfl rfl)
theorem dL_law_2560 : decode cL_law 2560 = .ok (.ireturn, 1) := dk_172 (dk_at dksL_law_102 10 rfl rfl)
theorem q168 : (Jvm.Cond.initialized "RenamedWords$Sort") ∈ lw_all := lw_g (lw_at lw_m1 37 rfl) rfl
set_option maxRecDepth 100000
theorem q857 : (Jvm.Cond.laysStatic "RenamedWords$Sort" "END" "LRenamedWords$Sort;") ∈ lw_tbl := lw_at lw_m4 6 rfl
theorem q901 : (Jvm.Cond.laysStatic "RenamedWords$Sort" "WORD" "LRenamedWords$Sort;") ∈ lw_tbl := lw_at lw_m4 50 rfl
theorem q905 : (Jvm.Cond.laysStatic "RenamedWords$Sort" "NUMBER" "LRenamedWords$Sort;") ∈ lw_tbl := lw_at lw_m4 54 rfl
theorem q907 : (Jvm.Cond.laysStatic "RenamedWords$Sort" "SIGN" "LRenamedWords$Sort;") ∈ lw_tbl := lw_at lw_m4 56 rfl
theorem q909 : (Jvm.Cond.laysStatic "RenamedWords$Sort" "BAD" "LRenamedWords$Sort;") ∈ lw_tbl := lw_at lw_m4 58 rfl
theorem q1197 : (Jvm.Cond.selects "RenamedWords$Sort" ({ cls := "java/lang/Object", name := "hashCode", desc := "()I" } : Jvm.MethodName) ({ cls := "java/lang/Enum", name := "hashCode", desc := "()I" } : Jvm.MethodName)) ∈ lw_all := lw_g (lw_at lw_m5 106 rfl) rfl
theorem q1249 : (Jvm.Cond.selects "RenamedWords$Sort" ({ cls := "java/lang/Object", name := "equals", desc := "(Ljava/lang/Object;)Z" } : Jvm.MethodName) ({ cls := "java/lang/Enum", name := "equals", desc := "(Ljava/lang/Object;)Z" } : Jvm.MethodName)) ∈ lw_all := lw_g (lw_at lw_m5 158 rfl) rfl
theorem q1313 : (Jvm.Cond.selects "RenamedWords$Sort" ({ cls := "java/lang/Object", name := "getClass", desc := "()Ljava/lang/Class;" } : Jvm.MethodName) ({ cls := "java/lang/Object", name := "getClass", desc := "()Ljava/lang/Class;" } : Jvm.MethodName)) ∈ lw_all := lw_g (lw_at lw_m5 222 rfl) rfl
theorem q1350 : (Jvm.Cond.castable "RenamedWords$Sort" "java/lang/Comparable") ∈ lw_tbl := lw_at lw_m6 19 rfl
theorem q1351 : (Jvm.Cond.selects "RenamedWords$Sort" ({ cls := "java/lang/Comparable", name := "compareTo", desc := "(Ljava/lang/Object;)I" } : Jvm.MethodName) ({ cls := "java/lang/Enum", name := "compareTo", desc := "(Ljava/lang/Object;)I" } : Jvm.MethodName)) ∈ lw_all := lw_g (lw_at lw_m6 20 rfl) rfl
theorem q1352 : (Jvm.Cond.unhidden "RenamedWords$Sort" "compareTo" "(Ljava/lang/Object;)I") ∈ lw_tbl := lw_at lw_m6 21 rfl
theorem q1360 : (Jvm.Cond.selects "RenamedWords$Sort" ({ cls := "java/lang/Enum", name := "compareTo", desc := "(Ljava/lang/Enum;)I" } : Jvm.MethodName) ({ cls := "java/lang/Enum", name := "compareTo", desc := "(Ljava/lang/Enum;)I" } : Jvm.MethodName)) ∈ lw_all := lw_g (lw_at lw_m6 29 rfl) rfl
theorem q1366 : (Jvm.Cond.selects "RenamedWords$Sort" ({ cls := "java/lang/Enum", name := "getDeclaringClass", desc := "()Ljava/lang/Class;" } : Jvm.MethodName) ({ cls := "java/lang/Enum", name := "getDeclaringClass", desc := "()Ljava/lang/Class;" } : Jvm.MethodName)) ∈ lw_all := lw_g (lw_at lw_m6 35 rfl) rfl
theorem q4122 : (Jvm.Cond.castable "RenamedWords$Sort" "java/lang/Enum") ∈ lw_tbl := lw_at lw_m17 151 rfl
theorem q4149 : (Jvm.Cond.castable "RenamedWords$Sort" "java/lang/Object") ∈ lw_tbl := lw_at lw_m17 178 rfl
theorem q385 : (Jvm.Cond.sameMethod "[B" "java/lang/Object" "clone" "()Ljava/lang/Object;") ∈ lw_all := lw_g (lw_at lw_m2 14 rfl) rfl
set_option maxRecDepth 100000
theorem q388 : (Jvm.Cond.selects "[B" ({ cls := "[B", name := "clone", desc := "()Ljava/lang/Object;" } : Jvm.MethodName) ({ cls := "java/lang/Object", name := "clone", desc := "()Ljava/lang/Object;" } : Jvm.MethodName)) ∈ lw_all := lw_g (lw_at lw_m2 17 rfl) rfl
theorem q389 : (Jvm.Cond.castable "[B" "java/lang/Cloneable") ∈ lw_tbl := lw_at lw_m2 18 rfl
theorem q4184 : (Jvm.Cond.castable "[B" "java/lang/Object") ∈ lw_tbl := lw_at lw_m17 213 rfl
theorem q4185 : (Jvm.Cond.castable "[I" "java/lang/Object") ∈ lw_tbl := lw_at lw_m17 214 rfl
set_option maxRecDepth 100000
theorem q2913 : (Jvm.Cond.sameMethod "[J" "java/lang/Object" "clone" "()Ljava/lang/Object;") ∈ lw_all := lw_g (lw_at lw_m12 142 rfl) rfl
set_option maxRecDepth 100000
theorem q2914 : (Jvm.Cond.selects "[J" ({ cls := "[J", name := "clone", desc := "()Ljava/lang/Object;" } : Jvm.MethodName) ({ cls := "java/lang/Object", name := "clone", desc := "()Ljava/lang/Object;" } : Jvm.MethodName)) ∈ lw_all := lw_g (lw_at lw_m12 143 rfl) rfl
theorem q2915 : (Jvm.Cond.castable "[J" "java/lang/Cloneable") ∈ lw_tbl := lw_at lw_m12 144 rfl
theorem q4189 : (Jvm.Cond.castable "[J" "java/lang/Object") ∈ lw_tbl := lw_at lw_m17 218 rfl
theorem q4187 : (Jvm.Cond.castable "[LRenamedWords$Desk;" "java/lang/Object") ∈ lw_tbl := lw_at lw_m17 216 rfl
set_option maxRecDepth 100000
theorem q4186 : (Jvm.Cond.castable "[LRenamedWords$Word;" "java/lang/Object") ∈ lw_tbl := lw_at lw_m17 215 rfl
set_option maxRecDepth 100000
theorem q4180 : (Jvm.Cond.sameMethod "[Ljava/lang/Object;" "java/lang/Object" "getClass" "()Ljava/lang/Class;") ∈ lw_all := lw_g (lw_at lw_m17 209 rfl) rfl
set_option maxRecDepth 100000
theorem q4181 : (Jvm.Cond.selects "[Ljava/lang/Object;" ({ cls := "java/lang/Object", name := "getClass", desc := "()Ljava/lang/Class;" } : Jvm.MethodName) ({ cls := "java/lang/Object", name := "getClass", desc := "()Ljava/lang/Class;" } : Jvm.MethodName)) ∈ lw_all := lw_g (lw_at lw_m17 210 rfl) rfl
theorem q4183 : (Jvm.Cond.castable "[Ljava/lang/Object;" "java/lang/Object") ∈ lw_tbl := lw_at lw_m17 212 rfl
theorem q4188 : (Jvm.Cond.castable "[Ljava/util/HashMap$Node;" "java/lang/Object") ∈ lw_tbl := lw_at lw_m17 217 rfl
set_option maxRecDepth 100000
theorem q4190 : (Jvm.Cond.castable "[Z" "java/lang/Object") ∈ lw_tbl := lw_at lw_m17 219 rfl
set_option maxRecDepth 100000
theorem q1348 : (Jvm.Cond.interfaceMethod "java/lang/Comparable" "java/lang/Comparable" "compareTo" "(Ljava/lang/Object;)I") ∈ lw_tbl := lw_at lw_m6 17 rfl
set_option maxRecDepth 100000
theorem q1349 : (Jvm.Cond.declares ({ cls := "java/lang/Comparable", name := "compareTo", desc := "(Ljava/lang/Object;)I" } : Jvm.MethodName)) ∈ lw_tbl := lw_at lw_m6 18 rfl
theorem q175 : (Jvm.Cond.initialized "java/lang/Integer$IntegerCache") ∈ lw_all := lw_g (lw_at lw_m1 44 rfl) rfl
set_option maxRecDepth 100000
theorem q1581 : (Jvm.Cond.laysStatic "java/lang/Integer$IntegerCache" "high" "I") ∈ lw_tbl := lw_at lw_m7 10 rfl
theorem q1583 : (Jvm.Cond.laysStatic "java/lang/Integer$IntegerCache" "cache" "[Ljava/lang/Integer;") ∈ lw_tbl := lw_at lw_m7 12 rfl
theorem q151 : (Jvm.Cond.initialized "java/lang/System") ∈ lw_all := lw_g (lw_at lw_m1 20 rfl) rfl
set_option maxRecDepth 100000
theorem q395 : (Jvm.Cond.static ({ cls := "java/lang/System", name := "arraycopy", desc := "(Ljava/lang/Object;ILjava/lang/Object;II)V" } : Jvm.MethodName)) ∈ lw_all := lw_g (lw_at lw_m2 24 rfl) rfl
theorem q396 : (Jvm.Cond.native ({ cls := "java/lang/System", name := "arraycopy", desc := "(Ljava/lang/Object;ILjava/lang/Object;II)V" } : Jvm.MethodName)) ∈ lw_all := lw_g (lw_at lw_m2 25 rfl) rfl
theorem q1201 : (Jvm.Cond.static ({ cls := "java/lang/System", name := "identityHashCode", desc := "(Ljava/lang/Object;)I" } : Jvm.MethodName)) ∈ lw_all := lw_g (lw_at lw_m5 110 rfl) rfl
theorem q1202 : (Jvm.Cond.native ({ cls := "java/lang/System", name := "identityHashCode", desc := "(Ljava/lang/Object;)I" } : Jvm.MethodName)) ∈ lw_all := lw_g (lw_at lw_m5 111 rfl) rfl
theorem q197 : (Jvm.Cond.initialized "java/util/AbstractList$ListItr") ∈ lw_all := lw_g (lw_at lw_m1 66 rfl) rfl
set_option maxRecDepth 100000
theorem q1327 : (Jvm.Cond.selects "java/util/AbstractList$ListItr" ({ cls := "java/lang/Object", name := "getClass", desc := "()Ljava/lang/Class;" } : Jvm.MethodName) ({ cls := "java/lang/Object", name := "getClass", desc := "()Ljava/lang/Class;" } : Jvm.MethodName)) ∈ lw_all := lw_g (lw_at lw_m5 236 rfl) rfl
theorem q2180 : (Jvm.Cond.castable "java/util/AbstractList$ListItr" "java/util/Iterator") ∈ lw_tbl := lw_at lw_m9 129 rfl
theorem q2181 : (Jvm.Cond.selects "java/util/AbstractList$ListItr" ({ cls := "java/util/Iterator", name := "hasNext", desc := "()Z" } : Jvm.MethodName) ({ cls := "java/util/AbstractList$Itr", name := "hasNext", desc := "()Z" } : Jvm.MethodName)) ∈ lw_all := lw_g (lw_at lw_m9 130 rfl) rfl
theorem q2182 : (Jvm.Cond.unhidden "java/util/AbstractList$ListItr" "hasNext" "()Z") ∈ lw_tbl := lw_at lw_m9 131 rfl
theorem q2237 : (Jvm.Cond.selects "java/util/AbstractList$ListItr" ({ cls := "java/util/Iterator", name := "next", desc := "()Ljava/lang/Object;" } : Jvm.MethodName) ({ cls := "java/util/AbstractList$Itr", name := "next", desc := "()Ljava/lang/Object;" } : Jvm.MethodName)) ∈ lw_all := lw_g (lw_at lw_m9 186 rfl) rfl
theorem q2238 : (Jvm.Cond.unhidden "java/util/AbstractList$ListItr" "next" "()Ljava/lang/Object;") ∈ lw_tbl := lw_at lw_m9 187 rfl
theorem q2245 : (Jvm.Cond.selects "java/util/AbstractList$ListItr" ({ cls := "java/util/AbstractList$Itr", name := "checkForComodification", desc := "()V" } : Jvm.MethodName) ({ cls := "java/util/AbstractList$Itr", name := "checkForComodification", desc := "()V" } : Jvm.MethodName)) ∈ lw_all := lw_g (lw_at lw_m9 194 rfl) rfl
theorem q2694 : (Jvm.Cond.selects "java/util/AbstractList$ListItr" ({ cls := "java/util/Iterator", name := "remove", desc := "()V" } : Jvm.MethodName) ({ cls := "java/util/AbstractList$Itr", name := "remove", desc := "()V" } : Jvm.MethodName)) ∈ lw_all := lw_g (lw_at lw_m11 163 rfl) rfl
theorem q2695 : (Jvm.Cond.unhidden "java/util/AbstractList$ListItr" "remove" "()V") ∈ lw_tbl := lw_at lw_m11 164 rfl
theorem q4170 : (Jvm.Cond.castable "java/util/AbstractList$ListItr" "java/lang/Object") ∈ lw_tbl := lw_at lw_m17 199 rfl
theorem q4199 : (Jvm.Cond.fieldLink "java/util/AbstractList$ListItr" (1 : Nat) "java/util/AbstractList$ListItr" "this$0" "Ljava/util/AbstractList;") ∈ lw_all := lw_g (lw_at lw_m17 228 rfl) rfl
theorem q4200 : (Jvm.Cond.fieldLink "java/util/AbstractList$ListItr" (13 : Nat) "java/util/AbstractList$ListItr" "cursor" "I") ∈ lw_all := lw_g (lw_at lw_m17 229 rfl) rfl
theorem q4201 : (Jvm.Cond.sameField "java/util/AbstractList$ListItr" "java/util/AbstractList$Itr" "cursor" "I") ∈ lw_all := lw_g (lw_at lw_m17 230 rfl) rfl
theorem q2172 : (Jvm.Cond.interfaceMethod "java/util/Iterator" "java/util/Iterator" "hasNext" "()Z") ∈ lw_tbl := lw_at lw_m9 121 rfl
set_option maxRecDepth 100000
theorem q2173 : (Jvm.Cond.declares ({ cls := "java/util/Iterator", name := "hasNext", desc := "()Z" } : Jvm.MethodName)) ∈ lw_tbl := lw_at lw_m9 122 rfl
theorem q2205 : (Jvm.Cond.interfaceMethod "java/util/Iterator" "java/util/Iterator" "next" "()Ljava/lang/Object;") ∈ lw_tbl := lw_at lw_m9 154 rfl
theorem q2206 : (Jvm.Cond.declares ({ cls := "java/util/Iterator", name := "next", desc := "()Ljava/lang/Object;" } : Jvm.MethodName)) ∈ lw_tbl := lw_at lw_m9 155 rfl
theorem q2672 : (Jvm.Cond.interfaceMethod "java/util/Iterator" "java/util/Iterator" "remove" "()V") ∈ lw_tbl := lw_at lw_m11 141 rfl
theorem q2673 : (Jvm.Cond.declares ({ cls := "java/util/Iterator", name := "remove", desc := "()V" } : Jvm.MethodName)) ∈ lw_tbl := lw_at lw_m11 142 rfl
theorem q1119 : (Jvm.Cond.interfaceMethod "java/util/List" "java/util/List" "size" "()I") ∈ lw_tbl := lw_at lw_m5 28 rfl
set_option maxRecDepth 100000
theorem q1120 : (Jvm.Cond.declares ({ cls := "java/util/List", name := "size", desc := "()I" } : Jvm.MethodName)) ∈ lw_tbl := lw_at lw_m5 29 rfl
theorem q1743 : (Jvm.Cond.interfaceMethod "java/util/List" "java/util/List" "add" "(Ljava/lang/Object;)Z") ∈ lw_tbl := lw_at lw_m7 172 rfl
theorem q1744 : (Jvm.Cond.declares ({ cls := "java/util/List", name := "add", desc := "(Ljava/lang/Object;)Z" } : Jvm.MethodName)) ∈ lw_tbl := lw_at lw_m7 173 rfl
theorem q2968 : (Jvm.Cond.interfaceMethod "java/util/List" "java/util/List" "get" "(I)Ljava/lang/Object;") ∈ lw_tbl := lw_at lw_m12 197 rfl
theorem q2969 : (Jvm.Cond.declares ({ cls := "java/util/List", name := "get", desc := "(I)Ljava/lang/Object;" } : Jvm.MethodName)) ∈ lw_tbl := lw_at lw_m12 198 rfl
theorem q1156 : (Jvm.Cond.interfaceMethod "java/util/Map" "java/util/Map" "get" "(Ljava/lang/Object;)Ljava/lang/Object;") ∈ lw_tbl := lw_at lw_m5 65 rfl
set_option maxRecDepth 100000
theorem q1157 : (Jvm.Cond.declares ({ cls := "java/util/Map", name := "get", desc := "(Ljava/lang/Object;)Ljava/lang/Object;" } : Jvm.MethodName)) ∈ lw_tbl := lw_at lw_m5 66 rfl
theorem q1598 : (Jvm.Cond.interfaceMethod "java/util/Map" "java/util/Map" "put" "(Ljava/lang/Object;Ljava/lang/Object;)Ljava/lang/Object;") ∈ lw_tbl := lw_at lw_m7 27 rfl
theorem q1599 : (Jvm.Cond.declares ({ cls := "java/util/Map", name := "put", desc := "(Ljava/lang/Object;Ljava/lang/Object;)Ljava/lang/Object;" } : Jvm.MethodName)) ∈ lw_tbl := lw_at lw_m7 28 rfl
theorem q1071 : (Jvm.Cond.interfaceMethod "jdk/internal/access/JavaLangAccess" "jdk/internal/access/JavaLangAccess" "getUTF16Char" "([BI)C") ∈ lw_tbl := lw_at lw_m4 220 rfl
set_option maxRecDepth 100000
theorem q1072 : (Jvm.Cond.declares ({ cls := "jdk/internal/access/JavaLangAccess", name := "getUTF16Char", desc := "([BI)C" } : Jvm.MethodName)) ∈ lw_tbl := lw_at lw_m4 221 rfl
theorem q172 : (Jvm.Cond.initialized "jdk/internal/misc/UnsafeConstants") ∈ lw_all := lw_g (lw_at lw_m1 41 rfl) rfl
set_option maxRecDepth 100000
theorem q1438 : (Jvm.Cond.laysStatic "jdk/internal/misc/UnsafeConstants" "BIG_ENDIAN" "Z") ∈ lw_tbl := lw_at lw_m6 107 rfl
theorem q270 : (Jvm.Cond.arrayOver (Jvm.ClassFile.FieldType.object "java/lang/Object")) ∈ lw_tbl := lw_at lw_m1 139 rfl
set_option maxRecDepth 100000
theorem q349 : (Jvm.Cond.arrayClass Jvm.ClassFile.FieldType.byte) ∈ lw_all := lw_g (lw_at lw_m1 218 rfl) rfl
theorem q653 : (Jvm.Cond.arrayClass Jvm.ClassFile.FieldType.int) ∈ lw_all := lw_g (lw_at lw_m3 42 rfl) rfl
theorem q655 : (Jvm.Cond.arrayOver (Jvm.ClassFile.FieldType.object "RenamedWords$Word")) ∈ lw_tbl := lw_at lw_m3 44 rfl
theorem q787 : (Jvm.Cond.arrayOver (Jvm.ClassFile.FieldType.object "RenamedWords$Desk")) ∈ lw_tbl := lw_at lw_m3 176 rfl
theorem q1617 : (Jvm.Cond.arrayOver (Jvm.ClassFile.FieldType.object "java/util/HashMap$Node")) ∈ lw_tbl := lw_at lw_m7 46 rfl
theorem q2874 : (Jvm.Cond.arrayClass Jvm.ClassFile.FieldType.long) ∈ lw_all := lw_g (lw_at lw_m12 103 rfl) rfl
theorem q3547 : (Jvm.Cond.arrayClass Jvm.ClassFile.FieldType.boolean) ∈ lw_all := lw_g (lw_at lw_m15 56 rfl) rfl
theorem q4191 : (Jvm.Cond.arrayClass Jvm.ClassFile.FieldType.char) ∈ lw_all := lw_g (lw_at lw_m17 220 rfl) rfl
theorem q4192 : (Jvm.Cond.arrayClass Jvm.ClassFile.FieldType.short) ∈ lw_all := lw_g (lw_at lw_m17 221 rfl) rfl
