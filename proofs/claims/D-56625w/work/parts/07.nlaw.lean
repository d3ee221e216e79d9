/-! the law's own entry -/
set_option maxRecDepth 100000
abbrev cL_law : ByteArray := code
def dkwL_law_84 : List UInt8 := [3, 172, 167, 0, 3, 132, 4, 5, 167, 247, 241, 4, 172]
abbrev dktL_law_84 : List UInt8 := dkwL_law_84 ++ []
def dkwL_law_83 : List UInt8 := [151, 153, 0, 25, 45, 180, 0, 133, 45, 180, 0, 133, 151, 153, 0, 11, 24, 6, 24, 6, 151, 154, 0, 5]
abbrev dktL_law_83 : List UInt8 := dkwL_law_83 ++ dktL_law_84
def dkwL_law_82 : List UInt8 := [57, 6, 44, 182, 0, 154, 21, 5, 159, 0, 5, 3, 172, 21, 5, 154, 0, 35, 45, 180, 0, 133, 24, 6]
abbrev dktL_law_82 : List UInt8 := dkwL_law_82 ++ dktL_law_83
def dkwL_law_81 : List UInt8 := [23, 6, 23, 6, 149, 154, 0, 5, 3, 172, 167, 0, 67, 43, 45, 184, 1, 20, 54, 5, 44, 182, 1, 22]
abbrev dktL_law_81 : List UInt8 := dkwL_law_81 ++ dktL_law_82
def dkwL_law_80 : List UInt8 := [45, 180, 0, 133, 23, 6, 141, 151, 153, 0, 25, 45, 180, 0, 133, 45, 180, 0, 133, 151, 153, 0, 11]
abbrev dktL_law_80 : List UInt8 := dkwL_law_80 ++ dktL_law_81
def dkwL_law_79 : List UInt8 := [54, 5, 44, 182, 1, 19, 56, 6, 44, 182, 0, 154, 21, 5, 159, 0, 5, 3, 172, 21, 5, 154, 0, 36]
abbrev dktL_law_79 : List UInt8 := dkwL_law_79 ++ dktL_law_80
def dkwL_law_78 : List UInt8 := [3, 172, 167, 0, 146, 43, 182, 1, 12, 44, 182, 1, 16, 148, 153, 0, 134, 3, 172, 43, 45, 184, 1, 17]
abbrev dktL_law_78 : List UInt8 := dkwL_law_78 ++ dktL_law_79
def dkwL_law_77 : List UInt8 := [21, 5, 159, 0, 5, 3, 172, 21, 5, 154, 0, 17, 45, 180, 0, 125, 25, 6, 182, 1, 6, 154, 0, 5]
abbrev dktL_law_77 : List UInt8 := dkwL_law_77 ++ dktL_law_78
def dkwL_law_76 : List UInt8 := [46, 45, 184, 1, 3, 54, 5, 44, 42, 21, 4, 4, 96, 46, 182, 1, 5, 58, 6, 44, 182, 0, 154]
abbrev dktL_law_76 : List UInt8 := dkwL_law_76 ++ dktL_law_77
def dkwL_law_75 : List UInt8 := [159, 0, 219, 3, 172, 43, 182, 0, 255, 44, 182, 1, 2, 159, 0, 206, 3, 172, 43, 42, 21, 4, 4, 96]
abbrev dktL_law_75 : List UInt8 := dkwL_law_75 ++ dktL_law_76
def dkwL_law_74 : List UInt8 := [180, 0, 13, 21, 6, 133, 148, 153, 0, 5, 3, 172, 167, 0, 230, 43, 182, 0, 251, 44, 182, 0, 254]
abbrev dktL_law_74 : List UInt8 := dkwL_law_74 ++ dktL_law_75
def dkwL_law_73 : List UInt8 := [182, 0, 250, 54, 6, 44, 182, 0, 154, 21, 5, 159, 0, 5, 3, 172, 21, 5, 154, 0, 16, 45]
abbrev dktL_law_73 : List UInt8 := dkwL_law_73 ++ dktL_law_74
def dkwL_law_72 : List UInt8 := [167, 1, 31, 43, 42, 21, 4, 4, 96, 46, 45, 184, 0, 248, 54, 5, 44, 42, 21, 4, 4, 96, 46]
abbrev dktL_law_72 : List UInt8 := dkwL_law_72 ++ dktL_law_73
def dkwL_law_71 : List UInt8 := [159, 0, 5, 3, 172, 21, 5, 154, 0, 16, 45, 180, 0, 13, 21, 6, 133, 148, 153, 0, 5, 3, 172]
abbrev dktL_law_71 : List UInt8 := dkwL_law_71 ++ dktL_law_72
def dkwL_law_70 : List UInt8 := [184, 0, 245, 54, 5, 44, 42, 21, 4, 4, 96, 46, 182, 0, 247, 54, 6, 44, 182, 0, 154, 21, 5]
abbrev dktL_law_70 : List UInt8 := dkwL_law_70 ++ dktL_law_71
def dkwL_law_69 : List UInt8 := [180, 0, 13, 21, 6, 133, 148, 153, 0, 5, 3, 172, 167, 1, 88, 43, 42, 21, 4, 4, 96, 46, 45]
abbrev dktL_law_69 : List UInt8 := dkwL_law_69 ++ dktL_law_70
def dkwL_law_68 : List UInt8 := [182, 0, 244, 54, 6, 44, 182, 0, 154, 21, 5, 159, 0, 5, 3, 172, 21, 5, 154, 0, 16, 45]
abbrev dktL_law_68 : List UInt8 := dkwL_law_68 ++ dktL_law_69
def dkwL_law_67 : List UInt8 := [167, 1, 145, 43, 42, 21, 4, 4, 96, 46, 45, 184, 0, 242, 54, 5, 44, 42, 21, 4, 4, 96, 46]
abbrev dktL_law_67 : List UInt8 := dkwL_law_67 ++ dktL_law_68
def dkwL_law_66 : List UInt8 := [159, 0, 5, 3, 172, 21, 5, 154, 0, 16, 45, 180, 0, 13, 21, 6, 133, 148, 153, 0, 5, 3, 172]
abbrev dktL_law_66 : List UInt8 := dkwL_law_66 ++ dktL_law_67
def dkwL_law_65 : List UInt8 := [184, 0, 239, 54, 5, 44, 42, 21, 4, 4, 96, 46, 182, 0, 241, 54, 6, 44, 182, 0, 154, 21, 5]
abbrev dktL_law_65 : List UInt8 := dkwL_law_65 ++ dktL_law_66
def dkwL_law_64 : List UInt8 := [10, 167, 0, 4, 9, 148, 153, 0, 5, 3, 172, 167, 1, 202, 43, 42, 21, 4, 4, 96, 46, 45]
abbrev dktL_law_64 : List UInt8 := dkwL_law_64 ++ dktL_law_65
def dkwL_law_63 : List UInt8 := [182, 0, 154, 21, 5, 159, 0, 5, 3, 172, 21, 5, 154, 0, 23, 45, 180, 0, 13, 21, 6, 153, 0, 7]
abbrev dktL_law_63 : List UInt8 := dkwL_law_63 ++ dktL_law_64
def dkwL_law_62 : List UInt8 := [184, 0, 236, 54, 5, 44, 42, 21, 4, 4, 96, 46, 42, 21, 4, 5, 96, 46, 182, 0, 238, 54, 6, 44]
abbrev dktL_law_62 : List UInt8 := dkwL_law_62 ++ dktL_law_63
def dkwL_law_61 : List UInt8 := [148, 153, 0, 5, 3, 172, 167, 2, 22, 43, 42, 21, 4, 4, 96, 46, 42, 21, 4, 5, 96, 46, 45]
abbrev dktL_law_61 : List UInt8 := dkwL_law_61 ++ dktL_law_62
def dkwL_law_60 : List UInt8 := [159, 0, 5, 3, 172, 21, 5, 154, 0, 23, 45, 180, 0, 13, 21, 6, 153, 0, 7, 10, 167, 0, 4, 9]
abbrev dktL_law_60 : List UInt8 := dkwL_law_60 ++ dktL_law_61
def dkwL_law_59 : List UInt8 := [184, 0, 233, 54, 5, 44, 42, 21, 4, 4, 96, 46, 182, 0, 235, 54, 6, 44, 182, 0, 154, 21, 5]
abbrev dktL_law_59 : List UInt8 := dkwL_law_59 ++ dktL_law_60
def dkwL_law_58 : List UInt8 := [180, 0, 13, 21, 6, 133, 148, 153, 0, 5, 3, 172, 167, 2, 86, 43, 42, 21, 4, 4, 96, 46, 45]
abbrev dktL_law_58 : List UInt8 := dkwL_law_58 ++ dktL_law_59
def dkwL_law_57 : List UInt8 := [182, 0, 232, 54, 6, 44, 182, 0, 154, 21, 5, 159, 0, 5, 3, 172, 21, 5, 154, 0, 16, 45]
abbrev dktL_law_57 : List UInt8 := dkwL_law_57 ++ dktL_law_58
def dkwL_law_56 : List UInt8 := [167, 2, 143, 43, 42, 21, 4, 4, 96, 46, 45, 184, 0, 230, 54, 5, 44, 42, 21, 4, 4, 96, 46]
abbrev dktL_law_56 : List UInt8 := dkwL_law_56 ++ dktL_law_57
def dkwL_law_55 : List UInt8 := [159, 0, 5, 3, 172, 21, 5, 154, 0, 16, 45, 180, 0, 13, 21, 6, 133, 148, 153, 0, 5, 3, 172]
abbrev dktL_law_55 : List UInt8 := dkwL_law_55 ++ dktL_law_56
def dkwL_law_54 : List UInt8 := [45, 184, 0, 227, 54, 5, 44, 42, 21, 4, 4, 96, 46, 182, 0, 229, 54, 6, 44, 182, 0, 154, 21, 5]
abbrev dktL_law_54 : List UInt8 := dkwL_law_54 ++ dktL_law_55
def dkwL_law_53 : List UInt8 := [154, 0, 14, 45, 180, 0, 92, 25, 6, 165, 0, 5, 3, 172, 167, 2, 200, 43, 42, 21, 4, 4, 96, 46]
abbrev dktL_law_53 : List UInt8 := dkwL_law_53 ++ dktL_law_54
def dkwL_law_52 : List UInt8 := [21, 4, 4, 96, 46, 182, 0, 226, 58, 6, 44, 182, 0, 154, 21, 5, 159, 0, 5, 3, 172, 21, 5]
abbrev dktL_law_52 : List UInt8 := dkwL_law_52 ++ dktL_law_53
def dkwL_law_51 : List UInt8 := [153, 0, 5, 3, 172, 167, 2, 255, 43, 42, 21, 4, 4, 96, 46, 45, 184, 0, 224, 54, 5, 44, 42]
abbrev dktL_law_51 : List UInt8 := dkwL_law_51 ++ dktL_law_52
def dkwL_law_50 : List UInt8 := [182, 0, 154, 21, 5, 159, 0, 5, 3, 172, 21, 5, 154, 0, 16, 45, 180, 0, 13, 21, 6, 133, 148]
abbrev dktL_law_50 : List UInt8 := dkwL_law_50 ++ dktL_law_51
def dkwL_law_49 : List UInt8 := [4, 96, 46, 45, 184, 0, 221, 54, 5, 44, 42, 21, 4, 4, 96, 46, 182, 0, 223, 54, 6, 44]
abbrev dktL_law_49 : List UInt8 := dkwL_law_49 ++ dktL_law_50
def dkwL_law_48 : List UInt8 := [172, 21, 5, 154, 0, 14, 45, 180, 0, 60, 25, 6, 165, 0, 5, 3, 172, 167, 3, 56, 43, 42, 21, 4]
abbrev dktL_law_48 : List UInt8 := dkwL_law_48 ++ dktL_law_49
def dkwL_law_47 : List UInt8 := [54, 5, 44, 42, 21, 4, 4, 96, 46, 182, 0, 220, 58, 6, 44, 182, 0, 154, 21, 5, 159, 0, 5, 3]
abbrev dktL_law_47 : List UInt8 := dkwL_law_47 ++ dktL_law_48
def dkwL_law_46 : List UInt8 := [167, 0, 4, 9, 148, 153, 0, 5, 3, 172, 167, 3, 111, 43, 42, 21, 4, 4, 96, 46, 45, 184, 0, 218]
abbrev dktL_law_46 : List UInt8 := dkwL_law_46 ++ dktL_law_47
def dkwL_law_45 : List UInt8 := [21, 5, 159, 0, 5, 3, 172, 21, 5, 154, 0, 23, 45, 180, 0, 13, 21, 6, 153, 0, 7, 10]
abbrev dktL_law_45 : List UInt8 := dkwL_law_45 ++ dktL_law_46
def dkwL_law_44 : List UInt8 := [96, 46, 45, 184, 0, 215, 54, 5, 44, 42, 21, 4, 4, 96, 46, 182, 0, 217, 54, 6, 44, 182, 0, 154]
abbrev dktL_law_44 : List UInt8 := dkwL_law_44 ++ dktL_law_45
def dkwL_law_43 : List UInt8 := [154, 0, 16, 45, 180, 0, 13, 21, 6, 133, 148, 153, 0, 5, 3, 172, 167, 3, 175, 43, 42, 21, 4, 4]
abbrev dktL_law_43 : List UInt8 := dkwL_law_43 ++ dktL_law_44
def dkwL_law_42 : List UInt8 := [21, 4, 4, 96, 46, 182, 0, 214, 54, 6, 44, 182, 0, 154, 21, 5, 159, 0, 5, 3, 172, 21, 5]
abbrev dktL_law_42 : List UInt8 := dkwL_law_42 ++ dktL_law_43
def dkwL_law_41 : List UInt8 := [153, 0, 5, 3, 172, 167, 3, 232, 43, 42, 21, 4, 4, 96, 46, 45, 184, 0, 212, 54, 5, 44, 42]
abbrev dktL_law_41 : List UInt8 := dkwL_law_41 ++ dktL_law_42
def dkwL_law_40 : List UInt8 := [182, 0, 154, 21, 5, 159, 0, 5, 3, 172, 21, 5, 154, 0, 16, 45, 180, 0, 13, 21, 6, 133, 148]
abbrev dktL_law_40 : List UInt8 := dkwL_law_40 ++ dktL_law_41
def dkwL_law_39 : List UInt8 := [21, 4, 4, 96, 46, 45, 184, 0, 209, 54, 5, 44, 42, 21, 4, 4, 96, 46, 182, 0, 211, 54, 6, 44]
abbrev dktL_law_39 : List UInt8 := dkwL_law_39 ++ dktL_law_40
def dkwL_law_38 : List UInt8 := [153, 0, 5, 3, 172, 167, 4, 46, 43, 182, 0, 205, 44, 182, 0, 208, 159, 4, 35, 3, 172, 43, 42]
abbrev dktL_law_38 : List UInt8 := dkwL_law_38 ++ dktL_law_39
def dkwL_law_37 : List UInt8 := [182, 0, 154, 21, 5, 159, 0, 5, 3, 172, 21, 5, 154, 0, 16, 45, 180, 0, 13, 21, 6, 133, 148]
abbrev dktL_law_37 : List UInt8 := dkwL_law_37 ++ dktL_law_38
def dkwL_law_36 : List UInt8 := [21, 4, 4, 96, 46, 45, 184, 0, 202, 54, 5, 44, 42, 21, 4, 4, 96, 46, 182, 0, 204, 54, 6, 44]
abbrev dktL_law_36 : List UInt8 := dkwL_law_36 ++ dktL_law_37
def dkwL_law_35 : List UInt8 := [172, 21, 5, 154, 0, 16, 45, 180, 0, 13, 21, 6, 133, 148, 153, 0, 5, 3, 172, 167, 4, 103, 43, 42]
abbrev dktL_law_35 : List UInt8 := dkwL_law_35 ++ dktL_law_36
def dkwL_law_34 : List UInt8 := [54, 5, 44, 42, 21, 4, 4, 96, 46, 182, 0, 201, 54, 6, 44, 182, 0, 154, 21, 5, 159, 0, 5, 3]
abbrev dktL_law_34 : List UInt8 := dkwL_law_34 ++ dktL_law_35
def dkwL_law_33 : List UInt8 := [180, 0, 60, 25, 6, 165, 0, 5, 3, 172, 167, 4, 160, 43, 42, 21, 4, 4, 96, 46, 45, 184, 0, 199]
abbrev dktL_law_33 : List UInt8 := dkwL_law_33 ++ dktL_law_34
def dkwL_law_32 : List UInt8 := [182, 0, 198, 58, 6, 44, 182, 0, 154, 21, 5, 159, 0, 5, 3, 172, 21, 5, 154, 0, 14, 45]
abbrev dktL_law_32 : List UInt8 := dkwL_law_32 ++ dktL_law_33
def dkwL_law_31 : List UInt8 := [172, 167, 4, 215, 43, 42, 21, 4, 4, 96, 46, 45, 184, 0, 196, 54, 5, 44, 42, 21, 4, 4, 96, 46]
abbrev dktL_law_31 : List UInt8 := dkwL_law_31 ++ dktL_law_32
def dkwL_law_30 : List UInt8 := [21, 5, 159, 0, 5, 3, 172, 21, 5, 154, 0, 16, 45, 180, 0, 13, 21, 6, 133, 148, 153, 0, 5, 3]
abbrev dktL_law_30 : List UInt8 := dkwL_law_30 ++ dktL_law_31
def dkwL_law_29 : List UInt8 := [21, 4, 6, 96, 46, 42, 21, 4, 7, 96, 46, 183, 0, 169, 182, 0, 195, 54, 6, 44, 182, 0, 154]
abbrev dktL_law_29 : List UInt8 := dkwL_law_29 ++ dktL_law_30
def dkwL_law_28 : List UInt8 := [45, 184, 0, 192, 54, 5, 44, 42, 21, 4, 4, 96, 46, 42, 21, 4, 5, 96, 46, 187, 0, 167, 89, 42]
abbrev dktL_law_28 : List UInt8 := dkwL_law_28 ++ dktL_law_29
def dkwL_law_27 : List UInt8 := [21, 4, 5, 96, 46, 187, 0, 167, 89, 42, 21, 4, 6, 96, 46, 42, 21, 4, 7, 96, 46, 183, 0, 169]
abbrev dktL_law_27 : List UInt8 := dkwL_law_27 ++ dktL_law_28
def dkwL_law_26 : List UInt8 := [180, 0, 13, 21, 6, 133, 148, 153, 0, 5, 3, 172, 167, 5, 66, 43, 42, 21, 4, 4, 96, 46, 42]
abbrev dktL_law_26 : List UInt8 := dkwL_law_26 ++ dktL_law_27
def dkwL_law_25 : List UInt8 := [182, 0, 191, 54, 6, 44, 182, 0, 154, 21, 5, 159, 0, 5, 3, 172, 21, 5, 154, 0, 16, 45]
abbrev dktL_law_25 : List UInt8 := dkwL_law_25 ++ dktL_law_26
def dkwL_law_24 : List UInt8 := [167, 5, 123, 43, 42, 21, 4, 4, 96, 46, 45, 184, 0, 188, 54, 5, 44, 42, 21, 4, 4, 96, 46]
abbrev dktL_law_24 : List UInt8 := dkwL_law_24 ++ dktL_law_25
def dkwL_law_23 : List UInt8 := [159, 0, 5, 3, 172, 21, 5, 154, 0, 16, 45, 180, 0, 13, 21, 6, 133, 148, 153, 0, 5, 3, 172]
abbrev dktL_law_23 : List UInt8 := dkwL_law_23 ++ dktL_law_24
def dkwL_law_22 : List UInt8 := [42, 21, 4, 4, 96, 46, 42, 21, 4, 5, 96, 46, 182, 0, 187, 54, 6, 44, 182, 0, 154, 21, 5]
abbrev dktL_law_22 : List UInt8 := dkwL_law_22 ++ dktL_law_23
def dkwL_law_21 : List UInt8 := [172, 167, 5, 192, 43, 42, 21, 4, 4, 96, 46, 42, 21, 4, 5, 96, 46, 45, 184, 0, 185, 54, 5, 44]
abbrev dktL_law_21 : List UInt8 := dkwL_law_21 ++ dktL_law_22
def dkwL_law_20 : List UInt8 := [21, 5, 159, 0, 5, 3, 172, 21, 5, 154, 0, 16, 45, 180, 0, 13, 21, 6, 133, 148, 153, 0, 5, 3]
abbrev dktL_law_20 : List UInt8 := dkwL_law_20 ++ dktL_law_21
def dkwL_law_19 : List UInt8 := [21, 4, 5, 96, 46, 42, 21, 4, 6, 96, 46, 183, 0, 178, 182, 0, 184, 54, 6, 44, 182, 0, 154]
abbrev dktL_law_19 : List UInt8 := dkwL_law_19 ++ dktL_law_20
def dkwL_law_18 : List UInt8 := [6, 96, 46, 183, 0, 178, 45, 184, 0, 181, 54, 5, 44, 187, 0, 176, 89, 42, 21, 4, 4, 96, 46, 42]
abbrev dktL_law_18 : List UInt8 := dkwL_law_18 ++ dktL_law_19
def dkwL_law_17 : List UInt8 := [172, 167, 6, 31, 43, 187, 0, 176, 89, 42, 21, 4, 4, 96, 46, 42, 21, 4, 5, 96, 46, 42, 21, 4]
abbrev dktL_law_17 : List UInt8 := dkwL_law_17 ++ dktL_law_18
def dkwL_law_16 : List UInt8 := [21, 5, 159, 0, 5, 3, 172, 21, 5, 154, 0, 16, 45, 180, 0, 13, 21, 6, 133, 148, 153, 0, 5, 3]
abbrev dktL_law_16 : List UInt8 := dkwL_law_16 ++ dktL_law_17
def dkwL_law_15 : List UInt8 := [21, 4, 4, 96, 46, 42, 21, 4, 5, 96, 46, 183, 0, 169, 182, 0, 175, 54, 6, 44, 182, 0, 154]
abbrev dktL_law_15 : List UInt8 := dkwL_law_15 ++ dktL_law_16
def dkwL_law_14 : List UInt8 := [96, 46, 42, 21, 4, 5, 96, 46, 183, 0, 169, 45, 184, 0, 172, 54, 5, 44, 187, 0, 167, 89, 42]
abbrev dktL_law_14 : List UInt8 := dkwL_law_14 ++ dktL_law_15
def dkwL_law_13 : List UInt8 := [180, 0, 13, 21, 6, 133, 148, 153, 0, 5, 3, 172, 167, 6, 114, 43, 187, 0, 167, 89, 42, 21, 4, 4]
abbrev dktL_law_13 : List UInt8 := dkwL_law_13 ++ dktL_law_14
def dkwL_law_12 : List UInt8 := [182, 0, 166, 54, 6, 44, 182, 0, 154, 21, 5, 159, 0, 5, 3, 172, 21, 5, 154, 0, 16, 45]
abbrev dktL_law_12 : List UInt8 := dkwL_law_12 ++ dktL_law_13
def dkwL_law_11 : List UInt8 := [21, 4, 5, 96, 46, 45, 184, 0, 164, 54, 5, 44, 42, 21, 4, 4, 96, 46, 42, 21, 4, 5, 96, 46]
abbrev dktL_law_11 : List UInt8 := dkwL_law_11 ++ dktL_law_12
def dkwL_law_10 : List UInt8 := [45, 180, 0, 13, 21, 6, 133, 148, 153, 0, 5, 3, 172, 167, 6, 183, 43, 42, 21, 4, 4, 96, 46, 42]
abbrev dktL_law_10 : List UInt8 := dkwL_law_10 ++ dktL_law_11
def dkwL_law_9 : List UInt8 := [5, 96, 46, 182, 0, 163, 54, 6, 44, 182, 0, 154, 21, 5, 159, 0, 5, 3, 172, 21, 5, 154, 0, 16]
abbrev dktL_law_9 : List UInt8 := dkwL_law_9 ++ dktL_law_10
def dkwL_law_8 : List UInt8 := [96, 46, 42, 21, 4, 5, 96, 46, 45, 184, 0, 161, 54, 5, 44, 42, 21, 4, 4, 96, 46, 42, 21, 4]
abbrev dktL_law_8 : List UInt8 := dkwL_law_8 ++ dktL_law_9
def dkwL_law_7 : List UInt8 := [154, 0, 16, 45, 180, 0, 13, 21, 6, 133, 148, 153, 0, 5, 3, 172, 167, 6, 252, 43, 42, 21, 4, 4]
abbrev dktL_law_7 : List UInt8 := dkwL_law_7 ++ dktL_law_8
def dkwL_law_6 : List UInt8 := [42, 21, 4, 5, 96, 46, 182, 0, 160, 54, 6, 44, 182, 0, 154, 21, 5, 159, 0, 5, 3, 172, 21, 5]
abbrev dktL_law_6 : List UInt8 := dkwL_law_6 ++ dktL_law_7
def dkwL_law_5 : List UInt8 := [21, 4, 4, 96, 46, 42, 21, 4, 5, 96, 46, 45, 184, 0, 157, 54, 5, 44, 42, 21, 4, 4, 96, 46]
abbrev dktL_law_5 : List UInt8 := dkwL_law_5 ++ dktL_law_6
def dkwL_law_4 : List UInt8 := [21, 5, 154, 0, 16, 45, 180, 0, 13, 21, 6, 133, 148, 153, 0, 5, 3, 172, 167, 7, 65, 43, 42]
abbrev dktL_law_4 : List UInt8 := dkwL_law_4 ++ dktL_law_5
def dkwL_law_3 : List UInt8 := [43, 45, 184, 0, 148, 54, 5, 44, 182, 0, 153, 54, 6, 44, 182, 0, 154, 21, 5, 159, 0, 5, 3, 172]
abbrev dktL_law_3 : List UInt8 := dkwL_law_3 ++ dktL_law_4
def dkwL_law_2 : List UInt8 := [170, 0, 0, 7, 252, 0, 0, 0, 0, 0, 0, 0, 32, 0, 0, 0, 145, 0, 0, 0, 190, 0, 0, 1, 3, 0, 0, 1, 72, 0, 0, 1, 141, 0, 0, 1, 224, 0, 0, 2, 63, 0, 0, 2, 132, 0, 0, 2, 189, 0, 0, 3, 40, 0, 0, 3, 95, 0, 0, 3, 152, 0, 0, 3, 209, 0, 0, 3, 222, 0, 0, 4, 23, 0, 0, 4, 80, 0, 0, 4, 144, 0, 0, 4, 199, 0, 0, 5, 0, 0, 0, 5, 55, 0, 0, 5, 112, 0, 0, 5, 169, 0, 0, 5, 233, 0, 0, 6, 53, 0, 0, 6, 110, 0, 0, 6, 167, 0, 0, 6, 224, 0, 0, 7, 25, 0, 0, 7, 38, 0, 0, 7, 51, 0, 0, 7, 109, 0, 0, 7, 123, 0, 0, 7, 188]
abbrev dktL_law_2 : List UInt8 := dkwL_law_2 ++ dktL_law_3
def dkwL_law_1 : List UInt8 := [3, 54, 4, 21, 4, 42, 190, 8, 100, 163, 8, 12, 42, 21, 4, 46, 16, 63, 126]
abbrev dktL_law_1 : List UInt8 := dkwL_law_1 ++ dktL_law_2
def dkwL_law_0 : List UInt8 := [187, 0, 8, 89, 183, 0, 143, 76, 187, 0, 144, 89, 183, 0, 146, 77, 187, 0, 14, 89, 183, 0, 147, 78]
abbrev dktL_law_0 : List UInt8 := dkwL_law_0 ++ dktL_law_1
theorem dksL_law_0 : cL_law.data.toList.drop 0 = dktL_law_0 := by decide +kernel
theorem dksL_law_1 : cL_law.data.toList.drop 24 = dktL_law_1 := dk_seg dksL_law_0 24 rfl rfl
theorem dksL_law_2 : cL_law.data.toList.drop 43 = dktL_law_2 := dk_seg dksL_law_1 19 rfl rfl
theorem dksL_law_3 : cL_law.data.toList.drop 188 = dktL_law_3 := dk_seg dksL_law_2 145 rfl rfl
theorem dksL_law_4 : cL_law.data.toList.drop 212 = dktL_law_4 := dk_seg dksL_law_3 24 rfl rfl
theorem dksL_law_5 : cL_law.data.toList.drop 235 = dktL_law_5 := dk_seg dksL_law_4 23 rfl rfl
theorem dksL_law_6 : cL_law.data.toList.drop 259 = dktL_law_6 := dk_seg dksL_law_5 24 rfl rfl
theorem dksL_law_7 : cL_law.data.toList.drop 283 = dktL_law_7 := dk_seg dksL_law_6 24 rfl rfl
theorem dksL_law_8 : cL_law.data.toList.drop 307 = dktL_law_8 := dk_seg dksL_law_7 24 rfl rfl
theorem dksL_law_9 : cL_law.data.toList.drop 331 = dktL_law_9 := dk_seg dksL_law_8 24 rfl rfl
theorem dksL_law_10 : cL_law.data.toList.drop 355 = dktL_law_10 := dk_seg dksL_law_9 24 rfl rfl
theorem dksL_law_11 : cL_law.data.toList.drop 379 = dktL_law_11 := dk_seg dksL_law_10 24 rfl rfl
theorem dksL_law_12 : cL_law.data.toList.drop 403 = dktL_law_12 := dk_seg dksL_law_11 24 rfl rfl
theorem dksL_law_13 : cL_law.data.toList.drop 425 = dktL_law_13 := dk_seg dksL_law_12 22 rfl rfl
theorem dksL_law_14 : cL_law.data.toList.drop 449 = dktL_law_14 := dk_seg dksL_law_13 24 rfl rfl
theorem dksL_law_15 : cL_law.data.toList.drop 472 = dktL_law_15 := dk_seg dksL_law_14 23 rfl rfl
theorem dksL_law_16 : cL_law.data.toList.drop 495 = dktL_law_16 := dk_seg dksL_law_15 23 rfl rfl
theorem dksL_law_17 : cL_law.data.toList.drop 519 = dktL_law_17 := dk_seg dksL_law_16 24 rfl rfl
theorem dksL_law_18 : cL_law.data.toList.drop 543 = dktL_law_18 := dk_seg dksL_law_17 24 rfl rfl
theorem dksL_law_19 : cL_law.data.toList.drop 567 = dktL_law_19 := dk_seg dksL_law_18 24 rfl rfl
theorem dksL_law_20 : cL_law.data.toList.drop 590 = dktL_law_20 := dk_seg dksL_law_19 23 rfl rfl
theorem dksL_law_21 : cL_law.data.toList.drop 614 = dktL_law_21 := dk_seg dksL_law_20 24 rfl rfl
theorem dksL_law_22 : cL_law.data.toList.drop 638 = dktL_law_22 := dk_seg dksL_law_21 24 rfl rfl
theorem dksL_law_23 : cL_law.data.toList.drop 661 = dktL_law_23 := dk_seg dksL_law_22 23 rfl rfl
theorem dksL_law_24 : cL_law.data.toList.drop 684 = dktL_law_24 := dk_seg dksL_law_23 23 rfl rfl
theorem dksL_law_25 : cL_law.data.toList.drop 707 = dktL_law_25 := dk_seg dksL_law_24 23 rfl rfl
theorem dksL_law_26 : cL_law.data.toList.drop 729 = dktL_law_26 := dk_seg dksL_law_25 22 rfl rfl
theorem dksL_law_27 : cL_law.data.toList.drop 752 = dktL_law_27 := dk_seg dksL_law_26 23 rfl rfl
theorem dksL_law_28 : cL_law.data.toList.drop 776 = dktL_law_28 := dk_seg dksL_law_27 24 rfl rfl
theorem dksL_law_29 : cL_law.data.toList.drop 800 = dktL_law_29 := dk_seg dksL_law_28 24 rfl rfl
theorem dksL_law_30 : cL_law.data.toList.drop 823 = dktL_law_30 := dk_seg dksL_law_29 23 rfl rfl
theorem dksL_law_31 : cL_law.data.toList.drop 847 = dktL_law_31 := dk_seg dksL_law_30 24 rfl rfl
theorem dksL_law_32 : cL_law.data.toList.drop 871 = dktL_law_32 := dk_seg dksL_law_31 24 rfl rfl
theorem dksL_law_33 : cL_law.data.toList.drop 893 = dktL_law_33 := dk_seg dksL_law_32 22 rfl rfl
theorem dksL_law_34 : cL_law.data.toList.drop 917 = dktL_law_34 := dk_seg dksL_law_33 24 rfl rfl
theorem dksL_law_35 : cL_law.data.toList.drop 941 = dktL_law_35 := dk_seg dksL_law_34 24 rfl rfl
theorem dksL_law_36 : cL_law.data.toList.drop 965 = dktL_law_36 := dk_seg dksL_law_35 24 rfl rfl
theorem dksL_law_37 : cL_law.data.toList.drop 989 = dktL_law_37 := dk_seg dksL_law_36 24 rfl rfl
theorem dksL_law_38 : cL_law.data.toList.drop 1012 = dktL_law_38 := dk_seg dksL_law_37 23 rfl rfl
theorem dksL_law_39 : cL_law.data.toList.drop 1035 = dktL_law_39 := dk_seg dksL_law_38 23 rfl rfl
theorem dksL_law_40 : cL_law.data.toList.drop 1059 = dktL_law_40 := dk_seg dksL_law_39 24 rfl rfl
theorem dksL_law_41 : cL_law.data.toList.drop 1082 = dktL_law_41 := dk_seg dksL_law_40 23 rfl rfl
theorem dksL_law_42 : cL_law.data.toList.drop 1105 = dktL_law_42 := dk_seg dksL_law_41 23 rfl rfl
theorem dksL_law_43 : cL_law.data.toList.drop 1128 = dktL_law_43 := dk_seg dksL_law_42 23 rfl rfl
theorem dksL_law_44 : cL_law.data.toList.drop 1152 = dktL_law_44 := dk_seg dksL_law_43 24 rfl rfl
theorem dksL_law_45 : cL_law.data.toList.drop 1176 = dktL_law_45 := dk_seg dksL_law_44 24 rfl rfl
theorem dksL_law_46 : cL_law.data.toList.drop 1198 = dktL_law_46 := dk_seg dksL_law_45 22 rfl rfl
theorem dksL_law_47 : cL_law.data.toList.drop 1222 = dktL_law_47 := dk_seg dksL_law_46 24 rfl rfl
theorem dksL_law_48 : cL_law.data.toList.drop 1246 = dktL_law_48 := dk_seg dksL_law_47 24 rfl rfl
theorem dksL_law_49 : cL_law.data.toList.drop 1270 = dktL_law_49 := dk_seg dksL_law_48 24 rfl rfl
theorem dksL_law_50 : cL_law.data.toList.drop 1292 = dktL_law_50 := dk_seg dksL_law_49 22 rfl rfl
theorem dksL_law_51 : cL_law.data.toList.drop 1315 = dktL_law_51 := dk_seg dksL_law_50 23 rfl rfl
theorem dksL_law_52 : cL_law.data.toList.drop 1338 = dktL_law_52 := dk_seg dksL_law_51 23 rfl rfl
theorem dksL_law_53 : cL_law.data.toList.drop 1361 = dktL_law_53 := dk_seg dksL_law_52 23 rfl rfl
theorem dksL_law_54 : cL_law.data.toList.drop 1385 = dktL_law_54 := dk_seg dksL_law_53 24 rfl rfl
theorem dksL_law_55 : cL_law.data.toList.drop 1409 = dktL_law_55 := dk_seg dksL_law_54 24 rfl rfl
theorem dksL_law_56 : cL_law.data.toList.drop 1432 = dktL_law_56 := dk_seg dksL_law_55 23 rfl rfl
theorem dksL_law_57 : cL_law.data.toList.drop 1455 = dktL_law_57 := dk_seg dksL_law_56 23 rfl rfl
theorem dksL_law_58 : cL_law.data.toList.drop 1477 = dktL_law_58 := dk_seg dksL_law_57 22 rfl rfl
theorem dksL_law_59 : cL_law.data.toList.drop 1500 = dktL_law_59 := dk_seg dksL_law_58 23 rfl rfl
theorem dksL_law_60 : cL_law.data.toList.drop 1523 = dktL_law_60 := dk_seg dksL_law_59 23 rfl rfl
theorem dksL_law_61 : cL_law.data.toList.drop 1547 = dktL_law_61 := dk_seg dksL_law_60 24 rfl rfl
theorem dksL_law_62 : cL_law.data.toList.drop 1570 = dktL_law_62 := dk_seg dksL_law_61 23 rfl rfl
theorem dksL_law_63 : cL_law.data.toList.drop 1594 = dktL_law_63 := dk_seg dksL_law_62 24 rfl rfl
theorem dksL_law_64 : cL_law.data.toList.drop 1618 = dktL_law_64 := dk_seg dksL_law_63 24 rfl rfl
theorem dksL_law_65 : cL_law.data.toList.drop 1640 = dktL_law_65 := dk_seg dksL_law_64 22 rfl rfl
theorem dksL_law_66 : cL_law.data.toList.drop 1663 = dktL_law_66 := dk_seg dksL_law_65 23 rfl rfl
theorem dksL_law_67 : cL_law.data.toList.drop 1686 = dktL_law_67 := dk_seg dksL_law_66 23 rfl rfl
theorem dksL_law_68 : cL_law.data.toList.drop 1709 = dktL_law_68 := dk_seg dksL_law_67 23 rfl rfl
theorem dksL_law_69 : cL_law.data.toList.drop 1731 = dktL_law_69 := dk_seg dksL_law_68 22 rfl rfl
theorem dksL_law_70 : cL_law.data.toList.drop 1754 = dktL_law_70 := dk_seg dksL_law_69 23 rfl rfl
theorem dksL_law_71 : cL_law.data.toList.drop 1777 = dktL_law_71 := dk_seg dksL_law_70 23 rfl rfl
theorem dksL_law_72 : cL_law.data.toList.drop 1800 = dktL_law_72 := dk_seg dksL_law_71 23 rfl rfl
theorem dksL_law_73 : cL_law.data.toList.drop 1823 = dktL_law_73 := dk_seg dksL_law_72 23 rfl rfl
theorem dksL_law_74 : cL_law.data.toList.drop 1845 = dktL_law_74 := dk_seg dksL_law_73 22 rfl rfl
theorem dksL_law_75 : cL_law.data.toList.drop 1868 = dktL_law_75 := dk_seg dksL_law_74 23 rfl rfl
theorem dksL_law_76 : cL_law.data.toList.drop 1892 = dktL_law_76 := dk_seg dksL_law_75 24 rfl rfl
theorem dksL_law_77 : cL_law.data.toList.drop 1915 = dktL_law_77 := dk_seg dksL_law_76 23 rfl rfl
theorem dksL_law_78 : cL_law.data.toList.drop 1939 = dktL_law_78 := dk_seg dksL_law_77 24 rfl rfl
theorem dksL_law_79 : cL_law.data.toList.drop 1963 = dktL_law_79 := dk_seg dksL_law_78 24 rfl rfl
theorem dksL_law_80 : cL_law.data.toList.drop 1987 = dktL_law_80 := dk_seg dksL_law_79 24 rfl rfl
theorem dksL_law_81 : cL_law.data.toList.drop 2010 = dktL_law_81 := dk_seg dksL_law_80 23 rfl rfl
theorem dksL_law_82 : cL_law.data.toList.drop 2034 = dktL_law_82 := dk_seg dksL_law_81 24 rfl rfl
theorem dksL_law_83 : cL_law.data.toList.drop 2058 = dktL_law_83 := dk_seg dksL_law_82 24 rfl rfl
theorem dksL_law_84 : cL_law.data.toList.drop 2082 = dktL_law_84 := dk_seg dksL_law_83 24 rfl rfl
theorem dL_law_0 : decode cL_law 0 = .ok (.new 8, 3) := dk_187 0 8 (dk_at dksL_law_0 0 rfl rfl)
theorem dL_law_3 : decode cL_law 3 = .ok (.dup, 1) := dk_89 (dk_at dksL_law_0 3 rfl rfl)
theorem dL_law_4 : decode cL_law 4 = .ok (.invokespecial 143, 3) := dk_183 0 143 (dk_at dksL_law_0 4 rfl rfl)
theorem dL_law_7 : decode cL_law 7 = .ok (.astore_n 1, 1) := dk_76 (dk_at dksL_law_0 7 rfl rfl)
theorem dL_law_8 : decode cL_law 8 = .ok (.new 144, 3) := dk_187 0 144 (dk_at dksL_law_0 8 rfl rfl)
theorem dL_law_11 : decode cL_law 11 = .ok (.dup, 1) := dk_89 (dk_at dksL_law_0 11 rfl rfl)
theorem dL_law_12 : decode cL_law 12 = .ok (.invokespecial 146, 3) := dk_183 0 146 (dk_at dksL_law_0 12 rfl rfl)
theorem dL_law_15 : decode cL_law 15 = .ok (.astore_n 2, 1) := dk_77 (dk_at dksL_law_0 15 rfl rfl)
theorem dL_law_16 : decode cL_law 16 = .ok (.new 14, 3) := dk_187 0 14 (dk_at dksL_law_0 16 rfl rfl)
theorem dL_law_19 : decode cL_law 19 = .ok (.dup, 1) := dk_89 (dk_at dksL_law_0 19 rfl rfl)
theorem dL_law_20 : decode cL_law 20 = .ok (.invokespecial 147, 3) := dk_183 0 147 (dk_at dksL_law_0 20 rfl rfl)
theorem dL_law_23 : decode cL_law 23 = .ok (.astore_n 3, 1) := dk_78 (dk_at dksL_law_0 23 rfl rfl)
theorem dL_law_24 : decode cL_law 24 = .ok (.iconst 0, 1) := dk_3 (dk_at dksL_law_1 0 rfl rfl)
theorem dL_law_25 : decode cL_law 25 = .ok (.istore 4, 2) := dk_54 4 (dk_at dksL_law_1 1 rfl rfl)
theorem dL_law_27 : decode cL_law 27 = .ok (.iload 4, 2) := dk_21 4 (dk_at dksL_law_1 3 rfl rfl)
theorem dL_law_29 : decode cL_law 29 = .ok (.aload_n 0, 1) := dk_42 (dk_at dksL_law_1 5 rfl rfl)
theorem dL_law_30 : decode cL_law 30 = .ok (.arraylength, 1) := dk_190 (dk_at dksL_law_1 6 rfl rfl)
theorem dL_law_31 : decode cL_law 31 = .ok (.iconst 5, 1) := dk_8 (dk_at dksL_law_1 7 rfl rfl)
theorem dL_law_32 : decode cL_law 32 = .ok (.isub, 1) := dk_100 (dk_at dksL_law_1 8 rfl rfl)
theorem dL_law_33 : decode cL_law 33 = .ok (.if_icmp .gt 2060, 3) := dk_163 8 12 (dk_at dksL_law_1 9 rfl rfl)
theorem dL_law_36 : decode cL_law 36 = .ok (.aload_n 0, 1) := dk_42 (dk_at dksL_law_1 12 rfl rfl)
theorem dL_law_37 : decode cL_law 37 = .ok (.iload 4, 2) := dk_21 4 (dk_at dksL_law_1 13 rfl rfl)
theorem dL_law_39 : decode cL_law 39 = .ok (.iaload, 1) := dk_46 (dk_at dksL_law_1 15 rfl rfl)
theorem dL_law_40 : decode cL_law 40 = .ok (.bipush 63, 2) := dk_16 63 (dk_at dksL_law_1 16 rfl rfl)
theorem dL_law_42 : decode cL_law 42 = .ok (.iand, 1) := dk_126 (dk_at dksL_law_1 18 rfl rfl)
theorem dL_law_43 : decode cL_law 43 = .ok (.tableswitch 2044 0 32 #[145, 190, 259, 328, 397, 480, 575, 644, 701, 808, 863, 920, 977, 990, 1047, 1104, 1168, 1223, 1280, 1335, 1392, 1449, 1513, 1589, 1646, 1703, 1760, 1817, 1830, 1843, 1901, 1915, 1980], 145) := by decide +kernel
theorem dL_law_188 : decode cL_law 188 = .ok (.aload_n 1, 1) := dk_43 (dk_at dksL_law_3 0 rfl rfl)
theorem dL_law_189 : decode cL_law 189 = .ok (.aload_n 3, 1) := dk_45 (dk_at dksL_law_3 1 rfl rfl)
theorem dL_law_190 : decode cL_law 190 = .ok (.invokestatic 148, 3) := dk_184 0 148 (dk_at dksL_law_3 2 rfl rfl)
theorem dL_law_193 : decode cL_law 193 = .ok (.istore 5, 2) := dk_54 5 (dk_at dksL_law_3 5 rfl rfl)
theorem dL_law_195 : decode cL_law 195 = .ok (.aload_n 2, 1) := dk_44 (dk_at dksL_law_3 7 rfl rfl)
theorem dL_law_196 : decode cL_law 196 = .ok (.invokevirtual 153, 3) := dk_182 0 153 (dk_at dksL_law_3 8 rfl rfl)
theorem dL_law_199 : decode cL_law 199 = .ok (.istore 6, 2) := dk_54 6 (dk_at dksL_law_3 11 rfl rfl)
theorem dL_law_201 : decode cL_law 201 = .ok (.aload_n 2, 1) := dk_44 (dk_at dksL_law_3 13 rfl rfl)
theorem dL_law_202 : decode cL_law 202 = .ok (.invokevirtual 154, 3) := dk_182 0 154 (dk_at dksL_law_3 14 rfl rfl)
theorem dL_law_205 : decode cL_law 205 = .ok (.iload 5, 2) := dk_21 5 (dk_at dksL_law_3 17 rfl rfl)
theorem dL_law_207 : decode cL_law 207 = .ok (.if_icmp .eq 5, 3) := dk_159 0 5 (dk_at dksL_law_3 19 rfl rfl)
theorem dL_law_210 : decode cL_law 210 = .ok (.iconst 0, 1) := dk_3 (dk_at dksL_law_3 22 rfl rfl)
theorem dL_law_211 : decode cL_law 211 = .ok (.ireturn, 1) := dk_172 (dk_at dksL_law_3 23 rfl rfl)
theorem dL_law_212 : decode cL_law 212 = .ok (.iload 5, 2) := dk_21 5 (dk_at dksL_law_4 0 rfl rfl)
theorem dL_law_214 : decode cL_law 214 = .ok (.ifCond .ne 16, 3) := dk_154 0 16 (dk_at dksL_law_4 2 rfl rfl)
theorem dL_law_217 : decode cL_law 217 = .ok (.aload_n 3, 1) := dk_45 (dk_at dksL_law_4 5 rfl rfl)
theorem dL_law_218 : decode cL_law 218 = .ok (.getfield 13, 3) := dk_180 0 13 (dk_at dksL_law_4 6 rfl rfl)
theorem dL_law_221 : decode cL_law 221 = .ok (.iload 6, 2) := dk_21 6 (dk_at dksL_law_4 9 rfl rfl)
theorem dL_law_223 : decode cL_law 223 = .ok (.i2l, 1) := dk_133 (dk_at dksL_law_4 11 rfl rfl)
theorem dL_law_224 : decode cL_law 224 = .ok (.lcmp, 1) := dk_148 (dk_at dksL_law_4 12 rfl rfl)
theorem dL_law_225 : decode cL_law 225 = .ok (.ifCond .eq 5, 3) := dk_153 0 5 (dk_at dksL_law_4 13 rfl rfl)
theorem dL_law_228 : decode cL_law 228 = .ok (.iconst 0, 1) := dk_3 (dk_at dksL_law_4 16 rfl rfl)
theorem dL_law_229 : decode cL_law 229 = .ok (.ireturn, 1) := dk_172 (dk_at dksL_law_4 17 rfl rfl)
theorem dL_law_230 : decode cL_law 230 = .ok (.goto 1857, 3) := dk_167 7 65 (dk_at dksL_law_4 18 rfl rfl)
theorem dL_law_233 : decode cL_law 233 = .ok (.aload_n 1, 1) := dk_43 (dk_at dksL_law_4 21 rfl rfl)
theorem dL_law_234 : decode cL_law 234 = .ok (.aload_n 0, 1) := dk_42 (dk_at dksL_law_4 22 rfl rfl)
theorem dL_law_235 : decode cL_law 235 = .ok (.iload 4, 2) := dk_21 4 (dk_at dksL_law_5 0 rfl rfl)
theorem dL_law_237 : decode cL_law 237 = .ok (.iconst 1, 1) := dk_4 (dk_at dksL_law_5 2 rfl rfl)
theorem dL_law_238 : decode cL_law 238 = .ok (.iadd, 1) := dk_96 (dk_at dksL_law_5 3 rfl rfl)
theorem dL_law_239 : decode cL_law 239 = .ok (.iaload, 1) := dk_46 (dk_at dksL_law_5 4 rfl rfl)
theorem dL_law_240 : decode cL_law 240 = .ok (.aload_n 0, 1) := dk_42 (dk_at dksL_law_5 5 rfl rfl)
theorem dL_law_241 : decode cL_law 241 = .ok (.iload 4, 2) := dk_21 4 (dk_at dksL_law_5 6 rfl rfl)
theorem dL_law_243 : decode cL_law 243 = .ok (.iconst 2, 1) := dk_5 (dk_at dksL_law_5 8 rfl rfl)
theorem dL_law_244 : decode cL_law 244 = .ok (.iadd, 1) := dk_96 (dk_at dksL_law_5 9 rfl rfl)
theorem dL_law_245 : decode cL_law 245 = .ok (.iaload, 1) := dk_46 (dk_at dksL_law_5 10 rfl rfl)
theorem dL_law_246 : decode cL_law 246 = .ok (.aload_n 3, 1) := dk_45 (dk_at dksL_law_5 11 rfl rfl)
theorem dL_law_247 : decode cL_law 247 = .ok (.invokestatic 157, 3) := dk_184 0 157 (dk_at dksL_law_5 12 rfl rfl)
theorem dL_law_250 : decode cL_law 250 = .ok (.istore 5, 2) := dk_54 5 (dk_at dksL_law_5 15 rfl rfl)
theorem dL_law_252 : decode cL_law 252 = .ok (.aload_n 2, 1) := dk_44 (dk_at dksL_law_5 17 rfl rfl)
theorem dL_law_253 : decode cL_law 253 = .ok (.aload_n 0, 1) := dk_42 (dk_at dksL_law_5 18 rfl rfl)
theorem dL_law_254 : decode cL_law 254 = .ok (.iload 4, 2) := dk_21 4 (dk_at dksL_law_5 19 rfl rfl)
theorem dL_law_256 : decode cL_law 256 = .ok (.iconst 1, 1) := dk_4 (dk_at dksL_law_5 21 rfl rfl)
theorem dL_law_257 : decode cL_law 257 = .ok (.iadd, 1) := dk_96 (dk_at dksL_law_5 22 rfl rfl)
theorem dL_law_258 : decode cL_law 258 = .ok (.iaload, 1) := dk_46 (dk_at dksL_law_5 23 rfl rfl)
theorem dL_law_259 : decode cL_law 259 = .ok (.aload_n 0, 1) := dk_42 (dk_at dksL_law_6 0 rfl rfl)
theorem dL_law_260 : decode cL_law 260 = .ok (.iload 4, 2) := dk_21 4 (dk_at dksL_law_6 1 rfl rfl)
theorem dL_law_262 : decode cL_law 262 = .ok (.iconst 2, 1) := dk_5 (dk_at dksL_law_6 3 rfl rfl)
theorem dL_law_263 : decode cL_law 263 = .ok (.iadd, 1) := dk_96 (dk_at dksL_law_6 4 rfl rfl)
theorem dL_law_264 : decode cL_law 264 = .ok (.iaload, 1) := dk_46 (dk_at dksL_law_6 5 rfl rfl)
theorem dL_law_265 : decode cL_law 265 = .ok (.invokevirtual 160, 3) := dk_182 0 160 (dk_at dksL_law_6 6 rfl rfl)
theorem dL_law_268 : decode cL_law 268 = .ok (.istore 6, 2) := dk_54 6 (dk_at dksL_law_6 9 rfl rfl)
theorem dL_law_270 : decode cL_law 270 = .ok (.aload_n 2, 1) := dk_44 (dk_at dksL_law_6 11 rfl rfl)
theorem dL_law_271 : decode cL_law 271 = .ok (.invokevirtual 154, 3) := dk_182 0 154 (dk_at dksL_law_6 12 rfl rfl)
theorem dL_law_274 : decode cL_law 274 = .ok (.iload 5, 2) := dk_21 5 (dk_at dksL_law_6 15 rfl rfl)
theorem dL_law_276 : decode cL_law 276 = .ok (.if_icmp .eq 5, 3) := dk_159 0 5 (dk_at dksL_law_6 17 rfl rfl)
theorem dL_law_279 : decode cL_law 279 = .ok (.iconst 0, 1) := dk_3 (dk_at dksL_law_6 20 rfl rfl)
theorem dL_law_280 : decode cL_law 280 = .ok (.ireturn, 1) := dk_172 (dk_at dksL_law_6 21 rfl rfl)
theorem dL_law_281 : decode cL_law 281 = .ok (.iload 5, 2) := dk_21 5 (dk_at dksL_law_6 22 rfl rfl)
theorem dL_law_283 : decode cL_law 283 = .ok (.ifCond .ne 16, 3) := dk_154 0 16 (dk_at dksL_law_7 0 rfl rfl)
theorem dL_law_286 : decode cL_law 286 = .ok (.aload_n 3, 1) := dk_45 (dk_at dksL_law_7 3 rfl rfl)
theorem dL_law_287 : decode cL_law 287 = .ok (.getfield 13, 3) := dk_180 0 13 (dk_at dksL_law_7 4 rfl rfl)
theorem dL_law_290 : decode cL_law 290 = .ok (.iload 6, 2) := dk_21 6 (dk_at dksL_law_7 7 rfl rfl)
theorem dL_law_292 : decode cL_law 292 = .ok (.i2l, 1) := dk_133 (dk_at dksL_law_7 9 rfl rfl)
theorem dL_law_293 : decode cL_law 293 = .ok (.lcmp, 1) := dk_148 (dk_at dksL_law_7 10 rfl rfl)
theorem dL_law_294 : decode cL_law 294 = .ok (.ifCond .eq 5, 3) := dk_153 0 5 (dk_at dksL_law_7 11 rfl rfl)
theorem dL_law_297 : decode cL_law 297 = .ok (.iconst 0, 1) := dk_3 (dk_at dksL_law_7 14 rfl rfl)
theorem dL_law_298 : decode cL_law 298 = .ok (.ireturn, 1) := dk_172 (dk_at dksL_law_7 15 rfl rfl)
theorem dL_law_299 : decode cL_law 299 = .ok (.goto 1788, 3) := dk_167 6 252 (dk_at dksL_law_7 16 rfl rfl)
theorem dL_law_302 : decode cL_law 302 = .ok (.aload_n 1, 1) := dk_43 (dk_at dksL_law_7 19 rfl rfl)
theorem dL_law_303 : decode cL_law 303 = .ok (.aload_n 0, 1) := dk_42 (dk_at dksL_law_7 20 rfl rfl)
theorem dL_law_304 : decode cL_law 304 = .ok (.iload 4, 2) := dk_21 4 (dk_at dksL_law_7 21 rfl rfl)
theorem dL_law_306 : decode cL_law 306 = .ok (.iconst 1, 1) := dk_4 (dk_at dksL_law_7 23 rfl rfl)
theorem dL_law_307 : decode cL_law 307 = .ok (.iadd, 1) := dk_96 (dk_at dksL_law_8 0 rfl rfl)
theorem dL_law_308 : decode cL_law 308 = .ok (.iaload, 1) := dk_46 (dk_at dksL_law_8 1 rfl rfl)
theorem dL_law_309 : decode cL_law 309 = .ok (.aload_n 0, 1) := dk_42 (dk_at dksL_law_8 2 rfl rfl)
theorem dL_law_310 : decode cL_law 310 = .ok (.iload 4, 2) := dk_21 4 (dk_at dksL_law_8 3 rfl rfl)
theorem dL_law_312 : decode cL_law 312 = .ok (.iconst 2, 1) := dk_5 (dk_at dksL_law_8 5 rfl rfl)
theorem dL_law_313 : decode cL_law 313 = .ok (.iadd, 1) := dk_96 (dk_at dksL_law_8 6 rfl rfl)
theorem dL_law_314 : decode cL_law 314 = .ok (.iaload, 1) := dk_46 (dk_at dksL_law_8 7 rfl rfl)
theorem dL_law_315 : decode cL_law 315 = .ok (.aload_n 3, 1) := dk_45 (dk_at dksL_law_8 8 rfl rfl)
theorem dL_law_316 : decode cL_law 316 = .ok (.invokestatic 161, 3) := dk_184 0 161 (dk_at dksL_law_8 9 rfl rfl)
theorem dL_law_319 : decode cL_law 319 = .ok (.istore 5, 2) := dk_54 5 (dk_at dksL_law_8 12 rfl rfl)
theorem dL_law_321 : decode cL_law 321 = .ok (.aload_n 2, 1) := dk_44 (dk_at dksL_law_8 14 rfl rfl)
theorem dL_law_322 : decode cL_law 322 = .ok (.aload_n 0, 1) := dk_42 (dk_at dksL_law_8 15 rfl rfl)
theorem dL_law_323 : decode cL_law 323 = .ok (.iload 4, 2) := dk_21 4 (dk_at dksL_law_8 16 rfl rfl)
theorem dL_law_325 : decode cL_law 325 = .ok (.iconst 1, 1) := dk_4 (dk_at dksL_law_8 18 rfl rfl)
theorem dL_law_326 : decode cL_law 326 = .ok (.iadd, 1) := dk_96 (dk_at dksL_law_8 19 rfl rfl)
theorem dL_law_327 : decode cL_law 327 = .ok (.iaload, 1) := dk_46 (dk_at dksL_law_8 20 rfl rfl)
theorem dL_law_328 : decode cL_law 328 = .ok (.aload_n 0, 1) := dk_42 (dk_at dksL_law_8 21 rfl rfl)
theorem dL_law_329 : decode cL_law 329 = .ok (.iload 4, 2) := dk_21 4 (dk_at dksL_law_8 22 rfl rfl)
theorem dL_law_331 : decode cL_law 331 = .ok (.iconst 2, 1) := dk_5 (dk_at dksL_law_9 0 rfl rfl)
theorem dL_law_332 : decode cL_law 332 = .ok (.iadd, 1) := dk_96 (dk_at dksL_law_9 1 rfl rfl)
theorem dL_law_333 : decode cL_law 333 = .ok (.iaload, 1) := dk_46 (dk_at dksL_law_9 2 rfl rfl)
theorem dL_law_334 : decode cL_law 334 = .ok (.invokevirtual 163, 3) := dk_182 0 163 (dk_at dksL_law_9 3 rfl rfl)
theorem dL_law_337 : decode cL_law 337 = .ok (.istore 6, 2) := dk_54 6 (dk_at dksL_law_9 6 rfl rfl)
theorem dL_law_339 : decode cL_law 339 = .ok (.aload_n 2, 1) := dk_44 (dk_at dksL_law_9 8 rfl rfl)
theorem dL_law_340 : decode cL_law 340 = .ok (.invokevirtual 154, 3) := dk_182 0 154 (dk_at dksL_law_9 9 rfl rfl)
theorem dL_law_343 : decode cL_law 343 = .ok (.iload 5, 2) := dk_21 5 (dk_at dksL_law_9 12 rfl rfl)
theorem dL_law_345 : decode cL_law 345 = .ok (.if_icmp .eq 5, 3) := dk_159 0 5 (dk_at dksL_law_9 14 rfl rfl)
theorem dL_law_348 : decode cL_law 348 = .ok (.iconst 0, 1) := dk_3 (dk_at dksL_law_9 17 rfl rfl)
theorem dL_law_349 : decode cL_law 349 = .ok (.ireturn, 1) := dk_172 (dk_at dksL_law_9 18 rfl rfl)
theorem dL_law_350 : decode cL_law 350 = .ok (.iload 5, 2) := dk_21 5 (dk_at dksL_law_9 19 rfl rfl)
theorem dL_law_352 : decode cL_law 352 = .ok (.ifCond .ne 16, 3) := dk_154 0 16 (dk_at dksL_law_9 21 rfl rfl)
theorem dL_law_355 : decode cL_law 355 = .ok (.aload_n 3, 1) := dk_45 (dk_at dksL_law_10 0 rfl rfl)
theorem dL_law_356 : decode cL_law 356 = .ok (.getfield 13, 3) := dk_180 0 13 (dk_at dksL_law_10 1 rfl rfl)
theorem dL_law_359 : decode cL_law 359 = .ok (.iload 6, 2) := dk_21 6 (dk_at dksL_law_10 4 rfl rfl)
theorem dL_law_361 : decode cL_law 361 = .ok (.i2l, 1) := dk_133 (dk_at dksL_law_10 6 rfl rfl)
theorem dL_law_362 : decode cL_law 362 = .ok (.lcmp, 1) := dk_148 (dk_at dksL_law_10 7 rfl rfl)
theorem dL_law_363 : decode cL_law 363 = .ok (.ifCond .eq 5, 3) := dk_153 0 5 (dk_at dksL_law_10 8 rfl rfl)
theorem dL_law_366 : decode cL_law 366 = .ok (.iconst 0, 1) := dk_3 (dk_at dksL_law_10 11 rfl rfl)
theorem dL_law_367 : decode cL_law 367 = .ok (.ireturn, 1) := dk_172 (dk_at dksL_law_10 12 rfl rfl)
theorem dL_law_368 : decode cL_law 368 = .ok (.goto 1719, 3) := dk_167 6 183 (dk_at dksL_law_10 13 rfl rfl)
theorem dL_law_371 : decode cL_law 371 = .ok (.aload_n 1, 1) := dk_43 (dk_at dksL_law_10 16 rfl rfl)
theorem dL_law_372 : decode cL_law 372 = .ok (.aload_n 0, 1) := dk_42 (dk_at dksL_law_10 17 rfl rfl)
theorem dL_law_373 : decode cL_law 373 = .ok (.iload 4, 2) := dk_21 4 (dk_at dksL_law_10 18 rfl rfl)
theorem dL_law_375 : decode cL_law 375 = .ok (.iconst 1, 1) := dk_4 (dk_at dksL_law_10 20 rfl rfl)
theorem dL_law_376 : decode cL_law 376 = .ok (.iadd, 1) := dk_96 (dk_at dksL_law_10 21 rfl rfl)
theorem dL_law_377 : decode cL_law 377 = .ok (.iaload, 1) := dk_46 (dk_at dksL_law_10 22 rfl rfl)
theorem dL_law_378 : decode cL_law 378 = .ok (.aload_n 0, 1) := dk_42 (dk_at dksL_law_10 23 rfl rfl)
theorem dL_law_379 : decode cL_law 379 = .ok (.iload 4, 2) := dk_21 4 (dk_at dksL_law_11 0 rfl rfl)
theorem dL_law_381 : decode cL_law 381 = .ok (.iconst 2, 1) := dk_5 (dk_at dksL_law_11 2 rfl rfl)
theorem dL_law_382 : decode cL_law 382 = .ok (.iadd, 1) := dk_96 (dk_at dksL_law_11 3 rfl rfl)
theorem dL_law_383 : decode cL_law 383 = .ok (.iaload, 1) := dk_46 (dk_at dksL_law_11 4 rfl rfl)
theorem dL_law_384 : decode cL_law 384 = .ok (.aload_n 3, 1) := dk_45 (dk_at dksL_law_11 5 rfl rfl)
theorem dL_law_385 : decode cL_law 385 = .ok (.invokestatic 164, 3) := dk_184 0 164 (dk_at dksL_law_11 6 rfl rfl)
theorem dL_law_388 : decode cL_law 388 = .ok (.istore 5, 2) := dk_54 5 (dk_at dksL_law_11 9 rfl rfl)
theorem dL_law_390 : decode cL_law 390 = .ok (.aload_n 2, 1) := dk_44 (dk_at dksL_law_11 11 rfl rfl)
theorem dL_law_391 : decode cL_law 391 = .ok (.aload_n 0, 1) := dk_42 (dk_at dksL_law_11 12 rfl rfl)
theorem dL_law_392 : decode cL_law 392 = .ok (.iload 4, 2) := dk_21 4 (dk_at dksL_law_11 13 rfl rfl)
theorem dL_law_394 : decode cL_law 394 = .ok (.iconst 1, 1) := dk_4 (dk_at dksL_law_11 15 rfl rfl)
theorem dL_law_395 : decode cL_law 395 = .ok (.iadd, 1) := dk_96 (dk_at dksL_law_11 16 rfl rfl)
theorem dL_law_396 : decode cL_law 396 = .ok (.iaload, 1) := dk_46 (dk_at dksL_law_11 17 rfl rfl)
theorem dL_law_397 : decode cL_law 397 = .ok (.aload_n 0, 1) := dk_42 (dk_at dksL_law_11 18 rfl rfl)
theorem dL_law_398 : decode cL_law 398 = .ok (.iload 4, 2) := dk_21 4 (dk_at dksL_law_11 19 rfl rfl)
theorem dL_law_400 : decode cL_law 400 = .ok (.iconst 2, 1) := dk_5 (dk_at dksL_law_11 21 rfl rfl)
theorem dL_law_401 : decode cL_law 401 = .ok (.iadd, 1) := dk_96 (dk_at dksL_law_11 22 rfl rfl)
theorem dL_law_402 : decode cL_law 402 = .ok (.iaload, 1) := dk_46 (dk_at dksL_law_11 23 rfl rfl)
theorem dL_law_403 : decode cL_law 403 = .ok (.invokevirtual 166, 3) := dk_182 0 166 (dk_at dksL_law_12 0 rfl rfl)
theorem dL_law_406 : decode cL_law 406 = .ok (.istore 6, 2) := dk_54 6 (dk_at dksL_law_12 3 rfl rfl)
theorem dL_law_408 : decode cL_law 408 = .ok (.aload_n 2, 1) := dk_44 (dk_at dksL_law_12 5 rfl rfl)
theorem dL_law_409 : decode cL_law 409 = .ok (.invokevirtual 154, 3) := dk_182 0 154 (dk_at dksL_law_12 6 rfl rfl)
theorem dL_law_412 : decode cL_law 412 = .ok (.iload 5, 2) := dk_21 5 (dk_at dksL_law_12 9 rfl rfl)
theorem dL_law_414 : decode cL_law 414 = .ok (.if_icmp .eq 5, 3) := dk_159 0 5 (dk_at dksL_law_12 11 rfl rfl)
theorem dL_law_417 : decode cL_law 417 = .ok (.iconst 0, 1) := dk_3 (dk_at dksL_law_12 14 rfl rfl)
theorem dL_law_418 : decode cL_law 418 = .ok (.ireturn, 1) := dk_172 (dk_at dksL_law_12 15 rfl rfl)
theorem dL_law_419 : decode cL_law 419 = .ok (.iload 5, 2) := dk_21 5 (dk_at dksL_law_12 16 rfl rfl)
theorem dL_law_421 : decode cL_law 421 = .ok (.ifCond .ne 16, 3) := dk_154 0 16 (dk_at dksL_law_12 18 rfl rfl)
theorem dL_law_424 : decode cL_law 424 = .ok (.aload_n 3, 1) := dk_45 (dk_at dksL_law_12 21 rfl rfl)
theorem dL_law_425 : decode cL_law 425 = .ok (.getfield 13, 3) := dk_180 0 13 (dk_at dksL_law_13 0 rfl rfl)
theorem dL_law_428 : decode cL_law 428 = .ok (.iload 6, 2) := dk_21 6 (dk_at dksL_law_13 3 rfl rfl)
theorem dL_law_430 : decode cL_law 430 = .ok (.i2l, 1) := dk_133 (dk_at dksL_law_13 5 rfl rfl)
theorem dL_law_431 : decode cL_law 431 = .ok (.lcmp, 1) := dk_148 (dk_at dksL_law_13 6 rfl rfl)
theorem dL_law_432 : decode cL_law 432 = .ok (.ifCond .eq 5, 3) := dk_153 0 5 (dk_at dksL_law_13 7 rfl rfl)
theorem dL_law_435 : decode cL_law 435 = .ok (.iconst 0, 1) := dk_3 (dk_at dksL_law_13 10 rfl rfl)
theorem dL_law_436 : decode cL_law 436 = .ok (.ireturn, 1) := dk_172 (dk_at dksL_law_13 11 rfl rfl)
theorem dL_law_437 : decode cL_law 437 = .ok (.goto 1650, 3) := dk_167 6 114 (dk_at dksL_law_13 12 rfl rfl)
theorem dL_law_440 : decode cL_law 440 = .ok (.aload_n 1, 1) := dk_43 (dk_at dksL_law_13 15 rfl rfl)
theorem dL_law_441 : decode cL_law 441 = .ok (.new 167, 3) := dk_187 0 167 (dk_at dksL_law_13 16 rfl rfl)
theorem dL_law_444 : decode cL_law 444 = .ok (.dup, 1) := dk_89 (dk_at dksL_law_13 19 rfl rfl)
theorem dL_law_445 : decode cL_law 445 = .ok (.aload_n 0, 1) := dk_42 (dk_at dksL_law_13 20 rfl rfl)
theorem dL_law_446 : decode cL_law 446 = .ok (.iload 4, 2) := dk_21 4 (dk_at dksL_law_13 21 rfl rfl)
theorem dL_law_448 : decode cL_law 448 = .ok (.iconst 1, 1) := dk_4 (dk_at dksL_law_13 23 rfl rfl)
theorem dL_law_449 : decode cL_law 449 = .ok (.iadd, 1) := dk_96 (dk_at dksL_law_14 0 rfl rfl)
theorem dL_law_450 : decode cL_law 450 = .ok (.iaload, 1) := dk_46 (dk_at dksL_law_14 1 rfl rfl)
theorem dL_law_451 : decode cL_law 451 = .ok (.aload_n 0, 1) := dk_42 (dk_at dksL_law_14 2 rfl rfl)
theorem dL_law_452 : decode cL_law 452 = .ok (.iload 4, 2) := dk_21 4 (dk_at dksL_law_14 3 rfl rfl)
theorem dL_law_454 : decode cL_law 454 = .ok (.iconst 2, 1) := dk_5 (dk_at dksL_law_14 5 rfl rfl)
theorem dL_law_455 : decode cL_law 455 = .ok (.iadd, 1) := dk_96 (dk_at dksL_law_14 6 rfl rfl)
theorem dL_law_456 : decode cL_law 456 = .ok (.iaload, 1) := dk_46 (dk_at dksL_law_14 7 rfl rfl)
theorem dL_law_457 : decode cL_law 457 = .ok (.invokespecial 169, 3) := dk_183 0 169 (dk_at dksL_law_14 8 rfl rfl)
theorem dL_law_460 : decode cL_law 460 = .ok (.aload_n 3, 1) := dk_45 (dk_at dksL_law_14 11 rfl rfl)
theorem dL_law_461 : decode cL_law 461 = .ok (.invokestatic 172, 3) := dk_184 0 172 (dk_at dksL_law_14 12 rfl rfl)
theorem dL_law_464 : decode cL_law 464 = .ok (.istore 5, 2) := dk_54 5 (dk_at dksL_law_14 15 rfl rfl)
theorem dL_law_466 : decode cL_law 466 = .ok (.aload_n 2, 1) := dk_44 (dk_at dksL_law_14 17 rfl rfl)
theorem dL_law_467 : decode cL_law 467 = .ok (.new 167, 3) := dk_187 0 167 (dk_at dksL_law_14 18 rfl rfl)
theorem dL_law_470 : decode cL_law 470 = .ok (.dup, 1) := dk_89 (dk_at dksL_law_14 21 rfl rfl)
theorem dL_law_471 : decode cL_law 471 = .ok (.aload_n 0, 1) := dk_42 (dk_at dksL_law_14 22 rfl rfl)
theorem dL_law_472 : decode cL_law 472 = .ok (.iload 4, 2) := dk_21 4 (dk_at dksL_law_15 0 rfl rfl)
theorem dL_law_474 : decode cL_law 474 = .ok (.iconst 1, 1) := dk_4 (dk_at dksL_law_15 2 rfl rfl)
theorem dL_law_475 : decode cL_law 475 = .ok (.iadd, 1) := dk_96 (dk_at dksL_law_15 3 rfl rfl)
theorem dL_law_476 : decode cL_law 476 = .ok (.iaload, 1) := dk_46 (dk_at dksL_law_15 4 rfl rfl)
theorem dL_law_477 : decode cL_law 477 = .ok (.aload_n 0, 1) := dk_42 (dk_at dksL_law_15 5 rfl rfl)
theorem dL_law_478 : decode cL_law 478 = .ok (.iload 4, 2) := dk_21 4 (dk_at dksL_law_15 6 rfl rfl)
theorem dL_law_480 : decode cL_law 480 = .ok (.iconst 2, 1) := dk_5 (dk_at dksL_law_15 8 rfl rfl)
theorem dL_law_481 : decode cL_law 481 = .ok (.iadd, 1) := dk_96 (dk_at dksL_law_15 9 rfl rfl)
theorem dL_law_482 : decode cL_law 482 = .ok (.iaload, 1) := dk_46 (dk_at dksL_law_15 10 rfl rfl)
theorem dL_law_483 : decode cL_law 483 = .ok (.invokespecial 169, 3) := dk_183 0 169 (dk_at dksL_law_15 11 rfl rfl)
theorem dL_law_486 : decode cL_law 486 = .ok (.invokevirtual 175, 3) := dk_182 0 175 (dk_at dksL_law_15 14 rfl rfl)
theorem dL_law_489 : decode cL_law 489 = .ok (.istore 6, 2) := dk_54 6 (dk_at dksL_law_15 17 rfl rfl)
theorem dL_law_491 : decode cL_law 491 = .ok (.aload_n 2, 1) := dk_44 (dk_at dksL_law_15 19 rfl rfl)
theorem dL_law_492 : decode cL_law 492 = .ok (.invokevirtual 154, 3) := dk_182 0 154 (dk_at dksL_law_15 20 rfl rfl)
theorem dL_law_495 : decode cL_law 495 = .ok (.iload 5, 2) := dk_21 5 (dk_at dksL_law_16 0 rfl rfl)
theorem dL_law_497 : decode cL_law 497 = .ok (.if_icmp .eq 5, 3) := dk_159 0 5 (dk_at dksL_law_16 2 rfl rfl)
theorem dL_law_500 : decode cL_law 500 = .ok (.iconst 0, 1) := dk_3 (dk_at dksL_law_16 5 rfl rfl)
theorem dL_law_501 : decode cL_law 501 = .ok (.ireturn, 1) := dk_172 (dk_at dksL_law_16 6 rfl rfl)
theorem dL_law_502 : decode cL_law 502 = .ok (.iload 5, 2) := dk_21 5 (dk_at dksL_law_16 7 rfl rfl)
theorem dL_law_504 : decode cL_law 504 = .ok (.ifCond .ne 16, 3) := dk_154 0 16 (dk_at dksL_law_16 9 rfl rfl)
theorem dL_law_507 : decode cL_law 507 = .ok (.aload_n 3, 1) := dk_45 (dk_at dksL_law_16 12 rfl rfl)
theorem dL_law_508 : decode cL_law 508 = .ok (.getfield 13, 3) := dk_180 0 13 (dk_at dksL_law_16 13 rfl rfl)
theorem dL_law_511 : decode cL_law 511 = .ok (.iload 6, 2) := dk_21 6 (dk_at dksL_law_16 16 rfl rfl)
theorem dL_law_513 : decode cL_law 513 = .ok (.i2l, 1) := dk_133 (dk_at dksL_law_16 18 rfl rfl)
theorem dL_law_514 : decode cL_law 514 = .ok (.lcmp, 1) := dk_148 (dk_at dksL_law_16 19 rfl rfl)
theorem dL_law_515 : decode cL_law 515 = .ok (.ifCond .eq 5, 3) := dk_153 0 5 (dk_at dksL_law_16 20 rfl rfl)
theorem dL_law_518 : decode cL_law 518 = .ok (.iconst 0, 1) := dk_3 (dk_at dksL_law_16 23 rfl rfl)
theorem dL_law_519 : decode cL_law 519 = .ok (.ireturn, 1) := dk_172 (dk_at dksL_law_17 0 rfl rfl)
theorem dL_law_520 : decode cL_law 520 = .ok (.goto 1567, 3) := dk_167 6 31 (dk_at dksL_law_17 1 rfl rfl)
theorem dL_law_523 : decode cL_law 523 = .ok (.aload_n 1, 1) := dk_43 (dk_at dksL_law_17 4 rfl rfl)
theorem dL_law_524 : decode cL_law 524 = .ok (.new 176, 3) := dk_187 0 176 (dk_at dksL_law_17 5 rfl rfl)
theorem dL_law_527 : decode cL_law 527 = .ok (.dup, 1) := dk_89 (dk_at dksL_law_17 8 rfl rfl)
theorem dL_law_528 : decode cL_law 528 = .ok (.aload_n 0, 1) := dk_42 (dk_at dksL_law_17 9 rfl rfl)
theorem dL_law_529 : decode cL_law 529 = .ok (.iload 4, 2) := dk_21 4 (dk_at dksL_law_17 10 rfl rfl)
theorem dL_law_531 : decode cL_law 531 = .ok (.iconst 1, 1) := dk_4 (dk_at dksL_law_17 12 rfl rfl)
theorem dL_law_532 : decode cL_law 532 = .ok (.iadd, 1) := dk_96 (dk_at dksL_law_17 13 rfl rfl)
theorem dL_law_533 : decode cL_law 533 = .ok (.iaload, 1) := dk_46 (dk_at dksL_law_17 14 rfl rfl)
theorem dL_law_534 : decode cL_law 534 = .ok (.aload_n 0, 1) := dk_42 (dk_at dksL_law_17 15 rfl rfl)
theorem dL_law_535 : decode cL_law 535 = .ok (.iload 4, 2) := dk_21 4 (dk_at dksL_law_17 16 rfl rfl)
theorem dL_law_537 : decode cL_law 537 = .ok (.iconst 2, 1) := dk_5 (dk_at dksL_law_17 18 rfl rfl)
theorem dL_law_538 : decode cL_law 538 = .ok (.iadd, 1) := dk_96 (dk_at dksL_law_17 19 rfl rfl)
theorem dL_law_539 : decode cL_law 539 = .ok (.iaload, 1) := dk_46 (dk_at dksL_law_17 20 rfl rfl)
theorem dL_law_540 : decode cL_law 540 = .ok (.aload_n 0, 1) := dk_42 (dk_at dksL_law_17 21 rfl rfl)
theorem dL_law_541 : decode cL_law 541 = .ok (.iload 4, 2) := dk_21 4 (dk_at dksL_law_17 22 rfl rfl)
theorem dL_law_543 : decode cL_law 543 = .ok (.iconst 3, 1) := dk_6 (dk_at dksL_law_18 0 rfl rfl)
theorem dL_law_544 : decode cL_law 544 = .ok (.iadd, 1) := dk_96 (dk_at dksL_law_18 1 rfl rfl)
theorem dL_law_545 : decode cL_law 545 = .ok (.iaload, 1) := dk_46 (dk_at dksL_law_18 2 rfl rfl)
theorem dL_law_546 : decode cL_law 546 = .ok (.invokespecial 178, 3) := dk_183 0 178 (dk_at dksL_law_18 3 rfl rfl)
theorem dL_law_549 : decode cL_law 549 = .ok (.aload_n 3, 1) := dk_45 (dk_at dksL_law_18 6 rfl rfl)
theorem dL_law_550 : decode cL_law 550 = .ok (.invokestatic 181, 3) := dk_184 0 181 (dk_at dksL_law_18 7 rfl rfl)
theorem dL_law_553 : decode cL_law 553 = .ok (.istore 5, 2) := dk_54 5 (dk_at dksL_law_18 10 rfl rfl)
theorem dL_law_555 : decode cL_law 555 = .ok (.aload_n 2, 1) := dk_44 (dk_at dksL_law_18 12 rfl rfl)
theorem dL_law_556 : decode cL_law 556 = .ok (.new 176, 3) := dk_187 0 176 (dk_at dksL_law_18 13 rfl rfl)
theorem dL_law_559 : decode cL_law 559 = .ok (.dup, 1) := dk_89 (dk_at dksL_law_18 16 rfl rfl)
theorem dL_law_560 : decode cL_law 560 = .ok (.aload_n 0, 1) := dk_42 (dk_at dksL_law_18 17 rfl rfl)
theorem dL_law_561 : decode cL_law 561 = .ok (.iload 4, 2) := dk_21 4 (dk_at dksL_law_18 18 rfl rfl)
theorem dL_law_563 : decode cL_law 563 = .ok (.iconst 1, 1) := dk_4 (dk_at dksL_law_18 20 rfl rfl)
theorem dL_law_564 : decode cL_law 564 = .ok (.iadd, 1) := dk_96 (dk_at dksL_law_18 21 rfl rfl)
theorem dL_law_565 : decode cL_law 565 = .ok (.iaload, 1) := dk_46 (dk_at dksL_law_18 22 rfl rfl)
theorem dL_law_566 : decode cL_law 566 = .ok (.aload_n 0, 1) := dk_42 (dk_at dksL_law_18 23 rfl rfl)
theorem dL_law_567 : decode cL_law 567 = .ok (.iload 4, 2) := dk_21 4 (dk_at dksL_law_19 0 rfl rfl)
theorem dL_law_569 : decode cL_law 569 = .ok (.iconst 2, 1) := dk_5 (dk_at dksL_law_19 2 rfl rfl)
theorem dL_law_570 : decode cL_law 570 = .ok (.iadd, 1) := dk_96 (dk_at dksL_law_19 3 rfl rfl)
theorem dL_law_571 : decode cL_law 571 = .ok (.iaload, 1) := dk_46 (dk_at dksL_law_19 4 rfl rfl)
theorem dL_law_572 : decode cL_law 572 = .ok (.aload_n 0, 1) := dk_42 (dk_at dksL_law_19 5 rfl rfl)
theorem dL_law_573 : decode cL_law 573 = .ok (.iload 4, 2) := dk_21 4 (dk_at dksL_law_19 6 rfl rfl)
theorem dL_law_575 : decode cL_law 575 = .ok (.iconst 3, 1) := dk_6 (dk_at dksL_law_19 8 rfl rfl)
theorem dL_law_576 : decode cL_law 576 = .ok (.iadd, 1) := dk_96 (dk_at dksL_law_19 9 rfl rfl)
theorem dL_law_577 : decode cL_law 577 = .ok (.iaload, 1) := dk_46 (dk_at dksL_law_19 10 rfl rfl)
theorem dL_law_578 : decode cL_law 578 = .ok (.invokespecial 178, 3) := dk_183 0 178 (dk_at dksL_law_19 11 rfl rfl)
theorem dL_law_581 : decode cL_law 581 = .ok (.invokevirtual 184, 3) := dk_182 0 184 (dk_at dksL_law_19 14 rfl rfl)
theorem dL_law_584 : decode cL_law 584 = .ok (.istore 6, 2) := dk_54 6 (dk_at dksL_law_19 17 rfl rfl)
theorem dL_law_586 : decode cL_law 586 = .ok (.aload_n 2, 1) := dk_44 (dk_at dksL_law_19 19 rfl rfl)
theorem dL_law_587 : decode cL_law 587 = .ok (.invokevirtual 154, 3) := dk_182 0 154 (dk_at dksL_law_19 20 rfl rfl)
theorem dL_law_590 : decode cL_law 590 = .ok (.iload 5, 2) := dk_21 5 (dk_at dksL_law_20 0 rfl rfl)
theorem dL_law_592 : decode cL_law 592 = .ok (.if_icmp .eq 5, 3) := dk_159 0 5 (dk_at dksL_law_20 2 rfl rfl)
theorem dL_law_595 : decode cL_law 595 = .ok (.iconst 0, 1) := dk_3 (dk_at dksL_law_20 5 rfl rfl)
theorem dL_law_596 : decode cL_law 596 = .ok (.ireturn, 1) := dk_172 (dk_at dksL_law_20 6 rfl rfl)
theorem dL_law_597 : decode cL_law 597 = .ok (.iload 5, 2) := dk_21 5 (dk_at dksL_law_20 7 rfl rfl)
theorem dL_law_599 : decode cL_law 599 = .ok (.ifCond .ne 16, 3) := dk_154 0 16 (dk_at dksL_law_20 9 rfl rfl)
theorem dL_law_602 : decode cL_law 602 = .ok (.aload_n 3, 1) := dk_45 (dk_at dksL_law_20 12 rfl rfl)
theorem dL_law_603 : decode cL_law 603 = .ok (.getfield 13, 3) := dk_180 0 13 (dk_at dksL_law_20 13 rfl rfl)
theorem dL_law_606 : decode cL_law 606 = .ok (.iload 6, 2) := dk_21 6 (dk_at dksL_law_20 16 rfl rfl)
theorem dL_law_608 : decode cL_law 608 = .ok (.i2l, 1) := dk_133 (dk_at dksL_law_20 18 rfl rfl)
theorem dL_law_609 : decode cL_law 609 = .ok (.lcmp, 1) := dk_148 (dk_at dksL_law_20 19 rfl rfl)
theorem dL_law_610 : decode cL_law 610 = .ok (.ifCond .eq 5, 3) := dk_153 0 5 (dk_at dksL_law_20 20 rfl rfl)
theorem dL_law_613 : decode cL_law 613 = .ok (.iconst 0, 1) := dk_3 (dk_at dksL_law_20 23 rfl rfl)
theorem dL_law_614 : decode cL_law 614 = .ok (.ireturn, 1) := dk_172 (dk_at dksL_law_21 0 rfl rfl)
theorem dL_law_615 : decode cL_law 615 = .ok (.goto 1472, 3) := dk_167 5 192 (dk_at dksL_law_21 1 rfl rfl)
theorem dL_law_618 : decode cL_law 618 = .ok (.aload_n 1, 1) := dk_43 (dk_at dksL_law_21 4 rfl rfl)
theorem dL_law_619 : decode cL_law 619 = .ok (.aload_n 0, 1) := dk_42 (dk_at dksL_law_21 5 rfl rfl)
theorem dL_law_620 : decode cL_law 620 = .ok (.iload 4, 2) := dk_21 4 (dk_at dksL_law_21 6 rfl rfl)
theorem dL_law_622 : decode cL_law 622 = .ok (.iconst 1, 1) := dk_4 (dk_at dksL_law_21 8 rfl rfl)
theorem dL_law_623 : decode cL_law 623 = .ok (.iadd, 1) := dk_96 (dk_at dksL_law_21 9 rfl rfl)
theorem dL_law_624 : decode cL_law 624 = .ok (.iaload, 1) := dk_46 (dk_at dksL_law_21 10 rfl rfl)
theorem dL_law_625 : decode cL_law 625 = .ok (.aload_n 0, 1) := dk_42 (dk_at dksL_law_21 11 rfl rfl)
theorem dL_law_626 : decode cL_law 626 = .ok (.iload 4, 2) := dk_21 4 (dk_at dksL_law_21 12 rfl rfl)
theorem dL_law_628 : decode cL_law 628 = .ok (.iconst 2, 1) := dk_5 (dk_at dksL_law_21 14 rfl rfl)
theorem dL_law_629 : decode cL_law 629 = .ok (.iadd, 1) := dk_96 (dk_at dksL_law_21 15 rfl rfl)
theorem dL_law_630 : decode cL_law 630 = .ok (.iaload, 1) := dk_46 (dk_at dksL_law_21 16 rfl rfl)
theorem dL_law_631 : decode cL_law 631 = .ok (.aload_n 3, 1) := dk_45 (dk_at dksL_law_21 17 rfl rfl)
theorem dL_law_632 : decode cL_law 632 = .ok (.invokestatic 185, 3) := dk_184 0 185 (dk_at dksL_law_21 18 rfl rfl)
theorem dL_law_635 : decode cL_law 635 = .ok (.istore 5, 2) := dk_54 5 (dk_at dksL_law_21 21 rfl rfl)
theorem dL_law_637 : decode cL_law 637 = .ok (.aload_n 2, 1) := dk_44 (dk_at dksL_law_21 23 rfl rfl)
theorem dL_law_638 : decode cL_law 638 = .ok (.aload_n 0, 1) := dk_42 (dk_at dksL_law_22 0 rfl rfl)
theorem dL_law_639 : decode cL_law 639 = .ok (.iload 4, 2) := dk_21 4 (dk_at dksL_law_22 1 rfl rfl)
theorem dL_law_641 : decode cL_law 641 = .ok (.iconst 1, 1) := dk_4 (dk_at dksL_law_22 3 rfl rfl)
theorem dL_law_642 : decode cL_law 642 = .ok (.iadd, 1) := dk_96 (dk_at dksL_law_22 4 rfl rfl)
theorem dL_law_643 : decode cL_law 643 = .ok (.iaload, 1) := dk_46 (dk_at dksL_law_22 5 rfl rfl)
theorem dL_law_644 : decode cL_law 644 = .ok (.aload_n 0, 1) := dk_42 (dk_at dksL_law_22 6 rfl rfl)
theorem dL_law_645 : decode cL_law 645 = .ok (.iload 4, 2) := dk_21 4 (dk_at dksL_law_22 7 rfl rfl)
theorem dL_law_647 : decode cL_law 647 = .ok (.iconst 2, 1) := dk_5 (dk_at dksL_law_22 9 rfl rfl)
theorem dL_law_648 : decode cL_law 648 = .ok (.iadd, 1) := dk_96 (dk_at dksL_law_22 10 rfl rfl)
theorem dL_law_649 : decode cL_law 649 = .ok (.iaload, 1) := dk_46 (dk_at dksL_law_22 11 rfl rfl)
theorem dL_law_650 : decode cL_law 650 = .ok (.invokevirtual 187, 3) := dk_182 0 187 (dk_at dksL_law_22 12 rfl rfl)
theorem dL_law_653 : decode cL_law 653 = .ok (.istore 6, 2) := dk_54 6 (dk_at dksL_law_22 15 rfl rfl)
theorem dL_law_655 : decode cL_law 655 = .ok (.aload_n 2, 1) := dk_44 (dk_at dksL_law_22 17 rfl rfl)
theorem dL_law_656 : decode cL_law 656 = .ok (.invokevirtual 154, 3) := dk_182 0 154 (dk_at dksL_law_22 18 rfl rfl)
theorem dL_law_659 : decode cL_law 659 = .ok (.iload 5, 2) := dk_21 5 (dk_at dksL_law_22 21 rfl rfl)
theorem dL_law_661 : decode cL_law 661 = .ok (.if_icmp .eq 5, 3) := dk_159 0 5 (dk_at dksL_law_23 0 rfl rfl)
theorem dL_law_664 : decode cL_law 664 = .ok (.iconst 0, 1) := dk_3 (dk_at dksL_law_23 3 rfl rfl)
theorem dL_law_665 : decode cL_law 665 = .ok (.ireturn, 1) := dk_172 (dk_at dksL_law_23 4 rfl rfl)
theorem dL_law_666 : decode cL_law 666 = .ok (.iload 5, 2) := dk_21 5 (dk_at dksL_law_23 5 rfl rfl)
theorem dL_law_668 : decode cL_law 668 = .ok (.ifCond .ne 16, 3) := dk_154 0 16 (dk_at dksL_law_23 7 rfl rfl)
theorem dL_law_671 : decode cL_law 671 = .ok (.aload_n 3, 1) := dk_45 (dk_at dksL_law_23 10 rfl rfl)
theorem dL_law_672 : decode cL_law 672 = .ok (.getfield 13, 3) := dk_180 0 13 (dk_at dksL_law_23 11 rfl rfl)
theorem dL_law_675 : decode cL_law 675 = .ok (.iload 6, 2) := dk_21 6 (dk_at dksL_law_23 14 rfl rfl)
theorem dL_law_677 : decode cL_law 677 = .ok (.i2l, 1) := dk_133 (dk_at dksL_law_23 16 rfl rfl)
theorem dL_law_678 : decode cL_law 678 = .ok (.lcmp, 1) := dk_148 (dk_at dksL_law_23 17 rfl rfl)
theorem dL_law_679 : decode cL_law 679 = .ok (.ifCond .eq 5, 3) := dk_153 0 5 (dk_at dksL_law_23 18 rfl rfl)
theorem dL_law_682 : decode cL_law 682 = .ok (.iconst 0, 1) := dk_3 (dk_at dksL_law_23 21 rfl rfl)
theorem dL_law_683 : decode cL_law 683 = .ok (.ireturn, 1) := dk_172 (dk_at dksL_law_23 22 rfl rfl)
theorem dL_law_684 : decode cL_law 684 = .ok (.goto 1403, 3) := dk_167 5 123 (dk_at dksL_law_24 0 rfl rfl)
theorem dL_law_687 : decode cL_law 687 = .ok (.aload_n 1, 1) := dk_43 (dk_at dksL_law_24 3 rfl rfl)
theorem dL_law_688 : decode cL_law 688 = .ok (.aload_n 0, 1) := dk_42 (dk_at dksL_law_24 4 rfl rfl)
theorem dL_law_689 : decode cL_law 689 = .ok (.iload 4, 2) := dk_21 4 (dk_at dksL_law_24 5 rfl rfl)
theorem dL_law_691 : decode cL_law 691 = .ok (.iconst 1, 1) := dk_4 (dk_at dksL_law_24 7 rfl rfl)
theorem dL_law_692 : decode cL_law 692 = .ok (.iadd, 1) := dk_96 (dk_at dksL_law_24 8 rfl rfl)
theorem dL_law_693 : decode cL_law 693 = .ok (.iaload, 1) := dk_46 (dk_at dksL_law_24 9 rfl rfl)
theorem dL_law_694 : decode cL_law 694 = .ok (.aload_n 3, 1) := dk_45 (dk_at dksL_law_24 10 rfl rfl)
theorem dL_law_695 : decode cL_law 695 = .ok (.invokestatic 188, 3) := dk_184 0 188 (dk_at dksL_law_24 11 rfl rfl)
theorem dL_law_698 : decode cL_law 698 = .ok (.istore 5, 2) := dk_54 5 (dk_at dksL_law_24 14 rfl rfl)
theorem dL_law_700 : decode cL_law 700 = .ok (.aload_n 2, 1) := dk_44 (dk_at dksL_law_24 16 rfl rfl)
theorem dL_law_701 : decode cL_law 701 = .ok (.aload_n 0, 1) := dk_42 (dk_at dksL_law_24 17 rfl rfl)
theorem dL_law_702 : decode cL_law 702 = .ok (.iload 4, 2) := dk_21 4 (dk_at dksL_law_24 18 rfl rfl)
theorem dL_law_704 : decode cL_law 704 = .ok (.iconst 1, 1) := dk_4 (dk_at dksL_law_24 20 rfl rfl)
theorem dL_law_705 : decode cL_law 705 = .ok (.iadd, 1) := dk_96 (dk_at dksL_law_24 21 rfl rfl)
theorem dL_law_706 : decode cL_law 706 = .ok (.iaload, 1) := dk_46 (dk_at dksL_law_24 22 rfl rfl)
theorem dL_law_707 : decode cL_law 707 = .ok (.invokevirtual 191, 3) := dk_182 0 191 (dk_at dksL_law_25 0 rfl rfl)
theorem dL_law_710 : decode cL_law 710 = .ok (.istore 6, 2) := dk_54 6 (dk_at dksL_law_25 3 rfl rfl)
theorem dL_law_712 : decode cL_law 712 = .ok (.aload_n 2, 1) := dk_44 (dk_at dksL_law_25 5 rfl rfl)
theorem dL_law_713 : decode cL_law 713 = .ok (.invokevirtual 154, 3) := dk_182 0 154 (dk_at dksL_law_25 6 rfl rfl)
theorem dL_law_716 : decode cL_law 716 = .ok (.iload 5, 2) := dk_21 5 (dk_at dksL_law_25 9 rfl rfl)
theorem dL_law_718 : decode cL_law 718 = .ok (.if_icmp .eq 5, 3) := dk_159 0 5 (dk_at dksL_law_25 11 rfl rfl)
theorem dL_law_721 : decode cL_law 721 = .ok (.iconst 0, 1) := dk_3 (dk_at dksL_law_25 14 rfl rfl)
theorem dL_law_722 : decode cL_law 722 = .ok (.ireturn, 1) := dk_172 (dk_at dksL_law_25 15 rfl rfl)
theorem dL_law_723 : decode cL_law 723 = .ok (.iload 5, 2) := dk_21 5 (dk_at dksL_law_25 16 rfl rfl)
theorem dL_law_725 : decode cL_law 725 = .ok (.ifCond .ne 16, 3) := dk_154 0 16 (dk_at dksL_law_25 18 rfl rfl)
theorem dL_law_728 : decode cL_law 728 = .ok (.aload_n 3, 1) := dk_45 (dk_at dksL_law_25 21 rfl rfl)
theorem dL_law_729 : decode cL_law 729 = .ok (.getfield 13, 3) := dk_180 0 13 (dk_at dksL_law_26 0 rfl rfl)
theorem dL_law_732 : decode cL_law 732 = .ok (.iload 6, 2) := dk_21 6 (dk_at dksL_law_26 3 rfl rfl)
theorem dL_law_734 : decode cL_law 734 = .ok (.i2l, 1) := dk_133 (dk_at dksL_law_26 5 rfl rfl)
theorem dL_law_735 : decode cL_law 735 = .ok (.lcmp, 1) := dk_148 (dk_at dksL_law_26 6 rfl rfl)
theorem dL_law_736 : decode cL_law 736 = .ok (.ifCond .eq 5, 3) := dk_153 0 5 (dk_at dksL_law_26 7 rfl rfl)
theorem dL_law_739 : decode cL_law 739 = .ok (.iconst 0, 1) := dk_3 (dk_at dksL_law_26 10 rfl rfl)
theorem dL_law_740 : decode cL_law 740 = .ok (.ireturn, 1) := dk_172 (dk_at dksL_law_26 11 rfl rfl)
theorem dL_law_741 : decode cL_law 741 = .ok (.goto 1346, 3) := dk_167 5 66 (dk_at dksL_law_26 12 rfl rfl)
theorem dL_law_744 : decode cL_law 744 = .ok (.aload_n 1, 1) := dk_43 (dk_at dksL_law_26 15 rfl rfl)
theorem dL_law_745 : decode cL_law 745 = .ok (.aload_n 0, 1) := dk_42 (dk_at dksL_law_26 16 rfl rfl)
theorem dL_law_746 : decode cL_law 746 = .ok (.iload 4, 2) := dk_21 4 (dk_at dksL_law_26 17 rfl rfl)
theorem dL_law_748 : decode cL_law 748 = .ok (.iconst 1, 1) := dk_4 (dk_at dksL_law_26 19 rfl rfl)
theorem dL_law_749 : decode cL_law 749 = .ok (.iadd, 1) := dk_96 (dk_at dksL_law_26 20 rfl rfl)
theorem dL_law_750 : decode cL_law 750 = .ok (.iaload, 1) := dk_46 (dk_at dksL_law_26 21 rfl rfl)
theorem dL_law_751 : decode cL_law 751 = .ok (.aload_n 0, 1) := dk_42 (dk_at dksL_law_26 22 rfl rfl)
theorem dL_law_752 : decode cL_law 752 = .ok (.iload 4, 2) := dk_21 4 (dk_at dksL_law_27 0 rfl rfl)
theorem dL_law_754 : decode cL_law 754 = .ok (.iconst 2, 1) := dk_5 (dk_at dksL_law_27 2 rfl rfl)
theorem dL_law_755 : decode cL_law 755 = .ok (.iadd, 1) := dk_96 (dk_at dksL_law_27 3 rfl rfl)
theorem dL_law_756 : decode cL_law 756 = .ok (.iaload, 1) := dk_46 (dk_at dksL_law_27 4 rfl rfl)
theorem dL_law_757 : decode cL_law 757 = .ok (.new 167, 3) := dk_187 0 167 (dk_at dksL_law_27 5 rfl rfl)
theorem dL_law_760 : decode cL_law 760 = .ok (.dup, 1) := dk_89 (dk_at dksL_law_27 8 rfl rfl)
theorem dL_law_761 : decode cL_law 761 = .ok (.aload_n 0, 1) := dk_42 (dk_at dksL_law_27 9 rfl rfl)
theorem dL_law_762 : decode cL_law 762 = .ok (.iload 4, 2) := dk_21 4 (dk_at dksL_law_27 10 rfl rfl)
theorem dL_law_764 : decode cL_law 764 = .ok (.iconst 3, 1) := dk_6 (dk_at dksL_law_27 12 rfl rfl)
theorem dL_law_765 : decode cL_law 765 = .ok (.iadd, 1) := dk_96 (dk_at dksL_law_27 13 rfl rfl)
theorem dL_law_766 : decode cL_law 766 = .ok (.iaload, 1) := dk_46 (dk_at dksL_law_27 14 rfl rfl)
theorem dL_law_767 : decode cL_law 767 = .ok (.aload_n 0, 1) := dk_42 (dk_at dksL_law_27 15 rfl rfl)
theorem dL_law_768 : decode cL_law 768 = .ok (.iload 4, 2) := dk_21 4 (dk_at dksL_law_27 16 rfl rfl)
theorem dL_law_770 : decode cL_law 770 = .ok (.iconst 4, 1) := dk_7 (dk_at dksL_law_27 18 rfl rfl)
theorem dL_law_771 : decode cL_law 771 = .ok (.iadd, 1) := dk_96 (dk_at dksL_law_27 19 rfl rfl)
theorem dL_law_772 : decode cL_law 772 = .ok (.iaload, 1) := dk_46 (dk_at dksL_law_27 20 rfl rfl)
theorem dL_law_773 : decode cL_law 773 = .ok (.invokespecial 169, 3) := dk_183 0 169 (dk_at dksL_law_27 21 rfl rfl)
theorem dL_law_776 : decode cL_law 776 = .ok (.aload_n 3, 1) := dk_45 (dk_at dksL_law_28 0 rfl rfl)
theorem dL_law_777 : decode cL_law 777 = .ok (.invokestatic 192, 3) := dk_184 0 192 (dk_at dksL_law_28 1 rfl rfl)
theorem dL_law_780 : decode cL_law 780 = .ok (.istore 5, 2) := dk_54 5 (dk_at dksL_law_28 4 rfl rfl)
theorem dL_law_782 : decode cL_law 782 = .ok (.aload_n 2, 1) := dk_44 (dk_at dksL_law_28 6 rfl rfl)
theorem dL_law_783 : decode cL_law 783 = .ok (.aload_n 0, 1) := dk_42 (dk_at dksL_law_28 7 rfl rfl)
theorem dL_law_784 : decode cL_law 784 = .ok (.iload 4, 2) := dk_21 4 (dk_at dksL_law_28 8 rfl rfl)
theorem dL_law_786 : decode cL_law 786 = .ok (.iconst 1, 1) := dk_4 (dk_at dksL_law_28 10 rfl rfl)
theorem dL_law_787 : decode cL_law 787 = .ok (.iadd, 1) := dk_96 (dk_at dksL_law_28 11 rfl rfl)
theorem dL_law_788 : decode cL_law 788 = .ok (.iaload, 1) := dk_46 (dk_at dksL_law_28 12 rfl rfl)
theorem dL_law_789 : decode cL_law 789 = .ok (.aload_n 0, 1) := dk_42 (dk_at dksL_law_28 13 rfl rfl)
theorem dL_law_790 : decode cL_law 790 = .ok (.iload 4, 2) := dk_21 4 (dk_at dksL_law_28 14 rfl rfl)
theorem dL_law_792 : decode cL_law 792 = .ok (.iconst 2, 1) := dk_5 (dk_at dksL_law_28 16 rfl rfl)
theorem dL_law_793 : decode cL_law 793 = .ok (.iadd, 1) := dk_96 (dk_at dksL_law_28 17 rfl rfl)
theorem dL_law_794 : decode cL_law 794 = .ok (.iaload, 1) := dk_46 (dk_at dksL_law_28 18 rfl rfl)
theorem dL_law_795 : decode cL_law 795 = .ok (.new 167, 3) := dk_187 0 167 (dk_at dksL_law_28 19 rfl rfl)
theorem dL_law_798 : decode cL_law 798 = .ok (.dup, 1) := dk_89 (dk_at dksL_law_28 22 rfl rfl)
theorem dL_law_799 : decode cL_law 799 = .ok (.aload_n 0, 1) := dk_42 (dk_at dksL_law_28 23 rfl rfl)
theorem dL_law_800 : decode cL_law 800 = .ok (.iload 4, 2) := dk_21 4 (dk_at dksL_law_29 0 rfl rfl)
theorem dL_law_802 : decode cL_law 802 = .ok (.iconst 3, 1) := dk_6 (dk_at dksL_law_29 2 rfl rfl)
theorem dL_law_803 : decode cL_law 803 = .ok (.iadd, 1) := dk_96 (dk_at dksL_law_29 3 rfl rfl)
theorem dL_law_804 : decode cL_law 804 = .ok (.iaload, 1) := dk_46 (dk_at dksL_law_29 4 rfl rfl)
theorem dL_law_805 : decode cL_law 805 = .ok (.aload_n 0, 1) := dk_42 (dk_at dksL_law_29 5 rfl rfl)
theorem dL_law_806 : decode cL_law 806 = .ok (.iload 4, 2) := dk_21 4 (dk_at dksL_law_29 6 rfl rfl)
theorem dL_law_808 : decode cL_law 808 = .ok (.iconst 4, 1) := dk_7 (dk_at dksL_law_29 8 rfl rfl)
theorem dL_law_809 : decode cL_law 809 = .ok (.iadd, 1) := dk_96 (dk_at dksL_law_29 9 rfl rfl)
theorem dL_law_810 : decode cL_law 810 = .ok (.iaload, 1) := dk_46 (dk_at dksL_law_29 10 rfl rfl)
theorem dL_law_811 : decode cL_law 811 = .ok (.invokespecial 169, 3) := dk_183 0 169 (dk_at dksL_law_29 11 rfl rfl)
theorem dL_law_814 : decode cL_law 814 = .ok (.invokevirtual 195, 3) := dk_182 0 195 (dk_at dksL_law_29 14 rfl rfl)
theorem dL_law_817 : decode cL_law 817 = .ok (.istore 6, 2) := dk_54 6 (dk_at dksL_law_29 17 rfl rfl)
theorem dL_law_819 : decode cL_law 819 = .ok (.aload_n 2, 1) := dk_44 (dk_at dksL_law_29 19 rfl rfl)
theorem dL_law_820 : decode cL_law 820 = .ok (.invokevirtual 154, 3) := dk_182 0 154 (dk_at dksL_law_29 20 rfl rfl)
theorem dL_law_823 : decode cL_law 823 = .ok (.iload 5, 2) := dk_21 5 (dk_at dksL_law_30 0 rfl rfl)
theorem dL_law_825 : decode cL_law 825 = .ok (.if_icmp .eq 5, 3) := dk_159 0 5 (dk_at dksL_law_30 2 rfl rfl)
theorem dL_law_828 : decode cL_law 828 = .ok (.iconst 0, 1) := dk_3 (dk_at dksL_law_30 5 rfl rfl)
theorem dL_law_829 : decode cL_law 829 = .ok (.ireturn, 1) := dk_172 (dk_at dksL_law_30 6 rfl rfl)
theorem dL_law_830 : decode cL_law 830 = .ok (.iload 5, 2) := dk_21 5 (dk_at dksL_law_30 7 rfl rfl)
theorem dL_law_832 : decode cL_law 832 = .ok (.ifCond .ne 16, 3) := dk_154 0 16 (dk_at dksL_law_30 9 rfl rfl)
theorem dL_law_835 : decode cL_law 835 = .ok (.aload_n 3, 1) := dk_45 (dk_at dksL_law_30 12 rfl rfl)
theorem dL_law_836 : decode cL_law 836 = .ok (.getfield 13, 3) := dk_180 0 13 (dk_at dksL_law_30 13 rfl rfl)
theorem dL_law_839 : decode cL_law 839 = .ok (.iload 6, 2) := dk_21 6 (dk_at dksL_law_30 16 rfl rfl)
theorem dL_law_841 : decode cL_law 841 = .ok (.i2l, 1) := dk_133 (dk_at dksL_law_30 18 rfl rfl)
theorem dL_law_842 : decode cL_law 842 = .ok (.lcmp, 1) := dk_148 (dk_at dksL_law_30 19 rfl rfl)
theorem dL_law_843 : decode cL_law 843 = .ok (.ifCond .eq 5, 3) := dk_153 0 5 (dk_at dksL_law_30 20 rfl rfl)
theorem dL_law_846 : decode cL_law 846 = .ok (.iconst 0, 1) := dk_3 (dk_at dksL_law_30 23 rfl rfl)
theorem dL_law_847 : decode cL_law 847 = .ok (.ireturn, 1) := dk_172 (dk_at dksL_law_31 0 rfl rfl)
theorem dL_law_848 : decode cL_law 848 = .ok (.goto 1239, 3) := dk_167 4 215 (dk_at dksL_law_31 1 rfl rfl)
theorem dL_law_851 : decode cL_law 851 = .ok (.aload_n 1, 1) := dk_43 (dk_at dksL_law_31 4 rfl rfl)
theorem dL_law_852 : decode cL_law 852 = .ok (.aload_n 0, 1) := dk_42 (dk_at dksL_law_31 5 rfl rfl)
theorem dL_law_853 : decode cL_law 853 = .ok (.iload 4, 2) := dk_21 4 (dk_at dksL_law_31 6 rfl rfl)
theorem dL_law_855 : decode cL_law 855 = .ok (.iconst 1, 1) := dk_4 (dk_at dksL_law_31 8 rfl rfl)
theorem dL_law_856 : decode cL_law 856 = .ok (.iadd, 1) := dk_96 (dk_at dksL_law_31 9 rfl rfl)
theorem dL_law_857 : decode cL_law 857 = .ok (.iaload, 1) := dk_46 (dk_at dksL_law_31 10 rfl rfl)
theorem dL_law_858 : decode cL_law 858 = .ok (.aload_n 3, 1) := dk_45 (dk_at dksL_law_31 11 rfl rfl)
theorem dL_law_859 : decode cL_law 859 = .ok (.invokestatic 196, 3) := dk_184 0 196 (dk_at dksL_law_31 12 rfl rfl)
theorem dL_law_862 : decode cL_law 862 = .ok (.istore 5, 2) := dk_54 5 (dk_at dksL_law_31 15 rfl rfl)
theorem dL_law_864 : decode cL_law 864 = .ok (.aload_n 2, 1) := dk_44 (dk_at dksL_law_31 17 rfl rfl)
theorem dL_law_865 : decode cL_law 865 = .ok (.aload_n 0, 1) := dk_42 (dk_at dksL_law_31 18 rfl rfl)
theorem dL_law_866 : decode cL_law 866 = .ok (.iload 4, 2) := dk_21 4 (dk_at dksL_law_31 19 rfl rfl)
theorem dL_law_868 : decode cL_law 868 = .ok (.iconst 1, 1) := dk_4 (dk_at dksL_law_31 21 rfl rfl)
theorem dL_law_869 : decode cL_law 869 = .ok (.iadd, 1) := dk_96 (dk_at dksL_law_31 22 rfl rfl)
theorem dL_law_870 : decode cL_law 870 = .ok (.iaload, 1) := dk_46 (dk_at dksL_law_31 23 rfl rfl)
theorem dL_law_871 : decode cL_law 871 = .ok (.invokevirtual 198, 3) := dk_182 0 198 (dk_at dksL_law_32 0 rfl rfl)
theorem dL_law_874 : decode cL_law 874 = .ok (.astore 6, 2) := dk_58 6 (dk_at dksL_law_32 3 rfl rfl)
theorem dL_law_876 : decode cL_law 876 = .ok (.aload_n 2, 1) := dk_44 (dk_at dksL_law_32 5 rfl rfl)
theorem dL_law_877 : decode cL_law 877 = .ok (.invokevirtual 154, 3) := dk_182 0 154 (dk_at dksL_law_32 6 rfl rfl)
theorem dL_law_880 : decode cL_law 880 = .ok (.iload 5, 2) := dk_21 5 (dk_at dksL_law_32 9 rfl rfl)
theorem dL_law_882 : decode cL_law 882 = .ok (.if_icmp .eq 5, 3) := dk_159 0 5 (dk_at dksL_law_32 11 rfl rfl)
theorem dL_law_885 : decode cL_law 885 = .ok (.iconst 0, 1) := dk_3 (dk_at dksL_law_32 14 rfl rfl)
theorem dL_law_886 : decode cL_law 886 = .ok (.ireturn, 1) := dk_172 (dk_at dksL_law_32 15 rfl rfl)
theorem dL_law_887 : decode cL_law 887 = .ok (.iload 5, 2) := dk_21 5 (dk_at dksL_law_32 16 rfl rfl)
theorem dL_law_889 : decode cL_law 889 = .ok (.ifCond .ne 14, 3) := dk_154 0 14 (dk_at dksL_law_32 18 rfl rfl)
theorem dL_law_892 : decode cL_law 892 = .ok (.aload_n 3, 1) := dk_45 (dk_at dksL_law_32 21 rfl rfl)
theorem dL_law_893 : decode cL_law 893 = .ok (.getfield 60, 3) := dk_180 0 60 (dk_at dksL_law_33 0 rfl rfl)
theorem dL_law_896 : decode cL_law 896 = .ok (.aload 6, 2) := dk_25 6 (dk_at dksL_law_33 3 rfl rfl)
theorem dL_law_898 : decode cL_law 898 = .ok (.if_acmp .eq 5, 3) := dk_165 0 5 (dk_at dksL_law_33 5 rfl rfl)
theorem dL_law_901 : decode cL_law 901 = .ok (.iconst 0, 1) := dk_3 (dk_at dksL_law_33 8 rfl rfl)
theorem dL_law_902 : decode cL_law 902 = .ok (.ireturn, 1) := dk_172 (dk_at dksL_law_33 9 rfl rfl)
theorem dL_law_903 : decode cL_law 903 = .ok (.goto 1184, 3) := dk_167 4 160 (dk_at dksL_law_33 10 rfl rfl)
theorem dL_law_906 : decode cL_law 906 = .ok (.aload_n 1, 1) := dk_43 (dk_at dksL_law_33 13 rfl rfl)
theorem dL_law_907 : decode cL_law 907 = .ok (.aload_n 0, 1) := dk_42 (dk_at dksL_law_33 14 rfl rfl)
theorem dL_law_908 : decode cL_law 908 = .ok (.iload 4, 2) := dk_21 4 (dk_at dksL_law_33 15 rfl rfl)
theorem dL_law_910 : decode cL_law 910 = .ok (.iconst 1, 1) := dk_4 (dk_at dksL_law_33 17 rfl rfl)
theorem dL_law_911 : decode cL_law 911 = .ok (.iadd, 1) := dk_96 (dk_at dksL_law_33 18 rfl rfl)
theorem dL_law_912 : decode cL_law 912 = .ok (.iaload, 1) := dk_46 (dk_at dksL_law_33 19 rfl rfl)
theorem dL_law_913 : decode cL_law 913 = .ok (.aload_n 3, 1) := dk_45 (dk_at dksL_law_33 20 rfl rfl)
theorem dL_law_914 : decode cL_law 914 = .ok (.invokestatic 199, 3) := dk_184 0 199 (dk_at dksL_law_33 21 rfl rfl)
theorem dL_law_917 : decode cL_law 917 = .ok (.istore 5, 2) := dk_54 5 (dk_at dksL_law_34 0 rfl rfl)
theorem dL_law_919 : decode cL_law 919 = .ok (.aload_n 2, 1) := dk_44 (dk_at dksL_law_34 2 rfl rfl)
theorem dL_law_920 : decode cL_law 920 = .ok (.aload_n 0, 1) := dk_42 (dk_at dksL_law_34 3 rfl rfl)
theorem dL_law_921 : decode cL_law 921 = .ok (.iload 4, 2) := dk_21 4 (dk_at dksL_law_34 4 rfl rfl)
theorem dL_law_923 : decode cL_law 923 = .ok (.iconst 1, 1) := dk_4 (dk_at dksL_law_34 6 rfl rfl)
theorem dL_law_924 : decode cL_law 924 = .ok (.iadd, 1) := dk_96 (dk_at dksL_law_34 7 rfl rfl)
theorem dL_law_925 : decode cL_law 925 = .ok (.iaload, 1) := dk_46 (dk_at dksL_law_34 8 rfl rfl)
theorem dL_law_926 : decode cL_law 926 = .ok (.invokevirtual 201, 3) := dk_182 0 201 (dk_at dksL_law_34 9 rfl rfl)
theorem dL_law_929 : decode cL_law 929 = .ok (.istore 6, 2) := dk_54 6 (dk_at dksL_law_34 12 rfl rfl)
theorem dL_law_931 : decode cL_law 931 = .ok (.aload_n 2, 1) := dk_44 (dk_at dksL_law_34 14 rfl rfl)
theorem dL_law_932 : decode cL_law 932 = .ok (.invokevirtual 154, 3) := dk_182 0 154 (dk_at dksL_law_34 15 rfl rfl)
theorem dL_law_935 : decode cL_law 935 = .ok (.iload 5, 2) := dk_21 5 (dk_at dksL_law_34 18 rfl rfl)
theorem dL_law_937 : decode cL_law 937 = .ok (.if_icmp .eq 5, 3) := dk_159 0 5 (dk_at dksL_law_34 20 rfl rfl)
theorem dL_law_940 : decode cL_law 940 = .ok (.iconst 0, 1) := dk_3 (dk_at dksL_law_34 23 rfl rfl)
theorem dL_law_941 : decode cL_law 941 = .ok (.ireturn, 1) := dk_172 (dk_at dksL_law_35 0 rfl rfl)
theorem dL_law_942 : decode cL_law 942 = .ok (.iload 5, 2) := dk_21 5 (dk_at dksL_law_35 1 rfl rfl)
theorem dL_law_944 : decode cL_law 944 = .ok (.ifCond .ne 16, 3) := dk_154 0 16 (dk_at dksL_law_35 3 rfl rfl)
theorem dL_law_947 : decode cL_law 947 = .ok (.aload_n 3, 1) := dk_45 (dk_at dksL_law_35 6 rfl rfl)
theorem dL_law_948 : decode cL_law 948 = .ok (.getfield 13, 3) := dk_180 0 13 (dk_at dksL_law_35 7 rfl rfl)
theorem dL_law_951 : decode cL_law 951 = .ok (.iload 6, 2) := dk_21 6 (dk_at dksL_law_35 10 rfl rfl)
theorem dL_law_953 : decode cL_law 953 = .ok (.i2l, 1) := dk_133 (dk_at dksL_law_35 12 rfl rfl)
theorem dL_law_954 : decode cL_law 954 = .ok (.lcmp, 1) := dk_148 (dk_at dksL_law_35 13 rfl rfl)
theorem dL_law_955 : decode cL_law 955 = .ok (.ifCond .eq 5, 3) := dk_153 0 5 (dk_at dksL_law_35 14 rfl rfl)
theorem dL_law_958 : decode cL_law 958 = .ok (.iconst 0, 1) := dk_3 (dk_at dksL_law_35 17 rfl rfl)
theorem dL_law_959 : decode cL_law 959 = .ok (.ireturn, 1) := dk_172 (dk_at dksL_law_35 18 rfl rfl)
theorem dL_law_960 : decode cL_law 960 = .ok (.goto 1127, 3) := dk_167 4 103 (dk_at dksL_law_35 19 rfl rfl)
theorem dL_law_963 : decode cL_law 963 = .ok (.aload_n 1, 1) := dk_43 (dk_at dksL_law_35 22 rfl rfl)
theorem dL_law_964 : decode cL_law 964 = .ok (.aload_n 0, 1) := dk_42 (dk_at dksL_law_35 23 rfl rfl)
theorem dL_law_965 : decode cL_law 965 = .ok (.iload 4, 2) := dk_21 4 (dk_at dksL_law_36 0 rfl rfl)
theorem dL_law_967 : decode cL_law 967 = .ok (.iconst 1, 1) := dk_4 (dk_at dksL_law_36 2 rfl rfl)
theorem dL_law_968 : decode cL_law 968 = .ok (.iadd, 1) := dk_96 (dk_at dksL_law_36 3 rfl rfl)
theorem dL_law_969 : decode cL_law 969 = .ok (.iaload, 1) := dk_46 (dk_at dksL_law_36 4 rfl rfl)
theorem dL_law_970 : decode cL_law 970 = .ok (.aload_n 3, 1) := dk_45 (dk_at dksL_law_36 5 rfl rfl)
theorem dL_law_971 : decode cL_law 971 = .ok (.invokestatic 202, 3) := dk_184 0 202 (dk_at dksL_law_36 6 rfl rfl)
theorem dL_law_974 : decode cL_law 974 = .ok (.istore 5, 2) := dk_54 5 (dk_at dksL_law_36 9 rfl rfl)
theorem dL_law_976 : decode cL_law 976 = .ok (.aload_n 2, 1) := dk_44 (dk_at dksL_law_36 11 rfl rfl)
theorem dL_law_977 : decode cL_law 977 = .ok (.aload_n 0, 1) := dk_42 (dk_at dksL_law_36 12 rfl rfl)
theorem dL_law_978 : decode cL_law 978 = .ok (.iload 4, 2) := dk_21 4 (dk_at dksL_law_36 13 rfl rfl)
theorem dL_law_980 : decode cL_law 980 = .ok (.iconst 1, 1) := dk_4 (dk_at dksL_law_36 15 rfl rfl)
theorem dL_law_981 : decode cL_law 981 = .ok (.iadd, 1) := dk_96 (dk_at dksL_law_36 16 rfl rfl)
theorem dL_law_982 : decode cL_law 982 = .ok (.iaload, 1) := dk_46 (dk_at dksL_law_36 17 rfl rfl)
theorem dL_law_983 : decode cL_law 983 = .ok (.invokevirtual 204, 3) := dk_182 0 204 (dk_at dksL_law_36 18 rfl rfl)
theorem dL_law_986 : decode cL_law 986 = .ok (.istore 6, 2) := dk_54 6 (dk_at dksL_law_36 21 rfl rfl)
theorem dL_law_988 : decode cL_law 988 = .ok (.aload_n 2, 1) := dk_44 (dk_at dksL_law_36 23 rfl rfl)
theorem dL_law_989 : decode cL_law 989 = .ok (.invokevirtual 154, 3) := dk_182 0 154 (dk_at dksL_law_37 0 rfl rfl)
theorem dL_law_992 : decode cL_law 992 = .ok (.iload 5, 2) := dk_21 5 (dk_at dksL_law_37 3 rfl rfl)
theorem dL_law_994 : decode cL_law 994 = .ok (.if_icmp .eq 5, 3) := dk_159 0 5 (dk_at dksL_law_37 5 rfl rfl)
theorem dL_law_997 : decode cL_law 997 = .ok (.iconst 0, 1) := dk_3 (dk_at dksL_law_37 8 rfl rfl)
theorem dL_law_998 : decode cL_law 998 = .ok (.ireturn, 1) := dk_172 (dk_at dksL_law_37 9 rfl rfl)
theorem dL_law_999 : decode cL_law 999 = .ok (.iload 5, 2) := dk_21 5 (dk_at dksL_law_37 10 rfl rfl)
theorem dL_law_1001 : decode cL_law 1001 = .ok (.ifCond .ne 16, 3) := dk_154 0 16 (dk_at dksL_law_37 12 rfl rfl)
theorem dL_law_1004 : decode cL_law 1004 = .ok (.aload_n 3, 1) := dk_45 (dk_at dksL_law_37 15 rfl rfl)
theorem dL_law_1005 : decode cL_law 1005 = .ok (.getfield 13, 3) := dk_180 0 13 (dk_at dksL_law_37 16 rfl rfl)
theorem dL_law_1008 : decode cL_law 1008 = .ok (.iload 6, 2) := dk_21 6 (dk_at dksL_law_37 19 rfl rfl)
theorem dL_law_1010 : decode cL_law 1010 = .ok (.i2l, 1) := dk_133 (dk_at dksL_law_37 21 rfl rfl)
theorem dL_law_1011 : decode cL_law 1011 = .ok (.lcmp, 1) := dk_148 (dk_at dksL_law_37 22 rfl rfl)
theorem dL_law_1012 : decode cL_law 1012 = .ok (.ifCond .eq 5, 3) := dk_153 0 5 (dk_at dksL_law_38 0 rfl rfl)
theorem dL_law_1015 : decode cL_law 1015 = .ok (.iconst 0, 1) := dk_3 (dk_at dksL_law_38 3 rfl rfl)
theorem dL_law_1016 : decode cL_law 1016 = .ok (.ireturn, 1) := dk_172 (dk_at dksL_law_38 4 rfl rfl)
theorem dL_law_1017 : decode cL_law 1017 = .ok (.goto 1070, 3) := dk_167 4 46 (dk_at dksL_law_38 5 rfl rfl)
theorem dL_law_1020 : decode cL_law 1020 = .ok (.aload_n 1, 1) := dk_43 (dk_at dksL_law_38 8 rfl rfl)
theorem dL_law_1021 : decode cL_law 1021 = .ok (.invokevirtual 205, 3) := dk_182 0 205 (dk_at dksL_law_38 9 rfl rfl)
theorem dL_law_1024 : decode cL_law 1024 = .ok (.aload_n 2, 1) := dk_44 (dk_at dksL_law_38 12 rfl rfl)
theorem dL_law_1025 : decode cL_law 1025 = .ok (.invokevirtual 208, 3) := dk_182 0 208 (dk_at dksL_law_38 13 rfl rfl)
theorem dL_law_1028 : decode cL_law 1028 = .ok (.if_icmp .eq 1059, 3) := dk_159 4 35 (dk_at dksL_law_38 16 rfl rfl)
theorem dL_law_1031 : decode cL_law 1031 = .ok (.iconst 0, 1) := dk_3 (dk_at dksL_law_38 19 rfl rfl)
theorem dL_law_1032 : decode cL_law 1032 = .ok (.ireturn, 1) := dk_172 (dk_at dksL_law_38 20 rfl rfl)
theorem dL_law_1033 : decode cL_law 1033 = .ok (.aload_n 1, 1) := dk_43 (dk_at dksL_law_38 21 rfl rfl)
theorem dL_law_1034 : decode cL_law 1034 = .ok (.aload_n 0, 1) := dk_42 (dk_at dksL_law_38 22 rfl rfl)
theorem dL_law_1035 : decode cL_law 1035 = .ok (.iload 4, 2) := dk_21 4 (dk_at dksL_law_39 0 rfl rfl)
theorem dL_law_1037 : decode cL_law 1037 = .ok (.iconst 1, 1) := dk_4 (dk_at dksL_law_39 2 rfl rfl)
theorem dL_law_1038 : decode cL_law 1038 = .ok (.iadd, 1) := dk_96 (dk_at dksL_law_39 3 rfl rfl)
theorem dL_law_1039 : decode cL_law 1039 = .ok (.iaload, 1) := dk_46 (dk_at dksL_law_39 4 rfl rfl)
theorem dL_law_1040 : decode cL_law 1040 = .ok (.aload_n 3, 1) := dk_45 (dk_at dksL_law_39 5 rfl rfl)
theorem dL_law_1041 : decode cL_law 1041 = .ok (.invokestatic 209, 3) := dk_184 0 209 (dk_at dksL_law_39 6 rfl rfl)
theorem dL_law_1044 : decode cL_law 1044 = .ok (.istore 5, 2) := dk_54 5 (dk_at dksL_law_39 9 rfl rfl)
theorem dL_law_1046 : decode cL_law 1046 = .ok (.aload_n 2, 1) := dk_44 (dk_at dksL_law_39 11 rfl rfl)
theorem dL_law_1047 : decode cL_law 1047 = .ok (.aload_n 0, 1) := dk_42 (dk_at dksL_law_39 12 rfl rfl)
theorem dL_law_1048 : decode cL_law 1048 = .ok (.iload 4, 2) := dk_21 4 (dk_at dksL_law_39 13 rfl rfl)
theorem dL_law_1050 : decode cL_law 1050 = .ok (.iconst 1, 1) := dk_4 (dk_at dksL_law_39 15 rfl rfl)
theorem dL_law_1051 : decode cL_law 1051 = .ok (.iadd, 1) := dk_96 (dk_at dksL_law_39 16 rfl rfl)
theorem dL_law_1052 : decode cL_law 1052 = .ok (.iaload, 1) := dk_46 (dk_at dksL_law_39 17 rfl rfl)
theorem dL_law_1053 : decode cL_law 1053 = .ok (.invokevirtual 211, 3) := dk_182 0 211 (dk_at dksL_law_39 18 rfl rfl)
theorem dL_law_1056 : decode cL_law 1056 = .ok (.istore 6, 2) := dk_54 6 (dk_at dksL_law_39 21 rfl rfl)
theorem dL_law_1058 : decode cL_law 1058 = .ok (.aload_n 2, 1) := dk_44 (dk_at dksL_law_39 23 rfl rfl)
theorem dL_law_1059 : decode cL_law 1059 = .ok (.invokevirtual 154, 3) := dk_182 0 154 (dk_at dksL_law_40 0 rfl rfl)
theorem dL_law_1062 : decode cL_law 1062 = .ok (.iload 5, 2) := dk_21 5 (dk_at dksL_law_40 3 rfl rfl)
theorem dL_law_1064 : decode cL_law 1064 = .ok (.if_icmp .eq 5, 3) := dk_159 0 5 (dk_at dksL_law_40 5 rfl rfl)
theorem dL_law_1067 : decode cL_law 1067 = .ok (.iconst 0, 1) := dk_3 (dk_at dksL_law_40 8 rfl rfl)
theorem dL_law_1068 : decode cL_law 1068 = .ok (.ireturn, 1) := dk_172 (dk_at dksL_law_40 9 rfl rfl)
theorem dL_law_1069 : decode cL_law 1069 = .ok (.iload 5, 2) := dk_21 5 (dk_at dksL_law_40 10 rfl rfl)
theorem dL_law_1071 : decode cL_law 1071 = .ok (.ifCond .ne 16, 3) := dk_154 0 16 (dk_at dksL_law_40 12 rfl rfl)
theorem dL_law_1074 : decode cL_law 1074 = .ok (.aload_n 3, 1) := dk_45 (dk_at dksL_law_40 15 rfl rfl)
theorem dL_law_1075 : decode cL_law 1075 = .ok (.getfield 13, 3) := dk_180 0 13 (dk_at dksL_law_40 16 rfl rfl)
theorem dL_law_1078 : decode cL_law 1078 = .ok (.iload 6, 2) := dk_21 6 (dk_at dksL_law_40 19 rfl rfl)
theorem dL_law_1080 : decode cL_law 1080 = .ok (.i2l, 1) := dk_133 (dk_at dksL_law_40 21 rfl rfl)
theorem dL_law_1081 : decode cL_law 1081 = .ok (.lcmp, 1) := dk_148 (dk_at dksL_law_40 22 rfl rfl)
theorem dL_law_1082 : decode cL_law 1082 = .ok (.ifCond .eq 5, 3) := dk_153 0 5 (dk_at dksL_law_41 0 rfl rfl)
theorem dL_law_1085 : decode cL_law 1085 = .ok (.iconst 0, 1) := dk_3 (dk_at dksL_law_41 3 rfl rfl)
theorem dL_law_1086 : decode cL_law 1086 = .ok (.ireturn, 1) := dk_172 (dk_at dksL_law_41 4 rfl rfl)
theorem dL_law_1087 : decode cL_law 1087 = .ok (.goto 1000, 3) := dk_167 3 232 (dk_at dksL_law_41 5 rfl rfl)
theorem dL_law_1090 : decode cL_law 1090 = .ok (.aload_n 1, 1) := dk_43 (dk_at dksL_law_41 8 rfl rfl)
theorem dL_law_1091 : decode cL_law 1091 = .ok (.aload_n 0, 1) := dk_42 (dk_at dksL_law_41 9 rfl rfl)
theorem dL_law_1092 : decode cL_law 1092 = .ok (.iload 4, 2) := dk_21 4 (dk_at dksL_law_41 10 rfl rfl)
theorem dL_law_1094 : decode cL_law 1094 = .ok (.iconst 1, 1) := dk_4 (dk_at dksL_law_41 12 rfl rfl)
theorem dL_law_1095 : decode cL_law 1095 = .ok (.iadd, 1) := dk_96 (dk_at dksL_law_41 13 rfl rfl)
theorem dL_law_1096 : decode cL_law 1096 = .ok (.iaload, 1) := dk_46 (dk_at dksL_law_41 14 rfl rfl)
theorem dL_law_1097 : decode cL_law 1097 = .ok (.aload_n 3, 1) := dk_45 (dk_at dksL_law_41 15 rfl rfl)
theorem dL_law_1098 : decode cL_law 1098 = .ok (.invokestatic 212, 3) := dk_184 0 212 (dk_at dksL_law_41 16 rfl rfl)
theorem dL_law_1101 : decode cL_law 1101 = .ok (.istore 5, 2) := dk_54 5 (dk_at dksL_law_41 19 rfl rfl)
theorem dL_law_1103 : decode cL_law 1103 = .ok (.aload_n 2, 1) := dk_44 (dk_at dksL_law_41 21 rfl rfl)
theorem dL_law_1104 : decode cL_law 1104 = .ok (.aload_n 0, 1) := dk_42 (dk_at dksL_law_41 22 rfl rfl)
theorem dL_law_1105 : decode cL_law 1105 = .ok (.iload 4, 2) := dk_21 4 (dk_at dksL_law_42 0 rfl rfl)
theorem dL_law_1107 : decode cL_law 1107 = .ok (.iconst 1, 1) := dk_4 (dk_at dksL_law_42 2 rfl rfl)
theorem dL_law_1108 : decode cL_law 1108 = .ok (.iadd, 1) := dk_96 (dk_at dksL_law_42 3 rfl rfl)
theorem dL_law_1109 : decode cL_law 1109 = .ok (.iaload, 1) := dk_46 (dk_at dksL_law_42 4 rfl rfl)
theorem dL_law_1110 : decode cL_law 1110 = .ok (.invokevirtual 214, 3) := dk_182 0 214 (dk_at dksL_law_42 5 rfl rfl)
theorem dL_law_1113 : decode cL_law 1113 = .ok (.istore 6, 2) := dk_54 6 (dk_at dksL_law_42 8 rfl rfl)
theorem dL_law_1115 : decode cL_law 1115 = .ok (.aload_n 2, 1) := dk_44 (dk_at dksL_law_42 10 rfl rfl)
theorem dL_law_1116 : decode cL_law 1116 = .ok (.invokevirtual 154, 3) := dk_182 0 154 (dk_at dksL_law_42 11 rfl rfl)
theorem dL_law_1119 : decode cL_law 1119 = .ok (.iload 5, 2) := dk_21 5 (dk_at dksL_law_42 14 rfl rfl)
theorem dL_law_1121 : decode cL_law 1121 = .ok (.if_icmp .eq 5, 3) := dk_159 0 5 (dk_at dksL_law_42 16 rfl rfl)
theorem dL_law_1124 : decode cL_law 1124 = .ok (.iconst 0, 1) := dk_3 (dk_at dksL_law_42 19 rfl rfl)
theorem dL_law_1125 : decode cL_law 1125 = .ok (.ireturn, 1) := dk_172 (dk_at dksL_law_42 20 rfl rfl)
theorem dL_law_1126 : decode cL_law 1126 = .ok (.iload 5, 2) := dk_21 5 (dk_at dksL_law_42 21 rfl rfl)
theorem dL_law_1128 : decode cL_law 1128 = .ok (.ifCond .ne 16, 3) := dk_154 0 16 (dk_at dksL_law_43 0 rfl rfl)
theorem dL_law_1131 : decode cL_law 1131 = .ok (.aload_n 3, 1) := dk_45 (dk_at dksL_law_43 3 rfl rfl)
theorem dL_law_1132 : decode cL_law 1132 = .ok (.getfield 13, 3) := dk_180 0 13 (dk_at dksL_law_43 4 rfl rfl)
theorem dL_law_1135 : decode cL_law 1135 = .ok (.iload 6, 2) := dk_21 6 (dk_at dksL_law_43 7 rfl rfl)
theorem dL_law_1137 : decode cL_law 1137 = .ok (.i2l, 1) := dk_133 (dk_at dksL_law_43 9 rfl rfl)
theorem dL_law_1138 : decode cL_law 1138 = .ok (.lcmp, 1) := dk_148 (dk_at dksL_law_43 10 rfl rfl)
theorem dL_law_1139 : decode cL_law 1139 = .ok (.ifCond .eq 5, 3) := dk_153 0 5 (dk_at dksL_law_43 11 rfl rfl)
theorem dL_law_1142 : decode cL_law 1142 = .ok (.iconst 0, 1) := dk_3 (dk_at dksL_law_43 14 rfl rfl)
theorem dL_law_1143 : decode cL_law 1143 = .ok (.ireturn, 1) := dk_172 (dk_at dksL_law_43 15 rfl rfl)
theorem dL_law_1144 : decode cL_law 1144 = .ok (.goto 943, 3) := dk_167 3 175 (dk_at dksL_law_43 16 rfl rfl)
theorem dL_law_1147 : decode cL_law 1147 = .ok (.aload_n 1, 1) := dk_43 (dk_at dksL_law_43 19 rfl rfl)
theorem dL_law_1148 : decode cL_law 1148 = .ok (.aload_n 0, 1) := dk_42 (dk_at dksL_law_43 20 rfl rfl)
theorem dL_law_1149 : decode cL_law 1149 = .ok (.iload 4, 2) := dk_21 4 (dk_at dksL_law_43 21 rfl rfl)
theorem dL_law_1151 : decode cL_law 1151 = .ok (.iconst 1, 1) := dk_4 (dk_at dksL_law_43 23 rfl rfl)
theorem dL_law_1152 : decode cL_law 1152 = .ok (.iadd, 1) := dk_96 (dk_at dksL_law_44 0 rfl rfl)
theorem dL_law_1153 : decode cL_law 1153 = .ok (.iaload, 1) := dk_46 (dk_at dksL_law_44 1 rfl rfl)
theorem dL_law_1154 : decode cL_law 1154 = .ok (.aload_n 3, 1) := dk_45 (dk_at dksL_law_44 2 rfl rfl)
theorem dL_law_1155 : decode cL_law 1155 = .ok (.invokestatic 215, 3) := dk_184 0 215 (dk_at dksL_law_44 3 rfl rfl)
theorem dL_law_1158 : decode cL_law 1158 = .ok (.istore 5, 2) := dk_54 5 (dk_at dksL_law_44 6 rfl rfl)
theorem dL_law_1160 : decode cL_law 1160 = .ok (.aload_n 2, 1) := dk_44 (dk_at dksL_law_44 8 rfl rfl)
theorem dL_law_1161 : decode cL_law 1161 = .ok (.aload_n 0, 1) := dk_42 (dk_at dksL_law_44 9 rfl rfl)
theorem dL_law_1162 : decode cL_law 1162 = .ok (.iload 4, 2) := dk_21 4 (dk_at dksL_law_44 10 rfl rfl)
theorem dL_law_1164 : decode cL_law 1164 = .ok (.iconst 1, 1) := dk_4 (dk_at dksL_law_44 12 rfl rfl)
theorem dL_law_1165 : decode cL_law 1165 = .ok (.iadd, 1) := dk_96 (dk_at dksL_law_44 13 rfl rfl)
theorem dL_law_1166 : decode cL_law 1166 = .ok (.iaload, 1) := dk_46 (dk_at dksL_law_44 14 rfl rfl)
theorem dL_law_1167 : decode cL_law 1167 = .ok (.invokevirtual 217, 3) := dk_182 0 217 (dk_at dksL_law_44 15 rfl rfl)
theorem dL_law_1170 : decode cL_law 1170 = .ok (.istore 6, 2) := dk_54 6 (dk_at dksL_law_44 18 rfl rfl)
theorem dL_law_1172 : decode cL_law 1172 = .ok (.aload_n 2, 1) := dk_44 (dk_at dksL_law_44 20 rfl rfl)
theorem dL_law_1173 : decode cL_law 1173 = .ok (.invokevirtual 154, 3) := dk_182 0 154 (dk_at dksL_law_44 21 rfl rfl)
theorem dL_law_1176 : decode cL_law 1176 = .ok (.iload 5, 2) := dk_21 5 (dk_at dksL_law_45 0 rfl rfl)
theorem dL_law_1178 : decode cL_law 1178 = .ok (.if_icmp .eq 5, 3) := dk_159 0 5 (dk_at dksL_law_45 2 rfl rfl)
theorem dL_law_1181 : decode cL_law 1181 = .ok (.iconst 0, 1) := dk_3 (dk_at dksL_law_45 5 rfl rfl)
theorem dL_law_1182 : decode cL_law 1182 = .ok (.ireturn, 1) := dk_172 (dk_at dksL_law_45 6 rfl rfl)
theorem dL_law_1183 : decode cL_law 1183 = .ok (.iload 5, 2) := dk_21 5 (dk_at dksL_law_45 7 rfl rfl)
theorem dL_law_1185 : decode cL_law 1185 = .ok (.ifCond .ne 23, 3) := dk_154 0 23 (dk_at dksL_law_45 9 rfl rfl)
theorem dL_law_1188 : decode cL_law 1188 = .ok (.aload_n 3, 1) := dk_45 (dk_at dksL_law_45 12 rfl rfl)
theorem dL_law_1189 : decode cL_law 1189 = .ok (.getfield 13, 3) := dk_180 0 13 (dk_at dksL_law_45 13 rfl rfl)
theorem dL_law_1192 : decode cL_law 1192 = .ok (.iload 6, 2) := dk_21 6 (dk_at dksL_law_45 16 rfl rfl)
theorem dL_law_1194 : decode cL_law 1194 = .ok (.ifCond .eq 7, 3) := dk_153 0 7 (dk_at dksL_law_45 18 rfl rfl)
theorem dL_law_1197 : decode cL_law 1197 = .ok (.lconst 1, 1) := dk_10 (dk_at dksL_law_45 21 rfl rfl)
theorem dL_law_1198 : decode cL_law 1198 = .ok (.goto 4, 3) := dk_167 0 4 (dk_at dksL_law_46 0 rfl rfl)
theorem dL_law_1201 : decode cL_law 1201 = .ok (.lconst 0, 1) := dk_9 (dk_at dksL_law_46 3 rfl rfl)
theorem dL_law_1202 : decode cL_law 1202 = .ok (.lcmp, 1) := dk_148 (dk_at dksL_law_46 4 rfl rfl)
theorem dL_law_1203 : decode cL_law 1203 = .ok (.ifCond .eq 5, 3) := dk_153 0 5 (dk_at dksL_law_46 5 rfl rfl)
theorem dL_law_1206 : decode cL_law 1206 = .ok (.iconst 0, 1) := dk_3 (dk_at dksL_law_46 8 rfl rfl)
theorem dL_law_1207 : decode cL_law 1207 = .ok (.ireturn, 1) := dk_172 (dk_at dksL_law_46 9 rfl rfl)
theorem dL_law_1208 : decode cL_law 1208 = .ok (.goto 879, 3) := dk_167 3 111 (dk_at dksL_law_46 10 rfl rfl)
theorem dL_law_1211 : decode cL_law 1211 = .ok (.aload_n 1, 1) := dk_43 (dk_at dksL_law_46 13 rfl rfl)
theorem dL_law_1212 : decode cL_law 1212 = .ok (.aload_n 0, 1) := dk_42 (dk_at dksL_law_46 14 rfl rfl)
theorem dL_law_1213 : decode cL_law 1213 = .ok (.iload 4, 2) := dk_21 4 (dk_at dksL_law_46 15 rfl rfl)
theorem dL_law_1215 : decode cL_law 1215 = .ok (.iconst 1, 1) := dk_4 (dk_at dksL_law_46 17 rfl rfl)
theorem dL_law_1216 : decode cL_law 1216 = .ok (.iadd, 1) := dk_96 (dk_at dksL_law_46 18 rfl rfl)
theorem dL_law_1217 : decode cL_law 1217 = .ok (.iaload, 1) := dk_46 (dk_at dksL_law_46 19 rfl rfl)
theorem dL_law_1218 : decode cL_law 1218 = .ok (.aload_n 3, 1) := dk_45 (dk_at dksL_law_46 20 rfl rfl)
theorem dL_law_1219 : decode cL_law 1219 = .ok (.invokestatic 218, 3) := dk_184 0 218 (dk_at dksL_law_46 21 rfl rfl)
theorem dL_law_1222 : decode cL_law 1222 = .ok (.istore 5, 2) := dk_54 5 (dk_at dksL_law_47 0 rfl rfl)
theorem dL_law_1224 : decode cL_law 1224 = .ok (.aload_n 2, 1) := dk_44 (dk_at dksL_law_47 2 rfl rfl)
theorem dL_law_1225 : decode cL_law 1225 = .ok (.aload_n 0, 1) := dk_42 (dk_at dksL_law_47 3 rfl rfl)
theorem dL_law_1226 : decode cL_law 1226 = .ok (.iload 4, 2) := dk_21 4 (dk_at dksL_law_47 4 rfl rfl)
theorem dL_law_1228 : decode cL_law 1228 = .ok (.iconst 1, 1) := dk_4 (dk_at dksL_law_47 6 rfl rfl)
theorem dL_law_1229 : decode cL_law 1229 = .ok (.iadd, 1) := dk_96 (dk_at dksL_law_47 7 rfl rfl)
theorem dL_law_1230 : decode cL_law 1230 = .ok (.iaload, 1) := dk_46 (dk_at dksL_law_47 8 rfl rfl)
theorem dL_law_1231 : decode cL_law 1231 = .ok (.invokevirtual 220, 3) := dk_182 0 220 (dk_at dksL_law_47 9 rfl rfl)
theorem dL_law_1234 : decode cL_law 1234 = .ok (.astore 6, 2) := dk_58 6 (dk_at dksL_law_47 12 rfl rfl)
theorem dL_law_1236 : decode cL_law 1236 = .ok (.aload_n 2, 1) := dk_44 (dk_at dksL_law_47 14 rfl rfl)
theorem dL_law_1237 : decode cL_law 1237 = .ok (.invokevirtual 154, 3) := dk_182 0 154 (dk_at dksL_law_47 15 rfl rfl)
theorem dL_law_1240 : decode cL_law 1240 = .ok (.iload 5, 2) := dk_21 5 (dk_at dksL_law_47 18 rfl rfl)
theorem dL_law_1242 : decode cL_law 1242 = .ok (.if_icmp .eq 5, 3) := dk_159 0 5 (dk_at dksL_law_47 20 rfl rfl)
theorem dL_law_1245 : decode cL_law 1245 = .ok (.iconst 0, 1) := dk_3 (dk_at dksL_law_47 23 rfl rfl)
theorem dL_law_1246 : decode cL_law 1246 = .ok (.ireturn, 1) := dk_172 (dk_at dksL_law_48 0 rfl rfl)
theorem dL_law_1247 : decode cL_law 1247 = .ok (.iload 5, 2) := dk_21 5 (dk_at dksL_law_48 1 rfl rfl)
theorem dL_law_1249 : decode cL_law 1249 = .ok (.ifCond .ne 14, 3) := dk_154 0 14 (dk_at dksL_law_48 3 rfl rfl)
theorem dL_law_1252 : decode cL_law 1252 = .ok (.aload_n 3, 1) := dk_45 (dk_at dksL_law_48 6 rfl rfl)
theorem dL_law_1253 : decode cL_law 1253 = .ok (.getfield 60, 3) := dk_180 0 60 (dk_at dksL_law_48 7 rfl rfl)
theorem dL_law_1256 : decode cL_law 1256 = .ok (.aload 6, 2) := dk_25 6 (dk_at dksL_law_48 10 rfl rfl)
theorem dL_law_1258 : decode cL_law 1258 = .ok (.if_acmp .eq 5, 3) := dk_165 0 5 (dk_at dksL_law_48 12 rfl rfl)
theorem dL_law_1261 : decode cL_law 1261 = .ok (.iconst 0, 1) := dk_3 (dk_at dksL_law_48 15 rfl rfl)
theorem dL_law_1262 : decode cL_law 1262 = .ok (.ireturn, 1) := dk_172 (dk_at dksL_law_48 16 rfl rfl)
theorem dL_law_1263 : decode cL_law 1263 = .ok (.goto 824, 3) := dk_167 3 56 (dk_at dksL_law_48 17 rfl rfl)
theorem dL_law_1266 : decode cL_law 1266 = .ok (.aload_n 1, 1) := dk_43 (dk_at dksL_law_48 20 rfl rfl)
theorem dL_law_1267 : decode cL_law 1267 = .ok (.aload_n 0, 1) := dk_42 (dk_at dksL_law_48 21 rfl rfl)
theorem dL_law_1268 : decode cL_law 1268 = .ok (.iload 4, 2) := dk_21 4 (dk_at dksL_law_48 22 rfl rfl)
theorem dL_law_1270 : decode cL_law 1270 = .ok (.iconst 1, 1) := dk_4 (dk_at dksL_law_49 0 rfl rfl)
theorem dL_law_1271 : decode cL_law 1271 = .ok (.iadd, 1) := dk_96 (dk_at dksL_law_49 1 rfl rfl)
theorem dL_law_1272 : decode cL_law 1272 = .ok (.iaload, 1) := dk_46 (dk_at dksL_law_49 2 rfl rfl)
theorem dL_law_1273 : decode cL_law 1273 = .ok (.aload_n 3, 1) := dk_45 (dk_at dksL_law_49 3 rfl rfl)
theorem dL_law_1274 : decode cL_law 1274 = .ok (.invokestatic 221, 3) := dk_184 0 221 (dk_at dksL_law_49 4 rfl rfl)
theorem dL_law_1277 : decode cL_law 1277 = .ok (.istore 5, 2) := dk_54 5 (dk_at dksL_law_49 7 rfl rfl)
theorem dL_law_1279 : decode cL_law 1279 = .ok (.aload_n 2, 1) := dk_44 (dk_at dksL_law_49 9 rfl rfl)
theorem dL_law_1280 : decode cL_law 1280 = .ok (.aload_n 0, 1) := dk_42 (dk_at dksL_law_49 10 rfl rfl)
theorem dL_law_1281 : decode cL_law 1281 = .ok (.iload 4, 2) := dk_21 4 (dk_at dksL_law_49 11 rfl rfl)
theorem dL_law_1283 : decode cL_law 1283 = .ok (.iconst 1, 1) := dk_4 (dk_at dksL_law_49 13 rfl rfl)
theorem dL_law_1284 : decode cL_law 1284 = .ok (.iadd, 1) := dk_96 (dk_at dksL_law_49 14 rfl rfl)
theorem dL_law_1285 : decode cL_law 1285 = .ok (.iaload, 1) := dk_46 (dk_at dksL_law_49 15 rfl rfl)
theorem dL_law_1286 : decode cL_law 1286 = .ok (.invokevirtual 223, 3) := dk_182 0 223 (dk_at dksL_law_49 16 rfl rfl)
theorem dL_law_1289 : decode cL_law 1289 = .ok (.istore 6, 2) := dk_54 6 (dk_at dksL_law_49 19 rfl rfl)
theorem dL_law_1291 : decode cL_law 1291 = .ok (.aload_n 2, 1) := dk_44 (dk_at dksL_law_49 21 rfl rfl)
theorem dL_law_1292 : decode cL_law 1292 = .ok (.invokevirtual 154, 3) := dk_182 0 154 (dk_at dksL_law_50 0 rfl rfl)
theorem dL_law_1295 : decode cL_law 1295 = .ok (.iload 5, 2) := dk_21 5 (dk_at dksL_law_50 3 rfl rfl)
theorem dL_law_1297 : decode cL_law 1297 = .ok (.if_icmp .eq 5, 3) := dk_159 0 5 (dk_at dksL_law_50 5 rfl rfl)
theorem dL_law_1300 : decode cL_law 1300 = .ok (.iconst 0, 1) := dk_3 (dk_at dksL_law_50 8 rfl rfl)
theorem dL_law_1301 : decode cL_law 1301 = .ok (.ireturn, 1) := dk_172 (dk_at dksL_law_50 9 rfl rfl)
theorem dL_law_1302 : decode cL_law 1302 = .ok (.iload 5, 2) := dk_21 5 (dk_at dksL_law_50 10 rfl rfl)
theorem dL_law_1304 : decode cL_law 1304 = .ok (.ifCond .ne 16, 3) := dk_154 0 16 (dk_at dksL_law_50 12 rfl rfl)
theorem dL_law_1307 : decode cL_law 1307 = .ok (.aload_n 3, 1) := dk_45 (dk_at dksL_law_50 15 rfl rfl)
theorem dL_law_1308 : decode cL_law 1308 = .ok (.getfield 13, 3) := dk_180 0 13 (dk_at dksL_law_50 16 rfl rfl)
theorem dL_law_1311 : decode cL_law 1311 = .ok (.iload 6, 2) := dk_21 6 (dk_at dksL_law_50 19 rfl rfl)
theorem dL_law_1313 : decode cL_law 1313 = .ok (.i2l, 1) := dk_133 (dk_at dksL_law_50 21 rfl rfl)
theorem dL_law_1314 : decode cL_law 1314 = .ok (.lcmp, 1) := dk_148 (dk_at dksL_law_50 22 rfl rfl)
theorem dL_law_1315 : decode cL_law 1315 = .ok (.ifCond .eq 5, 3) := dk_153 0 5 (dk_at dksL_law_51 0 rfl rfl)
theorem dL_law_1318 : decode cL_law 1318 = .ok (.iconst 0, 1) := dk_3 (dk_at dksL_law_51 3 rfl rfl)
theorem dL_law_1319 : decode cL_law 1319 = .ok (.ireturn, 1) := dk_172 (dk_at dksL_law_51 4 rfl rfl)
theorem dL_law_1320 : decode cL_law 1320 = .ok (.goto 767, 3) := dk_167 2 255 (dk_at dksL_law_51 5 rfl rfl)
theorem dL_law_1323 : decode cL_law 1323 = .ok (.aload_n 1, 1) := dk_43 (dk_at dksL_law_51 8 rfl rfl)
theorem dL_law_1324 : decode cL_law 1324 = .ok (.aload_n 0, 1) := dk_42 (dk_at dksL_law_51 9 rfl rfl)
theorem dL_law_1325 : decode cL_law 1325 = .ok (.iload 4, 2) := dk_21 4 (dk_at dksL_law_51 10 rfl rfl)
theorem dL_law_1327 : decode cL_law 1327 = .ok (.iconst 1, 1) := dk_4 (dk_at dksL_law_51 12 rfl rfl)
theorem dL_law_1328 : decode cL_law 1328 = .ok (.iadd, 1) := dk_96 (dk_at dksL_law_51 13 rfl rfl)
theorem dL_law_1329 : decode cL_law 1329 = .ok (.iaload, 1) := dk_46 (dk_at dksL_law_51 14 rfl rfl)
theorem dL_law_1330 : decode cL_law 1330 = .ok (.aload_n 3, 1) := dk_45 (dk_at dksL_law_51 15 rfl rfl)
theorem dL_law_1331 : decode cL_law 1331 = .ok (.invokestatic 224, 3) := dk_184 0 224 (dk_at dksL_law_51 16 rfl rfl)
theorem dL_law_1334 : decode cL_law 1334 = .ok (.istore 5, 2) := dk_54 5 (dk_at dksL_law_51 19 rfl rfl)
theorem dL_law_1336 : decode cL_law 1336 = .ok (.aload_n 2, 1) := dk_44 (dk_at dksL_law_51 21 rfl rfl)
theorem dL_law_1337 : decode cL_law 1337 = .ok (.aload_n 0, 1) := dk_42 (dk_at dksL_law_51 22 rfl rfl)
theorem dL_law_1338 : decode cL_law 1338 = .ok (.iload 4, 2) := dk_21 4 (dk_at dksL_law_52 0 rfl rfl)
theorem dL_law_1340 : decode cL_law 1340 = .ok (.iconst 1, 1) := dk_4 (dk_at dksL_law_52 2 rfl rfl)
theorem dL_law_1341 : decode cL_law 1341 = .ok (.iadd, 1) := dk_96 (dk_at dksL_law_52 3 rfl rfl)
theorem dL_law_1342 : decode cL_law 1342 = .ok (.iaload, 1) := dk_46 (dk_at dksL_law_52 4 rfl rfl)
theorem dL_law_1343 : decode cL_law 1343 = .ok (.invokevirtual 226, 3) := dk_182 0 226 (dk_at dksL_law_52 5 rfl rfl)
theorem dL_law_1346 : decode cL_law 1346 = .ok (.astore 6, 2) := dk_58 6 (dk_at dksL_law_52 8 rfl rfl)
theorem dL_law_1348 : decode cL_law 1348 = .ok (.aload_n 2, 1) := dk_44 (dk_at dksL_law_52 10 rfl rfl)
theorem dL_law_1349 : decode cL_law 1349 = .ok (.invokevirtual 154, 3) := dk_182 0 154 (dk_at dksL_law_52 11 rfl rfl)
theorem dL_law_1352 : decode cL_law 1352 = .ok (.iload 5, 2) := dk_21 5 (dk_at dksL_law_52 14 rfl rfl)
theorem dL_law_1354 : decode cL_law 1354 = .ok (.if_icmp .eq 5, 3) := dk_159 0 5 (dk_at dksL_law_52 16 rfl rfl)
theorem dL_law_1357 : decode cL_law 1357 = .ok (.iconst 0, 1) := dk_3 (dk_at dksL_law_52 19 rfl rfl)
theorem dL_law_1358 : decode cL_law 1358 = .ok (.ireturn, 1) := dk_172 (dk_at dksL_law_52 20 rfl rfl)
theorem dL_law_1359 : decode cL_law 1359 = .ok (.iload 5, 2) := dk_21 5 (dk_at dksL_law_52 21 rfl rfl)
theorem dL_law_1361 : decode cL_law 1361 = .ok (.ifCond .ne 14, 3) := dk_154 0 14 (dk_at dksL_law_53 0 rfl rfl)
theorem dL_law_1364 : decode cL_law 1364 = .ok (.aload_n 3, 1) := dk_45 (dk_at dksL_law_53 3 rfl rfl)
theorem dL_law_1365 : decode cL_law 1365 = .ok (.getfield 92, 3) := dk_180 0 92 (dk_at dksL_law_53 4 rfl rfl)
theorem dL_law_1368 : decode cL_law 1368 = .ok (.aload 6, 2) := dk_25 6 (dk_at dksL_law_53 7 rfl rfl)
theorem dL_law_1370 : decode cL_law 1370 = .ok (.if_acmp .eq 5, 3) := dk_165 0 5 (dk_at dksL_law_53 9 rfl rfl)
theorem dL_law_1373 : decode cL_law 1373 = .ok (.iconst 0, 1) := dk_3 (dk_at dksL_law_53 12 rfl rfl)
theorem dL_law_1374 : decode cL_law 1374 = .ok (.ireturn, 1) := dk_172 (dk_at dksL_law_53 13 rfl rfl)
theorem dL_law_1375 : decode cL_law 1375 = .ok (.goto 712, 3) := dk_167 2 200 (dk_at dksL_law_53 14 rfl rfl)
theorem dL_law_1378 : decode cL_law 1378 = .ok (.aload_n 1, 1) := dk_43 (dk_at dksL_law_53 17 rfl rfl)
theorem dL_law_1379 : decode cL_law 1379 = .ok (.aload_n 0, 1) := dk_42 (dk_at dksL_law_53 18 rfl rfl)
theorem dL_law_1380 : decode cL_law 1380 = .ok (.iload 4, 2) := dk_21 4 (dk_at dksL_law_53 19 rfl rfl)
theorem dL_law_1382 : decode cL_law 1382 = .ok (.iconst 1, 1) := dk_4 (dk_at dksL_law_53 21 rfl rfl)
theorem dL_law_1383 : decode cL_law 1383 = .ok (.iadd, 1) := dk_96 (dk_at dksL_law_53 22 rfl rfl)
theorem dL_law_1384 : decode cL_law 1384 = .ok (.iaload, 1) := dk_46 (dk_at dksL_law_53 23 rfl rfl)
theorem dL_law_1385 : decode cL_law 1385 = .ok (.aload_n 3, 1) := dk_45 (dk_at dksL_law_54 0 rfl rfl)
theorem dL_law_1386 : decode cL_law 1386 = .ok (.invokestatic 227, 3) := dk_184 0 227 (dk_at dksL_law_54 1 rfl rfl)
theorem dL_law_1389 : decode cL_law 1389 = .ok (.istore 5, 2) := dk_54 5 (dk_at dksL_law_54 4 rfl rfl)
theorem dL_law_1391 : decode cL_law 1391 = .ok (.aload_n 2, 1) := dk_44 (dk_at dksL_law_54 6 rfl rfl)
theorem dL_law_1392 : decode cL_law 1392 = .ok (.aload_n 0, 1) := dk_42 (dk_at dksL_law_54 7 rfl rfl)
theorem dL_law_1393 : decode cL_law 1393 = .ok (.iload 4, 2) := dk_21 4 (dk_at dksL_law_54 8 rfl rfl)
theorem dL_law_1395 : decode cL_law 1395 = .ok (.iconst 1, 1) := dk_4 (dk_at dksL_law_54 10 rfl rfl)
theorem dL_law_1396 : decode cL_law 1396 = .ok (.iadd, 1) := dk_96 (dk_at dksL_law_54 11 rfl rfl)
theorem dL_law_1397 : decode cL_law 1397 = .ok (.iaload, 1) := dk_46 (dk_at dksL_law_54 12 rfl rfl)
theorem dL_law_1398 : decode cL_law 1398 = .ok (.invokevirtual 229, 3) := dk_182 0 229 (dk_at dksL_law_54 13 rfl rfl)
theorem dL_law_1401 : decode cL_law 1401 = .ok (.istore 6, 2) := dk_54 6 (dk_at dksL_law_54 16 rfl rfl)
theorem dL_law_1403 : decode cL_law 1403 = .ok (.aload_n 2, 1) := dk_44 (dk_at dksL_law_54 18 rfl rfl)
theorem dL_law_1404 : decode cL_law 1404 = .ok (.invokevirtual 154, 3) := dk_182 0 154 (dk_at dksL_law_54 19 rfl rfl)
theorem dL_law_1407 : decode cL_law 1407 = .ok (.iload 5, 2) := dk_21 5 (dk_at dksL_law_54 22 rfl rfl)
theorem dL_law_1409 : decode cL_law 1409 = .ok (.if_icmp .eq 5, 3) := dk_159 0 5 (dk_at dksL_law_55 0 rfl rfl)
theorem dL_law_1412 : decode cL_law 1412 = .ok (.iconst 0, 1) := dk_3 (dk_at dksL_law_55 3 rfl rfl)
theorem dL_law_1413 : decode cL_law 1413 = .ok (.ireturn, 1) := dk_172 (dk_at dksL_law_55 4 rfl rfl)
theorem dL_law_1414 : decode cL_law 1414 = .ok (.iload 5, 2) := dk_21 5 (dk_at dksL_law_55 5 rfl rfl)
theorem dL_law_1416 : decode cL_law 1416 = .ok (.ifCond .ne 16, 3) := dk_154 0 16 (dk_at dksL_law_55 7 rfl rfl)
theorem dL_law_1419 : decode cL_law 1419 = .ok (.aload_n 3, 1) := dk_45 (dk_at dksL_law_55 10 rfl rfl)
theorem dL_law_1420 : decode cL_law 1420 = .ok (.getfield 13, 3) := dk_180 0 13 (dk_at dksL_law_55 11 rfl rfl)
theorem dL_law_1423 : decode cL_law 1423 = .ok (.iload 6, 2) := dk_21 6 (dk_at dksL_law_55 14 rfl rfl)
theorem dL_law_1425 : decode cL_law 1425 = .ok (.i2l, 1) := dk_133 (dk_at dksL_law_55 16 rfl rfl)
theorem dL_law_1426 : decode cL_law 1426 = .ok (.lcmp, 1) := dk_148 (dk_at dksL_law_55 17 rfl rfl)
theorem dL_law_1427 : decode cL_law 1427 = .ok (.ifCond .eq 5, 3) := dk_153 0 5 (dk_at dksL_law_55 18 rfl rfl)
theorem dL_law_1430 : decode cL_law 1430 = .ok (.iconst 0, 1) := dk_3 (dk_at dksL_law_55 21 rfl rfl)
theorem dL_law_1431 : decode cL_law 1431 = .ok (.ireturn, 1) := dk_172 (dk_at dksL_law_55 22 rfl rfl)
theorem dL_law_1432 : decode cL_law 1432 = .ok (.goto 655, 3) := dk_167 2 143 (dk_at dksL_law_56 0 rfl rfl)
theorem dL_law_1435 : decode cL_law 1435 = .ok (.aload_n 1, 1) := dk_43 (dk_at dksL_law_56 3 rfl rfl)
theorem dL_law_1436 : decode cL_law 1436 = .ok (.aload_n 0, 1) := dk_42 (dk_at dksL_law_56 4 rfl rfl)
theorem dL_law_1437 : decode cL_law 1437 = .ok (.iload 4, 2) := dk_21 4 (dk_at dksL_law_56 5 rfl rfl)
theorem dL_law_1439 : decode cL_law 1439 = .ok (.iconst 1, 1) := dk_4 (dk_at dksL_law_56 7 rfl rfl)
theorem dL_law_1440 : decode cL_law 1440 = .ok (.iadd, 1) := dk_96 (dk_at dksL_law_56 8 rfl rfl)
theorem dL_law_1441 : decode cL_law 1441 = .ok (.iaload, 1) := dk_46 (dk_at dksL_law_56 9 rfl rfl)
theorem dL_law_1442 : decode cL_law 1442 = .ok (.aload_n 3, 1) := dk_45 (dk_at dksL_law_56 10 rfl rfl)
theorem dL_law_1443 : decode cL_law 1443 = .ok (.invokestatic 230, 3) := dk_184 0 230 (dk_at dksL_law_56 11 rfl rfl)
theorem dL_law_1446 : decode cL_law 1446 = .ok (.istore 5, 2) := dk_54 5 (dk_at dksL_law_56 14 rfl rfl)
theorem dL_law_1448 : decode cL_law 1448 = .ok (.aload_n 2, 1) := dk_44 (dk_at dksL_law_56 16 rfl rfl)
theorem dL_law_1449 : decode cL_law 1449 = .ok (.aload_n 0, 1) := dk_42 (dk_at dksL_law_56 17 rfl rfl)
theorem dL_law_1450 : decode cL_law 1450 = .ok (.iload 4, 2) := dk_21 4 (dk_at dksL_law_56 18 rfl rfl)
theorem dL_law_1452 : decode cL_law 1452 = .ok (.iconst 1, 1) := dk_4 (dk_at dksL_law_56 20 rfl rfl)
theorem dL_law_1453 : decode cL_law 1453 = .ok (.iadd, 1) := dk_96 (dk_at dksL_law_56 21 rfl rfl)
theorem dL_law_1454 : decode cL_law 1454 = .ok (.iaload, 1) := dk_46 (dk_at dksL_law_56 22 rfl rfl)
theorem dL_law_1455 : decode cL_law 1455 = .ok (.invokevirtual 232, 3) := dk_182 0 232 (dk_at dksL_law_57 0 rfl rfl)
theorem dL_law_1458 : decode cL_law 1458 = .ok (.istore 6, 2) := dk_54 6 (dk_at dksL_law_57 3 rfl rfl)
theorem dL_law_1460 : decode cL_law 1460 = .ok (.aload_n 2, 1) := dk_44 (dk_at dksL_law_57 5 rfl rfl)
theorem dL_law_1461 : decode cL_law 1461 = .ok (.invokevirtual 154, 3) := dk_182 0 154 (dk_at dksL_law_57 6 rfl rfl)
theorem dL_law_1464 : decode cL_law 1464 = .ok (.iload 5, 2) := dk_21 5 (dk_at dksL_law_57 9 rfl rfl)
theorem dL_law_1466 : decode cL_law 1466 = .ok (.if_icmp .eq 5, 3) := dk_159 0 5 (dk_at dksL_law_57 11 rfl rfl)
theorem dL_law_1469 : decode cL_law 1469 = .ok (.iconst 0, 1) := dk_3 (dk_at dksL_law_57 14 rfl rfl)
theorem dL_law_1470 : decode cL_law 1470 = .ok (.ireturn, 1) := dk_172 (dk_at dksL_law_57 15 rfl rfl)
theorem dL_law_1471 : decode cL_law 1471 = .ok (.iload 5, 2) := dk_21 5 (dk_at dksL_law_57 16 rfl rfl)
theorem dL_law_1473 : decode cL_law 1473 = .ok (.ifCond .ne 16, 3) := dk_154 0 16 (dk_at dksL_law_57 18 rfl rfl)
theorem dL_law_1476 : decode cL_law 1476 = .ok (.aload_n 3, 1) := dk_45 (dk_at dksL_law_57 21 rfl rfl)
theorem dL_law_1477 : decode cL_law 1477 = .ok (.getfield 13, 3) := dk_180 0 13 (dk_at dksL_law_58 0 rfl rfl)
theorem dL_law_1480 : decode cL_law 1480 = .ok (.iload 6, 2) := dk_21 6 (dk_at dksL_law_58 3 rfl rfl)
theorem dL_law_1482 : decode cL_law 1482 = .ok (.i2l, 1) := dk_133 (dk_at dksL_law_58 5 rfl rfl)
theorem dL_law_1483 : decode cL_law 1483 = .ok (.lcmp, 1) := dk_148 (dk_at dksL_law_58 6 rfl rfl)
theorem dL_law_1484 : decode cL_law 1484 = .ok (.ifCond .eq 5, 3) := dk_153 0 5 (dk_at dksL_law_58 7 rfl rfl)
theorem dL_law_1487 : decode cL_law 1487 = .ok (.iconst 0, 1) := dk_3 (dk_at dksL_law_58 10 rfl rfl)
theorem dL_law_1488 : decode cL_law 1488 = .ok (.ireturn, 1) := dk_172 (dk_at dksL_law_58 11 rfl rfl)
theorem dL_law_1489 : decode cL_law 1489 = .ok (.goto 598, 3) := dk_167 2 86 (dk_at dksL_law_58 12 rfl rfl)
theorem dL_law_1492 : decode cL_law 1492 = .ok (.aload_n 1, 1) := dk_43 (dk_at dksL_law_58 15 rfl rfl)
theorem dL_law_1493 : decode cL_law 1493 = .ok (.aload_n 0, 1) := dk_42 (dk_at dksL_law_58 16 rfl rfl)
theorem dL_law_1494 : decode cL_law 1494 = .ok (.iload 4, 2) := dk_21 4 (dk_at dksL_law_58 17 rfl rfl)
theorem dL_law_1496 : decode cL_law 1496 = .ok (.iconst 1, 1) := dk_4 (dk_at dksL_law_58 19 rfl rfl)
theorem dL_law_1497 : decode cL_law 1497 = .ok (.iadd, 1) := dk_96 (dk_at dksL_law_58 20 rfl rfl)
theorem dL_law_1498 : decode cL_law 1498 = .ok (.iaload, 1) := dk_46 (dk_at dksL_law_58 21 rfl rfl)
theorem dL_law_1499 : decode cL_law 1499 = .ok (.aload_n 3, 1) := dk_45 (dk_at dksL_law_58 22 rfl rfl)
theorem dL_law_1500 : decode cL_law 1500 = .ok (.invokestatic 233, 3) := dk_184 0 233 (dk_at dksL_law_59 0 rfl rfl)
theorem dL_law_1503 : decode cL_law 1503 = .ok (.istore 5, 2) := dk_54 5 (dk_at dksL_law_59 3 rfl rfl)
theorem dL_law_1505 : decode cL_law 1505 = .ok (.aload_n 2, 1) := dk_44 (dk_at dksL_law_59 5 rfl rfl)
theorem dL_law_1506 : decode cL_law 1506 = .ok (.aload_n 0, 1) := dk_42 (dk_at dksL_law_59 6 rfl rfl)
theorem dL_law_1507 : decode cL_law 1507 = .ok (.iload 4, 2) := dk_21 4 (dk_at dksL_law_59 7 rfl rfl)
theorem dL_law_1509 : decode cL_law 1509 = .ok (.iconst 1, 1) := dk_4 (dk_at dksL_law_59 9 rfl rfl)
theorem dL_law_1510 : decode cL_law 1510 = .ok (.iadd, 1) := dk_96 (dk_at dksL_law_59 10 rfl rfl)
theorem dL_law_1511 : decode cL_law 1511 = .ok (.iaload, 1) := dk_46 (dk_at dksL_law_59 11 rfl rfl)
theorem dL_law_1512 : decode cL_law 1512 = .ok (.invokevirtual 235, 3) := dk_182 0 235 (dk_at dksL_law_59 12 rfl rfl)
theorem dL_law_1515 : decode cL_law 1515 = .ok (.istore 6, 2) := dk_54 6 (dk_at dksL_law_59 15 rfl rfl)
theorem dL_law_1517 : decode cL_law 1517 = .ok (.aload_n 2, 1) := dk_44 (dk_at dksL_law_59 17 rfl rfl)
theorem dL_law_1518 : decode cL_law 1518 = .ok (.invokevirtual 154, 3) := dk_182 0 154 (dk_at dksL_law_59 18 rfl rfl)
theorem dL_law_1521 : decode cL_law 1521 = .ok (.iload 5, 2) := dk_21 5 (dk_at dksL_law_59 21 rfl rfl)
theorem dL_law_1523 : decode cL_law 1523 = .ok (.if_icmp .eq 5, 3) := dk_159 0 5 (dk_at dksL_law_60 0 rfl rfl)
theorem dL_law_1526 : decode cL_law 1526 = .ok (.iconst 0, 1) := dk_3 (dk_at dksL_law_60 3 rfl rfl)
theorem dL_law_1527 : decode cL_law 1527 = .ok (.ireturn, 1) := dk_172 (dk_at dksL_law_60 4 rfl rfl)
theorem dL_law_1528 : decode cL_law 1528 = .ok (.iload 5, 2) := dk_21 5 (dk_at dksL_law_60 5 rfl rfl)
theorem dL_law_1530 : decode cL_law 1530 = .ok (.ifCond .ne 23, 3) := dk_154 0 23 (dk_at dksL_law_60 7 rfl rfl)
theorem dL_law_1533 : decode cL_law 1533 = .ok (.aload_n 3, 1) := dk_45 (dk_at dksL_law_60 10 rfl rfl)
theorem dL_law_1534 : decode cL_law 1534 = .ok (.getfield 13, 3) := dk_180 0 13 (dk_at dksL_law_60 11 rfl rfl)
theorem dL_law_1537 : decode cL_law 1537 = .ok (.iload 6, 2) := dk_21 6 (dk_at dksL_law_60 14 rfl rfl)
theorem dL_law_1539 : decode cL_law 1539 = .ok (.ifCond .eq 7, 3) := dk_153 0 7 (dk_at dksL_law_60 16 rfl rfl)
theorem dL_law_1542 : decode cL_law 1542 = .ok (.lconst 1, 1) := dk_10 (dk_at dksL_law_60 19 rfl rfl)
theorem dL_law_1543 : decode cL_law 1543 = .ok (.goto 4, 3) := dk_167 0 4 (dk_at dksL_law_60 20 rfl rfl)
theorem dL_law_1546 : decode cL_law 1546 = .ok (.lconst 0, 1) := dk_9 (dk_at dksL_law_60 23 rfl rfl)
theorem dL_law_1547 : decode cL_law 1547 = .ok (.lcmp, 1) := dk_148 (dk_at dksL_law_61 0 rfl rfl)
theorem dL_law_1548 : decode cL_law 1548 = .ok (.ifCond .eq 5, 3) := dk_153 0 5 (dk_at dksL_law_61 1 rfl rfl)
theorem dL_law_1551 : decode cL_law 1551 = .ok (.iconst 0, 1) := dk_3 (dk_at dksL_law_61 4 rfl rfl)
theorem dL_law_1552 : decode cL_law 1552 = .ok (.ireturn, 1) := dk_172 (dk_at dksL_law_61 5 rfl rfl)
theorem dL_law_1553 : decode cL_law 1553 = .ok (.goto 534, 3) := dk_167 2 22 (dk_at dksL_law_61 6 rfl rfl)
theorem dL_law_1556 : decode cL_law 1556 = .ok (.aload_n 1, 1) := dk_43 (dk_at dksL_law_61 9 rfl rfl)
theorem dL_law_1557 : decode cL_law 1557 = .ok (.aload_n 0, 1) := dk_42 (dk_at dksL_law_61 10 rfl rfl)
theorem dL_law_1558 : decode cL_law 1558 = .ok (.iload 4, 2) := dk_21 4 (dk_at dksL_law_61 11 rfl rfl)
theorem dL_law_1560 : decode cL_law 1560 = .ok (.iconst 1, 1) := dk_4 (dk_at dksL_law_61 13 rfl rfl)
theorem dL_law_1561 : decode cL_law 1561 = .ok (.iadd, 1) := dk_96 (dk_at dksL_law_61 14 rfl rfl)
theorem dL_law_1562 : decode cL_law 1562 = .ok (.iaload, 1) := dk_46 (dk_at dksL_law_61 15 rfl rfl)
theorem dL_law_1563 : decode cL_law 1563 = .ok (.aload_n 0, 1) := dk_42 (dk_at dksL_law_61 16 rfl rfl)
theorem dL_law_1564 : decode cL_law 1564 = .ok (.iload 4, 2) := dk_21 4 (dk_at dksL_law_61 17 rfl rfl)
theorem dL_law_1566 : decode cL_law 1566 = .ok (.iconst 2, 1) := dk_5 (dk_at dksL_law_61 19 rfl rfl)
theorem dL_law_1567 : decode cL_law 1567 = .ok (.iadd, 1) := dk_96 (dk_at dksL_law_61 20 rfl rfl)
theorem dL_law_1568 : decode cL_law 1568 = .ok (.iaload, 1) := dk_46 (dk_at dksL_law_61 21 rfl rfl)
theorem dL_law_1569 : decode cL_law 1569 = .ok (.aload_n 3, 1) := dk_45 (dk_at dksL_law_61 22 rfl rfl)
theorem dL_law_1570 : decode cL_law 1570 = .ok (.invokestatic 236, 3) := dk_184 0 236 (dk_at dksL_law_62 0 rfl rfl)
theorem dL_law_1573 : decode cL_law 1573 = .ok (.istore 5, 2) := dk_54 5 (dk_at dksL_law_62 3 rfl rfl)
theorem dL_law_1575 : decode cL_law 1575 = .ok (.aload_n 2, 1) := dk_44 (dk_at dksL_law_62 5 rfl rfl)
theorem dL_law_1576 : decode cL_law 1576 = .ok (.aload_n 0, 1) := dk_42 (dk_at dksL_law_62 6 rfl rfl)
theorem dL_law_1577 : decode cL_law 1577 = .ok (.iload 4, 2) := dk_21 4 (dk_at dksL_law_62 7 rfl rfl)
theorem dL_law_1579 : decode cL_law 1579 = .ok (.iconst 1, 1) := dk_4 (dk_at dksL_law_62 9 rfl rfl)
theorem dL_law_1580 : decode cL_law 1580 = .ok (.iadd, 1) := dk_96 (dk_at dksL_law_62 10 rfl rfl)
theorem dL_law_1581 : decode cL_law 1581 = .ok (.iaload, 1) := dk_46 (dk_at dksL_law_62 11 rfl rfl)
theorem dL_law_1582 : decode cL_law 1582 = .ok (.aload_n 0, 1) := dk_42 (dk_at dksL_law_62 12 rfl rfl)
theorem dL_law_1583 : decode cL_law 1583 = .ok (.iload 4, 2) := dk_21 4 (dk_at dksL_law_62 13 rfl rfl)
theorem dL_law_1585 : decode cL_law 1585 = .ok (.iconst 2, 1) := dk_5 (dk_at dksL_law_62 15 rfl rfl)
theorem dL_law_1586 : decode cL_law 1586 = .ok (.iadd, 1) := dk_96 (dk_at dksL_law_62 16 rfl rfl)
theorem dL_law_1587 : decode cL_law 1587 = .ok (.iaload, 1) := dk_46 (dk_at dksL_law_62 17 rfl rfl)
theorem dL_law_1588 : decode cL_law 1588 = .ok (.invokevirtual 238, 3) := dk_182 0 238 (dk_at dksL_law_62 18 rfl rfl)
theorem dL_law_1591 : decode cL_law 1591 = .ok (.istore 6, 2) := dk_54 6 (dk_at dksL_law_62 21 rfl rfl)
theorem dL_law_1593 : decode cL_law 1593 = .ok (.aload_n 2, 1) := dk_44 (dk_at dksL_law_62 23 rfl rfl)
theorem dL_law_1594 : decode cL_law 1594 = .ok (.invokevirtual 154, 3) := dk_182 0 154 (dk_at dksL_law_63 0 rfl rfl)
theorem dL_law_1597 : decode cL_law 1597 = .ok (.iload 5, 2) := dk_21 5 (dk_at dksL_law_63 3 rfl rfl)
theorem dL_law_1599 : decode cL_law 1599 = .ok (.if_icmp .eq 5, 3) := dk_159 0 5 (dk_at dksL_law_63 5 rfl rfl)
theorem dL_law_1602 : decode cL_law 1602 = .ok (.iconst 0, 1) := dk_3 (dk_at dksL_law_63 8 rfl rfl)
theorem dL_law_1603 : decode cL_law 1603 = .ok (.ireturn, 1) := dk_172 (dk_at dksL_law_63 9 rfl rfl)
theorem dL_law_1604 : decode cL_law 1604 = .ok (.iload 5, 2) := dk_21 5 (dk_at dksL_law_63 10 rfl rfl)
theorem dL_law_1606 : decode cL_law 1606 = .ok (.ifCond .ne 23, 3) := dk_154 0 23 (dk_at dksL_law_63 12 rfl rfl)
theorem dL_law_1609 : decode cL_law 1609 = .ok (.aload_n 3, 1) := dk_45 (dk_at dksL_law_63 15 rfl rfl)
theorem dL_law_1610 : decode cL_law 1610 = .ok (.getfield 13, 3) := dk_180 0 13 (dk_at dksL_law_63 16 rfl rfl)
theorem dL_law_1613 : decode cL_law 1613 = .ok (.iload 6, 2) := dk_21 6 (dk_at dksL_law_63 19 rfl rfl)
theorem dL_law_1615 : decode cL_law 1615 = .ok (.ifCond .eq 7, 3) := dk_153 0 7 (dk_at dksL_law_63 21 rfl rfl)
theorem dL_law_1618 : decode cL_law 1618 = .ok (.lconst 1, 1) := dk_10 (dk_at dksL_law_64 0 rfl rfl)
theorem dL_law_1619 : decode cL_law 1619 = .ok (.goto 4, 3) := dk_167 0 4 (dk_at dksL_law_64 1 rfl rfl)
theorem dL_law_1622 : decode cL_law 1622 = .ok (.lconst 0, 1) := dk_9 (dk_at dksL_law_64 4 rfl rfl)
theorem dL_law_1623 : decode cL_law 1623 = .ok (.lcmp, 1) := dk_148 (dk_at dksL_law_64 5 rfl rfl)
theorem dL_law_1624 : decode cL_law 1624 = .ok (.ifCond .eq 5, 3) := dk_153 0 5 (dk_at dksL_law_64 6 rfl rfl)
theorem dL_law_1627 : decode cL_law 1627 = .ok (.iconst 0, 1) := dk_3 (dk_at dksL_law_64 9 rfl rfl)
theorem dL_law_1628 : decode cL_law 1628 = .ok (.ireturn, 1) := dk_172 (dk_at dksL_law_64 10 rfl rfl)
theorem dL_law_1629 : decode cL_law 1629 = .ok (.goto 458, 3) := dk_167 1 202 (dk_at dksL_law_64 11 rfl rfl)
theorem dL_law_1632 : decode cL_law 1632 = .ok (.aload_n 1, 1) := dk_43 (dk_at dksL_law_64 14 rfl rfl)
theorem dL_law_1633 : decode cL_law 1633 = .ok (.aload_n 0, 1) := dk_42 (dk_at dksL_law_64 15 rfl rfl)
theorem dL_law_1634 : decode cL_law 1634 = .ok (.iload 4, 2) := dk_21 4 (dk_at dksL_law_64 16 rfl rfl)
theorem dL_law_1636 : decode cL_law 1636 = .ok (.iconst 1, 1) := dk_4 (dk_at dksL_law_64 18 rfl rfl)
theorem dL_law_1637 : decode cL_law 1637 = .ok (.iadd, 1) := dk_96 (dk_at dksL_law_64 19 rfl rfl)
theorem dL_law_1638 : decode cL_law 1638 = .ok (.iaload, 1) := dk_46 (dk_at dksL_law_64 20 rfl rfl)
theorem dL_law_1639 : decode cL_law 1639 = .ok (.aload_n 3, 1) := dk_45 (dk_at dksL_law_64 21 rfl rfl)
theorem dL_law_1640 : decode cL_law 1640 = .ok (.invokestatic 239, 3) := dk_184 0 239 (dk_at dksL_law_65 0 rfl rfl)
theorem dL_law_1643 : decode cL_law 1643 = .ok (.istore 5, 2) := dk_54 5 (dk_at dksL_law_65 3 rfl rfl)
theorem dL_law_1645 : decode cL_law 1645 = .ok (.aload_n 2, 1) := dk_44 (dk_at dksL_law_65 5 rfl rfl)
theorem dL_law_1646 : decode cL_law 1646 = .ok (.aload_n 0, 1) := dk_42 (dk_at dksL_law_65 6 rfl rfl)
theorem dL_law_1647 : decode cL_law 1647 = .ok (.iload 4, 2) := dk_21 4 (dk_at dksL_law_65 7 rfl rfl)
theorem dL_law_1649 : decode cL_law 1649 = .ok (.iconst 1, 1) := dk_4 (dk_at dksL_law_65 9 rfl rfl)
theorem dL_law_1650 : decode cL_law 1650 = .ok (.iadd, 1) := dk_96 (dk_at dksL_law_65 10 rfl rfl)
theorem dL_law_1651 : decode cL_law 1651 = .ok (.iaload, 1) := dk_46 (dk_at dksL_law_65 11 rfl rfl)
theorem dL_law_1652 : decode cL_law 1652 = .ok (.invokevirtual 241, 3) := dk_182 0 241 (dk_at dksL_law_65 12 rfl rfl)
theorem dL_law_1655 : decode cL_law 1655 = .ok (.istore 6, 2) := dk_54 6 (dk_at dksL_law_65 15 rfl rfl)
theorem dL_law_1657 : decode cL_law 1657 = .ok (.aload_n 2, 1) := dk_44 (dk_at dksL_law_65 17 rfl rfl)
theorem dL_law_1658 : decode cL_law 1658 = .ok (.invokevirtual 154, 3) := dk_182 0 154 (dk_at dksL_law_65 18 rfl rfl)
theorem dL_law_1661 : decode cL_law 1661 = .ok (.iload 5, 2) := dk_21 5 (dk_at dksL_law_65 21 rfl rfl)
theorem dL_law_1663 : decode cL_law 1663 = .ok (.if_icmp .eq 5, 3) := dk_159 0 5 (dk_at dksL_law_66 0 rfl rfl)
theorem dL_law_1666 : decode cL_law 1666 = .ok (.iconst 0, 1) := dk_3 (dk_at dksL_law_66 3 rfl rfl)
theorem dL_law_1667 : decode cL_law 1667 = .ok (.ireturn, 1) := dk_172 (dk_at dksL_law_66 4 rfl rfl)
theorem dL_law_1668 : decode cL_law 1668 = .ok (.iload 5, 2) := dk_21 5 (dk_at dksL_law_66 5 rfl rfl)
theorem dL_law_1670 : decode cL_law 1670 = .ok (.ifCond .ne 16, 3) := dk_154 0 16 (dk_at dksL_law_66 7 rfl rfl)
theorem dL_law_1673 : decode cL_law 1673 = .ok (.aload_n 3, 1) := dk_45 (dk_at dksL_law_66 10 rfl rfl)
theorem dL_law_1674 : decode cL_law 1674 = .ok (.getfield 13, 3) := dk_180 0 13 (dk_at dksL_law_66 11 rfl rfl)
theorem dL_law_1677 : decode cL_law 1677 = .ok (.iload 6, 2) := dk_21 6 (dk_at dksL_law_66 14 rfl rfl)
theorem dL_law_1679 : decode cL_law 1679 = .ok (.i2l, 1) := dk_133 (dk_at dksL_law_66 16 rfl rfl)
theorem dL_law_1680 : decode cL_law 1680 = .ok (.lcmp, 1) := dk_148 (dk_at dksL_law_66 17 rfl rfl)
theorem dL_law_1681 : decode cL_law 1681 = .ok (.ifCond .eq 5, 3) := dk_153 0 5 (dk_at dksL_law_66 18 rfl rfl)
theorem dL_law_1684 : decode cL_law 1684 = .ok (.iconst 0, 1) := dk_3 (dk_at dksL_law_66 21 rfl rfl)
theorem dL_law_1685 : decode cL_law 1685 = .ok (.ireturn, 1) := dk_172 (dk_at dksL_law_66 22 rfl rfl)
theorem dL_law_1686 : decode cL_law 1686 = .ok (.goto 401, 3) := dk_167 1 145 (dk_at dksL_law_67 0 rfl rfl)
theorem dL_law_1689 : decode cL_law 1689 = .ok (.aload_n 1, 1) := dk_43 (dk_at dksL_law_67 3 rfl rfl)
theorem dL_law_1690 : decode cL_law 1690 = .ok (.aload_n 0, 1) := dk_42 (dk_at dksL_law_67 4 rfl rfl)
theorem dL_law_1691 : decode cL_law 1691 = .ok (.iload 4, 2) := dk_21 4 (dk_at dksL_law_67 5 rfl rfl)
theorem dL_law_1693 : decode cL_law 1693 = .ok (.iconst 1, 1) := dk_4 (dk_at dksL_law_67 7 rfl rfl)
theorem dL_law_1694 : decode cL_law 1694 = .ok (.iadd, 1) := dk_96 (dk_at dksL_law_67 8 rfl rfl)
theorem dL_law_1695 : decode cL_law 1695 = .ok (.iaload, 1) := dk_46 (dk_at dksL_law_67 9 rfl rfl)
theorem dL_law_1696 : decode cL_law 1696 = .ok (.aload_n 3, 1) := dk_45 (dk_at dksL_law_67 10 rfl rfl)
theorem dL_law_1697 : decode cL_law 1697 = .ok (.invokestatic 242, 3) := dk_184 0 242 (dk_at dksL_law_67 11 rfl rfl)
theorem dL_law_1700 : decode cL_law 1700 = .ok (.istore 5, 2) := dk_54 5 (dk_at dksL_law_67 14 rfl rfl)
theorem dL_law_1702 : decode cL_law 1702 = .ok (.aload_n 2, 1) := dk_44 (dk_at dksL_law_67 16 rfl rfl)
theorem dL_law_1703 : decode cL_law 1703 = .ok (.aload_n 0, 1) := dk_42 (dk_at dksL_law_67 17 rfl rfl)
theorem dL_law_1704 : decode cL_law 1704 = .ok (.iload 4, 2) := dk_21 4 (dk_at dksL_law_67 18 rfl rfl)
theorem dL_law_1706 : decode cL_law 1706 = .ok (.iconst 1, 1) := dk_4 (dk_at dksL_law_67 20 rfl rfl)
theorem dL_law_1707 : decode cL_law 1707 = .ok (.iadd, 1) := dk_96 (dk_at dksL_law_67 21 rfl rfl)
theorem dL_law_1708 : decode cL_law 1708 = .ok (.iaload, 1) := dk_46 (dk_at dksL_law_67 22 rfl rfl)
theorem dL_law_1709 : decode cL_law 1709 = .ok (.invokevirtual 244, 3) := dk_182 0 244 (dk_at dksL_law_68 0 rfl rfl)
theorem dL_law_1712 : decode cL_law 1712 = .ok (.istore 6, 2) := dk_54 6 (dk_at dksL_law_68 3 rfl rfl)
theorem dL_law_1714 : decode cL_law 1714 = .ok (.aload_n 2, 1) := dk_44 (dk_at dksL_law_68 5 rfl rfl)
theorem dL_law_1715 : decode cL_law 1715 = .ok (.invokevirtual 154, 3) := dk_182 0 154 (dk_at dksL_law_68 6 rfl rfl)
theorem dL_law_1718 : decode cL_law 1718 = .ok (.iload 5, 2) := dk_21 5 (dk_at dksL_law_68 9 rfl rfl)
theorem dL_law_1720 : decode cL_law 1720 = .ok (.if_icmp .eq 5, 3) := dk_159 0 5 (dk_at dksL_law_68 11 rfl rfl)
theorem dL_law_1723 : decode cL_law 1723 = .ok (.iconst 0, 1) := dk_3 (dk_at dksL_law_68 14 rfl rfl)
theorem dL_law_1724 : decode cL_law 1724 = .ok (.ireturn, 1) := dk_172 (dk_at dksL_law_68 15 rfl rfl)
theorem dL_law_1725 : decode cL_law 1725 = .ok (.iload 5, 2) := dk_21 5 (dk_at dksL_law_68 16 rfl rfl)
theorem dL_law_1727 : decode cL_law 1727 = .ok (.ifCond .ne 16, 3) := dk_154 0 16 (dk_at dksL_law_68 18 rfl rfl)
theorem dL_law_1730 : decode cL_law 1730 = .ok (.aload_n 3, 1) := dk_45 (dk_at dksL_law_68 21 rfl rfl)
theorem dL_law_1731 : decode cL_law 1731 = .ok (.getfield 13, 3) := dk_180 0 13 (dk_at dksL_law_69 0 rfl rfl)
theorem dL_law_1734 : decode cL_law 1734 = .ok (.iload 6, 2) := dk_21 6 (dk_at dksL_law_69 3 rfl rfl)
theorem dL_law_1736 : decode cL_law 1736 = .ok (.i2l, 1) := dk_133 (dk_at dksL_law_69 5 rfl rfl)
theorem dL_law_1737 : decode cL_law 1737 = .ok (.lcmp, 1) := dk_148 (dk_at dksL_law_69 6 rfl rfl)
theorem dL_law_1738 : decode cL_law 1738 = .ok (.ifCond .eq 5, 3) := dk_153 0 5 (dk_at dksL_law_69 7 rfl rfl)
theorem dL_law_1741 : decode cL_law 1741 = .ok (.iconst 0, 1) := dk_3 (dk_at dksL_law_69 10 rfl rfl)
theorem dL_law_1742 : decode cL_law 1742 = .ok (.ireturn, 1) := dk_172 (dk_at dksL_law_69 11 rfl rfl)
theorem dL_law_1743 : decode cL_law 1743 = .ok (.goto 344, 3) := dk_167 1 88 (dk_at dksL_law_69 12 rfl rfl)
theorem dL_law_1746 : decode cL_law 1746 = .ok (.aload_n 1, 1) := dk_43 (dk_at dksL_law_69 15 rfl rfl)
theorem dL_law_1747 : decode cL_law 1747 = .ok (.aload_n 0, 1) := dk_42 (dk_at dksL_law_69 16 rfl rfl)
theorem dL_law_1748 : decode cL_law 1748 = .ok (.iload 4, 2) := dk_21 4 (dk_at dksL_law_69 17 rfl rfl)
theorem dL_law_1750 : decode cL_law 1750 = .ok (.iconst 1, 1) := dk_4 (dk_at dksL_law_69 19 rfl rfl)
theorem dL_law_1751 : decode cL_law 1751 = .ok (.iadd, 1) := dk_96 (dk_at dksL_law_69 20 rfl rfl)
theorem dL_law_1752 : decode cL_law 1752 = .ok (.iaload, 1) := dk_46 (dk_at dksL_law_69 21 rfl rfl)
theorem dL_law_1753 : decode cL_law 1753 = .ok (.aload_n 3, 1) := dk_45 (dk_at dksL_law_69 22 rfl rfl)
theorem dL_law_1754 : decode cL_law 1754 = .ok (.invokestatic 245, 3) := dk_184 0 245 (dk_at dksL_law_70 0 rfl rfl)
theorem dL_law_1757 : decode cL_law 1757 = .ok (.istore 5, 2) := dk_54 5 (dk_at dksL_law_70 3 rfl rfl)
theorem dL_law_1759 : decode cL_law 1759 = .ok (.aload_n 2, 1) := dk_44 (dk_at dksL_law_70 5 rfl rfl)
theorem dL_law_1760 : decode cL_law 1760 = .ok (.aload_n 0, 1) := dk_42 (dk_at dksL_law_70 6 rfl rfl)
theorem dL_law_1761 : decode cL_law 1761 = .ok (.iload 4, 2) := dk_21 4 (dk_at dksL_law_70 7 rfl rfl)
theorem dL_law_1763 : decode cL_law 1763 = .ok (.iconst 1, 1) := dk_4 (dk_at dksL_law_70 9 rfl rfl)
theorem dL_law_1764 : decode cL_law 1764 = .ok (.iadd, 1) := dk_96 (dk_at dksL_law_70 10 rfl rfl)
theorem dL_law_1765 : decode cL_law 1765 = .ok (.iaload, 1) := dk_46 (dk_at dksL_law_70 11 rfl rfl)
theorem dL_law_1766 : decode cL_law 1766 = .ok (.invokevirtual 247, 3) := dk_182 0 247 (dk_at dksL_law_70 12 rfl rfl)
theorem dL_law_1769 : decode cL_law 1769 = .ok (.istore 6, 2) := dk_54 6 (dk_at dksL_law_70 15 rfl rfl)
theorem dL_law_1771 : decode cL_law 1771 = .ok (.aload_n 2, 1) := dk_44 (dk_at dksL_law_70 17 rfl rfl)
theorem dL_law_1772 : decode cL_law 1772 = .ok (.invokevirtual 154, 3) := dk_182 0 154 (dk_at dksL_law_70 18 rfl rfl)
theorem dL_law_1775 : decode cL_law 1775 = .ok (.iload 5, 2) := dk_21 5 (dk_at dksL_law_70 21 rfl rfl)
theorem dL_law_1777 : decode cL_law 1777 = .ok (.if_icmp .eq 5, 3) := dk_159 0 5 (dk_at dksL_law_71 0 rfl rfl)
theorem dL_law_1780 : decode cL_law 1780 = .ok (.iconst 0, 1) := dk_3 (dk_at dksL_law_71 3 rfl rfl)
theorem dL_law_1781 : decode cL_law 1781 = .ok (.ireturn, 1) := dk_172 (dk_at dksL_law_71 4 rfl rfl)
theorem dL_law_1782 : decode cL_law 1782 = .ok (.iload 5, 2) := dk_21 5 (dk_at dksL_law_71 5 rfl rfl)
theorem dL_law_1784 : decode cL_law 1784 = .ok (.ifCond .ne 16, 3) := dk_154 0 16 (dk_at dksL_law_71 7 rfl rfl)
theorem dL_law_1787 : decode cL_law 1787 = .ok (.aload_n 3, 1) := dk_45 (dk_at dksL_law_71 10 rfl rfl)
theorem dL_law_1788 : decode cL_law 1788 = .ok (.getfield 13, 3) := dk_180 0 13 (dk_at dksL_law_71 11 rfl rfl)
theorem dL_law_1791 : decode cL_law 1791 = .ok (.iload 6, 2) := dk_21 6 (dk_at dksL_law_71 14 rfl rfl)
theorem dL_law_1793 : decode cL_law 1793 = .ok (.i2l, 1) := dk_133 (dk_at dksL_law_71 16 rfl rfl)
theorem dL_law_1794 : decode cL_law 1794 = .ok (.lcmp, 1) := dk_148 (dk_at dksL_law_71 17 rfl rfl)
theorem dL_law_1795 : decode cL_law 1795 = .ok (.ifCond .eq 5, 3) := dk_153 0 5 (dk_at dksL_law_71 18 rfl rfl)
theorem dL_law_1798 : decode cL_law 1798 = .ok (.iconst 0, 1) := dk_3 (dk_at dksL_law_71 21 rfl rfl)
theorem dL_law_1799 : decode cL_law 1799 = .ok (.ireturn, 1) := dk_172 (dk_at dksL_law_71 22 rfl rfl)
theorem dL_law_1800 : decode cL_law 1800 = .ok (.goto 287, 3) := dk_167 1 31 (dk_at dksL_law_72 0 rfl rfl)
theorem dL_law_1803 : decode cL_law 1803 = .ok (.aload_n 1, 1) := dk_43 (dk_at dksL_law_72 3 rfl rfl)
theorem dL_law_1804 : decode cL_law 1804 = .ok (.aload_n 0, 1) := dk_42 (dk_at dksL_law_72 4 rfl rfl)
theorem dL_law_1805 : decode cL_law 1805 = .ok (.iload 4, 2) := dk_21 4 (dk_at dksL_law_72 5 rfl rfl)
theorem dL_law_1807 : decode cL_law 1807 = .ok (.iconst 1, 1) := dk_4 (dk_at dksL_law_72 7 rfl rfl)
theorem dL_law_1808 : decode cL_law 1808 = .ok (.iadd, 1) := dk_96 (dk_at dksL_law_72 8 rfl rfl)
theorem dL_law_1809 : decode cL_law 1809 = .ok (.iaload, 1) := dk_46 (dk_at dksL_law_72 9 rfl rfl)
theorem dL_law_1810 : decode cL_law 1810 = .ok (.aload_n 3, 1) := dk_45 (dk_at dksL_law_72 10 rfl rfl)
theorem dL_law_1811 : decode cL_law 1811 = .ok (.invokestatic 248, 3) := dk_184 0 248 (dk_at dksL_law_72 11 rfl rfl)
theorem dL_law_1814 : decode cL_law 1814 = .ok (.istore 5, 2) := dk_54 5 (dk_at dksL_law_72 14 rfl rfl)
theorem dL_law_1816 : decode cL_law 1816 = .ok (.aload_n 2, 1) := dk_44 (dk_at dksL_law_72 16 rfl rfl)
theorem dL_law_1817 : decode cL_law 1817 = .ok (.aload_n 0, 1) := dk_42 (dk_at dksL_law_72 17 rfl rfl)
theorem dL_law_1818 : decode cL_law 1818 = .ok (.iload 4, 2) := dk_21 4 (dk_at dksL_law_72 18 rfl rfl)
theorem dL_law_1820 : decode cL_law 1820 = .ok (.iconst 1, 1) := dk_4 (dk_at dksL_law_72 20 rfl rfl)
theorem dL_law_1821 : decode cL_law 1821 = .ok (.iadd, 1) := dk_96 (dk_at dksL_law_72 21 rfl rfl)
theorem dL_law_1822 : decode cL_law 1822 = .ok (.iaload, 1) := dk_46 (dk_at dksL_law_72 22 rfl rfl)
theorem dL_law_1823 : decode cL_law 1823 = .ok (.invokevirtual 250, 3) := dk_182 0 250 (dk_at dksL_law_73 0 rfl rfl)
theorem dL_law_1826 : decode cL_law 1826 = .ok (.istore 6, 2) := dk_54 6 (dk_at dksL_law_73 3 rfl rfl)
theorem dL_law_1828 : decode cL_law 1828 = .ok (.aload_n 2, 1) := dk_44 (dk_at dksL_law_73 5 rfl rfl)
theorem dL_law_1829 : decode cL_law 1829 = .ok (.invokevirtual 154, 3) := dk_182 0 154 (dk_at dksL_law_73 6 rfl rfl)
theorem dL_law_1832 : decode cL_law 1832 = .ok (.iload 5, 2) := dk_21 5 (dk_at dksL_law_73 9 rfl rfl)
theorem dL_law_1834 : decode cL_law 1834 = .ok (.if_icmp .eq 5, 3) := dk_159 0 5 (dk_at dksL_law_73 11 rfl rfl)
theorem dL_law_1837 : decode cL_law 1837 = .ok (.iconst 0, 1) := dk_3 (dk_at dksL_law_73 14 rfl rfl)
theorem dL_law_1838 : decode cL_law 1838 = .ok (.ireturn, 1) := dk_172 (dk_at dksL_law_73 15 rfl rfl)
theorem dL_law_1839 : decode cL_law 1839 = .ok (.iload 5, 2) := dk_21 5 (dk_at dksL_law_73 16 rfl rfl)
theorem dL_law_1841 : decode cL_law 1841 = .ok (.ifCond .ne 16, 3) := dk_154 0 16 (dk_at dksL_law_73 18 rfl rfl)
theorem dL_law_1844 : decode cL_law 1844 = .ok (.aload_n 3, 1) := dk_45 (dk_at dksL_law_73 21 rfl rfl)
theorem dL_law_1845 : decode cL_law 1845 = .ok (.getfield 13, 3) := dk_180 0 13 (dk_at dksL_law_74 0 rfl rfl)
theorem dL_law_1848 : decode cL_law 1848 = .ok (.iload 6, 2) := dk_21 6 (dk_at dksL_law_74 3 rfl rfl)
theorem dL_law_1850 : decode cL_law 1850 = .ok (.i2l, 1) := dk_133 (dk_at dksL_law_74 5 rfl rfl)
theorem dL_law_1851 : decode cL_law 1851 = .ok (.lcmp, 1) := dk_148 (dk_at dksL_law_74 6 rfl rfl)
theorem dL_law_1852 : decode cL_law 1852 = .ok (.ifCond .eq 5, 3) := dk_153 0 5 (dk_at dksL_law_74 7 rfl rfl)
theorem dL_law_1855 : decode cL_law 1855 = .ok (.iconst 0, 1) := dk_3 (dk_at dksL_law_74 10 rfl rfl)
theorem dL_law_1856 : decode cL_law 1856 = .ok (.ireturn, 1) := dk_172 (dk_at dksL_law_74 11 rfl rfl)
theorem dL_law_1857 : decode cL_law 1857 = .ok (.goto 230, 3) := dk_167 0 230 (dk_at dksL_law_74 12 rfl rfl)
theorem dL_law_1860 : decode cL_law 1860 = .ok (.aload_n 1, 1) := dk_43 (dk_at dksL_law_74 15 rfl rfl)
theorem dL_law_1861 : decode cL_law 1861 = .ok (.invokevirtual 251, 3) := dk_182 0 251 (dk_at dksL_law_74 16 rfl rfl)
theorem dL_law_1864 : decode cL_law 1864 = .ok (.aload_n 2, 1) := dk_44 (dk_at dksL_law_74 19 rfl rfl)
theorem dL_law_1865 : decode cL_law 1865 = .ok (.invokevirtual 254, 3) := dk_182 0 254 (dk_at dksL_law_74 20 rfl rfl)
theorem dL_law_1868 : decode cL_law 1868 = .ok (.if_icmp .eq 219, 3) := dk_159 0 219 (dk_at dksL_law_75 0 rfl rfl)
theorem dL_law_1871 : decode cL_law 1871 = .ok (.iconst 0, 1) := dk_3 (dk_at dksL_law_75 3 rfl rfl)
theorem dL_law_1872 : decode cL_law 1872 = .ok (.ireturn, 1) := dk_172 (dk_at dksL_law_75 4 rfl rfl)
theorem dL_law_1873 : decode cL_law 1873 = .ok (.aload_n 1, 1) := dk_43 (dk_at dksL_law_75 5 rfl rfl)
theorem dL_law_1874 : decode cL_law 1874 = .ok (.invokevirtual 255, 3) := dk_182 0 255 (dk_at dksL_law_75 6 rfl rfl)
theorem dL_law_1877 : decode cL_law 1877 = .ok (.aload_n 2, 1) := dk_44 (dk_at dksL_law_75 9 rfl rfl)
theorem dL_law_1878 : decode cL_law 1878 = .ok (.invokevirtual 258, 3) := dk_182 1 2 (dk_at dksL_law_75 10 rfl rfl)
theorem dL_law_1881 : decode cL_law 1881 = .ok (.if_icmp .eq 206, 3) := dk_159 0 206 (dk_at dksL_law_75 13 rfl rfl)
theorem dL_law_1884 : decode cL_law 1884 = .ok (.iconst 0, 1) := dk_3 (dk_at dksL_law_75 16 rfl rfl)
theorem dL_law_1885 : decode cL_law 1885 = .ok (.ireturn, 1) := dk_172 (dk_at dksL_law_75 17 rfl rfl)
theorem dL_law_1886 : decode cL_law 1886 = .ok (.aload_n 1, 1) := dk_43 (dk_at dksL_law_75 18 rfl rfl)
theorem dL_law_1887 : decode cL_law 1887 = .ok (.aload_n 0, 1) := dk_42 (dk_at dksL_law_75 19 rfl rfl)
theorem dL_law_1888 : decode cL_law 1888 = .ok (.iload 4, 2) := dk_21 4 (dk_at dksL_law_75 20 rfl rfl)
theorem dL_law_1890 : decode cL_law 1890 = .ok (.iconst 1, 1) := dk_4 (dk_at dksL_law_75 22 rfl rfl)
theorem dL_law_1891 : decode cL_law 1891 = .ok (.iadd, 1) := dk_96 (dk_at dksL_law_75 23 rfl rfl)
theorem dL_law_1892 : decode cL_law 1892 = .ok (.iaload, 1) := dk_46 (dk_at dksL_law_76 0 rfl rfl)
theorem dL_law_1893 : decode cL_law 1893 = .ok (.aload_n 3, 1) := dk_45 (dk_at dksL_law_76 1 rfl rfl)
theorem dL_law_1894 : decode cL_law 1894 = .ok (.invokestatic 259, 3) := dk_184 1 3 (dk_at dksL_law_76 2 rfl rfl)
theorem dL_law_1897 : decode cL_law 1897 = .ok (.istore 5, 2) := dk_54 5 (dk_at dksL_law_76 5 rfl rfl)
theorem dL_law_1899 : decode cL_law 1899 = .ok (.aload_n 2, 1) := dk_44 (dk_at dksL_law_76 7 rfl rfl)
theorem dL_law_1900 : decode cL_law 1900 = .ok (.aload_n 0, 1) := dk_42 (dk_at dksL_law_76 8 rfl rfl)
theorem dL_law_1901 : decode cL_law 1901 = .ok (.iload 4, 2) := dk_21 4 (dk_at dksL_law_76 9 rfl rfl)
theorem dL_law_1903 : decode cL_law 1903 = .ok (.iconst 1, 1) := dk_4 (dk_at dksL_law_76 11 rfl rfl)
theorem dL_law_1904 : decode cL_law 1904 = .ok (.iadd, 1) := dk_96 (dk_at dksL_law_76 12 rfl rfl)
theorem dL_law_1905 : decode cL_law 1905 = .ok (.iaload, 1) := dk_46 (dk_at dksL_law_76 13 rfl rfl)
theorem dL_law_1906 : decode cL_law 1906 = .ok (.invokevirtual 261, 3) := dk_182 1 5 (dk_at dksL_law_76 14 rfl rfl)
theorem dL_law_1909 : decode cL_law 1909 = .ok (.astore 6, 2) := dk_58 6 (dk_at dksL_law_76 17 rfl rfl)
theorem dL_law_1911 : decode cL_law 1911 = .ok (.aload_n 2, 1) := dk_44 (dk_at dksL_law_76 19 rfl rfl)
theorem dL_law_1912 : decode cL_law 1912 = .ok (.invokevirtual 154, 3) := dk_182 0 154 (dk_at dksL_law_76 20 rfl rfl)
theorem dL_law_1915 : decode cL_law 1915 = .ok (.iload 5, 2) := dk_21 5 (dk_at dksL_law_77 0 rfl rfl)
theorem dL_law_1917 : decode cL_law 1917 = .ok (.if_icmp .eq 5, 3) := dk_159 0 5 (dk_at dksL_law_77 2 rfl rfl)
theorem dL_law_1920 : decode cL_law 1920 = .ok (.iconst 0, 1) := dk_3 (dk_at dksL_law_77 5 rfl rfl)
theorem dL_law_1921 : decode cL_law 1921 = .ok (.ireturn, 1) := dk_172 (dk_at dksL_law_77 6 rfl rfl)
theorem dL_law_1922 : decode cL_law 1922 = .ok (.iload 5, 2) := dk_21 5 (dk_at dksL_law_77 7 rfl rfl)
theorem dL_law_1924 : decode cL_law 1924 = .ok (.ifCond .ne 17, 3) := dk_154 0 17 (dk_at dksL_law_77 9 rfl rfl)
theorem dL_law_1927 : decode cL_law 1927 = .ok (.aload_n 3, 1) := dk_45 (dk_at dksL_law_77 12 rfl rfl)
theorem dL_law_1928 : decode cL_law 1928 = .ok (.getfield 125, 3) := dk_180 0 125 (dk_at dksL_law_77 13 rfl rfl)
theorem dL_law_1931 : decode cL_law 1931 = .ok (.aload 6, 2) := dk_25 6 (dk_at dksL_law_77 16 rfl rfl)
theorem dL_law_1933 : decode cL_law 1933 = .ok (.invokevirtual 262, 3) := dk_182 1 6 (dk_at dksL_law_77 18 rfl rfl)
theorem dL_law_1936 : decode cL_law 1936 = .ok (.ifCond .ne 5, 3) := dk_154 0 5 (dk_at dksL_law_77 21 rfl rfl)
theorem dL_law_1939 : decode cL_law 1939 = .ok (.iconst 0, 1) := dk_3 (dk_at dksL_law_78 0 rfl rfl)
theorem dL_law_1940 : decode cL_law 1940 = .ok (.ireturn, 1) := dk_172 (dk_at dksL_law_78 1 rfl rfl)
theorem dL_law_1941 : decode cL_law 1941 = .ok (.goto 146, 3) := dk_167 0 146 (dk_at dksL_law_78 2 rfl rfl)
theorem dL_law_1944 : decode cL_law 1944 = .ok (.aload_n 1, 1) := dk_43 (dk_at dksL_law_78 5 rfl rfl)
theorem dL_law_1945 : decode cL_law 1945 = .ok (.invokevirtual 268, 3) := dk_182 1 12 (dk_at dksL_law_78 6 rfl rfl)
theorem dL_law_1948 : decode cL_law 1948 = .ok (.aload_n 2, 1) := dk_44 (dk_at dksL_law_78 9 rfl rfl)
theorem dL_law_1949 : decode cL_law 1949 = .ok (.invokevirtual 272, 3) := dk_182 1 16 (dk_at dksL_law_78 10 rfl rfl)
theorem dL_law_1952 : decode cL_law 1952 = .ok (.lcmp, 1) := dk_148 (dk_at dksL_law_78 13 rfl rfl)
theorem dL_law_1953 : decode cL_law 1953 = .ok (.ifCond .eq 134, 3) := dk_153 0 134 (dk_at dksL_law_78 14 rfl rfl)
theorem dL_law_1956 : decode cL_law 1956 = .ok (.iconst 0, 1) := dk_3 (dk_at dksL_law_78 17 rfl rfl)
theorem dL_law_1957 : decode cL_law 1957 = .ok (.ireturn, 1) := dk_172 (dk_at dksL_law_78 18 rfl rfl)
theorem dL_law_1958 : decode cL_law 1958 = .ok (.aload_n 1, 1) := dk_43 (dk_at dksL_law_78 19 rfl rfl)
theorem dL_law_1959 : decode cL_law 1959 = .ok (.aload_n 3, 1) := dk_45 (dk_at dksL_law_78 20 rfl rfl)
theorem dL_law_1960 : decode cL_law 1960 = .ok (.invokestatic 273, 3) := dk_184 1 17 (dk_at dksL_law_78 21 rfl rfl)
theorem dL_law_1963 : decode cL_law 1963 = .ok (.istore 5, 2) := dk_54 5 (dk_at dksL_law_79 0 rfl rfl)
theorem dL_law_1965 : decode cL_law 1965 = .ok (.aload_n 2, 1) := dk_44 (dk_at dksL_law_79 2 rfl rfl)
theorem dL_law_1966 : decode cL_law 1966 = .ok (.invokevirtual 275, 3) := dk_182 1 19 (dk_at dksL_law_79 3 rfl rfl)
theorem dL_law_1969 : decode cL_law 1969 = .ok (.fstore 6, 2) := dk_56 6 (dk_at dksL_law_79 6 rfl rfl)
theorem dL_law_1971 : decode cL_law 1971 = .ok (.aload_n 2, 1) := dk_44 (dk_at dksL_law_79 8 rfl rfl)
theorem dL_law_1972 : decode cL_law 1972 = .ok (.invokevirtual 154, 3) := dk_182 0 154 (dk_at dksL_law_79 9 rfl rfl)
theorem dL_law_1975 : decode cL_law 1975 = .ok (.iload 5, 2) := dk_21 5 (dk_at dksL_law_79 12 rfl rfl)
theorem dL_law_1977 : decode cL_law 1977 = .ok (.if_icmp .eq 5, 3) := dk_159 0 5 (dk_at dksL_law_79 14 rfl rfl)
theorem dL_law_1980 : decode cL_law 1980 = .ok (.iconst 0, 1) := dk_3 (dk_at dksL_law_79 17 rfl rfl)
theorem dL_law_1981 : decode cL_law 1981 = .ok (.ireturn, 1) := dk_172 (dk_at dksL_law_79 18 rfl rfl)
theorem dL_law_1982 : decode cL_law 1982 = .ok (.iload 5, 2) := dk_21 5 (dk_at dksL_law_79 19 rfl rfl)
theorem dL_law_1984 : decode cL_law 1984 = .ok (.ifCond .ne 36, 3) := dk_154 0 36 (dk_at dksL_law_79 21 rfl rfl)
theorem dL_law_1987 : decode cL_law 1987 = .ok (.aload_n 3, 1) := dk_45 (dk_at dksL_law_80 0 rfl rfl)
theorem dL_law_1988 : decode cL_law 1988 = .ok (.getfield 133, 3) := dk_180 0 133 (dk_at dksL_law_80 1 rfl rfl)
theorem dL_law_1991 : decode cL_law 1991 = .ok (.fload 6, 2) := dk_23 6 (dk_at dksL_law_80 4 rfl rfl)
theorem dL_law_1993 : decode cL_law 1993 = .ok (.f2d, 1) := dk_141 (dk_at dksL_law_80 6 rfl rfl)
theorem dL_law_1994 : decode cL_law 1994 = .ok (.dcmp .l, 1) := dk_151 (dk_at dksL_law_80 7 rfl rfl)
theorem dL_law_1995 : decode cL_law 1995 = .ok (.ifCond .eq 25, 3) := dk_153 0 25 (dk_at dksL_law_80 8 rfl rfl)
theorem dL_law_1998 : decode cL_law 1998 = .ok (.aload_n 3, 1) := dk_45 (dk_at dksL_law_80 11 rfl rfl)
theorem dL_law_1999 : decode cL_law 1999 = .ok (.getfield 133, 3) := dk_180 0 133 (dk_at dksL_law_80 12 rfl rfl)
theorem dL_law_2002 : decode cL_law 2002 = .ok (.aload_n 3, 1) := dk_45 (dk_at dksL_law_80 15 rfl rfl)
theorem dL_law_2003 : decode cL_law 2003 = .ok (.getfield 133, 3) := dk_180 0 133 (dk_at dksL_law_80 16 rfl rfl)
theorem dL_law_2006 : decode cL_law 2006 = .ok (.dcmp .l, 1) := dk_151 (dk_at dksL_law_80 19 rfl rfl)
theorem dL_law_2007 : decode cL_law 2007 = .ok (.ifCond .eq 11, 3) := dk_153 0 11 (dk_at dksL_law_80 20 rfl rfl)
theorem dL_law_2010 : decode cL_law 2010 = .ok (.fload 6, 2) := dk_23 6 (dk_at dksL_law_81 0 rfl rfl)
theorem dL_law_2012 : decode cL_law 2012 = .ok (.fload 6, 2) := dk_23 6 (dk_at dksL_law_81 2 rfl rfl)
theorem dL_law_2014 : decode cL_law 2014 = .ok (.fcmp .l, 1) := dk_149 (dk_at dksL_law_81 4 rfl rfl)
theorem dL_law_2015 : decode cL_law 2015 = .ok (.ifCond .ne 5, 3) := dk_154 0 5 (dk_at dksL_law_81 5 rfl rfl)
theorem dL_law_2018 : decode cL_law 2018 = .ok (.iconst 0, 1) := dk_3 (dk_at dksL_law_81 8 rfl rfl)
theorem dL_law_2019 : decode cL_law 2019 = .ok (.ireturn, 1) := dk_172 (dk_at dksL_law_81 9 rfl rfl)
theorem dL_law_2020 : decode cL_law 2020 = .ok (.goto 67, 3) := dk_167 0 67 (dk_at dksL_law_81 10 rfl rfl)
theorem dL_law_2023 : decode cL_law 2023 = .ok (.aload_n 1, 1) := dk_43 (dk_at dksL_law_81 13 rfl rfl)
theorem dL_law_2024 : decode cL_law 2024 = .ok (.aload_n 3, 1) := dk_45 (dk_at dksL_law_81 14 rfl rfl)
theorem dL_law_2025 : decode cL_law 2025 = .ok (.invokestatic 276, 3) := dk_184 1 20 (dk_at dksL_law_81 15 rfl rfl)
theorem dL_law_2028 : decode cL_law 2028 = .ok (.istore 5, 2) := dk_54 5 (dk_at dksL_law_81 18 rfl rfl)
theorem dL_law_2030 : decode cL_law 2030 = .ok (.aload_n 2, 1) := dk_44 (dk_at dksL_law_81 20 rfl rfl)
theorem dL_law_2031 : decode cL_law 2031 = .ok (.invokevirtual 278, 3) := dk_182 1 22 (dk_at dksL_law_81 21 rfl rfl)
theorem dL_law_2034 : decode cL_law 2034 = .ok (.dstore 6, 2) := dk_57 6 (dk_at dksL_law_82 0 rfl rfl)
theorem dL_law_2036 : decode cL_law 2036 = .ok (.aload_n 2, 1) := dk_44 (dk_at dksL_law_82 2 rfl rfl)
theorem dL_law_2037 : decode cL_law 2037 = .ok (.invokevirtual 154, 3) := dk_182 0 154 (dk_at dksL_law_82 3 rfl rfl)
theorem dL_law_2040 : decode cL_law 2040 = .ok (.iload 5, 2) := dk_21 5 (dk_at dksL_law_82 6 rfl rfl)
theorem dL_law_2042 : decode cL_law 2042 = .ok (.if_icmp .eq 5, 3) := dk_159 0 5 (dk_at dksL_law_82 8 rfl rfl)
theorem dL_law_2045 : decode cL_law 2045 = .ok (.iconst 0, 1) := dk_3 (dk_at dksL_law_82 11 rfl rfl)
theorem dL_law_2046 : decode cL_law 2046 = .ok (.ireturn, 1) := dk_172 (dk_at dksL_law_82 12 rfl rfl)
theorem dL_law_2047 : decode cL_law 2047 = .ok (.iload 5, 2) := dk_21 5 (dk_at dksL_law_82 13 rfl rfl)
theorem dL_law_2049 : decode cL_law 2049 = .ok (.ifCond .ne 35, 3) := dk_154 0 35 (dk_at dksL_law_82 15 rfl rfl)
theorem dL_law_2052 : decode cL_law 2052 = .ok (.aload_n 3, 1) := dk_45 (dk_at dksL_law_82 18 rfl rfl)
theorem dL_law_2053 : decode cL_law 2053 = .ok (.getfield 133, 3) := dk_180 0 133 (dk_at dksL_law_82 19 rfl rfl)
theorem dL_law_2056 : decode cL_law 2056 = .ok (.dload 6, 2) := dk_24 6 (dk_at dksL_law_82 22 rfl rfl)
theorem dL_law_2058 : decode cL_law 2058 = .ok (.dcmp .l, 1) := dk_151 (dk_at dksL_law_83 0 rfl rfl)
theorem dL_law_2059 : decode cL_law 2059 = .ok (.ifCond .eq 25, 3) := dk_153 0 25 (dk_at dksL_law_83 1 rfl rfl)
theorem dL_law_2062 : decode cL_law 2062 = .ok (.aload_n 3, 1) := dk_45 (dk_at dksL_law_83 4 rfl rfl)
theorem dL_law_2063 : decode cL_law 2063 = .ok (.getfield 133, 3) := dk_180 0 133 (dk_at dksL_law_83 5 rfl rfl)
theorem dL_law_2066 : decode cL_law 2066 = .ok (.aload_n 3, 1) := dk_45 (dk_at dksL_law_83 8 rfl rfl)
theorem dL_law_2067 : decode cL_law 2067 = .ok (.getfield 133, 3) := dk_180 0 133 (dk_at dksL_law_83 9 rfl rfl)
theorem dL_law_2070 : decode cL_law 2070 = .ok (.dcmp .l, 1) := dk_151 (dk_at dksL_law_83 12 rfl rfl)
theorem dL_law_2071 : decode cL_law 2071 = .ok (.ifCond .eq 11, 3) := dk_153 0 11 (dk_at dksL_law_83 13 rfl rfl)
theorem dL_law_2074 : decode cL_law 2074 = .ok (.dload 6, 2) := dk_24 6 (dk_at dksL_law_83 16 rfl rfl)
theorem dL_law_2076 : decode cL_law 2076 = .ok (.dload 6, 2) := dk_24 6 (dk_at dksL_law_83 18 rfl rfl)
theorem dL_law_2078 : decode cL_law 2078 = .ok (.dcmp .l, 1) := dk_151 (dk_at dksL_law_83 20 rfl rfl)
theorem dL_law_2079 : decode cL_law 2079 = .ok (.ifCond .ne 5, 3) := dk_154 0 5 (dk_at dksL_law_83 21 rfl rfl)
theorem dL_law_2082 : decode cL_law 2082 = .ok (.iconst 0, 1) := dk_3 (dk_at dksL_law_84 0 rfl rfl)
theorem dL_law_2083 : decode cL_law 2083 = .ok (.ireturn, 1) := dk_172 (dk_at dksL_law_84 1 rfl rfl)
theorem dL_law_2084 : decode cL_law 2084 = .ok (.goto 3, 3) := dk_167 0 3 (dk_at dksL_law_84 2 rfl rfl)
theorem dL_law_2087 : decode cL_law 2087 = .ok (.iinc 4 5, 3) := dk_132 4 5 (dk_at dksL_law_84 5 rfl rfl)
theorem dL_law_2090 : decode cL_law 2090 = .ok (.goto (-2063), 3) := dk_167 247 241 (dk_at dksL_law_84 8 rfl rfl)
theorem dL_law_2093 : decode cL_law 2093 = .ok (.iconst 1, 1) := dk_4 (dk_at dksL_law_84 11 rfl rfl)
theorem dL_law_2094 : decode cL_law 2094 = .ok (.ireturn, 1) := dk_172 (dk_at dksL_law_84 12 rfl rfl)

/-! CrateYardLaw -/
set_option maxRecDepth 100000
def RX0 : String := "CrateYardLaw"
abbrev cX0_addLayer : ByteArray := method_2_code
def yX0_addLayer : MethodName := ⟨RX0, "addLayer", "(LCrateYard;LCrateYardLaw$Out;)I"⟩
def dkwX0_addLayer_0 : List UInt8 := [43, 42, 182, 0, 7, 133, 181, 0, 13, 167, 0, 6, 77, 4, 172, 3, 172]
abbrev dktX0_addLayer_0 : List UInt8 := dkwX0_addLayer_0 ++ []
theorem dksX0_addLayer_0 : cX0_addLayer.data.toList.drop 0 = dktX0_addLayer_0 := by decide +kernel
theorem dX0_addLayer_0 : decode cX0_addLayer 0 = .ok (.aload_n 1, 1) := dk_43 (dk_at dksX0_addLayer_0 0 rfl rfl)
theorem dX0_addLayer_1 : decode cX0_addLayer 1 = .ok (.aload_n 0, 1) := dk_42 (dk_at dksX0_addLayer_0 1 rfl rfl)
theorem dX0_addLayer_2 : decode cX0_addLayer 2 = .ok (.invokevirtual 7, 3) := dk_182 0 7 (dk_at dksX0_addLayer_0 2 rfl rfl)
theorem dX0_addLayer_5 : decode cX0_addLayer 5 = .ok (.i2l, 1) := dk_133 (dk_at dksX0_addLayer_0 5 rfl rfl)
theorem dX0_addLayer_6 : decode cX0_addLayer 6 = .ok (.putfield 13, 3) := dk_181 0 13 (dk_at dksX0_addLayer_0 6 rfl rfl)
theorem dX0_addLayer_9 : decode cX0_addLayer 9 = .ok (.goto 6, 3) := dk_167 0 6 (dk_at dksX0_addLayer_0 9 rfl rfl)
theorem dX0_addLayer_12 : decode cX0_addLayer 12 = .ok (.astore_n 2, 1) := dk_77 (dk_at dksX0_addLayer_0 12 rfl rfl)
theorem dX0_addLayer_13 : decode cX0_addLayer 13 = .ok (.iconst 1, 1) := dk_4 (dk_at dksX0_addLayer_0 13 rfl rfl)
theorem dX0_addLayer_14 : decode cX0_addLayer 14 = .ok (.ireturn, 1) := dk_172 (dk_at dksX0_addLayer_0 14 rfl rfl)
theorem dX0_addLayer_15 : decode cX0_addLayer 15 = .ok (.iconst 0, 1) := dk_3 (dk_at dksX0_addLayer_0 15 rfl rfl)
theorem dX0_addLayer_16 : decode cX0_addLayer 16 = .ok (.ireturn, 1) := dk_172 (dk_at dksX0_addLayer_0 16 rfl rfl)
abbrev cX0_addImage : ByteArray := method_3_code
def yX0_addImage : MethodName := ⟨RX0, "addImage", "(LCrateYard;IILCrateYardLaw$Out;)I"⟩
def dkwX0_addImage_1 : List UInt8 := [6, 172, 3, 172]
abbrev dktX0_addImage_1 : List UInt8 := dkwX0_addImage_1 ++ []
def dkwX0_addImage_0 : List UInt8 := [45, 42, 27, 28, 182, 0, 21, 133, 181, 0, 13, 167, 0, 15, 58, 4, 4, 172, 58, 4, 5, 172, 58, 4]
abbrev dktX0_addImage_0 : List UInt8 := dkwX0_addImage_0 ++ dktX0_addImage_1
theorem dksX0_addImage_0 : cX0_addImage.data.toList.drop 0 = dktX0_addImage_0 := by decide +kernel
theorem dksX0_addImage_1 : cX0_addImage.data.toList.drop 24 = dktX0_addImage_1 := dk_seg dksX0_addImage_0 24 rfl rfl
theorem dX0_addImage_0 : decode cX0_addImage 0 = .ok (.aload_n 3, 1) := dk_45 (dk_at dksX0_addImage_0 0 rfl rfl)
theorem dX0_addImage_1 : decode cX0_addImage 1 = .ok (.aload_n 0, 1) := dk_42 (dk_at dksX0_addImage_0 1 rfl rfl)
theorem dX0_addImage_2 : decode cX0_addImage 2 = .ok (.iload_n 1, 1) := dk_27 (dk_at dksX0_addImage_0 2 rfl rfl)
theorem dX0_addImage_3 : decode cX0_addImage 3 = .ok (.iload_n 2, 1) := dk_28 (dk_at dksX0_addImage_0 3 rfl rfl)
theorem dX0_addImage_4 : decode cX0_addImage 4 = .ok (.invokevirtual 21, 3) := dk_182 0 21 (dk_at dksX0_addImage_0 4 rfl rfl)
theorem dX0_addImage_7 : decode cX0_addImage 7 = .ok (.i2l, 1) := dk_133 (dk_at dksX0_addImage_0 7 rfl rfl)
theorem dX0_addImage_8 : decode cX0_addImage 8 = .ok (.putfield 13, 3) := dk_181 0 13 (dk_at dksX0_addImage_0 8 rfl rfl)
theorem dX0_addImage_11 : decode cX0_addImage 11 = .ok (.goto 15, 3) := dk_167 0 15 (dk_at dksX0_addImage_0 11 rfl rfl)
theorem dX0_addImage_14 : decode cX0_addImage 14 = .ok (.astore 4, 2) := dk_58 4 (dk_at dksX0_addImage_0 14 rfl rfl)
theorem dX0_addImage_16 : decode cX0_addImage 16 = .ok (.iconst 1, 1) := dk_4 (dk_at dksX0_addImage_0 16 rfl rfl)
theorem dX0_addImage_17 : decode cX0_addImage 17 = .ok (.ireturn, 1) := dk_172 (dk_at dksX0_addImage_0 17 rfl rfl)
theorem dX0_addImage_18 : decode cX0_addImage 18 = .ok (.astore 4, 2) := dk_58 4 (dk_at dksX0_addImage_0 18 rfl rfl)
theorem dX0_addImage_20 : decode cX0_addImage 20 = .ok (.iconst 2, 1) := dk_5 (dk_at dksX0_addImage_0 20 rfl rfl)
theorem dX0_addImage_21 : decode cX0_addImage 21 = .ok (.ireturn, 1) := dk_172 (dk_at dksX0_addImage_0 21 rfl rfl)
theorem dX0_addImage_22 : decode cX0_addImage 22 = .ok (.astore 4, 2) := dk_58 4 (dk_at dksX0_addImage_0 22 rfl rfl)
theorem dX0_addImage_24 : decode cX0_addImage 24 = .ok (.iconst 3, 1) := dk_6 (dk_at dksX0_addImage_1 0 rfl rfl)
theorem dX0_addImage_25 : decode cX0_addImage 25 = .ok (.ireturn, 1) := dk_172 (dk_at dksX0_addImage_1 1 rfl rfl)
theorem dX0_addImage_26 : decode cX0_addImage 26 = .ok (.iconst 0, 1) := dk_3 (dk_at dksX0_addImage_1 2 rfl rfl)
theorem dX0_addImage_27 : decode cX0_addImage 27 = .ok (.ireturn, 1) := dk_172 (dk_at dksX0_addImage_1 3 rfl rfl)
abbrev cX0_patch : ByteArray := method_4_code
def yX0_patch : MethodName := ⟨RX0, "patch", "(LCrateYard;IILCrateYardLaw$Out;)I"⟩
def dkwX0_patch_1 : List UInt8 := [6, 172, 3, 172]
abbrev dktX0_patch_1 : List UInt8 := dkwX0_patch_1 ++ []
def dkwX0_patch_0 : List UInt8 := [45, 42, 27, 28, 182, 0, 29, 133, 181, 0, 13, 167, 0, 15, 58, 4, 4, 172, 58, 4, 5, 172, 58, 4]
abbrev dktX0_patch_0 : List UInt8 := dkwX0_patch_0 ++ dktX0_patch_1
theorem dksX0_patch_0 : cX0_patch.data.toList.drop 0 = dktX0_patch_0 := by decide +kernel
theorem dksX0_patch_1 : cX0_patch.data.toList.drop 24 = dktX0_patch_1 := dk_seg dksX0_patch_0 24 rfl rfl
theorem dX0_patch_0 : decode cX0_patch 0 = .ok (.aload_n 3, 1) := dk_45 (dk_at dksX0_patch_0 0 rfl rfl)
theorem dX0_patch_1 : decode cX0_patch 1 = .ok (.aload_n 0, 1) := dk_42 (dk_at dksX0_patch_0 1 rfl rfl)
theorem dX0_patch_2 : decode cX0_patch 2 = .ok (.iload_n 1, 1) := dk_27 (dk_at dksX0_patch_0 2 rfl rfl)
theorem dX0_patch_3 : decode cX0_patch 3 = .ok (.iload_n 2, 1) := dk_28 (dk_at dksX0_patch_0 3 rfl rfl)
theorem dX0_patch_4 : decode cX0_patch 4 = .ok (.invokevirtual 29, 3) := dk_182 0 29 (dk_at dksX0_patch_0 4 rfl rfl)
theorem dX0_patch_7 : decode cX0_patch 7 = .ok (.i2l, 1) := dk_133 (dk_at dksX0_patch_0 7 rfl rfl)
theorem dX0_patch_8 : decode cX0_patch 8 = .ok (.putfield 13, 3) := dk_181 0 13 (dk_at dksX0_patch_0 8 rfl rfl)
theorem dX0_patch_11 : decode cX0_patch 11 = .ok (.goto 15, 3) := dk_167 0 15 (dk_at dksX0_patch_0 11 rfl rfl)
theorem dX0_patch_14 : decode cX0_patch 14 = .ok (.astore 4, 2) := dk_58 4 (dk_at dksX0_patch_0 14 rfl rfl)
theorem dX0_patch_16 : decode cX0_patch 16 = .ok (.iconst 1, 1) := dk_4 (dk_at dksX0_patch_0 16 rfl rfl)
theorem dX0_patch_17 : decode cX0_patch 17 = .ok (.ireturn, 1) := dk_172 (dk_at dksX0_patch_0 17 rfl rfl)
theorem dX0_patch_18 : decode cX0_patch 18 = .ok (.astore 4, 2) := dk_58 4 (dk_at dksX0_patch_0 18 rfl rfl)
theorem dX0_patch_20 : decode cX0_patch 20 = .ok (.iconst 2, 1) := dk_5 (dk_at dksX0_patch_0 20 rfl rfl)
theorem dX0_patch_21 : decode cX0_patch 21 = .ok (.ireturn, 1) := dk_172 (dk_at dksX0_patch_0 21 rfl rfl)
theorem dX0_patch_22 : decode cX0_patch 22 = .ok (.astore 4, 2) := dk_58 4 (dk_at dksX0_patch_0 22 rfl rfl)
theorem dX0_patch_24 : decode cX0_patch 24 = .ok (.iconst 3, 1) := dk_6 (dk_at dksX0_patch_1 0 rfl rfl)
theorem dX0_patch_25 : decode cX0_patch 25 = .ok (.ireturn, 1) := dk_172 (dk_at dksX0_patch_1 1 rfl rfl)
theorem dX0_patch_26 : decode cX0_patch 26 = .ok (.iconst 0, 1) := dk_3 (dk_at dksX0_patch_1 2 rfl rfl)
theorem dX0_patch_27 : decode cX0_patch 27 = .ok (.ireturn, 1) := dk_172 (dk_at dksX0_patch_1 3 rfl rfl)
abbrev cX0_withdraw : ByteArray := method_5_code
def yX0_withdraw : MethodName := ⟨RX0, "withdraw", "(LCrateYard;IILCrateYardLaw$Out;)I"⟩
def dkwX0_withdraw_1 : List UInt8 := [6, 172, 3, 172]
abbrev dktX0_withdraw_1 : List UInt8 := dkwX0_withdraw_1 ++ []
def dkwX0_withdraw_0 : List UInt8 := [45, 42, 27, 28, 182, 0, 34, 133, 181, 0, 13, 167, 0, 15, 58, 4, 4, 172, 58, 4, 5, 172, 58, 4]
abbrev dktX0_withdraw_0 : List UInt8 := dkwX0_withdraw_0 ++ dktX0_withdraw_1
theorem dksX0_withdraw_0 : cX0_withdraw.data.toList.drop 0 = dktX0_withdraw_0 := by decide +kernel
theorem dksX0_withdraw_1 : cX0_withdraw.data.toList.drop 24 = dktX0_withdraw_1 := dk_seg dksX0_withdraw_0 24 rfl rfl
theorem dX0_withdraw_0 : decode cX0_withdraw 0 = .ok (.aload_n 3, 1) := dk_45 (dk_at dksX0_withdraw_0 0 rfl rfl)
theorem dX0_withdraw_1 : decode cX0_withdraw 1 = .ok (.aload_n 0, 1) := dk_42 (dk_at dksX0_withdraw_0 1 rfl rfl)
theorem dX0_withdraw_2 : decode cX0_withdraw 2 = .ok (.iload_n 1, 1) := dk_27 (dk_at dksX0_withdraw_0 2 rfl rfl)
theorem dX0_withdraw_3 : decode cX0_withdraw 3 = .ok (.iload_n 2, 1) := dk_28 (dk_at dksX0_withdraw_0 3 rfl rfl)
theorem dX0_withdraw_4 : decode cX0_withdraw 4 = .ok (.invokevirtual 34, 3) := dk_182 0 34 (dk_at dksX0_withdraw_0 4 rfl rfl)
theorem dX0_withdraw_7 : decode cX0_withdraw 7 = .ok (.i2l, 1) := dk_133 (dk_at dksX0_withdraw_0 7 rfl rfl)
theorem dX0_withdraw_8 : decode cX0_withdraw 8 = .ok (.putfield 13, 3) := dk_181 0 13 (dk_at dksX0_withdraw_0 8 rfl rfl)
theorem dX0_withdraw_11 : decode cX0_withdraw 11 = .ok (.goto 15, 3) := dk_167 0 15 (dk_at dksX0_withdraw_0 11 rfl rfl)
theorem dX0_withdraw_14 : decode cX0_withdraw 14 = .ok (.astore 4, 2) := dk_58 4 (dk_at dksX0_withdraw_0 14 rfl rfl)
theorem dX0_withdraw_16 : decode cX0_withdraw 16 = .ok (.iconst 1, 1) := dk_4 (dk_at dksX0_withdraw_0 16 rfl rfl)
theorem dX0_withdraw_17 : decode cX0_withdraw 17 = .ok (.ireturn, 1) := dk_172 (dk_at dksX0_withdraw_0 17 rfl rfl)
theorem dX0_withdraw_18 : decode cX0_withdraw 18 = .ok (.astore 4, 2) := dk_58 4 (dk_at dksX0_withdraw_0 18 rfl rfl)
theorem dX0_withdraw_20 : decode cX0_withdraw 20 = .ok (.iconst 2, 1) := dk_5 (dk_at dksX0_withdraw_0 20 rfl rfl)
theorem dX0_withdraw_21 : decode cX0_withdraw 21 = .ok (.ireturn, 1) := dk_172 (dk_at dksX0_withdraw_0 21 rfl rfl)
theorem dX0_withdraw_22 : decode cX0_withdraw 22 = .ok (.astore 4, 2) := dk_58 4 (dk_at dksX0_withdraw_0 22 rfl rfl)
theorem dX0_withdraw_24 : decode cX0_withdraw 24 = .ok (.iconst 3, 1) := dk_6 (dk_at dksX0_withdraw_1 0 rfl rfl)
theorem dX0_withdraw_25 : decode cX0_withdraw 25 = .ok (.ireturn, 1) := dk_172 (dk_at dksX0_withdraw_1 1 rfl rfl)
theorem dX0_withdraw_26 : decode cX0_withdraw 26 = .ok (.iconst 0, 1) := dk_3 (dk_at dksX0_withdraw_1 2 rfl rfl)
theorem dX0_withdraw_27 : decode cX0_withdraw 27 = .ok (.ireturn, 1) := dk_172 (dk_at dksX0_withdraw_1 3 rfl rfl)
abbrev cX0_addHost : ByteArray := method_6_code
def yX0_addHost : MethodName := ⟨RX0, "addHost", "(LCrateYard;LNeed;LCrateYardLaw$Out;)I"⟩
def dkwX0_addHost_0 : List UInt8 := [44, 42, 43, 182, 0, 37, 133, 181, 0, 13, 167, 0, 9, 78, 4, 172, 78, 5, 172, 3, 172]
abbrev dktX0_addHost_0 : List UInt8 := dkwX0_addHost_0 ++ []
theorem dksX0_addHost_0 : cX0_addHost.data.toList.drop 0 = dktX0_addHost_0 := by decide +kernel
theorem dX0_addHost_0 : decode cX0_addHost 0 = .ok (.aload_n 2, 1) := dk_44 (dk_at dksX0_addHost_0 0 rfl rfl)
theorem dX0_addHost_1 : decode cX0_addHost 1 = .ok (.aload_n 0, 1) := dk_42 (dk_at dksX0_addHost_0 1 rfl rfl)
theorem dX0_addHost_2 : decode cX0_addHost 2 = .ok (.aload_n 1, 1) := dk_43 (dk_at dksX0_addHost_0 2 rfl rfl)
theorem dX0_addHost_3 : decode cX0_addHost 3 = .ok (.invokevirtual 37, 3) := dk_182 0 37 (dk_at dksX0_addHost_0 3 rfl rfl)
theorem dX0_addHost_6 : decode cX0_addHost 6 = .ok (.i2l, 1) := dk_133 (dk_at dksX0_addHost_0 6 rfl rfl)
theorem dX0_addHost_7 : decode cX0_addHost 7 = .ok (.putfield 13, 3) := dk_181 0 13 (dk_at dksX0_addHost_0 7 rfl rfl)
theorem dX0_addHost_10 : decode cX0_addHost 10 = .ok (.goto 9, 3) := dk_167 0 9 (dk_at dksX0_addHost_0 10 rfl rfl)
theorem dX0_addHost_13 : decode cX0_addHost 13 = .ok (.astore_n 3, 1) := dk_78 (dk_at dksX0_addHost_0 13 rfl rfl)
theorem dX0_addHost_14 : decode cX0_addHost 14 = .ok (.iconst 1, 1) := dk_4 (dk_at dksX0_addHost_0 14 rfl rfl)
theorem dX0_addHost_15 : decode cX0_addHost 15 = .ok (.ireturn, 1) := dk_172 (dk_at dksX0_addHost_0 15 rfl rfl)
theorem dX0_addHost_16 : decode cX0_addHost 16 = .ok (.astore_n 3, 1) := dk_78 (dk_at dksX0_addHost_0 16 rfl rfl)
theorem dX0_addHost_17 : decode cX0_addHost 17 = .ok (.iconst 2, 1) := dk_5 (dk_at dksX0_addHost_0 17 rfl rfl)
theorem dX0_addHost_18 : decode cX0_addHost 18 = .ok (.ireturn, 1) := dk_172 (dk_at dksX0_addHost_0 18 rfl rfl)
theorem dX0_addHost_19 : decode cX0_addHost 19 = .ok (.iconst 0, 1) := dk_3 (dk_at dksX0_addHost_0 19 rfl rfl)
theorem dX0_addHost_20 : decode cX0_addHost 20 = .ok (.ireturn, 1) := dk_172 (dk_at dksX0_addHost_0 20 rfl rfl)
abbrev cX0_addWindow : ByteArray := method_7_code
def yX0_addWindow : MethodName := ⟨RX0, "addWindow", "(LCrateYard;LWindow;LCrateYardLaw$Out;)I"⟩
def dkwX0_addWindow_0 : List UInt8 := [44, 42, 43, 182, 0, 41, 133, 181, 0, 13, 167, 0, 9, 78, 4, 172, 78, 5, 172, 3, 172]
abbrev dktX0_addWindow_0 : List UInt8 := dkwX0_addWindow_0 ++ []
theorem dksX0_addWindow_0 : cX0_addWindow.data.toList.drop 0 = dktX0_addWindow_0 := by decide +kernel
theorem dX0_addWindow_0 : decode cX0_addWindow 0 = .ok (.aload_n 2, 1) := dk_44 (dk_at dksX0_addWindow_0 0 rfl rfl)
theorem dX0_addWindow_1 : decode cX0_addWindow 1 = .ok (.aload_n 0, 1) := dk_42 (dk_at dksX0_addWindow_0 1 rfl rfl)
theorem dX0_addWindow_2 : decode cX0_addWindow 2 = .ok (.aload_n 1, 1) := dk_43 (dk_at dksX0_addWindow_0 2 rfl rfl)
theorem dX0_addWindow_3 : decode cX0_addWindow 3 = .ok (.invokevirtual 41, 3) := dk_182 0 41 (dk_at dksX0_addWindow_0 3 rfl rfl)
theorem dX0_addWindow_6 : decode cX0_addWindow 6 = .ok (.i2l, 1) := dk_133 (dk_at dksX0_addWindow_0 6 rfl rfl)
theorem dX0_addWindow_7 : decode cX0_addWindow 7 = .ok (.putfield 13, 3) := dk_181 0 13 (dk_at dksX0_addWindow_0 7 rfl rfl)
theorem dX0_addWindow_10 : decode cX0_addWindow 10 = .ok (.goto 9, 3) := dk_167 0 9 (dk_at dksX0_addWindow_0 10 rfl rfl)
theorem dX0_addWindow_13 : decode cX0_addWindow 13 = .ok (.astore_n 3, 1) := dk_78 (dk_at dksX0_addWindow_0 13 rfl rfl)
theorem dX0_addWindow_14 : decode cX0_addWindow 14 = .ok (.iconst 1, 1) := dk_4 (dk_at dksX0_addWindow_0 14 rfl rfl)
theorem dX0_addWindow_15 : decode cX0_addWindow 15 = .ok (.ireturn, 1) := dk_172 (dk_at dksX0_addWindow_0 15 rfl rfl)
theorem dX0_addWindow_16 : decode cX0_addWindow 16 = .ok (.astore_n 3, 1) := dk_78 (dk_at dksX0_addWindow_0 16 rfl rfl)
theorem dX0_addWindow_17 : decode cX0_addWindow 17 = .ok (.iconst 2, 1) := dk_5 (dk_at dksX0_addWindow_0 17 rfl rfl)
theorem dX0_addWindow_18 : decode cX0_addWindow 18 = .ok (.ireturn, 1) := dk_172 (dk_at dksX0_addWindow_0 18 rfl rfl)
theorem dX0_addWindow_19 : decode cX0_addWindow 19 = .ok (.iconst 0, 1) := dk_3 (dk_at dksX0_addWindow_0 19 rfl rfl)
theorem dX0_addWindow_20 : decode cX0_addWindow 20 = .ok (.ireturn, 1) := dk_172 (dk_at dksX0_addWindow_0 20 rfl rfl)
abbrev cX0_lend : ByteArray := method_8_code
def yX0_lend : MethodName := ⟨RX0, "lend", "(LCrateYard;IILCrateYardLaw$Out;)I"⟩
def dkwX0_lend_0 : List UInt8 := [45, 42, 27, 28, 182, 0, 45, 133, 181, 0, 13, 167, 0, 11, 58, 4, 4, 172, 58, 4, 5, 172, 3, 172]
abbrev dktX0_lend_0 : List UInt8 := dkwX0_lend_0 ++ []
theorem dksX0_lend_0 : cX0_lend.data.toList.drop 0 = dktX0_lend_0 := by decide +kernel
theorem dX0_lend_0 : decode cX0_lend 0 = .ok (.aload_n 3, 1) := dk_45 (dk_at dksX0_lend_0 0 rfl rfl)
theorem dX0_lend_1 : decode cX0_lend 1 = .ok (.aload_n 0, 1) := dk_42 (dk_at dksX0_lend_0 1 rfl rfl)
theorem dX0_lend_2 : decode cX0_lend 2 = .ok (.iload_n 1, 1) := dk_27 (dk_at dksX0_lend_0 2 rfl rfl)
theorem dX0_lend_3 : decode cX0_lend 3 = .ok (.iload_n 2, 1) := dk_28 (dk_at dksX0_lend_0 3 rfl rfl)
theorem dX0_lend_4 : decode cX0_lend 4 = .ok (.invokevirtual 45, 3) := dk_182 0 45 (dk_at dksX0_lend_0 4 rfl rfl)
theorem dX0_lend_7 : decode cX0_lend 7 = .ok (.i2l, 1) := dk_133 (dk_at dksX0_lend_0 7 rfl rfl)
theorem dX0_lend_8 : decode cX0_lend 8 = .ok (.putfield 13, 3) := dk_181 0 13 (dk_at dksX0_lend_0 8 rfl rfl)
theorem dX0_lend_11 : decode cX0_lend 11 = .ok (.goto 11, 3) := dk_167 0 11 (dk_at dksX0_lend_0 11 rfl rfl)
theorem dX0_lend_14 : decode cX0_lend 14 = .ok (.astore 4, 2) := dk_58 4 (dk_at dksX0_lend_0 14 rfl rfl)
theorem dX0_lend_16 : decode cX0_lend 16 = .ok (.iconst 1, 1) := dk_4 (dk_at dksX0_lend_0 16 rfl rfl)
theorem dX0_lend_17 : decode cX0_lend 17 = .ok (.ireturn, 1) := dk_172 (dk_at dksX0_lend_0 17 rfl rfl)
theorem dX0_lend_18 : decode cX0_lend 18 = .ok (.astore 4, 2) := dk_58 4 (dk_at dksX0_lend_0 18 rfl rfl)
theorem dX0_lend_20 : decode cX0_lend 20 = .ok (.iconst 2, 1) := dk_5 (dk_at dksX0_lend_0 20 rfl rfl)
theorem dX0_lend_21 : decode cX0_lend 21 = .ok (.ireturn, 1) := dk_172 (dk_at dksX0_lend_0 21 rfl rfl)
theorem dX0_lend_22 : decode cX0_lend 22 = .ok (.iconst 0, 1) := dk_3 (dk_at dksX0_lend_0 22 rfl rfl)
theorem dX0_lend_23 : decode cX0_lend 23 = .ok (.ireturn, 1) := dk_172 (dk_at dksX0_lend_0 23 rfl rfl)
abbrev cX0_setLicence : ByteArray := method_9_code
def yX0_setLicence : MethodName := ⟨RX0, "setLicence", "(LCrateYard;ILCrateYardLaw$Out;)I"⟩
def dkwX0_setLicence_0 : List UInt8 := [44, 42, 27, 182, 0, 48, 133, 181, 0, 13, 167, 0, 6, 78, 4, 172, 3, 172]
abbrev dktX0_setLicence_0 : List UInt8 := dkwX0_setLicence_0 ++ []
theorem dksX0_setLicence_0 : cX0_setLicence.data.toList.drop 0 = dktX0_setLicence_0 := by decide +kernel
theorem dX0_setLicence_0 : decode cX0_setLicence 0 = .ok (.aload_n 2, 1) := dk_44 (dk_at dksX0_setLicence_0 0 rfl rfl)
theorem dX0_setLicence_1 : decode cX0_setLicence 1 = .ok (.aload_n 0, 1) := dk_42 (dk_at dksX0_setLicence_0 1 rfl rfl)
theorem dX0_setLicence_2 : decode cX0_setLicence 2 = .ok (.iload_n 1, 1) := dk_27 (dk_at dksX0_setLicence_0 2 rfl rfl)
theorem dX0_setLicence_3 : decode cX0_setLicence 3 = .ok (.invokevirtual 48, 3) := dk_182 0 48 (dk_at dksX0_setLicence_0 3 rfl rfl)
theorem dX0_setLicence_6 : decode cX0_setLicence 6 = .ok (.i2l, 1) := dk_133 (dk_at dksX0_setLicence_0 6 rfl rfl)
theorem dX0_setLicence_7 : decode cX0_setLicence 7 = .ok (.putfield 13, 3) := dk_181 0 13 (dk_at dksX0_setLicence_0 7 rfl rfl)
theorem dX0_setLicence_10 : decode cX0_setLicence 10 = .ok (.goto 6, 3) := dk_167 0 6 (dk_at dksX0_setLicence_0 10 rfl rfl)
theorem dX0_setLicence_13 : decode cX0_setLicence 13 = .ok (.astore_n 3, 1) := dk_78 (dk_at dksX0_setLicence_0 13 rfl rfl)
theorem dX0_setLicence_14 : decode cX0_setLicence 14 = .ok (.iconst 1, 1) := dk_4 (dk_at dksX0_setLicence_0 14 rfl rfl)
theorem dX0_setLicence_15 : decode cX0_setLicence 15 = .ok (.ireturn, 1) := dk_172 (dk_at dksX0_setLicence_0 15 rfl rfl)
theorem dX0_setLicence_16 : decode cX0_setLicence 16 = .ok (.iconst 0, 1) := dk_3 (dk_at dksX0_setLicence_0 16 rfl rfl)
theorem dX0_setLicence_17 : decode cX0_setLicence 17 = .ok (.ireturn, 1) := dk_172 (dk_at dksX0_setLicence_0 17 rfl rfl)
abbrev cX0_addContainer : ByteArray := method_10_code
def yX0_addContainer : MethodName := ⟨RX0, "addContainer", "(LCrateYard;IILNeed;LCrateYardLaw$Out;)I"⟩
def dkwX0_addContainer_1 : List UInt8 := [58, 5, 6, 172, 3, 172]
abbrev dktX0_addContainer_1 : List UInt8 := dkwX0_addContainer_1 ++ []
def dkwX0_addContainer_0 : List UInt8 := [25, 4, 42, 27, 28, 45, 182, 0, 52, 133, 181, 0, 13, 167, 0, 15, 58, 5, 4, 172, 58, 5, 5, 172]
abbrev dktX0_addContainer_0 : List UInt8 := dkwX0_addContainer_0 ++ dktX0_addContainer_1
theorem dksX0_addContainer_0 : cX0_addContainer.data.toList.drop 0 = dktX0_addContainer_0 := by decide +kernel
theorem dksX0_addContainer_1 : cX0_addContainer.data.toList.drop 24 = dktX0_addContainer_1 := dk_seg dksX0_addContainer_0 24 rfl rfl
theorem dX0_addContainer_0 : decode cX0_addContainer 0 = .ok (.aload 4, 2) := dk_25 4 (dk_at dksX0_addContainer_0 0 rfl rfl)
theorem dX0_addContainer_2 : decode cX0_addContainer 2 = .ok (.aload_n 0, 1) := dk_42 (dk_at dksX0_addContainer_0 2 rfl rfl)
theorem dX0_addContainer_3 : decode cX0_addContainer 3 = .ok (.iload_n 1, 1) := dk_27 (dk_at dksX0_addContainer_0 3 rfl rfl)
theorem dX0_addContainer_4 : decode cX0_addContainer 4 = .ok (.iload_n 2, 1) := dk_28 (dk_at dksX0_addContainer_0 4 rfl rfl)
theorem dX0_addContainer_5 : decode cX0_addContainer 5 = .ok (.aload_n 3, 1) := dk_45 (dk_at dksX0_addContainer_0 5 rfl rfl)
theorem dX0_addContainer_6 : decode cX0_addContainer 6 = .ok (.invokevirtual 52, 3) := dk_182 0 52 (dk_at dksX0_addContainer_0 6 rfl rfl)
theorem dX0_addContainer_9 : decode cX0_addContainer 9 = .ok (.i2l, 1) := dk_133 (dk_at dksX0_addContainer_0 9 rfl rfl)
theorem dX0_addContainer_10 : decode cX0_addContainer 10 = .ok (.putfield 13, 3) := dk_181 0 13 (dk_at dksX0_addContainer_0 10 rfl rfl)
theorem dX0_addContainer_13 : decode cX0_addContainer 13 = .ok (.goto 15, 3) := dk_167 0 15 (dk_at dksX0_addContainer_0 13 rfl rfl)
theorem dX0_addContainer_16 : decode cX0_addContainer 16 = .ok (.astore 5, 2) := dk_58 5 (dk_at dksX0_addContainer_0 16 rfl rfl)
theorem dX0_addContainer_18 : decode cX0_addContainer 18 = .ok (.iconst 1, 1) := dk_4 (dk_at dksX0_addContainer_0 18 rfl rfl)
theorem dX0_addContainer_19 : decode cX0_addContainer 19 = .ok (.ireturn, 1) := dk_172 (dk_at dksX0_addContainer_0 19 rfl rfl)
theorem dX0_addContainer_20 : decode cX0_addContainer 20 = .ok (.astore 5, 2) := dk_58 5 (dk_at dksX0_addContainer_0 20 rfl rfl)
theorem dX0_addContainer_22 : decode cX0_addContainer 22 = .ok (.iconst 2, 1) := dk_5 (dk_at dksX0_addContainer_0 22 rfl rfl)
theorem dX0_addContainer_23 : decode cX0_addContainer 23 = .ok (.ireturn, 1) := dk_172 (dk_at dksX0_addContainer_0 23 rfl rfl)
theorem dX0_addContainer_24 : decode cX0_addContainer 24 = .ok (.astore 5, 2) := dk_58 5 (dk_at dksX0_addContainer_1 0 rfl rfl)
theorem dX0_addContainer_26 : decode cX0_addContainer 26 = .ok (.iconst 3, 1) := dk_6 (dk_at dksX0_addContainer_1 2 rfl rfl)
theorem dX0_addContainer_27 : decode cX0_addContainer 27 = .ok (.ireturn, 1) := dk_172 (dk_at dksX0_addContainer_1 3 rfl rfl)
theorem dX0_addContainer_28 : decode cX0_addContainer 28 = .ok (.iconst 0, 1) := dk_3 (dk_at dksX0_addContainer_1 4 rfl rfl)
theorem dX0_addContainer_29 : decode cX0_addContainer 29 = .ok (.ireturn, 1) := dk_172 (dk_at dksX0_addContainer_1 5 rfl rfl)
abbrev cX0_stop : ByteArray := method_11_code
def yX0_stop : MethodName := ⟨RX0, "stop", "(LCrateYard;ILCrateYardLaw$Out;)I"⟩
def dkwX0_stop_0 : List UInt8 := [44, 42, 27, 182, 0, 56, 181, 0, 60, 167, 0, 9, 78, 4, 172, 78, 5, 172, 3, 172]
abbrev dktX0_stop_0 : List UInt8 := dkwX0_stop_0 ++ []
theorem dksX0_stop_0 : cX0_stop.data.toList.drop 0 = dktX0_stop_0 := by decide +kernel
theorem dX0_stop_0 : decode cX0_stop 0 = .ok (.aload_n 2, 1) := dk_44 (dk_at dksX0_stop_0 0 rfl rfl)
theorem dX0_stop_1 : decode cX0_stop 1 = .ok (.aload_n 0, 1) := dk_42 (dk_at dksX0_stop_0 1 rfl rfl)
theorem dX0_stop_2 : decode cX0_stop 2 = .ok (.iload_n 1, 1) := dk_27 (dk_at dksX0_stop_0 2 rfl rfl)
theorem dX0_stop_3 : decode cX0_stop 3 = .ok (.invokevirtual 56, 3) := dk_182 0 56 (dk_at dksX0_stop_0 3 rfl rfl)
theorem dX0_stop_6 : decode cX0_stop 6 = .ok (.putfield 60, 3) := dk_181 0 60 (dk_at dksX0_stop_0 6 rfl rfl)
theorem dX0_stop_9 : decode cX0_stop 9 = .ok (.goto 9, 3) := dk_167 0 9 (dk_at dksX0_stop_0 9 rfl rfl)
theorem dX0_stop_12 : decode cX0_stop 12 = .ok (.astore_n 3, 1) := dk_78 (dk_at dksX0_stop_0 12 rfl rfl)
theorem dX0_stop_13 : decode cX0_stop 13 = .ok (.iconst 1, 1) := dk_4 (dk_at dksX0_stop_0 13 rfl rfl)
theorem dX0_stop_14 : decode cX0_stop 14 = .ok (.ireturn, 1) := dk_172 (dk_at dksX0_stop_0 14 rfl rfl)
theorem dX0_stop_15 : decode cX0_stop 15 = .ok (.astore_n 3, 1) := dk_78 (dk_at dksX0_stop_0 15 rfl rfl)
theorem dX0_stop_16 : decode cX0_stop 16 = .ok (.iconst 2, 1) := dk_5 (dk_at dksX0_stop_0 16 rfl rfl)
theorem dX0_stop_17 : decode cX0_stop 17 = .ok (.ireturn, 1) := dk_172 (dk_at dksX0_stop_0 17 rfl rfl)
theorem dX0_stop_18 : decode cX0_stop 18 = .ok (.iconst 0, 1) := dk_3 (dk_at dksX0_stop_0 18 rfl rfl)
theorem dX0_stop_19 : decode cX0_stop 19 = .ok (.ireturn, 1) := dk_172 (dk_at dksX0_stop_0 19 rfl rfl)
abbrev cX0_fail : ByteArray := method_12_code
def yX0_fail : MethodName := ⟨RX0, "fail", "(LCrateYard;ILCrateYardLaw$Out;)I"⟩
def dkwX0_fail_0 : List UInt8 := [44, 42, 27, 182, 0, 64, 133, 181, 0, 13, 167, 0, 9, 78, 4, 172, 78, 5, 172, 3, 172]
abbrev dktX0_fail_0 : List UInt8 := dkwX0_fail_0 ++ []
theorem dksX0_fail_0 : cX0_fail.data.toList.drop 0 = dktX0_fail_0 := by decide +kernel
theorem dX0_fail_0 : decode cX0_fail 0 = .ok (.aload_n 2, 1) := dk_44 (dk_at dksX0_fail_0 0 rfl rfl)
theorem dX0_fail_1 : decode cX0_fail 1 = .ok (.aload_n 0, 1) := dk_42 (dk_at dksX0_fail_0 1 rfl rfl)
theorem dX0_fail_2 : decode cX0_fail 2 = .ok (.iload_n 1, 1) := dk_27 (dk_at dksX0_fail_0 2 rfl rfl)
theorem dX0_fail_3 : decode cX0_fail 3 = .ok (.invokevirtual 64, 3) := dk_182 0 64 (dk_at dksX0_fail_0 3 rfl rfl)
theorem dX0_fail_6 : decode cX0_fail 6 = .ok (.i2l, 1) := dk_133 (dk_at dksX0_fail_0 6 rfl rfl)
theorem dX0_fail_7 : decode cX0_fail 7 = .ok (.putfield 13, 3) := dk_181 0 13 (dk_at dksX0_fail_0 7 rfl rfl)
theorem dX0_fail_10 : decode cX0_fail 10 = .ok (.goto 9, 3) := dk_167 0 9 (dk_at dksX0_fail_0 10 rfl rfl)
theorem dX0_fail_13 : decode cX0_fail 13 = .ok (.astore_n 3, 1) := dk_78 (dk_at dksX0_fail_0 13 rfl rfl)
theorem dX0_fail_14 : decode cX0_fail 14 = .ok (.iconst 1, 1) := dk_4 (dk_at dksX0_fail_0 14 rfl rfl)
theorem dX0_fail_15 : decode cX0_fail 15 = .ok (.ireturn, 1) := dk_172 (dk_at dksX0_fail_0 15 rfl rfl)
theorem dX0_fail_16 : decode cX0_fail 16 = .ok (.astore_n 3, 1) := dk_78 (dk_at dksX0_fail_0 16 rfl rfl)
theorem dX0_fail_17 : decode cX0_fail 17 = .ok (.iconst 2, 1) := dk_5 (dk_at dksX0_fail_0 17 rfl rfl)
theorem dX0_fail_18 : decode cX0_fail 18 = .ok (.ireturn, 1) := dk_172 (dk_at dksX0_fail_0 18 rfl rfl)
theorem dX0_fail_19 : decode cX0_fail 19 = .ok (.iconst 0, 1) := dk_3 (dk_at dksX0_fail_0 19 rfl rfl)
theorem dX0_fail_20 : decode cX0_fail 20 = .ok (.ireturn, 1) := dk_172 (dk_at dksX0_fail_0 20 rfl rfl)
abbrev cX0_pass : ByteArray := method_13_code
def yX0_pass : MethodName := ⟨RX0, "pass", "(LCrateYard;ILCrateYardLaw$Out;)I"⟩
def dkwX0_pass_0 : List UInt8 := [44, 42, 27, 182, 0, 67, 133, 181, 0, 13, 167, 0, 9, 78, 4, 172, 78, 5, 172, 3, 172]
abbrev dktX0_pass_0 : List UInt8 := dkwX0_pass_0 ++ []
theorem dksX0_pass_0 : cX0_pass.data.toList.drop 0 = dktX0_pass_0 := by decide +kernel
theorem dX0_pass_0 : decode cX0_pass 0 = .ok (.aload_n 2, 1) := dk_44 (dk_at dksX0_pass_0 0 rfl rfl)
theorem dX0_pass_1 : decode cX0_pass 1 = .ok (.aload_n 0, 1) := dk_42 (dk_at dksX0_pass_0 1 rfl rfl)
theorem dX0_pass_2 : decode cX0_pass 2 = .ok (.iload_n 1, 1) := dk_27 (dk_at dksX0_pass_0 2 rfl rfl)
theorem dX0_pass_3 : decode cX0_pass 3 = .ok (.invokevirtual 67, 3) := dk_182 0 67 (dk_at dksX0_pass_0 3 rfl rfl)
theorem dX0_pass_6 : decode cX0_pass 6 = .ok (.i2l, 1) := dk_133 (dk_at dksX0_pass_0 6 rfl rfl)
theorem dX0_pass_7 : decode cX0_pass 7 = .ok (.putfield 13, 3) := dk_181 0 13 (dk_at dksX0_pass_0 7 rfl rfl)
theorem dX0_pass_10 : decode cX0_pass 10 = .ok (.goto 9, 3) := dk_167 0 9 (dk_at dksX0_pass_0 10 rfl rfl)
theorem dX0_pass_13 : decode cX0_pass 13 = .ok (.astore_n 3, 1) := dk_78 (dk_at dksX0_pass_0 13 rfl rfl)
theorem dX0_pass_14 : decode cX0_pass 14 = .ok (.iconst 1, 1) := dk_4 (dk_at dksX0_pass_0 14 rfl rfl)
theorem dX0_pass_15 : decode cX0_pass 15 = .ok (.ireturn, 1) := dk_172 (dk_at dksX0_pass_0 15 rfl rfl)
theorem dX0_pass_16 : decode cX0_pass 16 = .ok (.astore_n 3, 1) := dk_78 (dk_at dksX0_pass_0 16 rfl rfl)
theorem dX0_pass_17 : decode cX0_pass 17 = .ok (.iconst 2, 1) := dk_5 (dk_at dksX0_pass_0 17 rfl rfl)
theorem dX0_pass_18 : decode cX0_pass 18 = .ok (.ireturn, 1) := dk_172 (dk_at dksX0_pass_0 18 rfl rfl)
theorem dX0_pass_19 : decode cX0_pass 19 = .ok (.iconst 0, 1) := dk_3 (dk_at dksX0_pass_0 19 rfl rfl)
theorem dX0_pass_20 : decode cX0_pass 20 = .ok (.ireturn, 1) := dk_172 (dk_at dksX0_pass_0 20 rfl rfl)
abbrev cX0_layersOf : ByteArray := method_14_code
def yX0_layersOf : MethodName := ⟨RX0, "layersOf", "(LCrateYard;ILCrateYardLaw$Out;)I"⟩
def dkwX0_layersOf_0 : List UInt8 := [44, 42, 27, 182, 0, 70, 133, 181, 0, 13, 167, 0, 6, 78, 4, 172, 3, 172]
abbrev dktX0_layersOf_0 : List UInt8 := dkwX0_layersOf_0 ++ []
theorem dksX0_layersOf_0 : cX0_layersOf.data.toList.drop 0 = dktX0_layersOf_0 := by decide +kernel
theorem dX0_layersOf_0 : decode cX0_layersOf 0 = .ok (.aload_n 2, 1) := dk_44 (dk_at dksX0_layersOf_0 0 rfl rfl)
theorem dX0_layersOf_1 : decode cX0_layersOf 1 = .ok (.aload_n 0, 1) := dk_42 (dk_at dksX0_layersOf_0 1 rfl rfl)
theorem dX0_layersOf_2 : decode cX0_layersOf 2 = .ok (.iload_n 1, 1) := dk_27 (dk_at dksX0_layersOf_0 2 rfl rfl)
theorem dX0_layersOf_3 : decode cX0_layersOf 3 = .ok (.invokevirtual 70, 3) := dk_182 0 70 (dk_at dksX0_layersOf_0 3 rfl rfl)
theorem dX0_layersOf_6 : decode cX0_layersOf 6 = .ok (.i2l, 1) := dk_133 (dk_at dksX0_layersOf_0 6 rfl rfl)
theorem dX0_layersOf_7 : decode cX0_layersOf 7 = .ok (.putfield 13, 3) := dk_181 0 13 (dk_at dksX0_layersOf_0 7 rfl rfl)
theorem dX0_layersOf_10 : decode cX0_layersOf 10 = .ok (.goto 6, 3) := dk_167 0 6 (dk_at dksX0_layersOf_0 10 rfl rfl)
theorem dX0_layersOf_13 : decode cX0_layersOf 13 = .ok (.astore_n 3, 1) := dk_78 (dk_at dksX0_layersOf_0 13 rfl rfl)
theorem dX0_layersOf_14 : decode cX0_layersOf 14 = .ok (.iconst 1, 1) := dk_4 (dk_at dksX0_layersOf_0 14 rfl rfl)
theorem dX0_layersOf_15 : decode cX0_layersOf 15 = .ok (.ireturn, 1) := dk_172 (dk_at dksX0_layersOf_0 15 rfl rfl)
theorem dX0_layersOf_16 : decode cX0_layersOf 16 = .ok (.iconst 0, 1) := dk_3 (dk_at dksX0_layersOf_0 16 rfl rfl)
theorem dX0_layersOf_17 : decode cX0_layersOf 17 = .ok (.ireturn, 1) := dk_172 (dk_at dksX0_layersOf_0 17 rfl rfl)
abbrev cX0_uses : ByteArray := method_15_code
def yX0_uses : MethodName := ⟨RX0, "uses", "(LCrateYard;ILCrateYardLaw$Out;)I"⟩
def dkwX0_uses_0 : List UInt8 := [44, 42, 27, 182, 0, 73, 133, 181, 0, 13, 167, 0, 6, 78, 4, 172, 3, 172]
abbrev dktX0_uses_0 : List UInt8 := dkwX0_uses_0 ++ []
theorem dksX0_uses_0 : cX0_uses.data.toList.drop 0 = dktX0_uses_0 := by decide +kernel
theorem dX0_uses_0 : decode cX0_uses 0 = .ok (.aload_n 2, 1) := dk_44 (dk_at dksX0_uses_0 0 rfl rfl)
theorem dX0_uses_1 : decode cX0_uses 1 = .ok (.aload_n 0, 1) := dk_42 (dk_at dksX0_uses_0 1 rfl rfl)
theorem dX0_uses_2 : decode cX0_uses 2 = .ok (.iload_n 1, 1) := dk_27 (dk_at dksX0_uses_0 2 rfl rfl)
theorem dX0_uses_3 : decode cX0_uses 3 = .ok (.invokevirtual 73, 3) := dk_182 0 73 (dk_at dksX0_uses_0 3 rfl rfl)
theorem dX0_uses_6 : decode cX0_uses 6 = .ok (.i2l, 1) := dk_133 (dk_at dksX0_uses_0 6 rfl rfl)
theorem dX0_uses_7 : decode cX0_uses 7 = .ok (.putfield 13, 3) := dk_181 0 13 (dk_at dksX0_uses_0 7 rfl rfl)
theorem dX0_uses_10 : decode cX0_uses 10 = .ok (.goto 6, 3) := dk_167 0 6 (dk_at dksX0_uses_0 10 rfl rfl)
theorem dX0_uses_13 : decode cX0_uses 13 = .ok (.astore_n 3, 1) := dk_78 (dk_at dksX0_uses_0 13 rfl rfl)
theorem dX0_uses_14 : decode cX0_uses 14 = .ok (.iconst 1, 1) := dk_4 (dk_at dksX0_uses_0 14 rfl rfl)
theorem dX0_uses_15 : decode cX0_uses 15 = .ok (.ireturn, 1) := dk_172 (dk_at dksX0_uses_0 15 rfl rfl)
theorem dX0_uses_16 : decode cX0_uses 16 = .ok (.iconst 0, 1) := dk_3 (dk_at dksX0_uses_0 16 rfl rfl)
theorem dX0_uses_17 : decode cX0_uses 17 = .ok (.ireturn, 1) := dk_172 (dk_at dksX0_uses_0 17 rfl rfl)
abbrev cX0_isOut : ByteArray := method_16_code
def yX0_isOut : MethodName := ⟨RX0, "isOut", "(LCrateYard;ILCrateYardLaw$Out;)I"⟩
def dkwX0_isOut_1 : List UInt8 := [172]
abbrev dktX0_isOut_1 : List UInt8 := dkwX0_isOut_1 ++ []
def dkwX0_isOut_0 : List UInt8 := [44, 42, 27, 182, 0, 76, 153, 0, 7, 10, 167, 0, 4, 9, 181, 0, 13, 167, 0, 6, 78, 4, 172, 3]
abbrev dktX0_isOut_0 : List UInt8 := dkwX0_isOut_0 ++ dktX0_isOut_1
theorem dksX0_isOut_0 : cX0_isOut.data.toList.drop 0 = dktX0_isOut_0 := by decide +kernel
theorem dksX0_isOut_1 : cX0_isOut.data.toList.drop 24 = dktX0_isOut_1 := dk_seg dksX0_isOut_0 24 rfl rfl
theorem dX0_isOut_0 : decode cX0_isOut 0 = .ok (.aload_n 2, 1) := dk_44 (dk_at dksX0_isOut_0 0 rfl rfl)
theorem dX0_isOut_1 : decode cX0_isOut 1 = .ok (.aload_n 0, 1) := dk_42 (dk_at dksX0_isOut_0 1 rfl rfl)
theorem dX0_isOut_2 : decode cX0_isOut 2 = .ok (.iload_n 1, 1) := dk_27 (dk_at dksX0_isOut_0 2 rfl rfl)
theorem dX0_isOut_3 : decode cX0_isOut 3 = .ok (.invokevirtual 76, 3) := dk_182 0 76 (dk_at dksX0_isOut_0 3 rfl rfl)
theorem dX0_isOut_6 : decode cX0_isOut 6 = .ok (.ifCond .eq 7, 3) := dk_153 0 7 (dk_at dksX0_isOut_0 6 rfl rfl)
theorem dX0_isOut_9 : decode cX0_isOut 9 = .ok (.lconst 1, 1) := dk_10 (dk_at dksX0_isOut_0 9 rfl rfl)
theorem dX0_isOut_10 : decode cX0_isOut 10 = .ok (.goto 4, 3) := dk_167 0 4 (dk_at dksX0_isOut_0 10 rfl rfl)
theorem dX0_isOut_13 : decode cX0_isOut 13 = .ok (.lconst 0, 1) := dk_9 (dk_at dksX0_isOut_0 13 rfl rfl)
theorem dX0_isOut_14 : decode cX0_isOut 14 = .ok (.putfield 13, 3) := dk_181 0 13 (dk_at dksX0_isOut_0 14 rfl rfl)
theorem dX0_isOut_17 : decode cX0_isOut 17 = .ok (.goto 6, 3) := dk_167 0 6 (dk_at dksX0_isOut_0 17 rfl rfl)
theorem dX0_isOut_20 : decode cX0_isOut 20 = .ok (.astore_n 3, 1) := dk_78 (dk_at dksX0_isOut_0 20 rfl rfl)
theorem dX0_isOut_21 : decode cX0_isOut 21 = .ok (.iconst 1, 1) := dk_4 (dk_at dksX0_isOut_0 21 rfl rfl)
theorem dX0_isOut_22 : decode cX0_isOut 22 = .ok (.ireturn, 1) := dk_172 (dk_at dksX0_isOut_0 22 rfl rfl)
theorem dX0_isOut_23 : decode cX0_isOut 23 = .ok (.iconst 0, 1) := dk_3 (dk_at dksX0_isOut_0 23 rfl rfl)
theorem dX0_isOut_24 : decode cX0_isOut 24 = .ok (.ireturn, 1) := dk_172 (dk_at dksX0_isOut_1 0 rfl rfl)
abbrev cX0_stateOf : ByteArray := method_17_code
def yX0_stateOf : MethodName := ⟨RX0, "stateOf", "(LCrateYard;ILCrateYardLaw$Out;)I"⟩
def dkwX0_stateOf_0 : List UInt8 := [44, 42, 27, 182, 0, 80, 181, 0, 60, 167, 0, 6, 78, 4, 172, 3, 172]
abbrev dktX0_stateOf_0 : List UInt8 := dkwX0_stateOf_0 ++ []
theorem dksX0_stateOf_0 : cX0_stateOf.data.toList.drop 0 = dktX0_stateOf_0 := by decide +kernel
theorem dX0_stateOf_0 : decode cX0_stateOf 0 = .ok (.aload_n 2, 1) := dk_44 (dk_at dksX0_stateOf_0 0 rfl rfl)
theorem dX0_stateOf_1 : decode cX0_stateOf 1 = .ok (.aload_n 0, 1) := dk_42 (dk_at dksX0_stateOf_0 1 rfl rfl)
theorem dX0_stateOf_2 : decode cX0_stateOf 2 = .ok (.iload_n 1, 1) := dk_27 (dk_at dksX0_stateOf_0 2 rfl rfl)
theorem dX0_stateOf_3 : decode cX0_stateOf 3 = .ok (.invokevirtual 80, 3) := dk_182 0 80 (dk_at dksX0_stateOf_0 3 rfl rfl)
theorem dX0_stateOf_6 : decode cX0_stateOf 6 = .ok (.putfield 60, 3) := dk_181 0 60 (dk_at dksX0_stateOf_0 6 rfl rfl)
theorem dX0_stateOf_9 : decode cX0_stateOf 9 = .ok (.goto 6, 3) := dk_167 0 6 (dk_at dksX0_stateOf_0 9 rfl rfl)
theorem dX0_stateOf_12 : decode cX0_stateOf 12 = .ok (.astore_n 3, 1) := dk_78 (dk_at dksX0_stateOf_0 12 rfl rfl)
theorem dX0_stateOf_13 : decode cX0_stateOf 13 = .ok (.iconst 1, 1) := dk_4 (dk_at dksX0_stateOf_0 13 rfl rfl)
theorem dX0_stateOf_14 : decode cX0_stateOf 14 = .ok (.ireturn, 1) := dk_172 (dk_at dksX0_stateOf_0 14 rfl rfl)
theorem dX0_stateOf_15 : decode cX0_stateOf 15 = .ok (.iconst 0, 1) := dk_3 (dk_at dksX0_stateOf_0 15 rfl rfl)
theorem dX0_stateOf_16 : decode cX0_stateOf 16 = .ok (.ireturn, 1) := dk_172 (dk_at dksX0_stateOf_0 16 rfl rfl)
abbrev cX0_hostOf : ByteArray := method_18_code
def yX0_hostOf : MethodName := ⟨RX0, "hostOf", "(LCrateYard;ILCrateYardLaw$Out;)I"⟩
def dkwX0_hostOf_0 : List UInt8 := [44, 42, 27, 182, 0, 83, 133, 181, 0, 13, 167, 0, 9, 78, 4, 172, 78, 5, 172, 3, 172]
abbrev dktX0_hostOf_0 : List UInt8 := dkwX0_hostOf_0 ++ []
theorem dksX0_hostOf_0 : cX0_hostOf.data.toList.drop 0 = dktX0_hostOf_0 := by decide +kernel
theorem dX0_hostOf_0 : decode cX0_hostOf 0 = .ok (.aload_n 2, 1) := dk_44 (dk_at dksX0_hostOf_0 0 rfl rfl)
theorem dX0_hostOf_1 : decode cX0_hostOf 1 = .ok (.aload_n 0, 1) := dk_42 (dk_at dksX0_hostOf_0 1 rfl rfl)
theorem dX0_hostOf_2 : decode cX0_hostOf 2 = .ok (.iload_n 1, 1) := dk_27 (dk_at dksX0_hostOf_0 2 rfl rfl)
theorem dX0_hostOf_3 : decode cX0_hostOf 3 = .ok (.invokevirtual 83, 3) := dk_182 0 83 (dk_at dksX0_hostOf_0 3 rfl rfl)
theorem dX0_hostOf_6 : decode cX0_hostOf 6 = .ok (.i2l, 1) := dk_133 (dk_at dksX0_hostOf_0 6 rfl rfl)
theorem dX0_hostOf_7 : decode cX0_hostOf 7 = .ok (.putfield 13, 3) := dk_181 0 13 (dk_at dksX0_hostOf_0 7 rfl rfl)
theorem dX0_hostOf_10 : decode cX0_hostOf 10 = .ok (.goto 9, 3) := dk_167 0 9 (dk_at dksX0_hostOf_0 10 rfl rfl)
theorem dX0_hostOf_13 : decode cX0_hostOf 13 = .ok (.astore_n 3, 1) := dk_78 (dk_at dksX0_hostOf_0 13 rfl rfl)
theorem dX0_hostOf_14 : decode cX0_hostOf 14 = .ok (.iconst 1, 1) := dk_4 (dk_at dksX0_hostOf_0 14 rfl rfl)
theorem dX0_hostOf_15 : decode cX0_hostOf 15 = .ok (.ireturn, 1) := dk_172 (dk_at dksX0_hostOf_0 15 rfl rfl)
theorem dX0_hostOf_16 : decode cX0_hostOf 16 = .ok (.astore_n 3, 1) := dk_78 (dk_at dksX0_hostOf_0 16 rfl rfl)
theorem dX0_hostOf_17 : decode cX0_hostOf 17 = .ok (.iconst 2, 1) := dk_5 (dk_at dksX0_hostOf_0 17 rfl rfl)
theorem dX0_hostOf_18 : decode cX0_hostOf 18 = .ok (.ireturn, 1) := dk_172 (dk_at dksX0_hostOf_0 18 rfl rfl)
theorem dX0_hostOf_19 : decode cX0_hostOf 19 = .ok (.iconst 0, 1) := dk_3 (dk_at dksX0_hostOf_0 19 rfl rfl)
theorem dX0_hostOf_20 : decode cX0_hostOf 20 = .ok (.ireturn, 1) := dk_172 (dk_at dksX0_hostOf_0 20 rfl rfl)
abbrev cX0_barOf : ByteArray := method_19_code
def yX0_barOf : MethodName := ⟨RX0, "barOf", "(LCrateYard;ILCrateYardLaw$Out;)I"⟩
def dkwX0_barOf_0 : List UInt8 := [44, 42, 27, 182, 0, 88, 181, 0, 92, 167, 0, 6, 78, 4, 172, 3, 172]
abbrev dktX0_barOf_0 : List UInt8 := dkwX0_barOf_0 ++ []
theorem dksX0_barOf_0 : cX0_barOf.data.toList.drop 0 = dktX0_barOf_0 := by decide +kernel
theorem dX0_barOf_0 : decode cX0_barOf 0 = .ok (.aload_n 2, 1) := dk_44 (dk_at dksX0_barOf_0 0 rfl rfl)
theorem dX0_barOf_1 : decode cX0_barOf 1 = .ok (.aload_n 0, 1) := dk_42 (dk_at dksX0_barOf_0 1 rfl rfl)
theorem dX0_barOf_2 : decode cX0_barOf 2 = .ok (.iload_n 1, 1) := dk_27 (dk_at dksX0_barOf_0 2 rfl rfl)
theorem dX0_barOf_3 : decode cX0_barOf 3 = .ok (.invokevirtual 88, 3) := dk_182 0 88 (dk_at dksX0_barOf_0 3 rfl rfl)
theorem dX0_barOf_6 : decode cX0_barOf 6 = .ok (.putfield 92, 3) := dk_181 0 92 (dk_at dksX0_barOf_0 6 rfl rfl)
theorem dX0_barOf_9 : decode cX0_barOf 9 = .ok (.goto 6, 3) := dk_167 0 6 (dk_at dksX0_barOf_0 9 rfl rfl)
theorem dX0_barOf_12 : decode cX0_barOf 12 = .ok (.astore_n 3, 1) := dk_78 (dk_at dksX0_barOf_0 12 rfl rfl)
theorem dX0_barOf_13 : decode cX0_barOf 13 = .ok (.iconst 1, 1) := dk_4 (dk_at dksX0_barOf_0 13 rfl rfl)
theorem dX0_barOf_14 : decode cX0_barOf 14 = .ok (.ireturn, 1) := dk_172 (dk_at dksX0_barOf_0 14 rfl rfl)
theorem dX0_barOf_15 : decode cX0_barOf 15 = .ok (.iconst 0, 1) := dk_3 (dk_at dksX0_barOf_0 15 rfl rfl)
theorem dX0_barOf_16 : decode cX0_barOf 16 = .ok (.ireturn, 1) := dk_172 (dk_at dksX0_barOf_0 16 rfl rfl)
abbrev cX0_restsUntil : ByteArray := method_20_code
def yX0_restsUntil : MethodName := ⟨RX0, "restsUntil", "(LCrateYard;ILCrateYardLaw$Out;)I"⟩
def dkwX0_restsUntil_0 : List UInt8 := [44, 42, 27, 182, 0, 96, 133, 181, 0, 13, 167, 0, 9, 78, 4, 172, 78, 5, 172, 3, 172]
abbrev dktX0_restsUntil_0 : List UInt8 := dkwX0_restsUntil_0 ++ []
theorem dksX0_restsUntil_0 : cX0_restsUntil.data.toList.drop 0 = dktX0_restsUntil_0 := by decide +kernel
theorem dX0_restsUntil_0 : decode cX0_restsUntil 0 = .ok (.aload_n 2, 1) := dk_44 (dk_at dksX0_restsUntil_0 0 rfl rfl)
theorem dX0_restsUntil_1 : decode cX0_restsUntil 1 = .ok (.aload_n 0, 1) := dk_42 (dk_at dksX0_restsUntil_0 1 rfl rfl)
theorem dX0_restsUntil_2 : decode cX0_restsUntil 2 = .ok (.iload_n 1, 1) := dk_27 (dk_at dksX0_restsUntil_0 2 rfl rfl)
theorem dX0_restsUntil_3 : decode cX0_restsUntil 3 = .ok (.invokevirtual 96, 3) := dk_182 0 96 (dk_at dksX0_restsUntil_0 3 rfl rfl)
theorem dX0_restsUntil_6 : decode cX0_restsUntil 6 = .ok (.i2l, 1) := dk_133 (dk_at dksX0_restsUntil_0 6 rfl rfl)
theorem dX0_restsUntil_7 : decode cX0_restsUntil 7 = .ok (.putfield 13, 3) := dk_181 0 13 (dk_at dksX0_restsUntil_0 7 rfl rfl)
theorem dX0_restsUntil_10 : decode cX0_restsUntil 10 = .ok (.goto 9, 3) := dk_167 0 9 (dk_at dksX0_restsUntil_0 10 rfl rfl)
theorem dX0_restsUntil_13 : decode cX0_restsUntil 13 = .ok (.astore_n 3, 1) := dk_78 (dk_at dksX0_restsUntil_0 13 rfl rfl)
theorem dX0_restsUntil_14 : decode cX0_restsUntil 14 = .ok (.iconst 1, 1) := dk_4 (dk_at dksX0_restsUntil_0 14 rfl rfl)
theorem dX0_restsUntil_15 : decode cX0_restsUntil 15 = .ok (.ireturn, 1) := dk_172 (dk_at dksX0_restsUntil_0 15 rfl rfl)
theorem dX0_restsUntil_16 : decode cX0_restsUntil 16 = .ok (.astore_n 3, 1) := dk_78 (dk_at dksX0_restsUntil_0 16 rfl rfl)
theorem dX0_restsUntil_17 : decode cX0_restsUntil 17 = .ok (.iconst 2, 1) := dk_5 (dk_at dksX0_restsUntil_0 17 rfl rfl)
theorem dX0_restsUntil_18 : decode cX0_restsUntil 18 = .ok (.ireturn, 1) := dk_172 (dk_at dksX0_restsUntil_0 18 rfl rfl)
theorem dX0_restsUntil_19 : decode cX0_restsUntil 19 = .ok (.iconst 0, 1) := dk_3 (dk_at dksX0_restsUntil_0 19 rfl rfl)
theorem dX0_restsUntil_20 : decode cX0_restsUntil 20 = .ok (.ireturn, 1) := dk_172 (dk_at dksX0_restsUntil_0 20 rfl rfl)
abbrev cX0_layersIn : ByteArray := method_21_code
def yX0_layersIn : MethodName := ⟨RX0, "layersIn", "(LCrateYard;ILCrateYardLaw$Out;)I"⟩
def dkwX0_layersIn_0 : List UInt8 := [44, 42, 27, 182, 0, 99, 133, 181, 0, 13, 167, 0, 9, 78, 4, 172, 78, 5, 172, 3, 172]
abbrev dktX0_layersIn_0 : List UInt8 := dkwX0_layersIn_0 ++ []
theorem dksX0_layersIn_0 : cX0_layersIn.data.toList.drop 0 = dktX0_layersIn_0 := by decide +kernel
theorem dX0_layersIn_0 : decode cX0_layersIn 0 = .ok (.aload_n 2, 1) := dk_44 (dk_at dksX0_layersIn_0 0 rfl rfl)
theorem dX0_layersIn_1 : decode cX0_layersIn 1 = .ok (.aload_n 0, 1) := dk_42 (dk_at dksX0_layersIn_0 1 rfl rfl)
theorem dX0_layersIn_2 : decode cX0_layersIn 2 = .ok (.iload_n 1, 1) := dk_27 (dk_at dksX0_layersIn_0 2 rfl rfl)
theorem dX0_layersIn_3 : decode cX0_layersIn 3 = .ok (.invokevirtual 99, 3) := dk_182 0 99 (dk_at dksX0_layersIn_0 3 rfl rfl)
theorem dX0_layersIn_6 : decode cX0_layersIn 6 = .ok (.i2l, 1) := dk_133 (dk_at dksX0_layersIn_0 6 rfl rfl)
theorem dX0_layersIn_7 : decode cX0_layersIn 7 = .ok (.putfield 13, 3) := dk_181 0 13 (dk_at dksX0_layersIn_0 7 rfl rfl)
theorem dX0_layersIn_10 : decode cX0_layersIn 10 = .ok (.goto 9, 3) := dk_167 0 9 (dk_at dksX0_layersIn_0 10 rfl rfl)
theorem dX0_layersIn_13 : decode cX0_layersIn 13 = .ok (.astore_n 3, 1) := dk_78 (dk_at dksX0_layersIn_0 13 rfl rfl)
theorem dX0_layersIn_14 : decode cX0_layersIn 14 = .ok (.iconst 1, 1) := dk_4 (dk_at dksX0_layersIn_0 14 rfl rfl)
theorem dX0_layersIn_15 : decode cX0_layersIn 15 = .ok (.ireturn, 1) := dk_172 (dk_at dksX0_layersIn_0 15 rfl rfl)
theorem dX0_layersIn_16 : decode cX0_layersIn 16 = .ok (.astore_n 3, 1) := dk_78 (dk_at dksX0_layersIn_0 16 rfl rfl)
theorem dX0_layersIn_17 : decode cX0_layersIn 17 = .ok (.iconst 2, 1) := dk_5 (dk_at dksX0_layersIn_0 17 rfl rfl)
theorem dX0_layersIn_18 : decode cX0_layersIn 18 = .ok (.ireturn, 1) := dk_172 (dk_at dksX0_layersIn_0 18 rfl rfl)
theorem dX0_layersIn_19 : decode cX0_layersIn 19 = .ok (.iconst 0, 1) := dk_3 (dk_at dksX0_layersIn_0 19 rfl rfl)
theorem dX0_layersIn_20 : decode cX0_layersIn 20 = .ok (.ireturn, 1) := dk_172 (dk_at dksX0_layersIn_0 20 rfl rfl)
abbrev cX0_isStale : ByteArray := method_22_code
def yX0_isStale : MethodName := ⟨RX0, "isStale", "(LCrateYard;ILCrateYardLaw$Out;)I"⟩
def dkwX0_isStale_1 : List UInt8 := [172]
abbrev dktX0_isStale_1 : List UInt8 := dkwX0_isStale_1 ++ []
def dkwX0_isStale_0 : List UInt8 := [44, 42, 27, 182, 0, 102, 153, 0, 7, 10, 167, 0, 4, 9, 181, 0, 13, 167, 0, 6, 78, 4, 172, 3]
abbrev dktX0_isStale_0 : List UInt8 := dkwX0_isStale_0 ++ dktX0_isStale_1
theorem dksX0_isStale_0 : cX0_isStale.data.toList.drop 0 = dktX0_isStale_0 := by decide +kernel
theorem dksX0_isStale_1 : cX0_isStale.data.toList.drop 24 = dktX0_isStale_1 := dk_seg dksX0_isStale_0 24 rfl rfl
theorem dX0_isStale_0 : decode cX0_isStale 0 = .ok (.aload_n 2, 1) := dk_44 (dk_at dksX0_isStale_0 0 rfl rfl)
theorem dX0_isStale_1 : decode cX0_isStale 1 = .ok (.aload_n 0, 1) := dk_42 (dk_at dksX0_isStale_0 1 rfl rfl)
theorem dX0_isStale_2 : decode cX0_isStale 2 = .ok (.iload_n 1, 1) := dk_27 (dk_at dksX0_isStale_0 2 rfl rfl)
theorem dX0_isStale_3 : decode cX0_isStale 3 = .ok (.invokevirtual 102, 3) := dk_182 0 102 (dk_at dksX0_isStale_0 3 rfl rfl)
theorem dX0_isStale_6 : decode cX0_isStale 6 = .ok (.ifCond .eq 7, 3) := dk_153 0 7 (dk_at dksX0_isStale_0 6 rfl rfl)
theorem dX0_isStale_9 : decode cX0_isStale 9 = .ok (.lconst 1, 1) := dk_10 (dk_at dksX0_isStale_0 9 rfl rfl)
theorem dX0_isStale_10 : decode cX0_isStale 10 = .ok (.goto 4, 3) := dk_167 0 4 (dk_at dksX0_isStale_0 10 rfl rfl)
theorem dX0_isStale_13 : decode cX0_isStale 13 = .ok (.lconst 0, 1) := dk_9 (dk_at dksX0_isStale_0 13 rfl rfl)
theorem dX0_isStale_14 : decode cX0_isStale 14 = .ok (.putfield 13, 3) := dk_181 0 13 (dk_at dksX0_isStale_0 14 rfl rfl)
theorem dX0_isStale_17 : decode cX0_isStale 17 = .ok (.goto 6, 3) := dk_167 0 6 (dk_at dksX0_isStale_0 17 rfl rfl)
theorem dX0_isStale_20 : decode cX0_isStale 20 = .ok (.astore_n 3, 1) := dk_78 (dk_at dksX0_isStale_0 20 rfl rfl)
theorem dX0_isStale_21 : decode cX0_isStale 21 = .ok (.iconst 1, 1) := dk_4 (dk_at dksX0_isStale_0 21 rfl rfl)
theorem dX0_isStale_22 : decode cX0_isStale 22 = .ok (.ireturn, 1) := dk_172 (dk_at dksX0_isStale_0 22 rfl rfl)
theorem dX0_isStale_23 : decode cX0_isStale 23 = .ok (.iconst 0, 1) := dk_3 (dk_at dksX0_isStale_0 23 rfl rfl)
theorem dX0_isStale_24 : decode cX0_isStale 24 = .ok (.ireturn, 1) := dk_172 (dk_at dksX0_isStale_1 0 rfl rfl)
abbrev cX0_isOpen : ByteArray := method_23_code
def yX0_isOpen : MethodName := ⟨RX0, "isOpen", "(LCrateYard;IILCrateYardLaw$Out;)I"⟩
def dkwX0_isOpen_1 : List UInt8 := [172, 3, 172]
abbrev dktX0_isOpen_1 : List UInt8 := dkwX0_isOpen_1 ++ []
def dkwX0_isOpen_0 : List UInt8 := [45, 42, 27, 28, 182, 0, 105, 153, 0, 7, 10, 167, 0, 4, 9, 181, 0, 13, 167, 0, 7, 58, 4, 4]
abbrev dktX0_isOpen_0 : List UInt8 := dkwX0_isOpen_0 ++ dktX0_isOpen_1
theorem dksX0_isOpen_0 : cX0_isOpen.data.toList.drop 0 = dktX0_isOpen_0 := by decide +kernel
theorem dksX0_isOpen_1 : cX0_isOpen.data.toList.drop 24 = dktX0_isOpen_1 := dk_seg dksX0_isOpen_0 24 rfl rfl
theorem dX0_isOpen_0 : decode cX0_isOpen 0 = .ok (.aload_n 3, 1) := dk_45 (dk_at dksX0_isOpen_0 0 rfl rfl)
theorem dX0_isOpen_1 : decode cX0_isOpen 1 = .ok (.aload_n 0, 1) := dk_42 (dk_at dksX0_isOpen_0 1 rfl rfl)
theorem dX0_isOpen_2 : decode cX0_isOpen 2 = .ok (.iload_n 1, 1) := dk_27 (dk_at dksX0_isOpen_0 2 rfl rfl)
theorem dX0_isOpen_3 : decode cX0_isOpen 3 = .ok (.iload_n 2, 1) := dk_28 (dk_at dksX0_isOpen_0 3 rfl rfl)
theorem dX0_isOpen_4 : decode cX0_isOpen 4 = .ok (.invokevirtual 105, 3) := dk_182 0 105 (dk_at dksX0_isOpen_0 4 rfl rfl)
theorem dX0_isOpen_7 : decode cX0_isOpen 7 = .ok (.ifCond .eq 7, 3) := dk_153 0 7 (dk_at dksX0_isOpen_0 7 rfl rfl)
theorem dX0_isOpen_10 : decode cX0_isOpen 10 = .ok (.lconst 1, 1) := dk_10 (dk_at dksX0_isOpen_0 10 rfl rfl)
theorem dX0_isOpen_11 : decode cX0_isOpen 11 = .ok (.goto 4, 3) := dk_167 0 4 (dk_at dksX0_isOpen_0 11 rfl rfl)
theorem dX0_isOpen_14 : decode cX0_isOpen 14 = .ok (.lconst 0, 1) := dk_9 (dk_at dksX0_isOpen_0 14 rfl rfl)
theorem dX0_isOpen_15 : decode cX0_isOpen 15 = .ok (.putfield 13, 3) := dk_181 0 13 (dk_at dksX0_isOpen_0 15 rfl rfl)
theorem dX0_isOpen_18 : decode cX0_isOpen 18 = .ok (.goto 7, 3) := dk_167 0 7 (dk_at dksX0_isOpen_0 18 rfl rfl)
theorem dX0_isOpen_21 : decode cX0_isOpen 21 = .ok (.astore 4, 2) := dk_58 4 (dk_at dksX0_isOpen_0 21 rfl rfl)
theorem dX0_isOpen_23 : decode cX0_isOpen 23 = .ok (.iconst 1, 1) := dk_4 (dk_at dksX0_isOpen_0 23 rfl rfl)
theorem dX0_isOpen_24 : decode cX0_isOpen 24 = .ok (.ireturn, 1) := dk_172 (dk_at dksX0_isOpen_1 0 rfl rfl)
theorem dX0_isOpen_25 : decode cX0_isOpen 25 = .ok (.iconst 0, 1) := dk_3 (dk_at dksX0_isOpen_1 1 rfl rfl)
theorem dX0_isOpen_26 : decode cX0_isOpen 26 = .ok (.ireturn, 1) := dk_172 (dk_at dksX0_isOpen_1 2 rfl rfl)
abbrev cX0_nextOpen : ByteArray := method_24_code
def yX0_nextOpen : MethodName := ⟨RX0, "nextOpen", "(LCrateYard;ILCrateYardLaw$Out;)I"⟩
def dkwX0_nextOpen_0 : List UInt8 := [44, 42, 27, 182, 0, 109, 133, 181, 0, 13, 167, 0, 9, 78, 4, 172, 78, 5, 172, 3, 172]
abbrev dktX0_nextOpen_0 : List UInt8 := dkwX0_nextOpen_0 ++ []
theorem dksX0_nextOpen_0 : cX0_nextOpen.data.toList.drop 0 = dktX0_nextOpen_0 := by decide +kernel
theorem dX0_nextOpen_0 : decode cX0_nextOpen 0 = .ok (.aload_n 2, 1) := dk_44 (dk_at dksX0_nextOpen_0 0 rfl rfl)
theorem dX0_nextOpen_1 : decode cX0_nextOpen 1 = .ok (.aload_n 0, 1) := dk_42 (dk_at dksX0_nextOpen_0 1 rfl rfl)
theorem dX0_nextOpen_2 : decode cX0_nextOpen 2 = .ok (.iload_n 1, 1) := dk_27 (dk_at dksX0_nextOpen_0 2 rfl rfl)
theorem dX0_nextOpen_3 : decode cX0_nextOpen 3 = .ok (.invokevirtual 109, 3) := dk_182 0 109 (dk_at dksX0_nextOpen_0 3 rfl rfl)
theorem dX0_nextOpen_6 : decode cX0_nextOpen 6 = .ok (.i2l, 1) := dk_133 (dk_at dksX0_nextOpen_0 6 rfl rfl)
theorem dX0_nextOpen_7 : decode cX0_nextOpen 7 = .ok (.putfield 13, 3) := dk_181 0 13 (dk_at dksX0_nextOpen_0 7 rfl rfl)
theorem dX0_nextOpen_10 : decode cX0_nextOpen 10 = .ok (.goto 9, 3) := dk_167 0 9 (dk_at dksX0_nextOpen_0 10 rfl rfl)
theorem dX0_nextOpen_13 : decode cX0_nextOpen 13 = .ok (.astore_n 3, 1) := dk_78 (dk_at dksX0_nextOpen_0 13 rfl rfl)
theorem dX0_nextOpen_14 : decode cX0_nextOpen 14 = .ok (.iconst 1, 1) := dk_4 (dk_at dksX0_nextOpen_0 14 rfl rfl)
theorem dX0_nextOpen_15 : decode cX0_nextOpen 15 = .ok (.ireturn, 1) := dk_172 (dk_at dksX0_nextOpen_0 15 rfl rfl)
theorem dX0_nextOpen_16 : decode cX0_nextOpen 16 = .ok (.astore_n 3, 1) := dk_78 (dk_at dksX0_nextOpen_0 16 rfl rfl)
theorem dX0_nextOpen_17 : decode cX0_nextOpen 17 = .ok (.iconst 2, 1) := dk_5 (dk_at dksX0_nextOpen_0 17 rfl rfl)
theorem dX0_nextOpen_18 : decode cX0_nextOpen 18 = .ok (.ireturn, 1) := dk_172 (dk_at dksX0_nextOpen_0 18 rfl rfl)
theorem dX0_nextOpen_19 : decode cX0_nextOpen 19 = .ok (.iconst 0, 1) := dk_3 (dk_at dksX0_nextOpen_0 19 rfl rfl)
theorem dX0_nextOpen_20 : decode cX0_nextOpen 20 = .ok (.ireturn, 1) := dk_172 (dk_at dksX0_nextOpen_0 20 rfl rfl)
abbrev cX0_freeCores : ByteArray := method_25_code
def yX0_freeCores : MethodName := ⟨RX0, "freeCores", "(LCrateYard;ILCrateYardLaw$Out;)I"⟩
def dkwX0_freeCores_0 : List UInt8 := [44, 42, 27, 182, 0, 112, 133, 181, 0, 13, 167, 0, 6, 78, 4, 172, 3, 172]
abbrev dktX0_freeCores_0 : List UInt8 := dkwX0_freeCores_0 ++ []
theorem dksX0_freeCores_0 : cX0_freeCores.data.toList.drop 0 = dktX0_freeCores_0 := by decide +kernel
theorem dX0_freeCores_0 : decode cX0_freeCores 0 = .ok (.aload_n 2, 1) := dk_44 (dk_at dksX0_freeCores_0 0 rfl rfl)
theorem dX0_freeCores_1 : decode cX0_freeCores 1 = .ok (.aload_n 0, 1) := dk_42 (dk_at dksX0_freeCores_0 1 rfl rfl)
theorem dX0_freeCores_2 : decode cX0_freeCores 2 = .ok (.iload_n 1, 1) := dk_27 (dk_at dksX0_freeCores_0 2 rfl rfl)
theorem dX0_freeCores_3 : decode cX0_freeCores 3 = .ok (.invokevirtual 112, 3) := dk_182 0 112 (dk_at dksX0_freeCores_0 3 rfl rfl)
theorem dX0_freeCores_6 : decode cX0_freeCores 6 = .ok (.i2l, 1) := dk_133 (dk_at dksX0_freeCores_0 6 rfl rfl)
theorem dX0_freeCores_7 : decode cX0_freeCores 7 = .ok (.putfield 13, 3) := dk_181 0 13 (dk_at dksX0_freeCores_0 7 rfl rfl)
theorem dX0_freeCores_10 : decode cX0_freeCores 10 = .ok (.goto 6, 3) := dk_167 0 6 (dk_at dksX0_freeCores_0 10 rfl rfl)
theorem dX0_freeCores_13 : decode cX0_freeCores 13 = .ok (.astore_n 3, 1) := dk_78 (dk_at dksX0_freeCores_0 13 rfl rfl)
theorem dX0_freeCores_14 : decode cX0_freeCores 14 = .ok (.iconst 1, 1) := dk_4 (dk_at dksX0_freeCores_0 14 rfl rfl)
theorem dX0_freeCores_15 : decode cX0_freeCores 15 = .ok (.ireturn, 1) := dk_172 (dk_at dksX0_freeCores_0 15 rfl rfl)
theorem dX0_freeCores_16 : decode cX0_freeCores 16 = .ok (.iconst 0, 1) := dk_3 (dk_at dksX0_freeCores_0 16 rfl rfl)
theorem dX0_freeCores_17 : decode cX0_freeCores 17 = .ok (.ireturn, 1) := dk_172 (dk_at dksX0_freeCores_0 17 rfl rfl)
abbrev cX0_freeByContainers : ByteArray := method_26_code
def yX0_freeByContainers : MethodName := ⟨RX0, "freeByContainers", "(LCrateYard;ILCrateYardLaw$Out;)I"⟩
def dkwX0_freeByContainers_0 : List UInt8 := [44, 42, 27, 182, 0, 115, 133, 181, 0, 13, 167, 0, 6, 78, 4, 172, 3, 172]
abbrev dktX0_freeByContainers_0 : List UInt8 := dkwX0_freeByContainers_0 ++ []
theorem dksX0_freeByContainers_0 : cX0_freeByContainers.data.toList.drop 0 = dktX0_freeByContainers_0 := by decide +kernel
theorem dX0_freeByContainers_0 : decode cX0_freeByContainers 0 = .ok (.aload_n 2, 1) := dk_44 (dk_at dksX0_freeByContainers_0 0 rfl rfl)
theorem dX0_freeByContainers_1 : decode cX0_freeByContainers 1 = .ok (.aload_n 0, 1) := dk_42 (dk_at dksX0_freeByContainers_0 1 rfl rfl)
theorem dX0_freeByContainers_2 : decode cX0_freeByContainers 2 = .ok (.iload_n 1, 1) := dk_27 (dk_at dksX0_freeByContainers_0 2 rfl rfl)
theorem dX0_freeByContainers_3 : decode cX0_freeByContainers 3 = .ok (.invokevirtual 115, 3) := dk_182 0 115 (dk_at dksX0_freeByContainers_0 3 rfl rfl)
theorem dX0_freeByContainers_6 : decode cX0_freeByContainers 6 = .ok (.i2l, 1) := dk_133 (dk_at dksX0_freeByContainers_0 6 rfl rfl)
theorem dX0_freeByContainers_7 : decode cX0_freeByContainers 7 = .ok (.putfield 13, 3) := dk_181 0 13 (dk_at dksX0_freeByContainers_0 7 rfl rfl)
theorem dX0_freeByContainers_10 : decode cX0_freeByContainers 10 = .ok (.goto 6, 3) := dk_167 0 6 (dk_at dksX0_freeByContainers_0 10 rfl rfl)
theorem dX0_freeByContainers_13 : decode cX0_freeByContainers 13 = .ok (.astore_n 3, 1) := dk_78 (dk_at dksX0_freeByContainers_0 13 rfl rfl)
theorem dX0_freeByContainers_14 : decode cX0_freeByContainers 14 = .ok (.iconst 1, 1) := dk_4 (dk_at dksX0_freeByContainers_0 14 rfl rfl)
theorem dX0_freeByContainers_15 : decode cX0_freeByContainers 15 = .ok (.ireturn, 1) := dk_172 (dk_at dksX0_freeByContainers_0 15 rfl rfl)
theorem dX0_freeByContainers_16 : decode cX0_freeByContainers 16 = .ok (.iconst 0, 1) := dk_3 (dk_at dksX0_freeByContainers_0 16 rfl rfl)
theorem dX0_freeByContainers_17 : decode cX0_freeByContainers 17 = .ok (.ireturn, 1) := dk_172 (dk_at dksX0_freeByContainers_0 17 rfl rfl)
abbrev cX0_freeMemory : ByteArray := method_27_code
def yX0_freeMemory : MethodName := ⟨RX0, "freeMemory", "(LCrateYard;ILCrateYardLaw$Out;)I"⟩
def dkwX0_freeMemory_0 : List UInt8 := [44, 42, 27, 182, 0, 118, 133, 181, 0, 13, 167, 0, 6, 78, 4, 172, 3, 172]
abbrev dktX0_freeMemory_0 : List UInt8 := dkwX0_freeMemory_0 ++ []
theorem dksX0_freeMemory_0 : cX0_freeMemory.data.toList.drop 0 = dktX0_freeMemory_0 := by decide +kernel
theorem dX0_freeMemory_0 : decode cX0_freeMemory 0 = .ok (.aload_n 2, 1) := dk_44 (dk_at dksX0_freeMemory_0 0 rfl rfl)
theorem dX0_freeMemory_1 : decode cX0_freeMemory 1 = .ok (.aload_n 0, 1) := dk_42 (dk_at dksX0_freeMemory_0 1 rfl rfl)
theorem dX0_freeMemory_2 : decode cX0_freeMemory 2 = .ok (.iload_n 1, 1) := dk_27 (dk_at dksX0_freeMemory_0 2 rfl rfl)
theorem dX0_freeMemory_3 : decode cX0_freeMemory 3 = .ok (.invokevirtual 118, 3) := dk_182 0 118 (dk_at dksX0_freeMemory_0 3 rfl rfl)
theorem dX0_freeMemory_6 : decode cX0_freeMemory 6 = .ok (.i2l, 1) := dk_133 (dk_at dksX0_freeMemory_0 6 rfl rfl)
theorem dX0_freeMemory_7 : decode cX0_freeMemory 7 = .ok (.putfield 13, 3) := dk_181 0 13 (dk_at dksX0_freeMemory_0 7 rfl rfl)
theorem dX0_freeMemory_10 : decode cX0_freeMemory 10 = .ok (.goto 6, 3) := dk_167 0 6 (dk_at dksX0_freeMemory_0 10 rfl rfl)
theorem dX0_freeMemory_13 : decode cX0_freeMemory 13 = .ok (.astore_n 3, 1) := dk_78 (dk_at dksX0_freeMemory_0 13 rfl rfl)
theorem dX0_freeMemory_14 : decode cX0_freeMemory 14 = .ok (.iconst 1, 1) := dk_4 (dk_at dksX0_freeMemory_0 14 rfl rfl)
theorem dX0_freeMemory_15 : decode cX0_freeMemory 15 = .ok (.ireturn, 1) := dk_172 (dk_at dksX0_freeMemory_0 15 rfl rfl)
theorem dX0_freeMemory_16 : decode cX0_freeMemory 16 = .ok (.iconst 0, 1) := dk_3 (dk_at dksX0_freeMemory_0 16 rfl rfl)
theorem dX0_freeMemory_17 : decode cX0_freeMemory 17 = .ok (.ireturn, 1) := dk_172 (dk_at dksX0_freeMemory_0 17 rfl rfl)
abbrev cX0_line : ByteArray := method_28_code
def yX0_line : MethodName := ⟨RX0, "line", "(LCrateYard;ILCrateYardLaw$Out;)I"⟩
def dkwX0_line_0 : List UInt8 := [44, 42, 27, 182, 0, 121, 181, 0, 125, 167, 0, 6, 78, 4, 172, 3, 172]
abbrev dktX0_line_0 : List UInt8 := dkwX0_line_0 ++ []
theorem dksX0_line_0 : cX0_line.data.toList.drop 0 = dktX0_line_0 := by decide +kernel
theorem dX0_line_0 : decode cX0_line 0 = .ok (.aload_n 2, 1) := dk_44 (dk_at dksX0_line_0 0 rfl rfl)
theorem dX0_line_1 : decode cX0_line 1 = .ok (.aload_n 0, 1) := dk_42 (dk_at dksX0_line_0 1 rfl rfl)
theorem dX0_line_2 : decode cX0_line 2 = .ok (.iload_n 1, 1) := dk_27 (dk_at dksX0_line_0 2 rfl rfl)
theorem dX0_line_3 : decode cX0_line 3 = .ok (.invokevirtual 121, 3) := dk_182 0 121 (dk_at dksX0_line_0 3 rfl rfl)
theorem dX0_line_6 : decode cX0_line 6 = .ok (.putfield 125, 3) := dk_181 0 125 (dk_at dksX0_line_0 6 rfl rfl)
theorem dX0_line_9 : decode cX0_line 9 = .ok (.goto 6, 3) := dk_167 0 6 (dk_at dksX0_line_0 9 rfl rfl)
theorem dX0_line_12 : decode cX0_line 12 = .ok (.astore_n 3, 1) := dk_78 (dk_at dksX0_line_0 12 rfl rfl)
theorem dX0_line_13 : decode cX0_line 13 = .ok (.iconst 1, 1) := dk_4 (dk_at dksX0_line_0 13 rfl rfl)
theorem dX0_line_14 : decode cX0_line 14 = .ok (.ireturn, 1) := dk_172 (dk_at dksX0_line_0 14 rfl rfl)
theorem dX0_line_15 : decode cX0_line 15 = .ok (.iconst 0, 1) := dk_3 (dk_at dksX0_line_0 15 rfl rfl)
theorem dX0_line_16 : decode cX0_line 16 = .ok (.ireturn, 1) := dk_172 (dk_at dksX0_line_0 16 rfl rfl)
abbrev cX0_runningShare : ByteArray := method_29_code
def yX0_runningShare : MethodName := ⟨RX0, "runningShare", "(LCrateYard;LCrateYardLaw$Out;)I"⟩
def dkwX0_runningShare_0 : List UInt8 := [43, 42, 182, 0, 129, 141, 181, 0, 133, 167, 0, 6, 77, 4, 172, 3, 172]
abbrev dktX0_runningShare_0 : List UInt8 := dkwX0_runningShare_0 ++ []
theorem dksX0_runningShare_0 : cX0_runningShare.data.toList.drop 0 = dktX0_runningShare_0 := by decide +kernel
theorem dX0_runningShare_0 : decode cX0_runningShare 0 = .ok (.aload_n 1, 1) := dk_43 (dk_at dksX0_runningShare_0 0 rfl rfl)
theorem dX0_runningShare_1 : decode cX0_runningShare 1 = .ok (.aload_n 0, 1) := dk_42 (dk_at dksX0_runningShare_0 1 rfl rfl)
theorem dX0_runningShare_2 : decode cX0_runningShare 2 = .ok (.invokevirtual 129, 3) := dk_182 0 129 (dk_at dksX0_runningShare_0 2 rfl rfl)
theorem dX0_runningShare_5 : decode cX0_runningShare 5 = .ok (.f2d, 1) := dk_141 (dk_at dksX0_runningShare_0 5 rfl rfl)
theorem dX0_runningShare_6 : decode cX0_runningShare 6 = .ok (.putfield 133, 3) := dk_181 0 133 (dk_at dksX0_runningShare_0 6 rfl rfl)
theorem dX0_runningShare_9 : decode cX0_runningShare 9 = .ok (.goto 6, 3) := dk_167 0 6 (dk_at dksX0_runningShare_0 9 rfl rfl)
theorem dX0_runningShare_12 : decode cX0_runningShare 12 = .ok (.astore_n 2, 1) := dk_77 (dk_at dksX0_runningShare_0 12 rfl rfl)
theorem dX0_runningShare_13 : decode cX0_runningShare 13 = .ok (.iconst 1, 1) := dk_4 (dk_at dksX0_runningShare_0 13 rfl rfl)
theorem dX0_runningShare_14 : decode cX0_runningShare 14 = .ok (.ireturn, 1) := dk_172 (dk_at dksX0_runningShare_0 14 rfl rfl)
theorem dX0_runningShare_15 : decode cX0_runningShare 15 = .ok (.iconst 0, 1) := dk_3 (dk_at dksX0_runningShare_0 15 rfl rfl)
theorem dX0_runningShare_16 : decode cX0_runningShare 16 = .ok (.ireturn, 1) := dk_172 (dk_at dksX0_runningShare_0 16 rfl rfl)
abbrev cX0_meanCores : ByteArray := method_30_code
def yX0_meanCores : MethodName := ⟨RX0, "meanCores", "(LCrateYard;LCrateYardLaw$Out;)I"⟩
def dkwX0_meanCores_0 : List UInt8 := [43, 42, 182, 0, 139, 181, 0, 133, 167, 0, 6, 77, 4, 172, 3, 172]
abbrev dktX0_meanCores_0 : List UInt8 := dkwX0_meanCores_0 ++ []
theorem dksX0_meanCores_0 : cX0_meanCores.data.toList.drop 0 = dktX0_meanCores_0 := by decide +kernel
theorem dX0_meanCores_0 : decode cX0_meanCores 0 = .ok (.aload_n 1, 1) := dk_43 (dk_at dksX0_meanCores_0 0 rfl rfl)
theorem dX0_meanCores_1 : decode cX0_meanCores 1 = .ok (.aload_n 0, 1) := dk_42 (dk_at dksX0_meanCores_0 1 rfl rfl)
theorem dX0_meanCores_2 : decode cX0_meanCores 2 = .ok (.invokevirtual 139, 3) := dk_182 0 139 (dk_at dksX0_meanCores_0 2 rfl rfl)
theorem dX0_meanCores_5 : decode cX0_meanCores 5 = .ok (.putfield 133, 3) := dk_181 0 133 (dk_at dksX0_meanCores_0 5 rfl rfl)
theorem dX0_meanCores_8 : decode cX0_meanCores 8 = .ok (.goto 6, 3) := dk_167 0 6 (dk_at dksX0_meanCores_0 8 rfl rfl)
theorem dX0_meanCores_11 : decode cX0_meanCores 11 = .ok (.astore_n 2, 1) := dk_77 (dk_at dksX0_meanCores_0 11 rfl rfl)
theorem dX0_meanCores_12 : decode cX0_meanCores 12 = .ok (.iconst 1, 1) := dk_4 (dk_at dksX0_meanCores_0 12 rfl rfl)
theorem dX0_meanCores_13 : decode cX0_meanCores 13 = .ok (.ireturn, 1) := dk_172 (dk_at dksX0_meanCores_0 13 rfl rfl)
theorem dX0_meanCores_14 : decode cX0_meanCores 14 = .ok (.iconst 0, 1) := dk_3 (dk_at dksX0_meanCores_0 14 rfl rfl)
theorem dX0_meanCores_15 : decode cX0_meanCores 15 = .ok (.ireturn, 1) := dk_172 (dk_at dksX0_meanCores_0 15 rfl rfl)
theorem q33 : (Jvm.Cond.initialized "CrateYardLaw") ∈ lw_all := lw_g (lw_at lw_m1 0 rfl) rfl
theorem q75 : (Jvm.Cond.classLink "CrateYardLaw" (8 : Nat) "CrateYard") ∈ lw_all := lw_g (lw_at lw_m1 42 rfl) rfl
theorem q77 : (Jvm.Cond.methodLink "CrateYardLaw" (143 : Nat) ({ cls := "CrateYard", name := "<init>", desc := "()V" } : Jvm.MethodName)) ∈ lw_all := lw_g (lw_at lw_m1 44 rfl) rfl
theorem q159 : (Jvm.Cond.methodLink "CrateYardLaw" (205 : Nat) ({ cls := "CrateYard", name := "now", desc := "()I" } : Jvm.MethodName)) ∈ lw_all := lw_g (lw_at lw_m1 126 rfl) rfl
theorem q163 : (Jvm.Cond.methodLink "CrateYardLaw" (251 : Nat) ({ cls := "CrateYard", name := "licensed", desc := "()I" } : Jvm.MethodName)) ∈ lw_all := lw_g (lw_at lw_m1 130 rfl) rfl
theorem q167 : (Jvm.Cond.methodLink "CrateYardLaw" (255 : Nat) ({ cls := "CrateYard", name := "laidAnew", desc := "()I" } : Jvm.MethodName)) ∈ lw_all := lw_g (lw_at lw_m1 134 rfl) rfl
theorem q485 : (Jvm.Cond.methodLink "CrateYardLaw" (268 : Nat) ({ cls := "CrateYard", name := "starts", desc := "()J" } : Jvm.MethodName)) ∈ lw_all := lw_g (lw_at lw_m2 212 rfl) rfl
theorem q489 : (Jvm.Cond.classLink "CrateYardLaw" (14 : Nat) "CrateYardLaw$Out") ∈ lw_all := lw_g (lw_at lw_m2 216 rfl) rfl
theorem q491 : (Jvm.Cond.methodLinkNest "CrateYardLaw" (147 : Nat) ({ cls := "CrateYardLaw$Out", name := "<init>", desc := "()V" } : Jvm.MethodName) "CrateYardLaw") ∈ lw_tbl := lw_at lw_m2 218 rfl
theorem q495 : (Jvm.Cond.fieldLinkNest "CrateYardLaw" (13 : Nat) "CrateYardLaw$Out" "n" "J" "CrateYardLaw") ∈ lw_tbl := lw_at lw_m2 222 rfl
theorem q496 : (Jvm.Cond.fieldLinkNest "CrateYardLaw" (133 : Nat) "CrateYardLaw$Out" "d" "D" "CrateYardLaw") ∈ lw_tbl := lw_at lw_m2 223 rfl
theorem q497 : (Jvm.Cond.fieldLinkNest "CrateYardLaw" (125 : Nat) "CrateYardLaw$Out" "s" "Ljava/lang/String;" "CrateYardLaw") ∈ lw_tbl := lw_at lw_m2 224 rfl
theorem q498 : (Jvm.Cond.fieldLinkNest "CrateYardLaw" (60 : Nat) "CrateYardLaw$Out" "theState" "LState;" "CrateYardLaw") ∈ lw_tbl := lw_at lw_m2 225 rfl
theorem q499 : (Jvm.Cond.fieldLinkNest "CrateYardLaw" (92 : Nat) "CrateYardLaw$Out" "theBar" "LBar;" "CrateYardLaw") ∈ lw_tbl := lw_at lw_m2 226 rfl
theorem q511 : (Jvm.Cond.methodLink "CrateYardLaw" (148 : Nat) ({ cls := "CrateYardLaw", name := "addLayer", desc := "(LCrateYard;LCrateYardLaw$Out;)I" } : Jvm.MethodName)) ∈ lw_all := lw_g (lw_at lw_m2 238 rfl) rfl
theorem q512 : (Jvm.Cond.static ({ cls := "CrateYardLaw", name := "addLayer", desc := "(LCrateYard;LCrateYardLaw$Out;)I" } : Jvm.MethodName)) ∈ lw_all := lw_g (lw_at lw_m2 239 rfl) rfl
theorem q513 : (Jvm.Cond.codeWith ({ cls := "CrateYardLaw", name := "addLayer", desc := "(LCrateYard;LCrateYardLaw$Out;)I" } : Jvm.MethodName) method_2_code (3 : Nat) (Option.some Jvm.ClassFile.FieldType.int) [((0 : Nat), (9 : Nat), (12 : Nat), (19 : Nat))]) ∈ lw_all := lw_g (lw_at lw_m3 0 rfl) rfl
theorem q514 : (Jvm.Cond.classLink "CrateYardLaw" (19 : Nat) "java/lang/IllegalStateException") ∈ lw_all := lw_g (lw_at lw_m3 1 rfl) rfl
theorem q515 : (Jvm.Cond.methodLink "CrateYardLaw" (7 : Nat) ({ cls := "CrateYard", name := "addLayer", desc := "()I" } : Jvm.MethodName)) ∈ lw_all := lw_g (lw_at lw_m3 2 rfl) rfl
theorem q570 : (Jvm.Cond.methodLink "CrateYardLaw" (157 : Nat) ({ cls := "CrateYardLaw", name := "addImage", desc := "(LCrateYard;IILCrateYardLaw$Out;)I" } : Jvm.MethodName)) ∈ lw_all := lw_g (lw_at lw_m3 57 rfl) rfl
theorem q571 : (Jvm.Cond.static ({ cls := "CrateYardLaw", name := "addImage", desc := "(LCrateYard;IILCrateYardLaw$Out;)I" } : Jvm.MethodName)) ∈ lw_all := lw_g (lw_at lw_m3 58 rfl) rfl
theorem q572 : (Jvm.Cond.codeWith ({ cls := "CrateYardLaw", name := "addImage", desc := "(LCrateYard;IILCrateYardLaw$Out;)I" } : Jvm.MethodName) method_3_code (5 : Nat) (Option.some Jvm.ClassFile.FieldType.int) [((0 : Nat), (11 : Nat), (14 : Nat), (25 : Nat)), ((0 : Nat), (11 : Nat), (18 : Nat), (27 : Nat)), ((0 : Nat), (11 : Nat), (22 : Nat), (19 : Nat))]) ∈ lw_all := lw_g (lw_at lw_m3 59 rfl) rfl
theorem q573 : (Jvm.Cond.classLink "CrateYardLaw" (25 : Nat) "java/lang/IndexOutOfBoundsException") ∈ lw_all := lw_g (lw_at lw_m3 60 rfl) rfl
theorem q606 : (Jvm.Cond.classLink "CrateYardLaw" (27 : Nat) "java/lang/UnsupportedOperationException") ∈ lw_all := lw_g (lw_at lw_m3 93 rfl) rfl
theorem q607 : (Jvm.Cond.methodLink "CrateYardLaw" (21 : Nat) ({ cls := "CrateYard", name := "addImage", desc := "(II)I" } : Jvm.MethodName)) ∈ lw_all := lw_g (lw_at lw_m3 94 rfl) rfl
theorem q689 : (Jvm.Cond.methodLink "CrateYardLaw" (161 : Nat) ({ cls := "CrateYardLaw", name := "patch", desc := "(LCrateYard;IILCrateYardLaw$Out;)I" } : Jvm.MethodName)) ∈ lw_all := lw_g (lw_at lw_m3 176 rfl) rfl
theorem q690 : (Jvm.Cond.static ({ cls := "CrateYardLaw", name := "patch", desc := "(LCrateYard;IILCrateYardLaw$Out;)I" } : Jvm.MethodName)) ∈ lw_all := lw_g (lw_at lw_m3 177 rfl) rfl
theorem q691 : (Jvm.Cond.codeWith ({ cls := "CrateYardLaw", name := "patch", desc := "(LCrateYard;IILCrateYardLaw$Out;)I" } : Jvm.MethodName) method_4_code (5 : Nat) (Option.some Jvm.ClassFile.FieldType.int) [((0 : Nat), (11 : Nat), (14 : Nat), (25 : Nat)), ((0 : Nat), (11 : Nat), (18 : Nat), (27 : Nat)), ((0 : Nat), (11 : Nat), (22 : Nat), (32 : Nat))]) ∈ lw_all := lw_g (lw_at lw_m3 178 rfl) rfl
theorem q692 : (Jvm.Cond.classLink "CrateYardLaw" (32 : Nat) "java/lang/IllegalArgumentException") ∈ lw_all := lw_g (lw_at lw_m3 179 rfl) rfl
theorem q693 : (Jvm.Cond.methodLink "CrateYardLaw" (29 : Nat) ({ cls := "CrateYard", name := "patch", desc := "(II)I" } : Jvm.MethodName)) ∈ lw_all := lw_g (lw_at lw_m3 180 rfl) rfl
theorem q728 : (Jvm.Cond.methodLink "CrateYardLaw" (164 : Nat) ({ cls := "CrateYardLaw", name := "withdraw", desc := "(LCrateYard;IILCrateYardLaw$Out;)I" } : Jvm.MethodName)) ∈ lw_all := lw_g (lw_at lw_m3 215 rfl) rfl
theorem q729 : (Jvm.Cond.static ({ cls := "CrateYardLaw", name := "withdraw", desc := "(LCrateYard;IILCrateYardLaw$Out;)I" } : Jvm.MethodName)) ∈ lw_all := lw_g (lw_at lw_m3 216 rfl) rfl
theorem q730 : (Jvm.Cond.codeWith ({ cls := "CrateYardLaw", name := "withdraw", desc := "(LCrateYard;IILCrateYardLaw$Out;)I" } : Jvm.MethodName) method_5_code (5 : Nat) (Option.some Jvm.ClassFile.FieldType.int) [((0 : Nat), (11 : Nat), (14 : Nat), (25 : Nat)), ((0 : Nat), (11 : Nat), (18 : Nat), (32 : Nat)), ((0 : Nat), (11 : Nat), (22 : Nat), (19 : Nat))]) ∈ lw_all := lw_g (lw_at lw_m3 217 rfl) rfl
theorem q731 : (Jvm.Cond.methodLink "CrateYardLaw" (34 : Nat) ({ cls := "CrateYard", name := "withdraw", desc := "(II)I" } : Jvm.MethodName)) ∈ lw_all := lw_g (lw_at lw_m3 218 rfl) rfl
theorem q738 : (Jvm.Cond.methodLink "CrateYardLaw" (172 : Nat) ({ cls := "CrateYardLaw", name := "addHost", desc := "(LCrateYard;LNeed;LCrateYardLaw$Out;)I" } : Jvm.MethodName)) ∈ lw_all := lw_g (lw_at lw_m3 225 rfl) rfl
theorem q739 : (Jvm.Cond.static ({ cls := "CrateYardLaw", name := "addHost", desc := "(LCrateYard;LNeed;LCrateYardLaw$Out;)I" } : Jvm.MethodName)) ∈ lw_all := lw_g (lw_at lw_m3 226 rfl) rfl
theorem q740 : (Jvm.Cond.codeWith ({ cls := "CrateYardLaw", name := "addHost", desc := "(LCrateYard;LNeed;LCrateYardLaw$Out;)I" } : Jvm.MethodName) method_6_code (4 : Nat) (Option.some Jvm.ClassFile.FieldType.int) [((0 : Nat), (10 : Nat), (13 : Nat), (32 : Nat)), ((0 : Nat), (10 : Nat), (16 : Nat), (19 : Nat))]) ∈ lw_all := lw_g (lw_at lw_m3 227 rfl) rfl
theorem q741 : (Jvm.Cond.methodLink "CrateYardLaw" (37 : Nat) ({ cls := "CrateYard", name := "addHost", desc := "(LNeed;)I" } : Jvm.MethodName)) ∈ lw_all := lw_g (lw_at lw_m3 228 rfl) rfl
theorem q752 : (Jvm.Cond.methodLink "CrateYardLaw" (181 : Nat) ({ cls := "CrateYardLaw", name := "addWindow", desc := "(LCrateYard;LWindow;LCrateYardLaw$Out;)I" } : Jvm.MethodName)) ∈ lw_all := lw_g (lw_at lw_m3 239 rfl) rfl
theorem q753 : (Jvm.Cond.static ({ cls := "CrateYardLaw", name := "addWindow", desc := "(LCrateYard;LWindow;LCrateYardLaw$Out;)I" } : Jvm.MethodName)) ∈ lw_all := lw_g (lw_at lw_m4 0 rfl) rfl
theorem q754 : (Jvm.Cond.codeWith ({ cls := "CrateYardLaw", name := "addWindow", desc := "(LCrateYard;LWindow;LCrateYardLaw$Out;)I" } : Jvm.MethodName) method_7_code (4 : Nat) (Option.some Jvm.ClassFile.FieldType.int) [((0 : Nat), (10 : Nat), (13 : Nat), (32 : Nat)), ((0 : Nat), (10 : Nat), (16 : Nat), (19 : Nat))]) ∈ lw_all := lw_g (lw_at lw_m4 1 rfl) rfl
theorem q755 : (Jvm.Cond.methodLink "CrateYardLaw" (41 : Nat) ({ cls := "CrateYard", name := "addWindow", desc := "(LWindow;)I" } : Jvm.MethodName)) ∈ lw_all := lw_g (lw_at lw_m4 2 rfl) rfl
theorem q789 : (Jvm.Cond.methodLink "CrateYardLaw" (185 : Nat) ({ cls := "CrateYardLaw", name := "lend", desc := "(LCrateYard;IILCrateYardLaw$Out;)I" } : Jvm.MethodName)) ∈ lw_all := lw_g (lw_at lw_m4 36 rfl) rfl
theorem q790 : (Jvm.Cond.static ({ cls := "CrateYardLaw", name := "lend", desc := "(LCrateYard;IILCrateYardLaw$Out;)I" } : Jvm.MethodName)) ∈ lw_all := lw_g (lw_at lw_m4 37 rfl) rfl
theorem q791 : (Jvm.Cond.codeWith ({ cls := "CrateYardLaw", name := "lend", desc := "(LCrateYard;IILCrateYardLaw$Out;)I" } : Jvm.MethodName) method_8_code (5 : Nat) (Option.some Jvm.ClassFile.FieldType.int) [((0 : Nat), (11 : Nat), (14 : Nat), (25 : Nat)), ((0 : Nat), (11 : Nat), (18 : Nat), (32 : Nat))]) ∈ lw_all := lw_g (lw_at lw_m4 38 rfl) rfl
theorem q792 : (Jvm.Cond.methodLink "CrateYardLaw" (45 : Nat) ({ cls := "CrateYard", name := "lend", desc := "(II)I" } : Jvm.MethodName)) ∈ lw_all := lw_g (lw_at lw_m4 39 rfl) rfl
theorem q796 : (Jvm.Cond.methodLink "CrateYardLaw" (188 : Nat) ({ cls := "CrateYardLaw", name := "setLicence", desc := "(LCrateYard;ILCrateYardLaw$Out;)I" } : Jvm.MethodName)) ∈ lw_all := lw_g (lw_at lw_m4 43 rfl) rfl
theorem q797 : (Jvm.Cond.static ({ cls := "CrateYardLaw", name := "setLicence", desc := "(LCrateYard;ILCrateYardLaw$Out;)I" } : Jvm.MethodName)) ∈ lw_all := lw_g (lw_at lw_m4 44 rfl) rfl
theorem q798 : (Jvm.Cond.codeWith ({ cls := "CrateYardLaw", name := "setLicence", desc := "(LCrateYard;ILCrateYardLaw$Out;)I" } : Jvm.MethodName) method_9_code (4 : Nat) (Option.some Jvm.ClassFile.FieldType.int) [((0 : Nat), (10 : Nat), (13 : Nat), (32 : Nat))]) ∈ lw_all := lw_g (lw_at lw_m4 45 rfl) rfl
theorem q799 : (Jvm.Cond.methodLink "CrateYardLaw" (48 : Nat) ({ cls := "CrateYard", name := "setLicence", desc := "(I)I" } : Jvm.MethodName)) ∈ lw_all := lw_g (lw_at lw_m4 46 rfl) rfl
theorem q817 : (Jvm.Cond.methodLink "CrateYardLaw" (192 : Nat) ({ cls := "CrateYardLaw", name := "addContainer", desc := "(LCrateYard;IILNeed;LCrateYardLaw$Out;)I" } : Jvm.MethodName)) ∈ lw_all := lw_g (lw_at lw_m4 64 rfl) rfl
theorem q818 : (Jvm.Cond.static ({ cls := "CrateYardLaw", name := "addContainer", desc := "(LCrateYard;IILNeed;LCrateYardLaw$Out;)I" } : Jvm.MethodName)) ∈ lw_all := lw_g (lw_at lw_m4 65 rfl) rfl
theorem q819 : (Jvm.Cond.codeWith ({ cls := "CrateYardLaw", name := "addContainer", desc := "(LCrateYard;IILNeed;LCrateYardLaw$Out;)I" } : Jvm.MethodName) method_10_code (6 : Nat) (Option.some Jvm.ClassFile.FieldType.int) [((0 : Nat), (13 : Nat), (16 : Nat), (32 : Nat)), ((0 : Nat), (13 : Nat), (20 : Nat), (25 : Nat)), ((0 : Nat), (13 : Nat), (24 : Nat), (19 : Nat))]) ∈ lw_all := lw_g (lw_at lw_m4 66 rfl) rfl
theorem q820 : (Jvm.Cond.methodLink "CrateYardLaw" (52 : Nat) ({ cls := "CrateYard", name := "addContainer", desc := "(IILNeed;)I" } : Jvm.MethodName)) ∈ lw_all := lw_g (lw_at lw_m4 67 rfl) rfl
theorem q869 : (Jvm.Cond.methodLink "CrateYardLaw" (196 : Nat) ({ cls := "CrateYardLaw", name := "stop", desc := "(LCrateYard;ILCrateYardLaw$Out;)I" } : Jvm.MethodName)) ∈ lw_all := lw_g (lw_at lw_m4 116 rfl) rfl
theorem q870 : (Jvm.Cond.static ({ cls := "CrateYardLaw", name := "stop", desc := "(LCrateYard;ILCrateYardLaw$Out;)I" } : Jvm.MethodName)) ∈ lw_all := lw_g (lw_at lw_m4 117 rfl) rfl
theorem q871 : (Jvm.Cond.codeWith ({ cls := "CrateYardLaw", name := "stop", desc := "(LCrateYard;ILCrateYardLaw$Out;)I" } : Jvm.MethodName) method_11_code (4 : Nat) (Option.some Jvm.ClassFile.FieldType.int) [((0 : Nat), (9 : Nat), (12 : Nat), (25 : Nat)), ((0 : Nat), (9 : Nat), (15 : Nat), (19 : Nat))]) ∈ lw_all := lw_g (lw_at lw_m4 118 rfl) rfl
theorem q872 : (Jvm.Cond.methodLink "CrateYardLaw" (56 : Nat) ({ cls := "CrateYard", name := "stop", desc := "(I)LState;" } : Jvm.MethodName)) ∈ lw_all := lw_g (lw_at lw_m4 119 rfl) rfl
theorem q882 : (Jvm.Cond.methodLink "CrateYardLaw" (199 : Nat) ({ cls := "CrateYardLaw", name := "fail", desc := "(LCrateYard;ILCrateYardLaw$Out;)I" } : Jvm.MethodName)) ∈ lw_all := lw_g (lw_at lw_m4 129 rfl) rfl
theorem q883 : (Jvm.Cond.static ({ cls := "CrateYardLaw", name := "fail", desc := "(LCrateYard;ILCrateYardLaw$Out;)I" } : Jvm.MethodName)) ∈ lw_all := lw_g (lw_at lw_m4 130 rfl) rfl
theorem q884 : (Jvm.Cond.codeWith ({ cls := "CrateYardLaw", name := "fail", desc := "(LCrateYard;ILCrateYardLaw$Out;)I" } : Jvm.MethodName) method_12_code (4 : Nat) (Option.some Jvm.ClassFile.FieldType.int) [((0 : Nat), (10 : Nat), (13 : Nat), (25 : Nat)), ((0 : Nat), (10 : Nat), (16 : Nat), (19 : Nat))]) ∈ lw_all := lw_g (lw_at lw_m4 131 rfl) rfl
theorem q885 : (Jvm.Cond.methodLink "CrateYardLaw" (64 : Nat) ({ cls := "CrateYard", name := "fail", desc := "(I)I" } : Jvm.MethodName)) ∈ lw_all := lw_g (lw_at lw_m4 132 rfl) rfl
theorem q899 : (Jvm.Cond.methodLink "CrateYardLaw" (202 : Nat) ({ cls := "CrateYardLaw", name := "pass", desc := "(LCrateYard;ILCrateYardLaw$Out;)I" } : Jvm.MethodName)) ∈ lw_all := lw_g (lw_at lw_m4 146 rfl) rfl
theorem q900 : (Jvm.Cond.static ({ cls := "CrateYardLaw", name := "pass", desc := "(LCrateYard;ILCrateYardLaw$Out;)I" } : Jvm.MethodName)) ∈ lw_all := lw_g (lw_at lw_m4 147 rfl) rfl
theorem q901 : (Jvm.Cond.codeWith ({ cls := "CrateYardLaw", name := "pass", desc := "(LCrateYard;ILCrateYardLaw$Out;)I" } : Jvm.MethodName) method_13_code (4 : Nat) (Option.some Jvm.ClassFile.FieldType.int) [((0 : Nat), (10 : Nat), (13 : Nat), (32 : Nat)), ((0 : Nat), (10 : Nat), (16 : Nat), (19 : Nat))]) ∈ lw_all := lw_g (lw_at lw_m4 148 rfl) rfl
theorem q902 : (Jvm.Cond.methodLink "CrateYardLaw" (67 : Nat) ({ cls := "CrateYard", name := "pass", desc := "(I)I" } : Jvm.MethodName)) ∈ lw_all := lw_g (lw_at lw_m4 149 rfl) rfl
theorem q938 : (Jvm.Cond.methodLink "CrateYardLaw" (209 : Nat) ({ cls := "CrateYardLaw", name := "layersOf", desc := "(LCrateYard;ILCrateYardLaw$Out;)I" } : Jvm.MethodName)) ∈ lw_all := lw_g (lw_at lw_m4 185 rfl) rfl
theorem q939 : (Jvm.Cond.static ({ cls := "CrateYardLaw", name := "layersOf", desc := "(LCrateYard;ILCrateYardLaw$Out;)I" } : Jvm.MethodName)) ∈ lw_all := lw_g (lw_at lw_m4 186 rfl) rfl
theorem q940 : (Jvm.Cond.codeWith ({ cls := "CrateYardLaw", name := "layersOf", desc := "(LCrateYard;ILCrateYardLaw$Out;)I" } : Jvm.MethodName) method_14_code (4 : Nat) (Option.some Jvm.ClassFile.FieldType.int) [((0 : Nat), (10 : Nat), (13 : Nat), (25 : Nat))]) ∈ lw_all := lw_g (lw_at lw_m4 187 rfl) rfl
theorem q941 : (Jvm.Cond.methodLink "CrateYardLaw" (70 : Nat) ({ cls := "CrateYard", name := "layersOf", desc := "(I)I" } : Jvm.MethodName)) ∈ lw_all := lw_g (lw_at lw_m4 188 rfl) rfl
theorem q945 : (Jvm.Cond.methodLink "CrateYardLaw" (212 : Nat) ({ cls := "CrateYardLaw", name := "uses", desc := "(LCrateYard;ILCrateYardLaw$Out;)I" } : Jvm.MethodName)) ∈ lw_all := lw_g (lw_at lw_m4 192 rfl) rfl
theorem q946 : (Jvm.Cond.static ({ cls := "CrateYardLaw", name := "uses", desc := "(LCrateYard;ILCrateYardLaw$Out;)I" } : Jvm.MethodName)) ∈ lw_all := lw_g (lw_at lw_m4 193 rfl) rfl
theorem q947 : (Jvm.Cond.codeWith ({ cls := "CrateYardLaw", name := "uses", desc := "(LCrateYard;ILCrateYardLaw$Out;)I" } : Jvm.MethodName) method_15_code (4 : Nat) (Option.some Jvm.ClassFile.FieldType.int) [((0 : Nat), (10 : Nat), (13 : Nat), (25 : Nat))]) ∈ lw_all := lw_g (lw_at lw_m4 194 rfl) rfl
theorem q948 : (Jvm.Cond.methodLink "CrateYardLaw" (73 : Nat) ({ cls := "CrateYard", name := "uses", desc := "(I)I" } : Jvm.MethodName)) ∈ lw_all := lw_g (lw_at lw_m4 195 rfl) rfl
theorem q952 : (Jvm.Cond.methodLink "CrateYardLaw" (215 : Nat) ({ cls := "CrateYardLaw", name := "isOut", desc := "(LCrateYard;ILCrateYardLaw$Out;)I" } : Jvm.MethodName)) ∈ lw_all := lw_g (lw_at lw_m4 199 rfl) rfl
theorem q953 : (Jvm.Cond.static ({ cls := "CrateYardLaw", name := "isOut", desc := "(LCrateYard;ILCrateYardLaw$Out;)I" } : Jvm.MethodName)) ∈ lw_all := lw_g (lw_at lw_m4 200 rfl) rfl
theorem q954 : (Jvm.Cond.codeWith ({ cls := "CrateYardLaw", name := "isOut", desc := "(LCrateYard;ILCrateYardLaw$Out;)I" } : Jvm.MethodName) method_16_code (4 : Nat) (Option.some Jvm.ClassFile.FieldType.int) [((0 : Nat), (17 : Nat), (20 : Nat), (25 : Nat))]) ∈ lw_all := lw_g (lw_at lw_m4 201 rfl) rfl
theorem q955 : (Jvm.Cond.methodLink "CrateYardLaw" (76 : Nat) ({ cls := "CrateYard", name := "isOut", desc := "(I)Z" } : Jvm.MethodName)) ∈ lw_all := lw_g (lw_at lw_m4 202 rfl) rfl
theorem q960 : (Jvm.Cond.methodLink "CrateYardLaw" (218 : Nat) ({ cls := "CrateYardLaw", name := "stateOf", desc := "(LCrateYard;ILCrateYardLaw$Out;)I" } : Jvm.MethodName)) ∈ lw_all := lw_g (lw_at lw_m4 207 rfl) rfl
theorem q961 : (Jvm.Cond.static ({ cls := "CrateYardLaw", name := "stateOf", desc := "(LCrateYard;ILCrateYardLaw$Out;)I" } : Jvm.MethodName)) ∈ lw_all := lw_g (lw_at lw_m4 208 rfl) rfl
theorem q962 : (Jvm.Cond.codeWith ({ cls := "CrateYardLaw", name := "stateOf", desc := "(LCrateYard;ILCrateYardLaw$Out;)I" } : Jvm.MethodName) method_17_code (4 : Nat) (Option.some Jvm.ClassFile.FieldType.int) [((0 : Nat), (9 : Nat), (12 : Nat), (25 : Nat))]) ∈ lw_all := lw_g (lw_at lw_m4 209 rfl) rfl
theorem q963 : (Jvm.Cond.methodLink "CrateYardLaw" (80 : Nat) ({ cls := "CrateYard", name := "stateOf", desc := "(I)LState;" } : Jvm.MethodName)) ∈ lw_all := lw_g (lw_at lw_m4 210 rfl) rfl
theorem q967 : (Jvm.Cond.methodLink "CrateYardLaw" (221 : Nat) ({ cls := "CrateYardLaw", name := "hostOf", desc := "(LCrateYard;ILCrateYardLaw$Out;)I" } : Jvm.MethodName)) ∈ lw_all := lw_g (lw_at lw_m4 214 rfl) rfl
theorem q968 : (Jvm.Cond.static ({ cls := "CrateYardLaw", name := "hostOf", desc := "(LCrateYard;ILCrateYardLaw$Out;)I" } : Jvm.MethodName)) ∈ lw_all := lw_g (lw_at lw_m4 215 rfl) rfl
theorem q969 : (Jvm.Cond.codeWith ({ cls := "CrateYardLaw", name := "hostOf", desc := "(LCrateYard;ILCrateYardLaw$Out;)I" } : Jvm.MethodName) method_18_code (4 : Nat) (Option.some Jvm.ClassFile.FieldType.int) [((0 : Nat), (10 : Nat), (13 : Nat), (25 : Nat)), ((0 : Nat), (10 : Nat), (16 : Nat), (86 : Nat))]) ∈ lw_all := lw_g (lw_at lw_m4 216 rfl) rfl
theorem q970 : (Jvm.Cond.classLink "CrateYardLaw" (86 : Nat) "java/util/NoSuchElementException") ∈ lw_all := lw_g (lw_at lw_m4 217 rfl) rfl
theorem q971 : (Jvm.Cond.methodLink "CrateYardLaw" (83 : Nat) ({ cls := "CrateYard", name := "hostOf", desc := "(I)I" } : Jvm.MethodName)) ∈ lw_all := lw_g (lw_at lw_m4 218 rfl) rfl
theorem q980 : (Jvm.Cond.methodLink "CrateYardLaw" (224 : Nat) ({ cls := "CrateYardLaw", name := "barOf", desc := "(LCrateYard;ILCrateYardLaw$Out;)I" } : Jvm.MethodName)) ∈ lw_all := lw_g (lw_at lw_m4 227 rfl) rfl
theorem q981 : (Jvm.Cond.static ({ cls := "CrateYardLaw", name := "barOf", desc := "(LCrateYard;ILCrateYardLaw$Out;)I" } : Jvm.MethodName)) ∈ lw_all := lw_g (lw_at lw_m4 228 rfl) rfl
theorem q982 : (Jvm.Cond.codeWith ({ cls := "CrateYardLaw", name := "barOf", desc := "(LCrateYard;ILCrateYardLaw$Out;)I" } : Jvm.MethodName) method_19_code (4 : Nat) (Option.some Jvm.ClassFile.FieldType.int) [((0 : Nat), (9 : Nat), (12 : Nat), (25 : Nat))]) ∈ lw_all := lw_g (lw_at lw_m4 229 rfl) rfl
theorem q983 : (Jvm.Cond.methodLink "CrateYardLaw" (88 : Nat) ({ cls := "CrateYard", name := "barOf", desc := "(I)LBar;" } : Jvm.MethodName)) ∈ lw_all := lw_g (lw_at lw_m4 230 rfl) rfl
theorem q989 : (Jvm.Cond.methodLink "CrateYardLaw" (227 : Nat) ({ cls := "CrateYardLaw", name := "restsUntil", desc := "(LCrateYard;ILCrateYardLaw$Out;)I" } : Jvm.MethodName)) ∈ lw_all := lw_g (lw_at lw_m4 236 rfl) rfl
theorem q990 : (Jvm.Cond.static ({ cls := "CrateYardLaw", name := "restsUntil", desc := "(LCrateYard;ILCrateYardLaw$Out;)I" } : Jvm.MethodName)) ∈ lw_all := lw_g (lw_at lw_m4 237 rfl) rfl
theorem q991 : (Jvm.Cond.codeWith ({ cls := "CrateYardLaw", name := "restsUntil", desc := "(LCrateYard;ILCrateYardLaw$Out;)I" } : Jvm.MethodName) method_20_code (4 : Nat) (Option.some Jvm.ClassFile.FieldType.int) [((0 : Nat), (10 : Nat), (13 : Nat), (25 : Nat)), ((0 : Nat), (10 : Nat), (16 : Nat), (86 : Nat))]) ∈ lw_all := lw_g (lw_at lw_m4 238 rfl) rfl
theorem q992 : (Jvm.Cond.methodLink "CrateYardLaw" (96 : Nat) ({ cls := "CrateYard", name := "restsUntil", desc := "(I)I" } : Jvm.MethodName)) ∈ lw_all := lw_g (lw_at lw_m4 239 rfl) rfl
theorem q996 : (Jvm.Cond.methodLink "CrateYardLaw" (230 : Nat) ({ cls := "CrateYardLaw", name := "layersIn", desc := "(LCrateYard;ILCrateYardLaw$Out;)I" } : Jvm.MethodName)) ∈ lw_all := lw_g (lw_at lw_m5 3 rfl) rfl
theorem q997 : (Jvm.Cond.static ({ cls := "CrateYardLaw", name := "layersIn", desc := "(LCrateYard;ILCrateYardLaw$Out;)I" } : Jvm.MethodName)) ∈ lw_all := lw_g (lw_at lw_m5 4 rfl) rfl
theorem q998 : (Jvm.Cond.codeWith ({ cls := "CrateYardLaw", name := "layersIn", desc := "(LCrateYard;ILCrateYardLaw$Out;)I" } : Jvm.MethodName) method_21_code (4 : Nat) (Option.some Jvm.ClassFile.FieldType.int) [((0 : Nat), (10 : Nat), (13 : Nat), (25 : Nat)), ((0 : Nat), (10 : Nat), (16 : Nat), (86 : Nat))]) ∈ lw_all := lw_g (lw_at lw_m5 5 rfl) rfl
theorem q999 : (Jvm.Cond.methodLink "CrateYardLaw" (99 : Nat) ({ cls := "CrateYard", name := "layersIn", desc := "(I)I" } : Jvm.MethodName)) ∈ lw_all := lw_g (lw_at lw_m5 6 rfl) rfl
theorem q1003 : (Jvm.Cond.methodLink "CrateYardLaw" (233 : Nat) ({ cls := "CrateYardLaw", name := "isStale", desc := "(LCrateYard;ILCrateYardLaw$Out;)I" } : Jvm.MethodName)) ∈ lw_all := lw_g (lw_at lw_m5 10 rfl) rfl
theorem q1004 : (Jvm.Cond.static ({ cls := "CrateYardLaw", name := "isStale", desc := "(LCrateYard;ILCrateYardLaw$Out;)I" } : Jvm.MethodName)) ∈ lw_all := lw_g (lw_at lw_m5 11 rfl) rfl
theorem q1005 : (Jvm.Cond.codeWith ({ cls := "CrateYardLaw", name := "isStale", desc := "(LCrateYard;ILCrateYardLaw$Out;)I" } : Jvm.MethodName) method_22_code (4 : Nat) (Option.some Jvm.ClassFile.FieldType.int) [((0 : Nat), (17 : Nat), (20 : Nat), (25 : Nat))]) ∈ lw_all := lw_g (lw_at lw_m5 12 rfl) rfl
theorem q1006 : (Jvm.Cond.methodLink "CrateYardLaw" (102 : Nat) ({ cls := "CrateYard", name := "isStale", desc := "(I)Z" } : Jvm.MethodName)) ∈ lw_all := lw_g (lw_at lw_m5 13 rfl) rfl
theorem q1010 : (Jvm.Cond.methodLink "CrateYardLaw" (236 : Nat) ({ cls := "CrateYardLaw", name := "isOpen", desc := "(LCrateYard;IILCrateYardLaw$Out;)I" } : Jvm.MethodName)) ∈ lw_all := lw_g (lw_at lw_m5 17 rfl) rfl
theorem q1011 : (Jvm.Cond.static ({ cls := "CrateYardLaw", name := "isOpen", desc := "(LCrateYard;IILCrateYardLaw$Out;)I" } : Jvm.MethodName)) ∈ lw_all := lw_g (lw_at lw_m5 18 rfl) rfl
theorem q1012 : (Jvm.Cond.codeWith ({ cls := "CrateYardLaw", name := "isOpen", desc := "(LCrateYard;IILCrateYardLaw$Out;)I" } : Jvm.MethodName) method_23_code (5 : Nat) (Option.some Jvm.ClassFile.FieldType.int) [((0 : Nat), (18 : Nat), (21 : Nat), (32 : Nat))]) ∈ lw_all := lw_g (lw_at lw_m5 19 rfl) rfl
theorem q1013 : (Jvm.Cond.methodLink "CrateYardLaw" (105 : Nat) ({ cls := "CrateYard", name := "isOpen", desc := "(II)Z" } : Jvm.MethodName)) ∈ lw_all := lw_g (lw_at lw_m5 20 rfl) rfl
theorem q1017 : (Jvm.Cond.methodLink "CrateYardLaw" (239 : Nat) ({ cls := "CrateYardLaw", name := "nextOpen", desc := "(LCrateYard;ILCrateYardLaw$Out;)I" } : Jvm.MethodName)) ∈ lw_all := lw_g (lw_at lw_m5 24 rfl) rfl
theorem q1018 : (Jvm.Cond.static ({ cls := "CrateYardLaw", name := "nextOpen", desc := "(LCrateYard;ILCrateYardLaw$Out;)I" } : Jvm.MethodName)) ∈ lw_all := lw_g (lw_at lw_m5 25 rfl) rfl
theorem q1019 : (Jvm.Cond.codeWith ({ cls := "CrateYardLaw", name := "nextOpen", desc := "(LCrateYard;ILCrateYardLaw$Out;)I" } : Jvm.MethodName) method_24_code (4 : Nat) (Option.some Jvm.ClassFile.FieldType.int) [((0 : Nat), (10 : Nat), (13 : Nat), (32 : Nat)), ((0 : Nat), (10 : Nat), (16 : Nat), (86 : Nat))]) ∈ lw_all := lw_g (lw_at lw_m5 26 rfl) rfl
theorem q1020 : (Jvm.Cond.methodLink "CrateYardLaw" (109 : Nat) ({ cls := "CrateYard", name := "nextOpen", desc := "(I)I" } : Jvm.MethodName)) ∈ lw_all := lw_g (lw_at lw_m5 27 rfl) rfl
theorem q1024 : (Jvm.Cond.methodLink "CrateYardLaw" (242 : Nat) ({ cls := "CrateYardLaw", name := "freeCores", desc := "(LCrateYard;ILCrateYardLaw$Out;)I" } : Jvm.MethodName)) ∈ lw_all := lw_g (lw_at lw_m5 31 rfl) rfl
theorem q1025 : (Jvm.Cond.static ({ cls := "CrateYardLaw", name := "freeCores", desc := "(LCrateYard;ILCrateYardLaw$Out;)I" } : Jvm.MethodName)) ∈ lw_all := lw_g (lw_at lw_m5 32 rfl) rfl
theorem q1026 : (Jvm.Cond.codeWith ({ cls := "CrateYardLaw", name := "freeCores", desc := "(LCrateYard;ILCrateYardLaw$Out;)I" } : Jvm.MethodName) method_25_code (4 : Nat) (Option.some Jvm.ClassFile.FieldType.int) [((0 : Nat), (10 : Nat), (13 : Nat), (25 : Nat))]) ∈ lw_all := lw_g (lw_at lw_m5 33 rfl) rfl
theorem q1027 : (Jvm.Cond.methodLink "CrateYardLaw" (112 : Nat) ({ cls := "CrateYard", name := "freeCores", desc := "(I)I" } : Jvm.MethodName)) ∈ lw_all := lw_g (lw_at lw_m5 34 rfl) rfl
theorem q1035 : (Jvm.Cond.methodLink "CrateYardLaw" (245 : Nat) ({ cls := "CrateYardLaw", name := "freeByContainers", desc := "(LCrateYard;ILCrateYardLaw$Out;)I" } : Jvm.MethodName)) ∈ lw_all := lw_g (lw_at lw_m5 42 rfl) rfl
theorem q1036 : (Jvm.Cond.static ({ cls := "CrateYardLaw", name := "freeByContainers", desc := "(LCrateYard;ILCrateYardLaw$Out;)I" } : Jvm.MethodName)) ∈ lw_all := lw_g (lw_at lw_m5 43 rfl) rfl
theorem q1037 : (Jvm.Cond.codeWith ({ cls := "CrateYardLaw", name := "freeByContainers", desc := "(LCrateYard;ILCrateYardLaw$Out;)I" } : Jvm.MethodName) method_26_code (4 : Nat) (Option.some Jvm.ClassFile.FieldType.int) [((0 : Nat), (10 : Nat), (13 : Nat), (25 : Nat))]) ∈ lw_all := lw_g (lw_at lw_m5 44 rfl) rfl
theorem q1038 : (Jvm.Cond.methodLink "CrateYardLaw" (115 : Nat) ({ cls := "CrateYard", name := "freeByContainers", desc := "(I)I" } : Jvm.MethodName)) ∈ lw_all := lw_g (lw_at lw_m5 45 rfl) rfl
theorem q1042 : (Jvm.Cond.methodLink "CrateYardLaw" (248 : Nat) ({ cls := "CrateYardLaw", name := "freeMemory", desc := "(LCrateYard;ILCrateYardLaw$Out;)I" } : Jvm.MethodName)) ∈ lw_all := lw_g (lw_at lw_m5 49 rfl) rfl
theorem q1043 : (Jvm.Cond.static ({ cls := "CrateYardLaw", name := "freeMemory", desc := "(LCrateYard;ILCrateYardLaw$Out;)I" } : Jvm.MethodName)) ∈ lw_all := lw_g (lw_at lw_m5 50 rfl) rfl
theorem q1044 : (Jvm.Cond.codeWith ({ cls := "CrateYardLaw", name := "freeMemory", desc := "(LCrateYard;ILCrateYardLaw$Out;)I" } : Jvm.MethodName) method_27_code (4 : Nat) (Option.some Jvm.ClassFile.FieldType.int) [((0 : Nat), (10 : Nat), (13 : Nat), (25 : Nat))]) ∈ lw_all := lw_g (lw_at lw_m5 51 rfl) rfl
theorem q1045 : (Jvm.Cond.methodLink "CrateYardLaw" (118 : Nat) ({ cls := "CrateYard", name := "freeMemory", desc := "(I)I" } : Jvm.MethodName)) ∈ lw_all := lw_g (lw_at lw_m5 52 rfl) rfl
theorem q1049 : (Jvm.Cond.methodLink "CrateYardLaw" (259 : Nat) ({ cls := "CrateYardLaw", name := "line", desc := "(LCrateYard;ILCrateYardLaw$Out;)I" } : Jvm.MethodName)) ∈ lw_all := lw_g (lw_at lw_m5 56 rfl) rfl
theorem q1050 : (Jvm.Cond.static ({ cls := "CrateYardLaw", name := "line", desc := "(LCrateYard;ILCrateYardLaw$Out;)I" } : Jvm.MethodName)) ∈ lw_all := lw_g (lw_at lw_m5 57 rfl) rfl
theorem q1051 : (Jvm.Cond.codeWith ({ cls := "CrateYardLaw", name := "line", desc := "(LCrateYard;ILCrateYardLaw$Out;)I" } : Jvm.MethodName) method_28_code (4 : Nat) (Option.some Jvm.ClassFile.FieldType.int) [((0 : Nat), (9 : Nat), (12 : Nat), (25 : Nat))]) ∈ lw_all := lw_g (lw_at lw_m5 58 rfl) rfl
theorem q1052 : (Jvm.Cond.methodLink "CrateYardLaw" (121 : Nat) ({ cls := "CrateYard", name := "line", desc := "(I)Ljava/lang/String;" } : Jvm.MethodName)) ∈ lw_all := lw_g (lw_at lw_m5 59 rfl) rfl
theorem q1332 : (Jvm.Cond.methodLink "CrateYardLaw" (273 : Nat) ({ cls := "CrateYardLaw", name := "runningShare", desc := "(LCrateYard;LCrateYardLaw$Out;)I" } : Jvm.MethodName)) ∈ lw_all := lw_g (lw_at lw_m6 99 rfl) rfl
theorem q1333 : (Jvm.Cond.static ({ cls := "CrateYardLaw", name := "runningShare", desc := "(LCrateYard;LCrateYardLaw$Out;)I" } : Jvm.MethodName)) ∈ lw_all := lw_g (lw_at lw_m6 100 rfl) rfl
theorem q1334 : (Jvm.Cond.codeWith ({ cls := "CrateYardLaw", name := "runningShare", desc := "(LCrateYard;LCrateYardLaw$Out;)I" } : Jvm.MethodName) method_29_code (3 : Nat) (Option.some Jvm.ClassFile.FieldType.int) [((0 : Nat), (9 : Nat), (12 : Nat), (137 : Nat))]) ∈ lw_all := lw_g (lw_at lw_m6 101 rfl) rfl
theorem q1335 : (Jvm.Cond.classLink "CrateYardLaw" (137 : Nat) "java/lang/ArithmeticException") ∈ lw_all := lw_g (lw_at lw_m6 102 rfl) rfl
theorem q1349 : (Jvm.Cond.methodLink "CrateYardLaw" (129 : Nat) ({ cls := "CrateYard", name := "runningShare", desc := "()F" } : Jvm.MethodName)) ∈ lw_all := lw_g (lw_at lw_m6 116 rfl) rfl
theorem q1365 : (Jvm.Cond.methodLink "CrateYardLaw" (276 : Nat) ({ cls := "CrateYardLaw", name := "meanCores", desc := "(LCrateYard;LCrateYardLaw$Out;)I" } : Jvm.MethodName)) ∈ lw_all := lw_g (lw_at lw_m6 132 rfl) rfl
theorem q1366 : (Jvm.Cond.static ({ cls := "CrateYardLaw", name := "meanCores", desc := "(LCrateYard;LCrateYardLaw$Out;)I" } : Jvm.MethodName)) ∈ lw_all := lw_g (lw_at lw_m6 133 rfl) rfl
theorem q1367 : (Jvm.Cond.codeWith ({ cls := "CrateYardLaw", name := "meanCores", desc := "(LCrateYard;LCrateYardLaw$Out;)I" } : Jvm.MethodName) method_30_code (3 : Nat) (Option.some Jvm.ClassFile.FieldType.int) [((0 : Nat), (8 : Nat), (11 : Nat), (137 : Nat))]) ∈ lw_all := lw_g (lw_at lw_m6 134 rfl) rfl
theorem q1368 : (Jvm.Cond.methodLink "CrateYardLaw" (139 : Nat) ({ cls := "CrateYard", name := "meanCores", desc := "()D" } : Jvm.MethodName)) ∈ lw_all := lw_g (lw_at lw_m6 135 rfl) rfl
theorem q1372 : (Jvm.Cond.classLink "CrateYardLaw" (144 : Nat) "CrateYardModel") ∈ lw_all := lw_g (lw_at lw_m6 139 rfl) rfl
theorem q1374 : (Jvm.Cond.methodLink "CrateYardLaw" (146 : Nat) ({ cls := "CrateYardModel", name := "<init>", desc := "()V" } : Jvm.MethodName)) ∈ lw_all := lw_g (lw_at lw_m6 141 rfl) rfl
theorem q1471 : (Jvm.Cond.methodLink "CrateYardLaw" (154 : Nat) ({ cls := "CrateYardModel", name := "thrown", desc := "()I" } : Jvm.MethodName)) ∈ lw_all := lw_g (lw_at lw_m6 238 rfl) rfl
theorem q1475 : (Jvm.Cond.methodLink "CrateYardLaw" (153 : Nat) ({ cls := "CrateYardModel", name := "addLayer", desc := "()I" } : Jvm.MethodName)) ∈ lw_all := lw_g (lw_at lw_m7 2 rfl) rfl
theorem q1483 : (Jvm.Cond.methodLink "CrateYardLaw" (160 : Nat) ({ cls := "CrateYardModel", name := "addImage", desc := "(II)I" } : Jvm.MethodName)) ∈ lw_all := lw_g (lw_at lw_m7 10 rfl) rfl
theorem q1502 : (Jvm.Cond.methodLink "CrateYardLaw" (163 : Nat) ({ cls := "CrateYardModel", name := "patch", desc := "(II)I" } : Jvm.MethodName)) ∈ lw_all := lw_g (lw_at lw_m7 29 rfl) rfl
theorem q1514 : (Jvm.Cond.methodLink "CrateYardLaw" (166 : Nat) ({ cls := "CrateYardModel", name := "withdraw", desc := "(II)I" } : Jvm.MethodName)) ∈ lw_all := lw_g (lw_at lw_m7 41 rfl) rfl
theorem q1518 : (Jvm.Cond.methodLink "CrateYardLaw" (175 : Nat) ({ cls := "CrateYardModel", name := "addHost", desc := "(LNeed;)I" } : Jvm.MethodName)) ∈ lw_all := lw_g (lw_at lw_m7 45 rfl) rfl
theorem q1524 : (Jvm.Cond.methodLink "CrateYardLaw" (184 : Nat) ({ cls := "CrateYardModel", name := "addWindow", desc := "(LWindow;)I" } : Jvm.MethodName)) ∈ lw_all := lw_g (lw_at lw_m7 51 rfl) rfl
theorem q1531 : (Jvm.Cond.methodLink "CrateYardLaw" (187 : Nat) ({ cls := "CrateYardModel", name := "lend", desc := "(II)I" } : Jvm.MethodName)) ∈ lw_all := lw_g (lw_at lw_m7 58 rfl) rfl
theorem q1535 : (Jvm.Cond.methodLink "CrateYardLaw" (191 : Nat) ({ cls := "CrateYardModel", name := "setLicence", desc := "(I)I" } : Jvm.MethodName)) ∈ lw_all := lw_g (lw_at lw_m7 62 rfl) rfl
theorem q1543 : (Jvm.Cond.methodLink "CrateYardLaw" (195 : Nat) ({ cls := "CrateYardModel", name := "addContainer", desc := "(IILNeed;)I" } : Jvm.MethodName)) ∈ lw_all := lw_g (lw_at lw_m7 70 rfl) rfl
theorem q1547 : (Jvm.Cond.methodLink "CrateYardLaw" (198 : Nat) ({ cls := "CrateYardModel", name := "stop", desc := "(I)LState;" } : Jvm.MethodName)) ∈ lw_all := lw_g (lw_at lw_m7 74 rfl) rfl
theorem q1562 : (Jvm.Cond.methodLink "CrateYardLaw" (201 : Nat) ({ cls := "CrateYardModel", name := "fail", desc := "(I)I" } : Jvm.MethodName)) ∈ lw_all := lw_g (lw_at lw_m7 89 rfl) rfl
theorem q1566 : (Jvm.Cond.methodLink "CrateYardLaw" (204 : Nat) ({ cls := "CrateYardModel", name := "pass", desc := "(I)I" } : Jvm.MethodName)) ∈ lw_all := lw_g (lw_at lw_m7 93 rfl) rfl
theorem q1614 : (Jvm.Cond.methodLink "CrateYardLaw" (208 : Nat) ({ cls := "CrateYardModel", name := "now", desc := "()I" } : Jvm.MethodName)) ∈ lw_all := lw_g (lw_at lw_m7 141 rfl) rfl
theorem q1618 : (Jvm.Cond.methodLink "CrateYardLaw" (211 : Nat) ({ cls := "CrateYardModel", name := "layersOf", desc := "(I)I" } : Jvm.MethodName)) ∈ lw_all := lw_g (lw_at lw_m7 145 rfl) rfl
theorem q1622 : (Jvm.Cond.methodLink "CrateYardLaw" (214 : Nat) ({ cls := "CrateYardModel", name := "uses", desc := "(I)I" } : Jvm.MethodName)) ∈ lw_all := lw_g (lw_at lw_m7 149 rfl) rfl
theorem q1626 : (Jvm.Cond.methodLink "CrateYardLaw" (217 : Nat) ({ cls := "CrateYardModel", name := "isOut", desc := "(I)Z" } : Jvm.MethodName)) ∈ lw_all := lw_g (lw_at lw_m7 153 rfl) rfl
theorem q1630 : (Jvm.Cond.methodLink "CrateYardLaw" (220 : Nat) ({ cls := "CrateYardModel", name := "stateOf", desc := "(I)LState;" } : Jvm.MethodName)) ∈ lw_all := lw_g (lw_at lw_m7 157 rfl) rfl
theorem q1634 : (Jvm.Cond.methodLink "CrateYardLaw" (223 : Nat) ({ cls := "CrateYardModel", name := "hostOf", desc := "(I)I" } : Jvm.MethodName)) ∈ lw_all := lw_g (lw_at lw_m7 161 rfl) rfl
theorem q1638 : (Jvm.Cond.methodLink "CrateYardLaw" (226 : Nat) ({ cls := "CrateYardModel", name := "barOf", desc := "(I)LBar;" } : Jvm.MethodName)) ∈ lw_all := lw_g (lw_at lw_m7 165 rfl) rfl
theorem q1643 : (Jvm.Cond.methodLink "CrateYardLaw" (229 : Nat) ({ cls := "CrateYardModel", name := "restsUntil", desc := "(I)I" } : Jvm.MethodName)) ∈ lw_all := lw_g (lw_at lw_m7 170 rfl) rfl
theorem q1647 : (Jvm.Cond.methodLink "CrateYardLaw" (232 : Nat) ({ cls := "CrateYardModel", name := "layersIn", desc := "(I)I" } : Jvm.MethodName)) ∈ lw_all := lw_g (lw_at lw_m7 174 rfl) rfl
theorem q1651 : (Jvm.Cond.methodLink "CrateYardLaw" (235 : Nat) ({ cls := "CrateYardModel", name := "isStale", desc := "(I)Z" } : Jvm.MethodName)) ∈ lw_all := lw_g (lw_at lw_m7 178 rfl) rfl
theorem q1655 : (Jvm.Cond.methodLink "CrateYardLaw" (238 : Nat) ({ cls := "CrateYardModel", name := "isOpen", desc := "(II)Z" } : Jvm.MethodName)) ∈ lw_all := lw_g (lw_at lw_m7 182 rfl) rfl
theorem q1659 : (Jvm.Cond.methodLink "CrateYardLaw" (241 : Nat) ({ cls := "CrateYardModel", name := "nextOpen", desc := "(I)I" } : Jvm.MethodName)) ∈ lw_all := lw_g (lw_at lw_m7 186 rfl) rfl
theorem q1663 : (Jvm.Cond.methodLink "CrateYardLaw" (244 : Nat) ({ cls := "CrateYardModel", name := "freeCores", desc := "(I)I" } : Jvm.MethodName)) ∈ lw_all := lw_g (lw_at lw_m7 190 rfl) rfl
theorem q1671 : (Jvm.Cond.methodLink "CrateYardLaw" (247 : Nat) ({ cls := "CrateYardModel", name := "freeByContainers", desc := "(I)I" } : Jvm.MethodName)) ∈ lw_all := lw_g (lw_at lw_m7 198 rfl) rfl
theorem q1676 : (Jvm.Cond.methodLink "CrateYardLaw" (250 : Nat) ({ cls := "CrateYardModel", name := "freeMemory", desc := "(I)I" } : Jvm.MethodName)) ∈ lw_all := lw_g (lw_at lw_m7 203 rfl) rfl
theorem q1680 : (Jvm.Cond.methodLink "CrateYardLaw" (254 : Nat) ({ cls := "CrateYardModel", name := "licensed", desc := "()I" } : Jvm.MethodName)) ∈ lw_all := lw_g (lw_at lw_m7 207 rfl) rfl
theorem q1684 : (Jvm.Cond.methodLink "CrateYardLaw" (258 : Nat) ({ cls := "CrateYardModel", name := "laidAnew", desc := "()I" } : Jvm.MethodName)) ∈ lw_all := lw_g (lw_at lw_m7 211 rfl) rfl
theorem q1688 : (Jvm.Cond.methodLink "CrateYardLaw" (261 : Nat) ({ cls := "CrateYardModel", name := "line", desc := "(I)Ljava/lang/String;" } : Jvm.MethodName)) ∈ lw_all := lw_g (lw_at lw_m7 215 rfl) rfl
theorem q1698 : (Jvm.Cond.methodLink "CrateYardLaw" (272 : Nat) ({ cls := "CrateYardModel", name := "starts", desc := "()J" } : Jvm.MethodName)) ∈ lw_all := lw_g (lw_at lw_m7 225 rfl) rfl
theorem q1702 : (Jvm.Cond.methodLink "CrateYardLaw" (275 : Nat) ({ cls := "CrateYardModel", name := "runningShare", desc := "()F" } : Jvm.MethodName)) ∈ lw_all := lw_g (lw_at lw_m7 229 rfl) rfl
theorem q1710 : (Jvm.Cond.methodLink "CrateYardLaw" (278 : Nat) ({ cls := "CrateYardModel", name := "meanCores", desc := "()D" } : Jvm.MethodName)) ∈ lw_all := lw_g (lw_at lw_m7 237 rfl) rfl
theorem q1714 : (Jvm.Cond.classLink "CrateYardLaw" (167 : Nat) "Need") ∈ lw_all := lw_g (lw_at lw_m8 1 rfl) rfl
theorem q1716 : (Jvm.Cond.methodLink "CrateYardLaw" (169 : Nat) ({ cls := "Need", name := "<init>", desc := "(II)V" } : Jvm.MethodName)) ∈ lw_all := lw_g (lw_at lw_m8 3 rfl) rfl
theorem q1727 : (Jvm.Cond.classLink "CrateYardLaw" (176 : Nat) "Window") ∈ lw_all := lw_g (lw_at lw_m8 14 rfl) rfl
theorem q1729 : (Jvm.Cond.methodLink "CrateYardLaw" (178 : Nat) ({ cls := "Window", name := "<init>", desc := "(III)V" } : Jvm.MethodName)) ∈ lw_all := lw_g (lw_at lw_m8 16 rfl) rfl
theorem q1743 : (Jvm.Cond.methodLink "CrateYardLaw" (262 : Nat) ({ cls := "java/lang/String", name := "equals", desc := "(Ljava/lang/Object;)Z" } : Jvm.MethodName)) ∈ lw_all := lw_g (lw_at lw_m8 30 rfl) rfl
