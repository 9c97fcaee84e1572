/-! the law's own entry -/
set_option maxRecDepth 100000
abbrev cL_law : ByteArray := code
def dkwL_law_87 : List UInt8 := [182, 0, 229, 148, 153, 0, 5, 3, 172, 132, 4, 7, 167, 247, 184, 4, 172]
abbrev dktL_law_87 : List UInt8 := dkwL_law_87 ++ []
def dkwL_law_86 : List UInt8 := [172, 167, 0, 30, 43, 182, 0, 220, 44, 182, 0, 224, 159, 0, 19, 3, 172, 43, 182, 0, 225, 44]
abbrev dktL_law_86 : List UInt8 := dkwL_law_86 ++ dktL_law_87
def dkwL_law_85 : List UInt8 := [21, 5, 159, 0, 5, 3, 172, 21, 5, 154, 0, 16, 45, 180, 0, 13, 21, 6, 133, 148, 153, 0, 5, 3]
abbrev dktL_law_85 : List UInt8 := dkwL_law_85 ++ dktL_law_86
def dkwL_law_84 : List UInt8 := [96, 46, 45, 184, 0, 217, 54, 5, 44, 42, 21, 4, 4, 96, 46, 182, 0, 219, 54, 6, 44, 182, 0, 126]
abbrev dktL_law_84 : List UInt8 := dkwL_law_84 ++ dktL_law_85
def dkwL_law_83 : List UInt8 := [154, 0, 16, 45, 180, 0, 13, 21, 6, 133, 148, 153, 0, 5, 3, 172, 167, 0, 87, 43, 42, 21, 4, 4]
abbrev dktL_law_83 : List UInt8 := dkwL_law_83 ++ dktL_law_84
def dkwL_law_82 : List UInt8 := [21, 4, 4, 96, 46, 182, 0, 216, 54, 6, 44, 182, 0, 126, 21, 5, 159, 0, 5, 3, 172, 21, 5]
abbrev dktL_law_82 : List UInt8 := dkwL_law_82 ++ dktL_law_83
def dkwL_law_81 : List UInt8 := [153, 0, 5, 3, 172, 167, 0, 144, 43, 42, 21, 4, 4, 96, 46, 45, 184, 0, 214, 54, 5, 44, 42]
abbrev dktL_law_81 : List UInt8 := dkwL_law_81 ++ dktL_law_82
def dkwL_law_80 : List UInt8 := [44, 182, 0, 126, 21, 5, 159, 0, 5, 3, 172, 21, 5, 154, 0, 16, 45, 180, 0, 13, 21, 6, 133, 148]
abbrev dktL_law_80 : List UInt8 := dkwL_law_80 ++ dktL_law_81
def dkwL_law_79 : List UInt8 := [21, 4, 4, 96, 46, 42, 21, 4, 5, 96, 46, 153, 0, 7, 4, 167, 0, 4, 3, 182, 0, 213, 54, 6]
abbrev dktL_law_79 : List UInt8 := dkwL_law_79 ++ dktL_law_80
def dkwL_law_78 : List UInt8 := [96, 46, 42, 21, 4, 5, 96, 46, 153, 0, 7, 4, 167, 0, 4, 3, 45, 184, 0, 211, 54, 5, 44, 42]
abbrev dktL_law_78 : List UInt8 := dkwL_law_78 ++ dktL_law_79
def dkwL_law_77 : List UInt8 := [154, 0, 16, 45, 180, 0, 13, 21, 6, 133, 148, 153, 0, 5, 3, 172, 167, 0, 229, 43, 42, 21, 4, 4]
abbrev dktL_law_77 : List UInt8 := dkwL_law_77 ++ dktL_law_78
def dkwL_law_76 : List UInt8 := [21, 4, 5, 96, 46, 182, 0, 210, 54, 6, 44, 182, 0, 126, 21, 5, 159, 0, 5, 3, 172, 21, 5]
abbrev dktL_law_76 : List UInt8 := dkwL_law_76 ++ dktL_law_77
def dkwL_law_75 : List UInt8 := [4, 96, 46, 42, 21, 4, 5, 96, 46, 45, 184, 0, 208, 54, 5, 44, 42, 21, 4, 4, 96, 46, 42]
abbrev dktL_law_75 : List UInt8 := dkwL_law_75 ++ dktL_law_76
def dkwL_law_74 : List UInt8 := [154, 0, 17, 45, 180, 0, 93, 25, 6, 182, 0, 196, 154, 0, 5, 3, 172, 167, 1, 42, 43, 42, 21, 4]
abbrev dktL_law_74 : List UInt8 := dkwL_law_74 ++ dktL_law_75
def dkwL_law_73 : List UInt8 := [21, 4, 4, 96, 46, 182, 0, 207, 58, 6, 44, 182, 0, 126, 21, 5, 159, 0, 5, 3, 172, 21, 5]
abbrev dktL_law_73 : List UInt8 := dkwL_law_73 ++ dktL_law_74
def dkwL_law_72 : List UInt8 := [153, 0, 5, 3, 172, 167, 1, 100, 43, 42, 21, 4, 4, 96, 46, 45, 184, 0, 205, 54, 5, 44, 42]
abbrev dktL_law_72 : List UInt8 := dkwL_law_72 ++ dktL_law_73
def dkwL_law_71 : List UInt8 := [182, 0, 126, 21, 5, 159, 0, 5, 3, 172, 21, 5, 154, 0, 16, 45, 180, 0, 13, 21, 6, 133, 148]
abbrev dktL_law_71 : List UInt8 := dkwL_law_71 ++ dktL_law_72
def dkwL_law_70 : List UInt8 := [4, 96, 46, 45, 184, 0, 202, 54, 5, 44, 42, 21, 4, 4, 96, 46, 182, 0, 204, 54, 6, 44]
abbrev dktL_law_70 : List UInt8 := dkwL_law_70 ++ dktL_law_71
def dkwL_law_69 : List UInt8 := [154, 0, 17, 45, 180, 0, 93, 25, 6, 182, 0, 196, 154, 0, 5, 3, 172, 167, 1, 157, 43, 42, 21, 4]
abbrev dktL_law_69 : List UInt8 := dkwL_law_69 ++ dktL_law_70
def dkwL_law_68 : List UInt8 := [21, 4, 4, 96, 46, 182, 0, 195, 58, 6, 44, 182, 0, 126, 21, 5, 159, 0, 5, 3, 172, 21, 5]
abbrev dktL_law_68 : List UInt8 := dkwL_law_68 ++ dktL_law_69
def dkwL_law_67 : List UInt8 := [153, 0, 5, 3, 172, 167, 1, 215, 43, 42, 21, 4, 4, 96, 46, 45, 184, 0, 193, 54, 5, 44, 42]
abbrev dktL_law_67 : List UInt8 := dkwL_law_67 ++ dktL_law_68
def dkwL_law_66 : List UInt8 := [44, 182, 0, 126, 21, 5, 159, 0, 5, 3, 172, 21, 5, 154, 0, 16, 45, 180, 0, 13, 21, 6, 133, 148]
abbrev dktL_law_66 : List UInt8 := dkwL_law_66 ++ dktL_law_67
def dkwL_law_65 : List UInt8 := [21, 4, 4, 96, 46, 42, 21, 4, 5, 96, 46, 153, 0, 7, 4, 167, 0, 4, 3, 182, 0, 192, 54, 6]
abbrev dktL_law_65 : List UInt8 := dkwL_law_65 ++ dktL_law_66
def dkwL_law_64 : List UInt8 := [96, 46, 42, 21, 4, 5, 96, 46, 153, 0, 7, 4, 167, 0, 4, 3, 45, 184, 0, 189, 54, 5, 44, 42]
abbrev dktL_law_64 : List UInt8 := dkwL_law_64 ++ dktL_law_65
def dkwL_law_63 : List UInt8 := [154, 0, 16, 45, 180, 0, 13, 21, 6, 133, 148, 153, 0, 5, 3, 172, 167, 2, 44, 43, 42, 21, 4, 4]
abbrev dktL_law_63 : List UInt8 := dkwL_law_63 ++ dktL_law_64
def dkwL_law_62 : List UInt8 := [42, 21, 4, 5, 96, 46, 182, 0, 188, 54, 6, 44, 182, 0, 126, 21, 5, 159, 0, 5, 3, 172, 21, 5]
abbrev dktL_law_62 : List UInt8 := dkwL_law_62 ++ dktL_law_63
def dkwL_law_61 : List UInt8 := [21, 4, 4, 96, 46, 42, 21, 4, 5, 96, 46, 45, 184, 0, 186, 54, 5, 44, 42, 21, 4, 4, 96, 46]
abbrev dktL_law_61 : List UInt8 := dkwL_law_61 ++ dktL_law_62
def dkwL_law_60 : List UInt8 := [180, 0, 13, 21, 6, 153, 0, 7, 10, 167, 0, 4, 9, 148, 153, 0, 5, 3, 172, 167, 2, 113, 43, 42]
abbrev dktL_law_60 : List UInt8 := dkwL_law_60 ++ dktL_law_61
def dkwL_law_59 : List UInt8 := [182, 0, 185, 54, 6, 44, 182, 0, 126, 21, 5, 159, 0, 5, 3, 172, 21, 5, 154, 0, 23, 45]
abbrev dktL_law_59 : List UInt8 := dkwL_law_59 ++ dktL_law_60
def dkwL_law_58 : List UInt8 := [21, 4, 5, 96, 46, 45, 184, 0, 183, 54, 5, 44, 42, 21, 4, 4, 96, 46, 42, 21, 4, 5, 96, 46]
abbrev dktL_law_58 : List UInt8 := dkwL_law_58 ++ dktL_law_59
def dkwL_law_57 : List UInt8 := [180, 0, 13, 21, 6, 133, 148, 153, 0, 5, 3, 172, 167, 2, 189, 43, 42, 21, 4, 4, 96, 46, 42]
abbrev dktL_law_57 : List UInt8 := dkwL_law_57 ++ dktL_law_58
def dkwL_law_56 : List UInt8 := [182, 0, 182, 54, 6, 44, 182, 0, 126, 21, 5, 159, 0, 5, 3, 172, 21, 5, 154, 0, 16, 45]
abbrev dktL_law_56 : List UInt8 := dkwL_law_56 ++ dktL_law_57
def dkwL_law_55 : List UInt8 := [21, 4, 5, 96, 46, 45, 184, 0, 180, 54, 5, 44, 42, 21, 4, 4, 96, 46, 42, 21, 4, 5, 96, 46]
abbrev dktL_law_55 : List UInt8 := dkwL_law_55 ++ dktL_law_56
def dkwL_law_54 : List UInt8 := [180, 0, 13, 21, 6, 133, 148, 153, 0, 5, 3, 172, 167, 3, 2, 43, 42, 21, 4, 4, 96, 46, 42]
abbrev dktL_law_54 : List UInt8 := dkwL_law_54 ++ dktL_law_55
def dkwL_law_53 : List UInt8 := [182, 0, 179, 54, 6, 44, 182, 0, 126, 21, 5, 159, 0, 5, 3, 172, 21, 5, 154, 0, 16, 45]
abbrev dktL_law_53 : List UInt8 := dkwL_law_53 ++ dktL_law_54
def dkwL_law_52 : List UInt8 := [21, 4, 5, 96, 46, 45, 184, 0, 177, 54, 5, 44, 42, 21, 4, 4, 96, 46, 42, 21, 4, 5, 96, 46]
abbrev dktL_law_52 : List UInt8 := dkwL_law_52 ++ dktL_law_53
def dkwL_law_51 : List UInt8 := [180, 0, 13, 21, 6, 133, 148, 153, 0, 5, 3, 172, 167, 3, 71, 43, 42, 21, 4, 4, 96, 46, 42]
abbrev dktL_law_51 : List UInt8 := dkwL_law_51 ++ dktL_law_52
def dkwL_law_50 : List UInt8 := [182, 0, 176, 54, 6, 44, 182, 0, 126, 21, 5, 159, 0, 5, 3, 172, 21, 5, 154, 0, 16, 45]
abbrev dktL_law_50 : List UInt8 := dkwL_law_50 ++ dktL_law_51
def dkwL_law_49 : List UInt8 := [21, 4, 5, 96, 46, 45, 184, 0, 174, 54, 5, 44, 42, 21, 4, 4, 96, 46, 42, 21, 4, 5, 96, 46]
abbrev dktL_law_49 : List UInt8 := dkwL_law_49 ++ dktL_law_50
def dkwL_law_48 : List UInt8 := [180, 0, 13, 21, 6, 133, 148, 153, 0, 5, 3, 172, 167, 3, 140, 43, 42, 21, 4, 4, 96, 46, 42]
abbrev dktL_law_48 : List UInt8 := dkwL_law_48 ++ dktL_law_49
def dkwL_law_47 : List UInt8 := [182, 0, 173, 54, 6, 44, 182, 0, 126, 21, 5, 159, 0, 5, 3, 172, 21, 5, 154, 0, 16, 45]
abbrev dktL_law_47 : List UInt8 := dkwL_law_47 ++ dktL_law_48
def dkwL_law_46 : List UInt8 := [21, 4, 5, 96, 46, 45, 184, 0, 171, 54, 5, 44, 42, 21, 4, 4, 96, 46, 42, 21, 4, 5, 96, 46]
abbrev dktL_law_46 : List UInt8 := dkwL_law_46 ++ dktL_law_47
def dkwL_law_45 : List UInt8 := [180, 0, 13, 21, 6, 133, 148, 153, 0, 5, 3, 172, 167, 3, 209, 43, 42, 21, 4, 4, 96, 46, 42]
abbrev dktL_law_45 : List UInt8 := dkwL_law_45 ++ dktL_law_46
def dkwL_law_44 : List UInt8 := [182, 0, 170, 54, 6, 44, 182, 0, 126, 21, 5, 159, 0, 5, 3, 172, 21, 5, 154, 0, 16, 45]
abbrev dktL_law_44 : List UInt8 := dkwL_law_44 ++ dktL_law_45
def dkwL_law_43 : List UInt8 := [21, 4, 5, 96, 46, 45, 184, 0, 168, 54, 5, 44, 42, 21, 4, 4, 96, 46, 42, 21, 4, 5, 96, 46]
abbrev dktL_law_43 : List UInt8 := dkwL_law_43 ++ dktL_law_44
def dkwL_law_42 : List UInt8 := [180, 0, 13, 21, 6, 133, 148, 153, 0, 5, 3, 172, 167, 4, 22, 43, 42, 21, 4, 4, 96, 46, 42]
abbrev dktL_law_42 : List UInt8 := dkwL_law_42 ++ dktL_law_43
def dkwL_law_41 : List UInt8 := [182, 0, 167, 54, 6, 44, 182, 0, 126, 21, 5, 159, 0, 5, 3, 172, 21, 5, 154, 0, 16, 45]
abbrev dktL_law_41 : List UInt8 := dkwL_law_41 ++ dktL_law_42
def dkwL_law_40 : List UInt8 := [167, 4, 79, 43, 42, 21, 4, 4, 96, 46, 45, 184, 0, 165, 54, 5, 44, 42, 21, 4, 4, 96, 46]
abbrev dktL_law_40 : List UInt8 := dkwL_law_40 ++ dktL_law_41
def dkwL_law_39 : List UInt8 := [159, 0, 5, 3, 172, 21, 5, 154, 0, 16, 45, 180, 0, 13, 21, 6, 133, 148, 153, 0, 5, 3, 172]
abbrev dktL_law_39 : List UInt8 := dkwL_law_39 ++ dktL_law_40
def dkwL_law_38 : List UInt8 := [21, 4, 4, 96, 46, 42, 21, 4, 5, 96, 46, 182, 0, 164, 54, 6, 44, 182, 0, 126, 21, 5]
abbrev dktL_law_38 : List UInt8 := dkwL_law_38 ++ dktL_law_39
def dkwL_law_37 : List UInt8 := [167, 4, 148, 43, 42, 21, 4, 4, 96, 46, 42, 21, 4, 5, 96, 46, 45, 184, 0, 162, 54, 5, 44, 42]
abbrev dktL_law_37 : List UInt8 := dkwL_law_37 ++ dktL_law_38
def dkwL_law_36 : List UInt8 := [159, 0, 5, 3, 172, 21, 5, 154, 0, 16, 45, 180, 0, 13, 21, 6, 133, 148, 153, 0, 5, 3, 172]
abbrev dktL_law_36 : List UInt8 := dkwL_law_36 ++ dktL_law_37
def dkwL_law_35 : List UInt8 := [21, 4, 4, 96, 46, 42, 21, 4, 5, 96, 46, 182, 0, 161, 54, 6, 44, 182, 0, 126, 21, 5]
abbrev dktL_law_35 : List UInt8 := dkwL_law_35 ++ dktL_law_36
def dkwL_law_34 : List UInt8 := [167, 4, 217, 43, 42, 21, 4, 4, 96, 46, 42, 21, 4, 5, 96, 46, 45, 184, 0, 159, 54, 5, 44, 42]
abbrev dktL_law_34 : List UInt8 := dkwL_law_34 ++ dktL_law_35
def dkwL_law_33 : List UInt8 := [159, 0, 5, 3, 172, 21, 5, 154, 0, 16, 45, 180, 0, 13, 21, 6, 133, 148, 153, 0, 5, 3, 172]
abbrev dktL_law_33 : List UInt8 := dkwL_law_33 ++ dktL_law_34
def dkwL_law_32 : List UInt8 := [184, 0, 156, 54, 5, 44, 42, 21, 4, 4, 96, 46, 182, 0, 158, 54, 6, 44, 182, 0, 126, 21, 5]
abbrev dktL_law_32 : List UInt8 := dkwL_law_32 ++ dktL_law_33
def dkwL_law_31 : List UInt8 := [180, 0, 13, 21, 6, 133, 148, 153, 0, 5, 3, 172, 167, 5, 18, 43, 42, 21, 4, 4, 96, 46, 45]
abbrev dktL_law_31 : List UInt8 := dkwL_law_31 ++ dktL_law_32
def dkwL_law_30 : List UInt8 := [182, 0, 155, 54, 6, 44, 182, 0, 126, 21, 5, 159, 0, 5, 3, 172, 21, 5, 154, 0, 16, 45]
abbrev dktL_law_30 : List UInt8 := dkwL_law_30 ++ dktL_law_31
def dkwL_law_29 : List UInt8 := [172, 167, 5, 75, 43, 42, 21, 4, 4, 96, 46, 45, 184, 0, 153, 54, 5, 44, 42, 21, 4, 4, 96, 46]
abbrev dktL_law_29 : List UInt8 := dkwL_law_29 ++ dktL_law_30
def dkwL_law_28 : List UInt8 := [21, 5, 159, 0, 5, 3, 172, 21, 5, 154, 0, 16, 45, 180, 0, 13, 21, 6, 133, 148, 153, 0, 5, 3]
abbrev dktL_law_28 : List UInt8 := dkwL_law_28 ++ dktL_law_29
def dkwL_law_27 : List UInt8 := [46, 42, 21, 4, 8, 96, 46, 42, 21, 4, 16, 6, 96, 46, 182, 0, 152, 54, 6, 44, 182, 0, 126]
abbrev dktL_law_27 : List UInt8 := dkwL_law_27 ++ dktL_law_28
def dkwL_law_26 : List UInt8 := [44, 42, 21, 4, 4, 96, 46, 42, 21, 4, 5, 96, 46, 42, 21, 4, 6, 96, 46, 42, 21, 4, 7, 96]
abbrev dktL_law_26 : List UInt8 := dkwL_law_26 ++ dktL_law_27
def dkwL_law_25 : List UInt8 := [21, 4, 7, 96, 46, 42, 21, 4, 8, 96, 46, 42, 21, 4, 16, 6, 96, 46, 45, 184, 0, 149, 54, 5]
abbrev dktL_law_25 : List UInt8 := dkwL_law_25 ++ dktL_law_26
def dkwL_law_24 : List UInt8 := [167, 5, 194, 43, 42, 21, 4, 4, 96, 46, 42, 21, 4, 5, 96, 46, 42, 21, 4, 6, 96, 46, 42]
abbrev dktL_law_24 : List UInt8 := dkwL_law_24 ++ dktL_law_25
def dkwL_law_23 : List UInt8 := [159, 0, 5, 3, 172, 21, 5, 154, 0, 16, 45, 180, 0, 13, 21, 6, 133, 148, 153, 0, 5, 3, 172]
abbrev dktL_law_23 : List UInt8 := dkwL_law_23 ++ dktL_law_24
def dkwL_law_22 : List UInt8 := [184, 0, 145, 54, 5, 44, 42, 21, 4, 4, 96, 46, 182, 0, 148, 54, 6, 44, 182, 0, 126, 21, 5]
abbrev dktL_law_22 : List UInt8 := dkwL_law_22 ++ dktL_law_23
def dkwL_law_21 : List UInt8 := [180, 0, 13, 21, 6, 133, 148, 153, 0, 5, 3, 172, 167, 5, 251, 43, 42, 21, 4, 4, 96, 46, 45]
abbrev dktL_law_21 : List UInt8 := dkwL_law_21 ++ dktL_law_22
def dkwL_law_20 : List UInt8 := [182, 0, 144, 54, 6, 44, 182, 0, 126, 21, 5, 159, 0, 5, 3, 172, 21, 5, 154, 0, 16, 45]
abbrev dktL_law_20 : List UInt8 := dkwL_law_20 ++ dktL_law_21
def dkwL_law_19 : List UInt8 := [184, 0, 141, 54, 5, 44, 42, 21, 4, 4, 96, 46, 42, 21, 4, 5, 96, 46, 42, 21, 4, 6, 96, 46]
abbrev dktL_law_19 : List UInt8 := dkwL_law_19 ++ dktL_law_20
def dkwL_law_18 : List UInt8 := [167, 6, 76, 43, 42, 21, 4, 4, 96, 46, 42, 21, 4, 5, 96, 46, 42, 21, 4, 6, 96, 46, 45]
abbrev dktL_law_18 : List UInt8 := dkwL_law_18 ++ dktL_law_19
def dkwL_law_17 : List UInt8 := [154, 0, 23, 45, 180, 0, 13, 21, 6, 153, 0, 7, 10, 167, 0, 4, 9, 148, 153, 0, 5, 3, 172]
abbrev dktL_law_17 : List UInt8 := dkwL_law_17 ++ dktL_law_18
def dkwL_law_16 : List UInt8 := [4, 167, 0, 4, 3, 182, 0, 140, 54, 6, 44, 182, 0, 126, 21, 5, 159, 0, 5, 3, 172, 21, 5]
abbrev dktL_law_16 : List UInt8 := dkwL_law_16 ++ dktL_law_17
def dkwL_law_15 : List UInt8 := [54, 5, 44, 42, 21, 4, 4, 96, 46, 42, 21, 4, 5, 96, 46, 42, 21, 4, 6, 96, 46, 153, 0, 7]
abbrev dktL_law_15 : List UInt8 := dkwL_law_15 ++ dktL_law_16
def dkwL_law_14 : List UInt8 := [21, 4, 5, 96, 46, 42, 21, 4, 6, 96, 46, 153, 0, 7, 4, 167, 0, 4, 3, 45, 184, 0, 137]
abbrev dktL_law_14 : List UInt8 := dkwL_law_14 ++ dktL_law_15
def dkwL_law_13 : List UInt8 := [45, 180, 0, 13, 21, 6, 133, 148, 153, 0, 5, 3, 172, 167, 6, 180, 43, 42, 21, 4, 4, 96, 46, 42]
abbrev dktL_law_13 : List UInt8 := dkwL_law_13 ++ dktL_law_14
def dkwL_law_12 : List UInt8 := [7, 96, 46, 182, 0, 136, 54, 6, 44, 182, 0, 126, 21, 5, 159, 0, 5, 3, 172, 21, 5, 154, 0, 16]
abbrev dktL_law_12 : List UInt8 := dkwL_law_12 ++ dktL_law_13
def dkwL_law_11 : List UInt8 := [54, 5, 44, 42, 21, 4, 4, 96, 46, 42, 21, 4, 5, 96, 46, 42, 21, 4, 6, 96, 46, 42, 21, 4]
abbrev dktL_law_11 : List UInt8 := dkwL_law_11 ++ dktL_law_12
def dkwL_law_10 : List UInt8 := [96, 46, 42, 21, 4, 5, 96, 46, 42, 21, 4, 6, 96, 46, 42, 21, 4, 7, 96, 46, 45, 184, 0, 134]
abbrev dktL_law_10 : List UInt8 := dkwL_law_10 ++ dktL_law_11
def dkwL_law_9 : List UInt8 := [154, 0, 16, 45, 180, 0, 13, 21, 6, 133, 148, 153, 0, 5, 3, 172, 167, 7, 17, 43, 42, 21, 4, 4]
abbrev dktL_law_9 : List UInt8 := dkwL_law_9 ++ dktL_law_10
def dkwL_law_8 : List UInt8 := [42, 21, 4, 5, 96, 46, 182, 0, 133, 54, 6, 44, 182, 0, 126, 21, 5, 159, 0, 5, 3, 172, 21, 5]
abbrev dktL_law_8 : List UInt8 := dkwL_law_8 ++ dktL_law_9
def dkwL_law_7 : List UInt8 := [21, 4, 4, 96, 46, 42, 21, 4, 5, 96, 46, 45, 184, 0, 130, 54, 5, 44, 42, 21, 4, 4, 96, 46]
abbrev dktL_law_7 : List UInt8 := dkwL_law_7 ++ dktL_law_8
def dkwL_law_6 : List UInt8 := [21, 5, 154, 0, 16, 45, 180, 0, 13, 21, 6, 133, 148, 153, 0, 5, 3, 172, 167, 7, 86, 43, 42]
abbrev dktL_law_6 : List UInt8 := dkwL_law_6 ++ dktL_law_7
def dkwL_law_5 : List UInt8 := [96, 46, 42, 21, 4, 7, 96, 46, 182, 0, 125, 54, 6, 44, 182, 0, 126, 21, 5, 159, 0, 5, 3, 172]
abbrev dktL_law_5 : List UInt8 := dkwL_law_5 ++ dktL_law_6
def dkwL_law_4 : List UInt8 := [46, 45, 184, 0, 120, 54, 5, 44, 42, 21, 4, 4, 96, 46, 42, 21, 4, 5, 96, 46, 42, 21, 4, 6]
abbrev dktL_law_4 : List UInt8 := dkwL_law_4 ++ dktL_law_5
def dkwL_law_3 : List UInt8 := [43, 42, 21, 4, 4, 96, 46, 42, 21, 4, 5, 96, 46, 42, 21, 4, 6, 96, 46, 42, 21, 4, 7, 96]
abbrev dktL_law_3 : List UInt8 := dkwL_law_3 ++ dktL_law_4
def dkwL_law_2 : List UInt8 := [170, 0, 0, 0, 0, 0, 8, 52, 0, 0, 0, 0, 0, 0, 0, 28, 0, 0, 0, 132, 0, 0, 0, 225, 0, 0, 1, 38, 0, 0, 1, 131, 0, 0, 1, 235, 0, 0, 2, 60, 0, 0, 2, 117, 0, 0, 2, 236, 0, 0, 3, 37, 0, 0, 3, 94, 0, 0, 3, 163, 0, 0, 3, 232, 0, 0, 4, 33, 0, 0, 4, 102, 0, 0, 4, 171, 0, 0, 4, 240, 0, 0, 5, 53, 0, 0, 5, 122, 0, 0, 5, 198, 0, 0, 6, 11, 0, 0, 6, 96, 0, 0, 6, 154, 0, 0, 6, 211, 0, 0, 7, 13, 0, 0, 7, 82, 0, 0, 7, 167, 0, 0, 7, 224, 0, 0, 8, 25, 0, 0, 8, 38]
abbrev dktL_law_2 : List UInt8 := dkwL_law_2 ++ dktL_law_3
def dkwL_law_1 : List UInt8 := [3, 54, 4, 21, 4, 42, 190, 16, 7, 100, 163, 8, 68, 42, 21, 4, 46, 16, 31, 126]
abbrev dktL_law_1 : List UInt8 := dkwL_law_1 ++ dktL_law_2
def dkwL_law_0 : List UInt8 := [187, 0, 8, 89, 183, 0, 115, 76, 187, 0, 116, 89, 183, 0, 118, 77, 187, 0, 14, 89, 183, 0, 119, 78]
abbrev dktL_law_0 : List UInt8 := dkwL_law_0 ++ dktL_law_1
theorem dksL_law_0 : cL_law.data.toList.drop 0 = dktL_law_0 := by decide +kernel
theorem dksL_law_1 : cL_law.data.toList.drop 24 = dktL_law_1 := dk_seg dksL_law_0 24 rfl rfl
theorem dksL_law_2 : cL_law.data.toList.drop 44 = dktL_law_2 := dk_seg dksL_law_1 20 rfl rfl
theorem dksL_law_3 : cL_law.data.toList.drop 176 = dktL_law_3 := dk_seg dksL_law_2 132 rfl rfl
theorem dksL_law_4 : cL_law.data.toList.drop 200 = dktL_law_4 := dk_seg dksL_law_3 24 rfl rfl
theorem dksL_law_5 : cL_law.data.toList.drop 224 = dktL_law_5 := dk_seg dksL_law_4 24 rfl rfl
theorem dksL_law_6 : cL_law.data.toList.drop 248 = dktL_law_6 := dk_seg dksL_law_5 24 rfl rfl
theorem dksL_law_7 : cL_law.data.toList.drop 271 = dktL_law_7 := dk_seg dksL_law_6 23 rfl rfl
theorem dksL_law_8 : cL_law.data.toList.drop 295 = dktL_law_8 := dk_seg dksL_law_7 24 rfl rfl
theorem dksL_law_9 : cL_law.data.toList.drop 319 = dktL_law_9 := dk_seg dksL_law_8 24 rfl rfl
theorem dksL_law_10 : cL_law.data.toList.drop 343 = dktL_law_10 := dk_seg dksL_law_9 24 rfl rfl
theorem dksL_law_11 : cL_law.data.toList.drop 367 = dktL_law_11 := dk_seg dksL_law_10 24 rfl rfl
theorem dksL_law_12 : cL_law.data.toList.drop 391 = dktL_law_12 := dk_seg dksL_law_11 24 rfl rfl
theorem dksL_law_13 : cL_law.data.toList.drop 415 = dktL_law_13 := dk_seg dksL_law_12 24 rfl rfl
theorem dksL_law_14 : cL_law.data.toList.drop 439 = dktL_law_14 := dk_seg dksL_law_13 24 rfl rfl
theorem dksL_law_15 : cL_law.data.toList.drop 462 = dktL_law_15 := dk_seg dksL_law_14 23 rfl rfl
theorem dksL_law_16 : cL_law.data.toList.drop 486 = dktL_law_16 := dk_seg dksL_law_15 24 rfl rfl
theorem dksL_law_17 : cL_law.data.toList.drop 509 = dktL_law_17 := dk_seg dksL_law_16 23 rfl rfl
theorem dksL_law_18 : cL_law.data.toList.drop 532 = dktL_law_18 := dk_seg dksL_law_17 23 rfl rfl
theorem dksL_law_19 : cL_law.data.toList.drop 555 = dktL_law_19 := dk_seg dksL_law_18 23 rfl rfl
theorem dksL_law_20 : cL_law.data.toList.drop 579 = dktL_law_20 := dk_seg dksL_law_19 24 rfl rfl
theorem dksL_law_21 : cL_law.data.toList.drop 601 = dktL_law_21 := dk_seg dksL_law_20 22 rfl rfl
theorem dksL_law_22 : cL_law.data.toList.drop 624 = dktL_law_22 := dk_seg dksL_law_21 23 rfl rfl
theorem dksL_law_23 : cL_law.data.toList.drop 647 = dktL_law_23 := dk_seg dksL_law_22 23 rfl rfl
theorem dksL_law_24 : cL_law.data.toList.drop 670 = dktL_law_24 := dk_seg dksL_law_23 23 rfl rfl
theorem dksL_law_25 : cL_law.data.toList.drop 693 = dktL_law_25 := dk_seg dksL_law_24 23 rfl rfl
theorem dksL_law_26 : cL_law.data.toList.drop 717 = dktL_law_26 := dk_seg dksL_law_25 24 rfl rfl
theorem dksL_law_27 : cL_law.data.toList.drop 741 = dktL_law_27 := dk_seg dksL_law_26 24 rfl rfl
theorem dksL_law_28 : cL_law.data.toList.drop 764 = dktL_law_28 := dk_seg dksL_law_27 23 rfl rfl
theorem dksL_law_29 : cL_law.data.toList.drop 788 = dktL_law_29 := dk_seg dksL_law_28 24 rfl rfl
theorem dksL_law_30 : cL_law.data.toList.drop 812 = dktL_law_30 := dk_seg dksL_law_29 24 rfl rfl
theorem dksL_law_31 : cL_law.data.toList.drop 834 = dktL_law_31 := dk_seg dksL_law_30 22 rfl rfl
theorem dksL_law_32 : cL_law.data.toList.drop 857 = dktL_law_32 := dk_seg dksL_law_31 23 rfl rfl
theorem dksL_law_33 : cL_law.data.toList.drop 880 = dktL_law_33 := dk_seg dksL_law_32 23 rfl rfl
theorem dksL_law_34 : cL_law.data.toList.drop 903 = dktL_law_34 := dk_seg dksL_law_33 23 rfl rfl
theorem dksL_law_35 : cL_law.data.toList.drop 927 = dktL_law_35 := dk_seg dksL_law_34 24 rfl rfl
theorem dksL_law_36 : cL_law.data.toList.drop 949 = dktL_law_36 := dk_seg dksL_law_35 22 rfl rfl
theorem dksL_law_37 : cL_law.data.toList.drop 972 = dktL_law_37 := dk_seg dksL_law_36 23 rfl rfl
theorem dksL_law_38 : cL_law.data.toList.drop 996 = dktL_law_38 := dk_seg dksL_law_37 24 rfl rfl
theorem dksL_law_39 : cL_law.data.toList.drop 1018 = dktL_law_39 := dk_seg dksL_law_38 22 rfl rfl
theorem dksL_law_40 : cL_law.data.toList.drop 1041 = dktL_law_40 := dk_seg dksL_law_39 23 rfl rfl
theorem dksL_law_41 : cL_law.data.toList.drop 1064 = dktL_law_41 := dk_seg dksL_law_40 23 rfl rfl
theorem dksL_law_42 : cL_law.data.toList.drop 1086 = dktL_law_42 := dk_seg dksL_law_41 22 rfl rfl
theorem dksL_law_43 : cL_law.data.toList.drop 1109 = dktL_law_43 := dk_seg dksL_law_42 23 rfl rfl
theorem dksL_law_44 : cL_law.data.toList.drop 1133 = dktL_law_44 := dk_seg dksL_law_43 24 rfl rfl
theorem dksL_law_45 : cL_law.data.toList.drop 1155 = dktL_law_45 := dk_seg dksL_law_44 22 rfl rfl
theorem dksL_law_46 : cL_law.data.toList.drop 1178 = dktL_law_46 := dk_seg dksL_law_45 23 rfl rfl
theorem dksL_law_47 : cL_law.data.toList.drop 1202 = dktL_law_47 := dk_seg dksL_law_46 24 rfl rfl
theorem dksL_law_48 : cL_law.data.toList.drop 1224 = dktL_law_48 := dk_seg dksL_law_47 22 rfl rfl
theorem dksL_law_49 : cL_law.data.toList.drop 1247 = dktL_law_49 := dk_seg dksL_law_48 23 rfl rfl
theorem dksL_law_50 : cL_law.data.toList.drop 1271 = dktL_law_50 := dk_seg dksL_law_49 24 rfl rfl
theorem dksL_law_51 : cL_law.data.toList.drop 1293 = dktL_law_51 := dk_seg dksL_law_50 22 rfl rfl
theorem dksL_law_52 : cL_law.data.toList.drop 1316 = dktL_law_52 := dk_seg dksL_law_51 23 rfl rfl
theorem dksL_law_53 : cL_law.data.toList.drop 1340 = dktL_law_53 := dk_seg dksL_law_52 24 rfl rfl
theorem dksL_law_54 : cL_law.data.toList.drop 1362 = dktL_law_54 := dk_seg dksL_law_53 22 rfl rfl
theorem dksL_law_55 : cL_law.data.toList.drop 1385 = dktL_law_55 := dk_seg dksL_law_54 23 rfl rfl
theorem dksL_law_56 : cL_law.data.toList.drop 1409 = dktL_law_56 := dk_seg dksL_law_55 24 rfl rfl
theorem dksL_law_57 : cL_law.data.toList.drop 1431 = dktL_law_57 := dk_seg dksL_law_56 22 rfl rfl
theorem dksL_law_58 : cL_law.data.toList.drop 1454 = dktL_law_58 := dk_seg dksL_law_57 23 rfl rfl
theorem dksL_law_59 : cL_law.data.toList.drop 1478 = dktL_law_59 := dk_seg dksL_law_58 24 rfl rfl
theorem dksL_law_60 : cL_law.data.toList.drop 1500 = dktL_law_60 := dk_seg dksL_law_59 22 rfl rfl
theorem dksL_law_61 : cL_law.data.toList.drop 1524 = dktL_law_61 := dk_seg dksL_law_60 24 rfl rfl
theorem dksL_law_62 : cL_law.data.toList.drop 1548 = dktL_law_62 := dk_seg dksL_law_61 24 rfl rfl
theorem dksL_law_63 : cL_law.data.toList.drop 1572 = dktL_law_63 := dk_seg dksL_law_62 24 rfl rfl
theorem dksL_law_64 : cL_law.data.toList.drop 1596 = dktL_law_64 := dk_seg dksL_law_63 24 rfl rfl
theorem dksL_law_65 : cL_law.data.toList.drop 1620 = dktL_law_65 := dk_seg dksL_law_64 24 rfl rfl
theorem dksL_law_66 : cL_law.data.toList.drop 1644 = dktL_law_66 := dk_seg dksL_law_65 24 rfl rfl
theorem dksL_law_67 : cL_law.data.toList.drop 1668 = dktL_law_67 := dk_seg dksL_law_66 24 rfl rfl
theorem dksL_law_68 : cL_law.data.toList.drop 1691 = dktL_law_68 := dk_seg dksL_law_67 23 rfl rfl
theorem dksL_law_69 : cL_law.data.toList.drop 1714 = dktL_law_69 := dk_seg dksL_law_68 23 rfl rfl
theorem dksL_law_70 : cL_law.data.toList.drop 1738 = dktL_law_70 := dk_seg dksL_law_69 24 rfl rfl
theorem dksL_law_71 : cL_law.data.toList.drop 1760 = dktL_law_71 := dk_seg dksL_law_70 22 rfl rfl
theorem dksL_law_72 : cL_law.data.toList.drop 1783 = dktL_law_72 := dk_seg dksL_law_71 23 rfl rfl
theorem dksL_law_73 : cL_law.data.toList.drop 1806 = dktL_law_73 := dk_seg dksL_law_72 23 rfl rfl
theorem dksL_law_74 : cL_law.data.toList.drop 1829 = dktL_law_74 := dk_seg dksL_law_73 23 rfl rfl
theorem dksL_law_75 : cL_law.data.toList.drop 1853 = dktL_law_75 := dk_seg dksL_law_74 24 rfl rfl
theorem dksL_law_76 : cL_law.data.toList.drop 1876 = dktL_law_76 := dk_seg dksL_law_75 23 rfl rfl
theorem dksL_law_77 : cL_law.data.toList.drop 1899 = dktL_law_77 := dk_seg dksL_law_76 23 rfl rfl
theorem dksL_law_78 : cL_law.data.toList.drop 1923 = dktL_law_78 := dk_seg dksL_law_77 24 rfl rfl
theorem dksL_law_79 : cL_law.data.toList.drop 1947 = dktL_law_79 := dk_seg dksL_law_78 24 rfl rfl
theorem dksL_law_80 : cL_law.data.toList.drop 1971 = dktL_law_80 := dk_seg dksL_law_79 24 rfl rfl
theorem dksL_law_81 : cL_law.data.toList.drop 1995 = dktL_law_81 := dk_seg dksL_law_80 24 rfl rfl
theorem dksL_law_82 : cL_law.data.toList.drop 2018 = dktL_law_82 := dk_seg dksL_law_81 23 rfl rfl
theorem dksL_law_83 : cL_law.data.toList.drop 2041 = dktL_law_83 := dk_seg dksL_law_82 23 rfl rfl
theorem dksL_law_84 : cL_law.data.toList.drop 2065 = dktL_law_84 := dk_seg dksL_law_83 24 rfl rfl
theorem dksL_law_85 : cL_law.data.toList.drop 2089 = dktL_law_85 := dk_seg dksL_law_84 24 rfl rfl
theorem dksL_law_86 : cL_law.data.toList.drop 2113 = dktL_law_86 := dk_seg dksL_law_85 24 rfl rfl
theorem dksL_law_87 : cL_law.data.toList.drop 2135 = dktL_law_87 := dk_seg dksL_law_86 22 rfl rfl
theorem dL_law_0 : decode cL_law 0 = .ok (.new 8, 3) := dk_187 0 8 (dk_at dksL_law_0 0 rfl rfl)
theorem dL_law_3 : decode cL_law 3 = .ok (.dup, 1) := dk_89 (dk_at dksL_law_0 3 rfl rfl)
theorem dL_law_4 : decode cL_law 4 = .ok (.invokespecial 115, 3) := dk_183 0 115 (dk_at dksL_law_0 4 rfl rfl)
theorem dL_law_7 : decode cL_law 7 = .ok (.astore_n 1, 1) := dk_76 (dk_at dksL_law_0 7 rfl rfl)
theorem dL_law_8 : decode cL_law 8 = .ok (.new 116, 3) := dk_187 0 116 (dk_at dksL_law_0 8 rfl rfl)
theorem dL_law_11 : decode cL_law 11 = .ok (.dup, 1) := dk_89 (dk_at dksL_law_0 11 rfl rfl)
theorem dL_law_12 : decode cL_law 12 = .ok (.invokespecial 118, 3) := dk_183 0 118 (dk_at dksL_law_0 12 rfl rfl)
theorem dL_law_15 : decode cL_law 15 = .ok (.astore_n 2, 1) := dk_77 (dk_at dksL_law_0 15 rfl rfl)
theorem dL_law_16 : decode cL_law 16 = .ok (.new 14, 3) := dk_187 0 14 (dk_at dksL_law_0 16 rfl rfl)
theorem dL_law_19 : decode cL_law 19 = .ok (.dup, 1) := dk_89 (dk_at dksL_law_0 19 rfl rfl)
theorem dL_law_20 : decode cL_law 20 = .ok (.invokespecial 119, 3) := dk_183 0 119 (dk_at dksL_law_0 20 rfl rfl)
theorem dL_law_23 : decode cL_law 23 = .ok (.astore_n 3, 1) := dk_78 (dk_at dksL_law_0 23 rfl rfl)
theorem dL_law_24 : decode cL_law 24 = .ok (.iconst 0, 1) := dk_3 (dk_at dksL_law_1 0 rfl rfl)
theorem dL_law_25 : decode cL_law 25 = .ok (.istore 4, 2) := dk_54 4 (dk_at dksL_law_1 1 rfl rfl)
theorem dL_law_27 : decode cL_law 27 = .ok (.iload 4, 2) := dk_21 4 (dk_at dksL_law_1 3 rfl rfl)
theorem dL_law_29 : decode cL_law 29 = .ok (.aload_n 0, 1) := dk_42 (dk_at dksL_law_1 5 rfl rfl)
theorem dL_law_30 : decode cL_law 30 = .ok (.arraylength, 1) := dk_190 (dk_at dksL_law_1 6 rfl rfl)
theorem dL_law_31 : decode cL_law 31 = .ok (.bipush 7, 2) := dk_16 7 (dk_at dksL_law_1 7 rfl rfl)
theorem dL_law_33 : decode cL_law 33 = .ok (.isub, 1) := dk_100 (dk_at dksL_law_1 9 rfl rfl)
theorem dL_law_34 : decode cL_law 34 = .ok (.if_icmp .gt 2116, 3) := dk_163 8 68 (dk_at dksL_law_1 10 rfl rfl)
theorem dL_law_37 : decode cL_law 37 = .ok (.aload_n 0, 1) := dk_42 (dk_at dksL_law_1 13 rfl rfl)
theorem dL_law_38 : decode cL_law 38 = .ok (.iload 4, 2) := dk_21 4 (dk_at dksL_law_1 14 rfl rfl)
theorem dL_law_40 : decode cL_law 40 = .ok (.iaload, 1) := dk_46 (dk_at dksL_law_1 16 rfl rfl)
theorem dL_law_41 : decode cL_law 41 = .ok (.bipush 31, 2) := dk_16 31 (dk_at dksL_law_1 17 rfl rfl)
theorem dL_law_43 : decode cL_law 43 = .ok (.iand, 1) := dk_126 (dk_at dksL_law_1 19 rfl rfl)
theorem dL_law_44 : decode cL_law 44 = .ok (.tableswitch 2100 0 28 #[132, 225, 294, 387, 491, 572, 629, 748, 805, 862, 931, 1000, 1057, 1126, 1195, 1264, 1333, 1402, 1478, 1547, 1632, 1690, 1747, 1805, 1874, 1959, 2016, 2073, 2086], 132) := by decide +kernel
theorem dL_law_176 : decode cL_law 176 = .ok (.aload_n 1, 1) := dk_43 (dk_at dksL_law_3 0 rfl rfl)
theorem dL_law_177 : decode cL_law 177 = .ok (.aload_n 0, 1) := dk_42 (dk_at dksL_law_3 1 rfl rfl)
theorem dL_law_178 : decode cL_law 178 = .ok (.iload 4, 2) := dk_21 4 (dk_at dksL_law_3 2 rfl rfl)
theorem dL_law_180 : decode cL_law 180 = .ok (.iconst 1, 1) := dk_4 (dk_at dksL_law_3 4 rfl rfl)
theorem dL_law_181 : decode cL_law 181 = .ok (.iadd, 1) := dk_96 (dk_at dksL_law_3 5 rfl rfl)
theorem dL_law_182 : decode cL_law 182 = .ok (.iaload, 1) := dk_46 (dk_at dksL_law_3 6 rfl rfl)
theorem dL_law_183 : decode cL_law 183 = .ok (.aload_n 0, 1) := dk_42 (dk_at dksL_law_3 7 rfl rfl)
theorem dL_law_184 : decode cL_law 184 = .ok (.iload 4, 2) := dk_21 4 (dk_at dksL_law_3 8 rfl rfl)
theorem dL_law_186 : decode cL_law 186 = .ok (.iconst 2, 1) := dk_5 (dk_at dksL_law_3 10 rfl rfl)
theorem dL_law_187 : decode cL_law 187 = .ok (.iadd, 1) := dk_96 (dk_at dksL_law_3 11 rfl rfl)
theorem dL_law_188 : decode cL_law 188 = .ok (.iaload, 1) := dk_46 (dk_at dksL_law_3 12 rfl rfl)
theorem dL_law_189 : decode cL_law 189 = .ok (.aload_n 0, 1) := dk_42 (dk_at dksL_law_3 13 rfl rfl)
theorem dL_law_190 : decode cL_law 190 = .ok (.iload 4, 2) := dk_21 4 (dk_at dksL_law_3 14 rfl rfl)
theorem dL_law_192 : decode cL_law 192 = .ok (.iconst 3, 1) := dk_6 (dk_at dksL_law_3 16 rfl rfl)
theorem dL_law_193 : decode cL_law 193 = .ok (.iadd, 1) := dk_96 (dk_at dksL_law_3 17 rfl rfl)
theorem dL_law_194 : decode cL_law 194 = .ok (.iaload, 1) := dk_46 (dk_at dksL_law_3 18 rfl rfl)
theorem dL_law_195 : decode cL_law 195 = .ok (.aload_n 0, 1) := dk_42 (dk_at dksL_law_3 19 rfl rfl)
theorem dL_law_196 : decode cL_law 196 = .ok (.iload 4, 2) := dk_21 4 (dk_at dksL_law_3 20 rfl rfl)
theorem dL_law_198 : decode cL_law 198 = .ok (.iconst 4, 1) := dk_7 (dk_at dksL_law_3 22 rfl rfl)
theorem dL_law_199 : decode cL_law 199 = .ok (.iadd, 1) := dk_96 (dk_at dksL_law_3 23 rfl rfl)
theorem dL_law_200 : decode cL_law 200 = .ok (.iaload, 1) := dk_46 (dk_at dksL_law_4 0 rfl rfl)
theorem dL_law_201 : decode cL_law 201 = .ok (.aload_n 3, 1) := dk_45 (dk_at dksL_law_4 1 rfl rfl)
theorem dL_law_202 : decode cL_law 202 = .ok (.invokestatic 120, 3) := dk_184 0 120 (dk_at dksL_law_4 2 rfl rfl)
theorem dL_law_205 : decode cL_law 205 = .ok (.istore 5, 2) := dk_54 5 (dk_at dksL_law_4 5 rfl rfl)
theorem dL_law_207 : decode cL_law 207 = .ok (.aload_n 2, 1) := dk_44 (dk_at dksL_law_4 7 rfl rfl)
theorem dL_law_208 : decode cL_law 208 = .ok (.aload_n 0, 1) := dk_42 (dk_at dksL_law_4 8 rfl rfl)
theorem dL_law_209 : decode cL_law 209 = .ok (.iload 4, 2) := dk_21 4 (dk_at dksL_law_4 9 rfl rfl)
theorem dL_law_211 : decode cL_law 211 = .ok (.iconst 1, 1) := dk_4 (dk_at dksL_law_4 11 rfl rfl)
theorem dL_law_212 : decode cL_law 212 = .ok (.iadd, 1) := dk_96 (dk_at dksL_law_4 12 rfl rfl)
theorem dL_law_213 : decode cL_law 213 = .ok (.iaload, 1) := dk_46 (dk_at dksL_law_4 13 rfl rfl)
theorem dL_law_214 : decode cL_law 214 = .ok (.aload_n 0, 1) := dk_42 (dk_at dksL_law_4 14 rfl rfl)
theorem dL_law_215 : decode cL_law 215 = .ok (.iload 4, 2) := dk_21 4 (dk_at dksL_law_4 15 rfl rfl)
theorem dL_law_217 : decode cL_law 217 = .ok (.iconst 2, 1) := dk_5 (dk_at dksL_law_4 17 rfl rfl)
theorem dL_law_218 : decode cL_law 218 = .ok (.iadd, 1) := dk_96 (dk_at dksL_law_4 18 rfl rfl)
theorem dL_law_219 : decode cL_law 219 = .ok (.iaload, 1) := dk_46 (dk_at dksL_law_4 19 rfl rfl)
theorem dL_law_220 : decode cL_law 220 = .ok (.aload_n 0, 1) := dk_42 (dk_at dksL_law_4 20 rfl rfl)
theorem dL_law_221 : decode cL_law 221 = .ok (.iload 4, 2) := dk_21 4 (dk_at dksL_law_4 21 rfl rfl)
theorem dL_law_223 : decode cL_law 223 = .ok (.iconst 3, 1) := dk_6 (dk_at dksL_law_4 23 rfl rfl)
theorem dL_law_224 : decode cL_law 224 = .ok (.iadd, 1) := dk_96 (dk_at dksL_law_5 0 rfl rfl)
theorem dL_law_225 : decode cL_law 225 = .ok (.iaload, 1) := dk_46 (dk_at dksL_law_5 1 rfl rfl)
theorem dL_law_226 : decode cL_law 226 = .ok (.aload_n 0, 1) := dk_42 (dk_at dksL_law_5 2 rfl rfl)
theorem dL_law_227 : decode cL_law 227 = .ok (.iload 4, 2) := dk_21 4 (dk_at dksL_law_5 3 rfl rfl)
theorem dL_law_229 : decode cL_law 229 = .ok (.iconst 4, 1) := dk_7 (dk_at dksL_law_5 5 rfl rfl)
theorem dL_law_230 : decode cL_law 230 = .ok (.iadd, 1) := dk_96 (dk_at dksL_law_5 6 rfl rfl)
theorem dL_law_231 : decode cL_law 231 = .ok (.iaload, 1) := dk_46 (dk_at dksL_law_5 7 rfl rfl)
theorem dL_law_232 : decode cL_law 232 = .ok (.invokevirtual 125, 3) := dk_182 0 125 (dk_at dksL_law_5 8 rfl rfl)
theorem dL_law_235 : decode cL_law 235 = .ok (.istore 6, 2) := dk_54 6 (dk_at dksL_law_5 11 rfl rfl)
theorem dL_law_237 : decode cL_law 237 = .ok (.aload_n 2, 1) := dk_44 (dk_at dksL_law_5 13 rfl rfl)
theorem dL_law_238 : decode cL_law 238 = .ok (.invokevirtual 126, 3) := dk_182 0 126 (dk_at dksL_law_5 14 rfl rfl)
theorem dL_law_241 : decode cL_law 241 = .ok (.iload 5, 2) := dk_21 5 (dk_at dksL_law_5 17 rfl rfl)
theorem dL_law_243 : decode cL_law 243 = .ok (.if_icmp .eq 5, 3) := dk_159 0 5 (dk_at dksL_law_5 19 rfl rfl)
theorem dL_law_246 : decode cL_law 246 = .ok (.iconst 0, 1) := dk_3 (dk_at dksL_law_5 22 rfl rfl)
theorem dL_law_247 : decode cL_law 247 = .ok (.ireturn, 1) := dk_172 (dk_at dksL_law_5 23 rfl rfl)
theorem dL_law_248 : decode cL_law 248 = .ok (.iload 5, 2) := dk_21 5 (dk_at dksL_law_6 0 rfl rfl)
theorem dL_law_250 : decode cL_law 250 = .ok (.ifCond .ne 16, 3) := dk_154 0 16 (dk_at dksL_law_6 2 rfl rfl)
theorem dL_law_253 : decode cL_law 253 = .ok (.aload_n 3, 1) := dk_45 (dk_at dksL_law_6 5 rfl rfl)
theorem dL_law_254 : decode cL_law 254 = .ok (.getfield 13, 3) := dk_180 0 13 (dk_at dksL_law_6 6 rfl rfl)
theorem dL_law_257 : decode cL_law 257 = .ok (.iload 6, 2) := dk_21 6 (dk_at dksL_law_6 9 rfl rfl)
theorem dL_law_259 : decode cL_law 259 = .ok (.i2l, 1) := dk_133 (dk_at dksL_law_6 11 rfl rfl)
theorem dL_law_260 : decode cL_law 260 = .ok (.lcmp, 1) := dk_148 (dk_at dksL_law_6 12 rfl rfl)
theorem dL_law_261 : decode cL_law 261 = .ok (.ifCond .eq 5, 3) := dk_153 0 5 (dk_at dksL_law_6 13 rfl rfl)
theorem dL_law_264 : decode cL_law 264 = .ok (.iconst 0, 1) := dk_3 (dk_at dksL_law_6 16 rfl rfl)
theorem dL_law_265 : decode cL_law 265 = .ok (.ireturn, 1) := dk_172 (dk_at dksL_law_6 17 rfl rfl)
theorem dL_law_266 : decode cL_law 266 = .ok (.goto 1878, 3) := dk_167 7 86 (dk_at dksL_law_6 18 rfl rfl)
theorem dL_law_269 : decode cL_law 269 = .ok (.aload_n 1, 1) := dk_43 (dk_at dksL_law_6 21 rfl rfl)
theorem dL_law_270 : decode cL_law 270 = .ok (.aload_n 0, 1) := dk_42 (dk_at dksL_law_6 22 rfl rfl)
theorem dL_law_271 : decode cL_law 271 = .ok (.iload 4, 2) := dk_21 4 (dk_at dksL_law_7 0 rfl rfl)
theorem dL_law_273 : decode cL_law 273 = .ok (.iconst 1, 1) := dk_4 (dk_at dksL_law_7 2 rfl rfl)
theorem dL_law_274 : decode cL_law 274 = .ok (.iadd, 1) := dk_96 (dk_at dksL_law_7 3 rfl rfl)
theorem dL_law_275 : decode cL_law 275 = .ok (.iaload, 1) := dk_46 (dk_at dksL_law_7 4 rfl rfl)
theorem dL_law_276 : decode cL_law 276 = .ok (.aload_n 0, 1) := dk_42 (dk_at dksL_law_7 5 rfl rfl)
theorem dL_law_277 : decode cL_law 277 = .ok (.iload 4, 2) := dk_21 4 (dk_at dksL_law_7 6 rfl rfl)
theorem dL_law_279 : decode cL_law 279 = .ok (.iconst 2, 1) := dk_5 (dk_at dksL_law_7 8 rfl rfl)
theorem dL_law_280 : decode cL_law 280 = .ok (.iadd, 1) := dk_96 (dk_at dksL_law_7 9 rfl rfl)
theorem dL_law_281 : decode cL_law 281 = .ok (.iaload, 1) := dk_46 (dk_at dksL_law_7 10 rfl rfl)
theorem dL_law_282 : decode cL_law 282 = .ok (.aload_n 3, 1) := dk_45 (dk_at dksL_law_7 11 rfl rfl)
theorem dL_law_283 : decode cL_law 283 = .ok (.invokestatic 130, 3) := dk_184 0 130 (dk_at dksL_law_7 12 rfl rfl)
theorem dL_law_286 : decode cL_law 286 = .ok (.istore 5, 2) := dk_54 5 (dk_at dksL_law_7 15 rfl rfl)
theorem dL_law_288 : decode cL_law 288 = .ok (.aload_n 2, 1) := dk_44 (dk_at dksL_law_7 17 rfl rfl)
theorem dL_law_289 : decode cL_law 289 = .ok (.aload_n 0, 1) := dk_42 (dk_at dksL_law_7 18 rfl rfl)
theorem dL_law_290 : decode cL_law 290 = .ok (.iload 4, 2) := dk_21 4 (dk_at dksL_law_7 19 rfl rfl)
theorem dL_law_292 : decode cL_law 292 = .ok (.iconst 1, 1) := dk_4 (dk_at dksL_law_7 21 rfl rfl)
theorem dL_law_293 : decode cL_law 293 = .ok (.iadd, 1) := dk_96 (dk_at dksL_law_7 22 rfl rfl)
theorem dL_law_294 : decode cL_law 294 = .ok (.iaload, 1) := dk_46 (dk_at dksL_law_7 23 rfl rfl)
theorem dL_law_295 : decode cL_law 295 = .ok (.aload_n 0, 1) := dk_42 (dk_at dksL_law_8 0 rfl rfl)
theorem dL_law_296 : decode cL_law 296 = .ok (.iload 4, 2) := dk_21 4 (dk_at dksL_law_8 1 rfl rfl)
theorem dL_law_298 : decode cL_law 298 = .ok (.iconst 2, 1) := dk_5 (dk_at dksL_law_8 3 rfl rfl)
theorem dL_law_299 : decode cL_law 299 = .ok (.iadd, 1) := dk_96 (dk_at dksL_law_8 4 rfl rfl)
theorem dL_law_300 : decode cL_law 300 = .ok (.iaload, 1) := dk_46 (dk_at dksL_law_8 5 rfl rfl)
theorem dL_law_301 : decode cL_law 301 = .ok (.invokevirtual 133, 3) := dk_182 0 133 (dk_at dksL_law_8 6 rfl rfl)
theorem dL_law_304 : decode cL_law 304 = .ok (.istore 6, 2) := dk_54 6 (dk_at dksL_law_8 9 rfl rfl)
theorem dL_law_306 : decode cL_law 306 = .ok (.aload_n 2, 1) := dk_44 (dk_at dksL_law_8 11 rfl rfl)
theorem dL_law_307 : decode cL_law 307 = .ok (.invokevirtual 126, 3) := dk_182 0 126 (dk_at dksL_law_8 12 rfl rfl)
theorem dL_law_310 : decode cL_law 310 = .ok (.iload 5, 2) := dk_21 5 (dk_at dksL_law_8 15 rfl rfl)
theorem dL_law_312 : decode cL_law 312 = .ok (.if_icmp .eq 5, 3) := dk_159 0 5 (dk_at dksL_law_8 17 rfl rfl)
theorem dL_law_315 : decode cL_law 315 = .ok (.iconst 0, 1) := dk_3 (dk_at dksL_law_8 20 rfl rfl)
theorem dL_law_316 : decode cL_law 316 = .ok (.ireturn, 1) := dk_172 (dk_at dksL_law_8 21 rfl rfl)
theorem dL_law_317 : decode cL_law 317 = .ok (.iload 5, 2) := dk_21 5 (dk_at dksL_law_8 22 rfl rfl)
theorem dL_law_319 : decode cL_law 319 = .ok (.ifCond .ne 16, 3) := dk_154 0 16 (dk_at dksL_law_9 0 rfl rfl)
theorem dL_law_322 : decode cL_law 322 = .ok (.aload_n 3, 1) := dk_45 (dk_at dksL_law_9 3 rfl rfl)
theorem dL_law_323 : decode cL_law 323 = .ok (.getfield 13, 3) := dk_180 0 13 (dk_at dksL_law_9 4 rfl rfl)
theorem dL_law_326 : decode cL_law 326 = .ok (.iload 6, 2) := dk_21 6 (dk_at dksL_law_9 7 rfl rfl)
theorem dL_law_328 : decode cL_law 328 = .ok (.i2l, 1) := dk_133 (dk_at dksL_law_9 9 rfl rfl)
theorem dL_law_329 : decode cL_law 329 = .ok (.lcmp, 1) := dk_148 (dk_at dksL_law_9 10 rfl rfl)
theorem dL_law_330 : decode cL_law 330 = .ok (.ifCond .eq 5, 3) := dk_153 0 5 (dk_at dksL_law_9 11 rfl rfl)
theorem dL_law_333 : decode cL_law 333 = .ok (.iconst 0, 1) := dk_3 (dk_at dksL_law_9 14 rfl rfl)
theorem dL_law_334 : decode cL_law 334 = .ok (.ireturn, 1) := dk_172 (dk_at dksL_law_9 15 rfl rfl)
theorem dL_law_335 : decode cL_law 335 = .ok (.goto 1809, 3) := dk_167 7 17 (dk_at dksL_law_9 16 rfl rfl)
theorem dL_law_338 : decode cL_law 338 = .ok (.aload_n 1, 1) := dk_43 (dk_at dksL_law_9 19 rfl rfl)
theorem dL_law_339 : decode cL_law 339 = .ok (.aload_n 0, 1) := dk_42 (dk_at dksL_law_9 20 rfl rfl)
theorem dL_law_340 : decode cL_law 340 = .ok (.iload 4, 2) := dk_21 4 (dk_at dksL_law_9 21 rfl rfl)
theorem dL_law_342 : decode cL_law 342 = .ok (.iconst 1, 1) := dk_4 (dk_at dksL_law_9 23 rfl rfl)
theorem dL_law_343 : decode cL_law 343 = .ok (.iadd, 1) := dk_96 (dk_at dksL_law_10 0 rfl rfl)
theorem dL_law_344 : decode cL_law 344 = .ok (.iaload, 1) := dk_46 (dk_at dksL_law_10 1 rfl rfl)
theorem dL_law_345 : decode cL_law 345 = .ok (.aload_n 0, 1) := dk_42 (dk_at dksL_law_10 2 rfl rfl)
theorem dL_law_346 : decode cL_law 346 = .ok (.iload 4, 2) := dk_21 4 (dk_at dksL_law_10 3 rfl rfl)
theorem dL_law_348 : decode cL_law 348 = .ok (.iconst 2, 1) := dk_5 (dk_at dksL_law_10 5 rfl rfl)
theorem dL_law_349 : decode cL_law 349 = .ok (.iadd, 1) := dk_96 (dk_at dksL_law_10 6 rfl rfl)
theorem dL_law_350 : decode cL_law 350 = .ok (.iaload, 1) := dk_46 (dk_at dksL_law_10 7 rfl rfl)
theorem dL_law_351 : decode cL_law 351 = .ok (.aload_n 0, 1) := dk_42 (dk_at dksL_law_10 8 rfl rfl)
theorem dL_law_352 : decode cL_law 352 = .ok (.iload 4, 2) := dk_21 4 (dk_at dksL_law_10 9 rfl rfl)
theorem dL_law_354 : decode cL_law 354 = .ok (.iconst 3, 1) := dk_6 (dk_at dksL_law_10 11 rfl rfl)
theorem dL_law_355 : decode cL_law 355 = .ok (.iadd, 1) := dk_96 (dk_at dksL_law_10 12 rfl rfl)
theorem dL_law_356 : decode cL_law 356 = .ok (.iaload, 1) := dk_46 (dk_at dksL_law_10 13 rfl rfl)
theorem dL_law_357 : decode cL_law 357 = .ok (.aload_n 0, 1) := dk_42 (dk_at dksL_law_10 14 rfl rfl)
theorem dL_law_358 : decode cL_law 358 = .ok (.iload 4, 2) := dk_21 4 (dk_at dksL_law_10 15 rfl rfl)
theorem dL_law_360 : decode cL_law 360 = .ok (.iconst 4, 1) := dk_7 (dk_at dksL_law_10 17 rfl rfl)
theorem dL_law_361 : decode cL_law 361 = .ok (.iadd, 1) := dk_96 (dk_at dksL_law_10 18 rfl rfl)
theorem dL_law_362 : decode cL_law 362 = .ok (.iaload, 1) := dk_46 (dk_at dksL_law_10 19 rfl rfl)
theorem dL_law_363 : decode cL_law 363 = .ok (.aload_n 3, 1) := dk_45 (dk_at dksL_law_10 20 rfl rfl)
theorem dL_law_364 : decode cL_law 364 = .ok (.invokestatic 134, 3) := dk_184 0 134 (dk_at dksL_law_10 21 rfl rfl)
theorem dL_law_367 : decode cL_law 367 = .ok (.istore 5, 2) := dk_54 5 (dk_at dksL_law_11 0 rfl rfl)
theorem dL_law_369 : decode cL_law 369 = .ok (.aload_n 2, 1) := dk_44 (dk_at dksL_law_11 2 rfl rfl)
theorem dL_law_370 : decode cL_law 370 = .ok (.aload_n 0, 1) := dk_42 (dk_at dksL_law_11 3 rfl rfl)
theorem dL_law_371 : decode cL_law 371 = .ok (.iload 4, 2) := dk_21 4 (dk_at dksL_law_11 4 rfl rfl)
theorem dL_law_373 : decode cL_law 373 = .ok (.iconst 1, 1) := dk_4 (dk_at dksL_law_11 6 rfl rfl)
theorem dL_law_374 : decode cL_law 374 = .ok (.iadd, 1) := dk_96 (dk_at dksL_law_11 7 rfl rfl)
theorem dL_law_375 : decode cL_law 375 = .ok (.iaload, 1) := dk_46 (dk_at dksL_law_11 8 rfl rfl)
theorem dL_law_376 : decode cL_law 376 = .ok (.aload_n 0, 1) := dk_42 (dk_at dksL_law_11 9 rfl rfl)
theorem dL_law_377 : decode cL_law 377 = .ok (.iload 4, 2) := dk_21 4 (dk_at dksL_law_11 10 rfl rfl)
theorem dL_law_379 : decode cL_law 379 = .ok (.iconst 2, 1) := dk_5 (dk_at dksL_law_11 12 rfl rfl)
theorem dL_law_380 : decode cL_law 380 = .ok (.iadd, 1) := dk_96 (dk_at dksL_law_11 13 rfl rfl)
theorem dL_law_381 : decode cL_law 381 = .ok (.iaload, 1) := dk_46 (dk_at dksL_law_11 14 rfl rfl)
theorem dL_law_382 : decode cL_law 382 = .ok (.aload_n 0, 1) := dk_42 (dk_at dksL_law_11 15 rfl rfl)
theorem dL_law_383 : decode cL_law 383 = .ok (.iload 4, 2) := dk_21 4 (dk_at dksL_law_11 16 rfl rfl)
theorem dL_law_385 : decode cL_law 385 = .ok (.iconst 3, 1) := dk_6 (dk_at dksL_law_11 18 rfl rfl)
theorem dL_law_386 : decode cL_law 386 = .ok (.iadd, 1) := dk_96 (dk_at dksL_law_11 19 rfl rfl)
theorem dL_law_387 : decode cL_law 387 = .ok (.iaload, 1) := dk_46 (dk_at dksL_law_11 20 rfl rfl)
theorem dL_law_388 : decode cL_law 388 = .ok (.aload_n 0, 1) := dk_42 (dk_at dksL_law_11 21 rfl rfl)
theorem dL_law_389 : decode cL_law 389 = .ok (.iload 4, 2) := dk_21 4 (dk_at dksL_law_11 22 rfl rfl)
theorem dL_law_391 : decode cL_law 391 = .ok (.iconst 4, 1) := dk_7 (dk_at dksL_law_12 0 rfl rfl)
theorem dL_law_392 : decode cL_law 392 = .ok (.iadd, 1) := dk_96 (dk_at dksL_law_12 1 rfl rfl)
theorem dL_law_393 : decode cL_law 393 = .ok (.iaload, 1) := dk_46 (dk_at dksL_law_12 2 rfl rfl)
theorem dL_law_394 : decode cL_law 394 = .ok (.invokevirtual 136, 3) := dk_182 0 136 (dk_at dksL_law_12 3 rfl rfl)
theorem dL_law_397 : decode cL_law 397 = .ok (.istore 6, 2) := dk_54 6 (dk_at dksL_law_12 6 rfl rfl)
theorem dL_law_399 : decode cL_law 399 = .ok (.aload_n 2, 1) := dk_44 (dk_at dksL_law_12 8 rfl rfl)
theorem dL_law_400 : decode cL_law 400 = .ok (.invokevirtual 126, 3) := dk_182 0 126 (dk_at dksL_law_12 9 rfl rfl)
theorem dL_law_403 : decode cL_law 403 = .ok (.iload 5, 2) := dk_21 5 (dk_at dksL_law_12 12 rfl rfl)
theorem dL_law_405 : decode cL_law 405 = .ok (.if_icmp .eq 5, 3) := dk_159 0 5 (dk_at dksL_law_12 14 rfl rfl)
theorem dL_law_408 : decode cL_law 408 = .ok (.iconst 0, 1) := dk_3 (dk_at dksL_law_12 17 rfl rfl)
theorem dL_law_409 : decode cL_law 409 = .ok (.ireturn, 1) := dk_172 (dk_at dksL_law_12 18 rfl rfl)
theorem dL_law_410 : decode cL_law 410 = .ok (.iload 5, 2) := dk_21 5 (dk_at dksL_law_12 19 rfl rfl)
theorem dL_law_412 : decode cL_law 412 = .ok (.ifCond .ne 16, 3) := dk_154 0 16 (dk_at dksL_law_12 21 rfl rfl)
theorem dL_law_415 : decode cL_law 415 = .ok (.aload_n 3, 1) := dk_45 (dk_at dksL_law_13 0 rfl rfl)
theorem dL_law_416 : decode cL_law 416 = .ok (.getfield 13, 3) := dk_180 0 13 (dk_at dksL_law_13 1 rfl rfl)
theorem dL_law_419 : decode cL_law 419 = .ok (.iload 6, 2) := dk_21 6 (dk_at dksL_law_13 4 rfl rfl)
theorem dL_law_421 : decode cL_law 421 = .ok (.i2l, 1) := dk_133 (dk_at dksL_law_13 6 rfl rfl)
theorem dL_law_422 : decode cL_law 422 = .ok (.lcmp, 1) := dk_148 (dk_at dksL_law_13 7 rfl rfl)
theorem dL_law_423 : decode cL_law 423 = .ok (.ifCond .eq 5, 3) := dk_153 0 5 (dk_at dksL_law_13 8 rfl rfl)
theorem dL_law_426 : decode cL_law 426 = .ok (.iconst 0, 1) := dk_3 (dk_at dksL_law_13 11 rfl rfl)
theorem dL_law_427 : decode cL_law 427 = .ok (.ireturn, 1) := dk_172 (dk_at dksL_law_13 12 rfl rfl)
theorem dL_law_428 : decode cL_law 428 = .ok (.goto 1716, 3) := dk_167 6 180 (dk_at dksL_law_13 13 rfl rfl)
theorem dL_law_431 : decode cL_law 431 = .ok (.aload_n 1, 1) := dk_43 (dk_at dksL_law_13 16 rfl rfl)
theorem dL_law_432 : decode cL_law 432 = .ok (.aload_n 0, 1) := dk_42 (dk_at dksL_law_13 17 rfl rfl)
theorem dL_law_433 : decode cL_law 433 = .ok (.iload 4, 2) := dk_21 4 (dk_at dksL_law_13 18 rfl rfl)
theorem dL_law_435 : decode cL_law 435 = .ok (.iconst 1, 1) := dk_4 (dk_at dksL_law_13 20 rfl rfl)
theorem dL_law_436 : decode cL_law 436 = .ok (.iadd, 1) := dk_96 (dk_at dksL_law_13 21 rfl rfl)
theorem dL_law_437 : decode cL_law 437 = .ok (.iaload, 1) := dk_46 (dk_at dksL_law_13 22 rfl rfl)
theorem dL_law_438 : decode cL_law 438 = .ok (.aload_n 0, 1) := dk_42 (dk_at dksL_law_13 23 rfl rfl)
theorem dL_law_439 : decode cL_law 439 = .ok (.iload 4, 2) := dk_21 4 (dk_at dksL_law_14 0 rfl rfl)
theorem dL_law_441 : decode cL_law 441 = .ok (.iconst 2, 1) := dk_5 (dk_at dksL_law_14 2 rfl rfl)
theorem dL_law_442 : decode cL_law 442 = .ok (.iadd, 1) := dk_96 (dk_at dksL_law_14 3 rfl rfl)
theorem dL_law_443 : decode cL_law 443 = .ok (.iaload, 1) := dk_46 (dk_at dksL_law_14 4 rfl rfl)
theorem dL_law_444 : decode cL_law 444 = .ok (.aload_n 0, 1) := dk_42 (dk_at dksL_law_14 5 rfl rfl)
theorem dL_law_445 : decode cL_law 445 = .ok (.iload 4, 2) := dk_21 4 (dk_at dksL_law_14 6 rfl rfl)
theorem dL_law_447 : decode cL_law 447 = .ok (.iconst 3, 1) := dk_6 (dk_at dksL_law_14 8 rfl rfl)
theorem dL_law_448 : decode cL_law 448 = .ok (.iadd, 1) := dk_96 (dk_at dksL_law_14 9 rfl rfl)
theorem dL_law_449 : decode cL_law 449 = .ok (.iaload, 1) := dk_46 (dk_at dksL_law_14 10 rfl rfl)
theorem dL_law_450 : decode cL_law 450 = .ok (.ifCond .eq 7, 3) := dk_153 0 7 (dk_at dksL_law_14 11 rfl rfl)
theorem dL_law_453 : decode cL_law 453 = .ok (.iconst 1, 1) := dk_4 (dk_at dksL_law_14 14 rfl rfl)
theorem dL_law_454 : decode cL_law 454 = .ok (.goto 4, 3) := dk_167 0 4 (dk_at dksL_law_14 15 rfl rfl)
theorem dL_law_457 : decode cL_law 457 = .ok (.iconst 0, 1) := dk_3 (dk_at dksL_law_14 18 rfl rfl)
theorem dL_law_458 : decode cL_law 458 = .ok (.aload_n 3, 1) := dk_45 (dk_at dksL_law_14 19 rfl rfl)
theorem dL_law_459 : decode cL_law 459 = .ok (.invokestatic 137, 3) := dk_184 0 137 (dk_at dksL_law_14 20 rfl rfl)
theorem dL_law_462 : decode cL_law 462 = .ok (.istore 5, 2) := dk_54 5 (dk_at dksL_law_15 0 rfl rfl)
theorem dL_law_464 : decode cL_law 464 = .ok (.aload_n 2, 1) := dk_44 (dk_at dksL_law_15 2 rfl rfl)
theorem dL_law_465 : decode cL_law 465 = .ok (.aload_n 0, 1) := dk_42 (dk_at dksL_law_15 3 rfl rfl)
theorem dL_law_466 : decode cL_law 466 = .ok (.iload 4, 2) := dk_21 4 (dk_at dksL_law_15 4 rfl rfl)
theorem dL_law_468 : decode cL_law 468 = .ok (.iconst 1, 1) := dk_4 (dk_at dksL_law_15 6 rfl rfl)
theorem dL_law_469 : decode cL_law 469 = .ok (.iadd, 1) := dk_96 (dk_at dksL_law_15 7 rfl rfl)
theorem dL_law_470 : decode cL_law 470 = .ok (.iaload, 1) := dk_46 (dk_at dksL_law_15 8 rfl rfl)
theorem dL_law_471 : decode cL_law 471 = .ok (.aload_n 0, 1) := dk_42 (dk_at dksL_law_15 9 rfl rfl)
theorem dL_law_472 : decode cL_law 472 = .ok (.iload 4, 2) := dk_21 4 (dk_at dksL_law_15 10 rfl rfl)
theorem dL_law_474 : decode cL_law 474 = .ok (.iconst 2, 1) := dk_5 (dk_at dksL_law_15 12 rfl rfl)
theorem dL_law_475 : decode cL_law 475 = .ok (.iadd, 1) := dk_96 (dk_at dksL_law_15 13 rfl rfl)
theorem dL_law_476 : decode cL_law 476 = .ok (.iaload, 1) := dk_46 (dk_at dksL_law_15 14 rfl rfl)
theorem dL_law_477 : decode cL_law 477 = .ok (.aload_n 0, 1) := dk_42 (dk_at dksL_law_15 15 rfl rfl)
theorem dL_law_478 : decode cL_law 478 = .ok (.iload 4, 2) := dk_21 4 (dk_at dksL_law_15 16 rfl rfl)
theorem dL_law_480 : decode cL_law 480 = .ok (.iconst 3, 1) := dk_6 (dk_at dksL_law_15 18 rfl rfl)
theorem dL_law_481 : decode cL_law 481 = .ok (.iadd, 1) := dk_96 (dk_at dksL_law_15 19 rfl rfl)
theorem dL_law_482 : decode cL_law 482 = .ok (.iaload, 1) := dk_46 (dk_at dksL_law_15 20 rfl rfl)
theorem dL_law_483 : decode cL_law 483 = .ok (.ifCond .eq 7, 3) := dk_153 0 7 (dk_at dksL_law_15 21 rfl rfl)
theorem dL_law_486 : decode cL_law 486 = .ok (.iconst 1, 1) := dk_4 (dk_at dksL_law_16 0 rfl rfl)
theorem dL_law_487 : decode cL_law 487 = .ok (.goto 4, 3) := dk_167 0 4 (dk_at dksL_law_16 1 rfl rfl)
theorem dL_law_490 : decode cL_law 490 = .ok (.iconst 0, 1) := dk_3 (dk_at dksL_law_16 4 rfl rfl)
theorem dL_law_491 : decode cL_law 491 = .ok (.invokevirtual 140, 3) := dk_182 0 140 (dk_at dksL_law_16 5 rfl rfl)
theorem dL_law_494 : decode cL_law 494 = .ok (.istore 6, 2) := dk_54 6 (dk_at dksL_law_16 8 rfl rfl)
theorem dL_law_496 : decode cL_law 496 = .ok (.aload_n 2, 1) := dk_44 (dk_at dksL_law_16 10 rfl rfl)
theorem dL_law_497 : decode cL_law 497 = .ok (.invokevirtual 126, 3) := dk_182 0 126 (dk_at dksL_law_16 11 rfl rfl)
theorem dL_law_500 : decode cL_law 500 = .ok (.iload 5, 2) := dk_21 5 (dk_at dksL_law_16 14 rfl rfl)
theorem dL_law_502 : decode cL_law 502 = .ok (.if_icmp .eq 5, 3) := dk_159 0 5 (dk_at dksL_law_16 16 rfl rfl)
theorem dL_law_505 : decode cL_law 505 = .ok (.iconst 0, 1) := dk_3 (dk_at dksL_law_16 19 rfl rfl)
theorem dL_law_506 : decode cL_law 506 = .ok (.ireturn, 1) := dk_172 (dk_at dksL_law_16 20 rfl rfl)
theorem dL_law_507 : decode cL_law 507 = .ok (.iload 5, 2) := dk_21 5 (dk_at dksL_law_16 21 rfl rfl)
theorem dL_law_509 : decode cL_law 509 = .ok (.ifCond .ne 23, 3) := dk_154 0 23 (dk_at dksL_law_17 0 rfl rfl)
theorem dL_law_512 : decode cL_law 512 = .ok (.aload_n 3, 1) := dk_45 (dk_at dksL_law_17 3 rfl rfl)
theorem dL_law_513 : decode cL_law 513 = .ok (.getfield 13, 3) := dk_180 0 13 (dk_at dksL_law_17 4 rfl rfl)
theorem dL_law_516 : decode cL_law 516 = .ok (.iload 6, 2) := dk_21 6 (dk_at dksL_law_17 7 rfl rfl)
theorem dL_law_518 : decode cL_law 518 = .ok (.ifCond .eq 7, 3) := dk_153 0 7 (dk_at dksL_law_17 9 rfl rfl)
theorem dL_law_521 : decode cL_law 521 = .ok (.lconst 1, 1) := dk_10 (dk_at dksL_law_17 12 rfl rfl)
theorem dL_law_522 : decode cL_law 522 = .ok (.goto 4, 3) := dk_167 0 4 (dk_at dksL_law_17 13 rfl rfl)
theorem dL_law_525 : decode cL_law 525 = .ok (.lconst 0, 1) := dk_9 (dk_at dksL_law_17 16 rfl rfl)
theorem dL_law_526 : decode cL_law 526 = .ok (.lcmp, 1) := dk_148 (dk_at dksL_law_17 17 rfl rfl)
theorem dL_law_527 : decode cL_law 527 = .ok (.ifCond .eq 5, 3) := dk_153 0 5 (dk_at dksL_law_17 18 rfl rfl)
theorem dL_law_530 : decode cL_law 530 = .ok (.iconst 0, 1) := dk_3 (dk_at dksL_law_17 21 rfl rfl)
theorem dL_law_531 : decode cL_law 531 = .ok (.ireturn, 1) := dk_172 (dk_at dksL_law_17 22 rfl rfl)
theorem dL_law_532 : decode cL_law 532 = .ok (.goto 1612, 3) := dk_167 6 76 (dk_at dksL_law_18 0 rfl rfl)
theorem dL_law_535 : decode cL_law 535 = .ok (.aload_n 1, 1) := dk_43 (dk_at dksL_law_18 3 rfl rfl)
theorem dL_law_536 : decode cL_law 536 = .ok (.aload_n 0, 1) := dk_42 (dk_at dksL_law_18 4 rfl rfl)
theorem dL_law_537 : decode cL_law 537 = .ok (.iload 4, 2) := dk_21 4 (dk_at dksL_law_18 5 rfl rfl)
theorem dL_law_539 : decode cL_law 539 = .ok (.iconst 1, 1) := dk_4 (dk_at dksL_law_18 7 rfl rfl)
theorem dL_law_540 : decode cL_law 540 = .ok (.iadd, 1) := dk_96 (dk_at dksL_law_18 8 rfl rfl)
theorem dL_law_541 : decode cL_law 541 = .ok (.iaload, 1) := dk_46 (dk_at dksL_law_18 9 rfl rfl)
theorem dL_law_542 : decode cL_law 542 = .ok (.aload_n 0, 1) := dk_42 (dk_at dksL_law_18 10 rfl rfl)
theorem dL_law_543 : decode cL_law 543 = .ok (.iload 4, 2) := dk_21 4 (dk_at dksL_law_18 11 rfl rfl)
theorem dL_law_545 : decode cL_law 545 = .ok (.iconst 2, 1) := dk_5 (dk_at dksL_law_18 13 rfl rfl)
theorem dL_law_546 : decode cL_law 546 = .ok (.iadd, 1) := dk_96 (dk_at dksL_law_18 14 rfl rfl)
theorem dL_law_547 : decode cL_law 547 = .ok (.iaload, 1) := dk_46 (dk_at dksL_law_18 15 rfl rfl)
theorem dL_law_548 : decode cL_law 548 = .ok (.aload_n 0, 1) := dk_42 (dk_at dksL_law_18 16 rfl rfl)
theorem dL_law_549 : decode cL_law 549 = .ok (.iload 4, 2) := dk_21 4 (dk_at dksL_law_18 17 rfl rfl)
theorem dL_law_551 : decode cL_law 551 = .ok (.iconst 3, 1) := dk_6 (dk_at dksL_law_18 19 rfl rfl)
theorem dL_law_552 : decode cL_law 552 = .ok (.iadd, 1) := dk_96 (dk_at dksL_law_18 20 rfl rfl)
theorem dL_law_553 : decode cL_law 553 = .ok (.iaload, 1) := dk_46 (dk_at dksL_law_18 21 rfl rfl)
theorem dL_law_554 : decode cL_law 554 = .ok (.aload_n 3, 1) := dk_45 (dk_at dksL_law_18 22 rfl rfl)
theorem dL_law_555 : decode cL_law 555 = .ok (.invokestatic 141, 3) := dk_184 0 141 (dk_at dksL_law_19 0 rfl rfl)
theorem dL_law_558 : decode cL_law 558 = .ok (.istore 5, 2) := dk_54 5 (dk_at dksL_law_19 3 rfl rfl)
theorem dL_law_560 : decode cL_law 560 = .ok (.aload_n 2, 1) := dk_44 (dk_at dksL_law_19 5 rfl rfl)
theorem dL_law_561 : decode cL_law 561 = .ok (.aload_n 0, 1) := dk_42 (dk_at dksL_law_19 6 rfl rfl)
theorem dL_law_562 : decode cL_law 562 = .ok (.iload 4, 2) := dk_21 4 (dk_at dksL_law_19 7 rfl rfl)
theorem dL_law_564 : decode cL_law 564 = .ok (.iconst 1, 1) := dk_4 (dk_at dksL_law_19 9 rfl rfl)
theorem dL_law_565 : decode cL_law 565 = .ok (.iadd, 1) := dk_96 (dk_at dksL_law_19 10 rfl rfl)
theorem dL_law_566 : decode cL_law 566 = .ok (.iaload, 1) := dk_46 (dk_at dksL_law_19 11 rfl rfl)
theorem dL_law_567 : decode cL_law 567 = .ok (.aload_n 0, 1) := dk_42 (dk_at dksL_law_19 12 rfl rfl)
theorem dL_law_568 : decode cL_law 568 = .ok (.iload 4, 2) := dk_21 4 (dk_at dksL_law_19 13 rfl rfl)
theorem dL_law_570 : decode cL_law 570 = .ok (.iconst 2, 1) := dk_5 (dk_at dksL_law_19 15 rfl rfl)
theorem dL_law_571 : decode cL_law 571 = .ok (.iadd, 1) := dk_96 (dk_at dksL_law_19 16 rfl rfl)
theorem dL_law_572 : decode cL_law 572 = .ok (.iaload, 1) := dk_46 (dk_at dksL_law_19 17 rfl rfl)
theorem dL_law_573 : decode cL_law 573 = .ok (.aload_n 0, 1) := dk_42 (dk_at dksL_law_19 18 rfl rfl)
theorem dL_law_574 : decode cL_law 574 = .ok (.iload 4, 2) := dk_21 4 (dk_at dksL_law_19 19 rfl rfl)
theorem dL_law_576 : decode cL_law 576 = .ok (.iconst 3, 1) := dk_6 (dk_at dksL_law_19 21 rfl rfl)
theorem dL_law_577 : decode cL_law 577 = .ok (.iadd, 1) := dk_96 (dk_at dksL_law_19 22 rfl rfl)
theorem dL_law_578 : decode cL_law 578 = .ok (.iaload, 1) := dk_46 (dk_at dksL_law_19 23 rfl rfl)
theorem dL_law_579 : decode cL_law 579 = .ok (.invokevirtual 144, 3) := dk_182 0 144 (dk_at dksL_law_20 0 rfl rfl)
theorem dL_law_582 : decode cL_law 582 = .ok (.istore 6, 2) := dk_54 6 (dk_at dksL_law_20 3 rfl rfl)
theorem dL_law_584 : decode cL_law 584 = .ok (.aload_n 2, 1) := dk_44 (dk_at dksL_law_20 5 rfl rfl)
theorem dL_law_585 : decode cL_law 585 = .ok (.invokevirtual 126, 3) := dk_182 0 126 (dk_at dksL_law_20 6 rfl rfl)
theorem dL_law_588 : decode cL_law 588 = .ok (.iload 5, 2) := dk_21 5 (dk_at dksL_law_20 9 rfl rfl)
theorem dL_law_590 : decode cL_law 590 = .ok (.if_icmp .eq 5, 3) := dk_159 0 5 (dk_at dksL_law_20 11 rfl rfl)
theorem dL_law_593 : decode cL_law 593 = .ok (.iconst 0, 1) := dk_3 (dk_at dksL_law_20 14 rfl rfl)
theorem dL_law_594 : decode cL_law 594 = .ok (.ireturn, 1) := dk_172 (dk_at dksL_law_20 15 rfl rfl)
theorem dL_law_595 : decode cL_law 595 = .ok (.iload 5, 2) := dk_21 5 (dk_at dksL_law_20 16 rfl rfl)
theorem dL_law_597 : decode cL_law 597 = .ok (.ifCond .ne 16, 3) := dk_154 0 16 (dk_at dksL_law_20 18 rfl rfl)
theorem dL_law_600 : decode cL_law 600 = .ok (.aload_n 3, 1) := dk_45 (dk_at dksL_law_20 21 rfl rfl)
theorem dL_law_601 : decode cL_law 601 = .ok (.getfield 13, 3) := dk_180 0 13 (dk_at dksL_law_21 0 rfl rfl)
theorem dL_law_604 : decode cL_law 604 = .ok (.iload 6, 2) := dk_21 6 (dk_at dksL_law_21 3 rfl rfl)
theorem dL_law_606 : decode cL_law 606 = .ok (.i2l, 1) := dk_133 (dk_at dksL_law_21 5 rfl rfl)
theorem dL_law_607 : decode cL_law 607 = .ok (.lcmp, 1) := dk_148 (dk_at dksL_law_21 6 rfl rfl)
theorem dL_law_608 : decode cL_law 608 = .ok (.ifCond .eq 5, 3) := dk_153 0 5 (dk_at dksL_law_21 7 rfl rfl)
theorem dL_law_611 : decode cL_law 611 = .ok (.iconst 0, 1) := dk_3 (dk_at dksL_law_21 10 rfl rfl)
theorem dL_law_612 : decode cL_law 612 = .ok (.ireturn, 1) := dk_172 (dk_at dksL_law_21 11 rfl rfl)
theorem dL_law_613 : decode cL_law 613 = .ok (.goto 1531, 3) := dk_167 5 251 (dk_at dksL_law_21 12 rfl rfl)
theorem dL_law_616 : decode cL_law 616 = .ok (.aload_n 1, 1) := dk_43 (dk_at dksL_law_21 15 rfl rfl)
theorem dL_law_617 : decode cL_law 617 = .ok (.aload_n 0, 1) := dk_42 (dk_at dksL_law_21 16 rfl rfl)
theorem dL_law_618 : decode cL_law 618 = .ok (.iload 4, 2) := dk_21 4 (dk_at dksL_law_21 17 rfl rfl)
theorem dL_law_620 : decode cL_law 620 = .ok (.iconst 1, 1) := dk_4 (dk_at dksL_law_21 19 rfl rfl)
theorem dL_law_621 : decode cL_law 621 = .ok (.iadd, 1) := dk_96 (dk_at dksL_law_21 20 rfl rfl)
theorem dL_law_622 : decode cL_law 622 = .ok (.iaload, 1) := dk_46 (dk_at dksL_law_21 21 rfl rfl)
theorem dL_law_623 : decode cL_law 623 = .ok (.aload_n 3, 1) := dk_45 (dk_at dksL_law_21 22 rfl rfl)
theorem dL_law_624 : decode cL_law 624 = .ok (.invokestatic 145, 3) := dk_184 0 145 (dk_at dksL_law_22 0 rfl rfl)
theorem dL_law_627 : decode cL_law 627 = .ok (.istore 5, 2) := dk_54 5 (dk_at dksL_law_22 3 rfl rfl)
theorem dL_law_629 : decode cL_law 629 = .ok (.aload_n 2, 1) := dk_44 (dk_at dksL_law_22 5 rfl rfl)
theorem dL_law_630 : decode cL_law 630 = .ok (.aload_n 0, 1) := dk_42 (dk_at dksL_law_22 6 rfl rfl)
theorem dL_law_631 : decode cL_law 631 = .ok (.iload 4, 2) := dk_21 4 (dk_at dksL_law_22 7 rfl rfl)
theorem dL_law_633 : decode cL_law 633 = .ok (.iconst 1, 1) := dk_4 (dk_at dksL_law_22 9 rfl rfl)
theorem dL_law_634 : decode cL_law 634 = .ok (.iadd, 1) := dk_96 (dk_at dksL_law_22 10 rfl rfl)
theorem dL_law_635 : decode cL_law 635 = .ok (.iaload, 1) := dk_46 (dk_at dksL_law_22 11 rfl rfl)
theorem dL_law_636 : decode cL_law 636 = .ok (.invokevirtual 148, 3) := dk_182 0 148 (dk_at dksL_law_22 12 rfl rfl)
theorem dL_law_639 : decode cL_law 639 = .ok (.istore 6, 2) := dk_54 6 (dk_at dksL_law_22 15 rfl rfl)
theorem dL_law_641 : decode cL_law 641 = .ok (.aload_n 2, 1) := dk_44 (dk_at dksL_law_22 17 rfl rfl)
theorem dL_law_642 : decode cL_law 642 = .ok (.invokevirtual 126, 3) := dk_182 0 126 (dk_at dksL_law_22 18 rfl rfl)
theorem dL_law_645 : decode cL_law 645 = .ok (.iload 5, 2) := dk_21 5 (dk_at dksL_law_22 21 rfl rfl)
theorem dL_law_647 : decode cL_law 647 = .ok (.if_icmp .eq 5, 3) := dk_159 0 5 (dk_at dksL_law_23 0 rfl rfl)
theorem dL_law_650 : decode cL_law 650 = .ok (.iconst 0, 1) := dk_3 (dk_at dksL_law_23 3 rfl rfl)
theorem dL_law_651 : decode cL_law 651 = .ok (.ireturn, 1) := dk_172 (dk_at dksL_law_23 4 rfl rfl)
theorem dL_law_652 : decode cL_law 652 = .ok (.iload 5, 2) := dk_21 5 (dk_at dksL_law_23 5 rfl rfl)
theorem dL_law_654 : decode cL_law 654 = .ok (.ifCond .ne 16, 3) := dk_154 0 16 (dk_at dksL_law_23 7 rfl rfl)
theorem dL_law_657 : decode cL_law 657 = .ok (.aload_n 3, 1) := dk_45 (dk_at dksL_law_23 10 rfl rfl)
theorem dL_law_658 : decode cL_law 658 = .ok (.getfield 13, 3) := dk_180 0 13 (dk_at dksL_law_23 11 rfl rfl)
theorem dL_law_661 : decode cL_law 661 = .ok (.iload 6, 2) := dk_21 6 (dk_at dksL_law_23 14 rfl rfl)
theorem dL_law_663 : decode cL_law 663 = .ok (.i2l, 1) := dk_133 (dk_at dksL_law_23 16 rfl rfl)
theorem dL_law_664 : decode cL_law 664 = .ok (.lcmp, 1) := dk_148 (dk_at dksL_law_23 17 rfl rfl)
theorem dL_law_665 : decode cL_law 665 = .ok (.ifCond .eq 5, 3) := dk_153 0 5 (dk_at dksL_law_23 18 rfl rfl)
theorem dL_law_668 : decode cL_law 668 = .ok (.iconst 0, 1) := dk_3 (dk_at dksL_law_23 21 rfl rfl)
theorem dL_law_669 : decode cL_law 669 = .ok (.ireturn, 1) := dk_172 (dk_at dksL_law_23 22 rfl rfl)
theorem dL_law_670 : decode cL_law 670 = .ok (.goto 1474, 3) := dk_167 5 194 (dk_at dksL_law_24 0 rfl rfl)
theorem dL_law_673 : decode cL_law 673 = .ok (.aload_n 1, 1) := dk_43 (dk_at dksL_law_24 3 rfl rfl)
theorem dL_law_674 : decode cL_law 674 = .ok (.aload_n 0, 1) := dk_42 (dk_at dksL_law_24 4 rfl rfl)
theorem dL_law_675 : decode cL_law 675 = .ok (.iload 4, 2) := dk_21 4 (dk_at dksL_law_24 5 rfl rfl)
theorem dL_law_677 : decode cL_law 677 = .ok (.iconst 1, 1) := dk_4 (dk_at dksL_law_24 7 rfl rfl)
theorem dL_law_678 : decode cL_law 678 = .ok (.iadd, 1) := dk_96 (dk_at dksL_law_24 8 rfl rfl)
theorem dL_law_679 : decode cL_law 679 = .ok (.iaload, 1) := dk_46 (dk_at dksL_law_24 9 rfl rfl)
theorem dL_law_680 : decode cL_law 680 = .ok (.aload_n 0, 1) := dk_42 (dk_at dksL_law_24 10 rfl rfl)
theorem dL_law_681 : decode cL_law 681 = .ok (.iload 4, 2) := dk_21 4 (dk_at dksL_law_24 11 rfl rfl)
theorem dL_law_683 : decode cL_law 683 = .ok (.iconst 2, 1) := dk_5 (dk_at dksL_law_24 13 rfl rfl)
theorem dL_law_684 : decode cL_law 684 = .ok (.iadd, 1) := dk_96 (dk_at dksL_law_24 14 rfl rfl)
theorem dL_law_685 : decode cL_law 685 = .ok (.iaload, 1) := dk_46 (dk_at dksL_law_24 15 rfl rfl)
theorem dL_law_686 : decode cL_law 686 = .ok (.aload_n 0, 1) := dk_42 (dk_at dksL_law_24 16 rfl rfl)
theorem dL_law_687 : decode cL_law 687 = .ok (.iload 4, 2) := dk_21 4 (dk_at dksL_law_24 17 rfl rfl)
theorem dL_law_689 : decode cL_law 689 = .ok (.iconst 3, 1) := dk_6 (dk_at dksL_law_24 19 rfl rfl)
theorem dL_law_690 : decode cL_law 690 = .ok (.iadd, 1) := dk_96 (dk_at dksL_law_24 20 rfl rfl)
theorem dL_law_691 : decode cL_law 691 = .ok (.iaload, 1) := dk_46 (dk_at dksL_law_24 21 rfl rfl)
theorem dL_law_692 : decode cL_law 692 = .ok (.aload_n 0, 1) := dk_42 (dk_at dksL_law_24 22 rfl rfl)
theorem dL_law_693 : decode cL_law 693 = .ok (.iload 4, 2) := dk_21 4 (dk_at dksL_law_25 0 rfl rfl)
theorem dL_law_695 : decode cL_law 695 = .ok (.iconst 4, 1) := dk_7 (dk_at dksL_law_25 2 rfl rfl)
theorem dL_law_696 : decode cL_law 696 = .ok (.iadd, 1) := dk_96 (dk_at dksL_law_25 3 rfl rfl)
theorem dL_law_697 : decode cL_law 697 = .ok (.iaload, 1) := dk_46 (dk_at dksL_law_25 4 rfl rfl)
theorem dL_law_698 : decode cL_law 698 = .ok (.aload_n 0, 1) := dk_42 (dk_at dksL_law_25 5 rfl rfl)
theorem dL_law_699 : decode cL_law 699 = .ok (.iload 4, 2) := dk_21 4 (dk_at dksL_law_25 6 rfl rfl)
theorem dL_law_701 : decode cL_law 701 = .ok (.iconst 5, 1) := dk_8 (dk_at dksL_law_25 8 rfl rfl)
theorem dL_law_702 : decode cL_law 702 = .ok (.iadd, 1) := dk_96 (dk_at dksL_law_25 9 rfl rfl)
theorem dL_law_703 : decode cL_law 703 = .ok (.iaload, 1) := dk_46 (dk_at dksL_law_25 10 rfl rfl)
theorem dL_law_704 : decode cL_law 704 = .ok (.aload_n 0, 1) := dk_42 (dk_at dksL_law_25 11 rfl rfl)
theorem dL_law_705 : decode cL_law 705 = .ok (.iload 4, 2) := dk_21 4 (dk_at dksL_law_25 12 rfl rfl)
theorem dL_law_707 : decode cL_law 707 = .ok (.bipush 6, 2) := dk_16 6 (dk_at dksL_law_25 14 rfl rfl)
theorem dL_law_709 : decode cL_law 709 = .ok (.iadd, 1) := dk_96 (dk_at dksL_law_25 16 rfl rfl)
theorem dL_law_710 : decode cL_law 710 = .ok (.iaload, 1) := dk_46 (dk_at dksL_law_25 17 rfl rfl)
theorem dL_law_711 : decode cL_law 711 = .ok (.aload_n 3, 1) := dk_45 (dk_at dksL_law_25 18 rfl rfl)
theorem dL_law_712 : decode cL_law 712 = .ok (.invokestatic 149, 3) := dk_184 0 149 (dk_at dksL_law_25 19 rfl rfl)
theorem dL_law_715 : decode cL_law 715 = .ok (.istore 5, 2) := dk_54 5 (dk_at dksL_law_25 22 rfl rfl)
theorem dL_law_717 : decode cL_law 717 = .ok (.aload_n 2, 1) := dk_44 (dk_at dksL_law_26 0 rfl rfl)
theorem dL_law_718 : decode cL_law 718 = .ok (.aload_n 0, 1) := dk_42 (dk_at dksL_law_26 1 rfl rfl)
theorem dL_law_719 : decode cL_law 719 = .ok (.iload 4, 2) := dk_21 4 (dk_at dksL_law_26 2 rfl rfl)
theorem dL_law_721 : decode cL_law 721 = .ok (.iconst 1, 1) := dk_4 (dk_at dksL_law_26 4 rfl rfl)
theorem dL_law_722 : decode cL_law 722 = .ok (.iadd, 1) := dk_96 (dk_at dksL_law_26 5 rfl rfl)
theorem dL_law_723 : decode cL_law 723 = .ok (.iaload, 1) := dk_46 (dk_at dksL_law_26 6 rfl rfl)
theorem dL_law_724 : decode cL_law 724 = .ok (.aload_n 0, 1) := dk_42 (dk_at dksL_law_26 7 rfl rfl)
theorem dL_law_725 : decode cL_law 725 = .ok (.iload 4, 2) := dk_21 4 (dk_at dksL_law_26 8 rfl rfl)
theorem dL_law_727 : decode cL_law 727 = .ok (.iconst 2, 1) := dk_5 (dk_at dksL_law_26 10 rfl rfl)
theorem dL_law_728 : decode cL_law 728 = .ok (.iadd, 1) := dk_96 (dk_at dksL_law_26 11 rfl rfl)
theorem dL_law_729 : decode cL_law 729 = .ok (.iaload, 1) := dk_46 (dk_at dksL_law_26 12 rfl rfl)
theorem dL_law_730 : decode cL_law 730 = .ok (.aload_n 0, 1) := dk_42 (dk_at dksL_law_26 13 rfl rfl)
theorem dL_law_731 : decode cL_law 731 = .ok (.iload 4, 2) := dk_21 4 (dk_at dksL_law_26 14 rfl rfl)
theorem dL_law_733 : decode cL_law 733 = .ok (.iconst 3, 1) := dk_6 (dk_at dksL_law_26 16 rfl rfl)
theorem dL_law_734 : decode cL_law 734 = .ok (.iadd, 1) := dk_96 (dk_at dksL_law_26 17 rfl rfl)
theorem dL_law_735 : decode cL_law 735 = .ok (.iaload, 1) := dk_46 (dk_at dksL_law_26 18 rfl rfl)
theorem dL_law_736 : decode cL_law 736 = .ok (.aload_n 0, 1) := dk_42 (dk_at dksL_law_26 19 rfl rfl)
theorem dL_law_737 : decode cL_law 737 = .ok (.iload 4, 2) := dk_21 4 (dk_at dksL_law_26 20 rfl rfl)
theorem dL_law_739 : decode cL_law 739 = .ok (.iconst 4, 1) := dk_7 (dk_at dksL_law_26 22 rfl rfl)
theorem dL_law_740 : decode cL_law 740 = .ok (.iadd, 1) := dk_96 (dk_at dksL_law_26 23 rfl rfl)
theorem dL_law_741 : decode cL_law 741 = .ok (.iaload, 1) := dk_46 (dk_at dksL_law_27 0 rfl rfl)
theorem dL_law_742 : decode cL_law 742 = .ok (.aload_n 0, 1) := dk_42 (dk_at dksL_law_27 1 rfl rfl)
theorem dL_law_743 : decode cL_law 743 = .ok (.iload 4, 2) := dk_21 4 (dk_at dksL_law_27 2 rfl rfl)
theorem dL_law_745 : decode cL_law 745 = .ok (.iconst 5, 1) := dk_8 (dk_at dksL_law_27 4 rfl rfl)
theorem dL_law_746 : decode cL_law 746 = .ok (.iadd, 1) := dk_96 (dk_at dksL_law_27 5 rfl rfl)
theorem dL_law_747 : decode cL_law 747 = .ok (.iaload, 1) := dk_46 (dk_at dksL_law_27 6 rfl rfl)
theorem dL_law_748 : decode cL_law 748 = .ok (.aload_n 0, 1) := dk_42 (dk_at dksL_law_27 7 rfl rfl)
theorem dL_law_749 : decode cL_law 749 = .ok (.iload 4, 2) := dk_21 4 (dk_at dksL_law_27 8 rfl rfl)
theorem dL_law_751 : decode cL_law 751 = .ok (.bipush 6, 2) := dk_16 6 (dk_at dksL_law_27 10 rfl rfl)
theorem dL_law_753 : decode cL_law 753 = .ok (.iadd, 1) := dk_96 (dk_at dksL_law_27 12 rfl rfl)
theorem dL_law_754 : decode cL_law 754 = .ok (.iaload, 1) := dk_46 (dk_at dksL_law_27 13 rfl rfl)
theorem dL_law_755 : decode cL_law 755 = .ok (.invokevirtual 152, 3) := dk_182 0 152 (dk_at dksL_law_27 14 rfl rfl)
theorem dL_law_758 : decode cL_law 758 = .ok (.istore 6, 2) := dk_54 6 (dk_at dksL_law_27 17 rfl rfl)
theorem dL_law_760 : decode cL_law 760 = .ok (.aload_n 2, 1) := dk_44 (dk_at dksL_law_27 19 rfl rfl)
theorem dL_law_761 : decode cL_law 761 = .ok (.invokevirtual 126, 3) := dk_182 0 126 (dk_at dksL_law_27 20 rfl rfl)
theorem dL_law_764 : decode cL_law 764 = .ok (.iload 5, 2) := dk_21 5 (dk_at dksL_law_28 0 rfl rfl)
theorem dL_law_766 : decode cL_law 766 = .ok (.if_icmp .eq 5, 3) := dk_159 0 5 (dk_at dksL_law_28 2 rfl rfl)
theorem dL_law_769 : decode cL_law 769 = .ok (.iconst 0, 1) := dk_3 (dk_at dksL_law_28 5 rfl rfl)
theorem dL_law_770 : decode cL_law 770 = .ok (.ireturn, 1) := dk_172 (dk_at dksL_law_28 6 rfl rfl)
theorem dL_law_771 : decode cL_law 771 = .ok (.iload 5, 2) := dk_21 5 (dk_at dksL_law_28 7 rfl rfl)
theorem dL_law_773 : decode cL_law 773 = .ok (.ifCond .ne 16, 3) := dk_154 0 16 (dk_at dksL_law_28 9 rfl rfl)
theorem dL_law_776 : decode cL_law 776 = .ok (.aload_n 3, 1) := dk_45 (dk_at dksL_law_28 12 rfl rfl)
theorem dL_law_777 : decode cL_law 777 = .ok (.getfield 13, 3) := dk_180 0 13 (dk_at dksL_law_28 13 rfl rfl)
theorem dL_law_780 : decode cL_law 780 = .ok (.iload 6, 2) := dk_21 6 (dk_at dksL_law_28 16 rfl rfl)
theorem dL_law_782 : decode cL_law 782 = .ok (.i2l, 1) := dk_133 (dk_at dksL_law_28 18 rfl rfl)
theorem dL_law_783 : decode cL_law 783 = .ok (.lcmp, 1) := dk_148 (dk_at dksL_law_28 19 rfl rfl)
theorem dL_law_784 : decode cL_law 784 = .ok (.ifCond .eq 5, 3) := dk_153 0 5 (dk_at dksL_law_28 20 rfl rfl)
theorem dL_law_787 : decode cL_law 787 = .ok (.iconst 0, 1) := dk_3 (dk_at dksL_law_28 23 rfl rfl)
theorem dL_law_788 : decode cL_law 788 = .ok (.ireturn, 1) := dk_172 (dk_at dksL_law_29 0 rfl rfl)
theorem dL_law_789 : decode cL_law 789 = .ok (.goto 1355, 3) := dk_167 5 75 (dk_at dksL_law_29 1 rfl rfl)
theorem dL_law_792 : decode cL_law 792 = .ok (.aload_n 1, 1) := dk_43 (dk_at dksL_law_29 4 rfl rfl)
theorem dL_law_793 : decode cL_law 793 = .ok (.aload_n 0, 1) := dk_42 (dk_at dksL_law_29 5 rfl rfl)
theorem dL_law_794 : decode cL_law 794 = .ok (.iload 4, 2) := dk_21 4 (dk_at dksL_law_29 6 rfl rfl)
theorem dL_law_796 : decode cL_law 796 = .ok (.iconst 1, 1) := dk_4 (dk_at dksL_law_29 8 rfl rfl)
theorem dL_law_797 : decode cL_law 797 = .ok (.iadd, 1) := dk_96 (dk_at dksL_law_29 9 rfl rfl)
theorem dL_law_798 : decode cL_law 798 = .ok (.iaload, 1) := dk_46 (dk_at dksL_law_29 10 rfl rfl)
theorem dL_law_799 : decode cL_law 799 = .ok (.aload_n 3, 1) := dk_45 (dk_at dksL_law_29 11 rfl rfl)
theorem dL_law_800 : decode cL_law 800 = .ok (.invokestatic 153, 3) := dk_184 0 153 (dk_at dksL_law_29 12 rfl rfl)
theorem dL_law_803 : decode cL_law 803 = .ok (.istore 5, 2) := dk_54 5 (dk_at dksL_law_29 15 rfl rfl)
theorem dL_law_805 : decode cL_law 805 = .ok (.aload_n 2, 1) := dk_44 (dk_at dksL_law_29 17 rfl rfl)
theorem dL_law_806 : decode cL_law 806 = .ok (.aload_n 0, 1) := dk_42 (dk_at dksL_law_29 18 rfl rfl)
theorem dL_law_807 : decode cL_law 807 = .ok (.iload 4, 2) := dk_21 4 (dk_at dksL_law_29 19 rfl rfl)
theorem dL_law_809 : decode cL_law 809 = .ok (.iconst 1, 1) := dk_4 (dk_at dksL_law_29 21 rfl rfl)
theorem dL_law_810 : decode cL_law 810 = .ok (.iadd, 1) := dk_96 (dk_at dksL_law_29 22 rfl rfl)
theorem dL_law_811 : decode cL_law 811 = .ok (.iaload, 1) := dk_46 (dk_at dksL_law_29 23 rfl rfl)
theorem dL_law_812 : decode cL_law 812 = .ok (.invokevirtual 155, 3) := dk_182 0 155 (dk_at dksL_law_30 0 rfl rfl)
theorem dL_law_815 : decode cL_law 815 = .ok (.istore 6, 2) := dk_54 6 (dk_at dksL_law_30 3 rfl rfl)
theorem dL_law_817 : decode cL_law 817 = .ok (.aload_n 2, 1) := dk_44 (dk_at dksL_law_30 5 rfl rfl)
theorem dL_law_818 : decode cL_law 818 = .ok (.invokevirtual 126, 3) := dk_182 0 126 (dk_at dksL_law_30 6 rfl rfl)
theorem dL_law_821 : decode cL_law 821 = .ok (.iload 5, 2) := dk_21 5 (dk_at dksL_law_30 9 rfl rfl)
theorem dL_law_823 : decode cL_law 823 = .ok (.if_icmp .eq 5, 3) := dk_159 0 5 (dk_at dksL_law_30 11 rfl rfl)
theorem dL_law_826 : decode cL_law 826 = .ok (.iconst 0, 1) := dk_3 (dk_at dksL_law_30 14 rfl rfl)
theorem dL_law_827 : decode cL_law 827 = .ok (.ireturn, 1) := dk_172 (dk_at dksL_law_30 15 rfl rfl)
theorem dL_law_828 : decode cL_law 828 = .ok (.iload 5, 2) := dk_21 5 (dk_at dksL_law_30 16 rfl rfl)
theorem dL_law_830 : decode cL_law 830 = .ok (.ifCond .ne 16, 3) := dk_154 0 16 (dk_at dksL_law_30 18 rfl rfl)
theorem dL_law_833 : decode cL_law 833 = .ok (.aload_n 3, 1) := dk_45 (dk_at dksL_law_30 21 rfl rfl)
theorem dL_law_834 : decode cL_law 834 = .ok (.getfield 13, 3) := dk_180 0 13 (dk_at dksL_law_31 0 rfl rfl)
theorem dL_law_837 : decode cL_law 837 = .ok (.iload 6, 2) := dk_21 6 (dk_at dksL_law_31 3 rfl rfl)
theorem dL_law_839 : decode cL_law 839 = .ok (.i2l, 1) := dk_133 (dk_at dksL_law_31 5 rfl rfl)
theorem dL_law_840 : decode cL_law 840 = .ok (.lcmp, 1) := dk_148 (dk_at dksL_law_31 6 rfl rfl)
theorem dL_law_841 : decode cL_law 841 = .ok (.ifCond .eq 5, 3) := dk_153 0 5 (dk_at dksL_law_31 7 rfl rfl)
theorem dL_law_844 : decode cL_law 844 = .ok (.iconst 0, 1) := dk_3 (dk_at dksL_law_31 10 rfl rfl)
theorem dL_law_845 : decode cL_law 845 = .ok (.ireturn, 1) := dk_172 (dk_at dksL_law_31 11 rfl rfl)
theorem dL_law_846 : decode cL_law 846 = .ok (.goto 1298, 3) := dk_167 5 18 (dk_at dksL_law_31 12 rfl rfl)
theorem dL_law_849 : decode cL_law 849 = .ok (.aload_n 1, 1) := dk_43 (dk_at dksL_law_31 15 rfl rfl)
theorem dL_law_850 : decode cL_law 850 = .ok (.aload_n 0, 1) := dk_42 (dk_at dksL_law_31 16 rfl rfl)
theorem dL_law_851 : decode cL_law 851 = .ok (.iload 4, 2) := dk_21 4 (dk_at dksL_law_31 17 rfl rfl)
theorem dL_law_853 : decode cL_law 853 = .ok (.iconst 1, 1) := dk_4 (dk_at dksL_law_31 19 rfl rfl)
theorem dL_law_854 : decode cL_law 854 = .ok (.iadd, 1) := dk_96 (dk_at dksL_law_31 20 rfl rfl)
theorem dL_law_855 : decode cL_law 855 = .ok (.iaload, 1) := dk_46 (dk_at dksL_law_31 21 rfl rfl)
theorem dL_law_856 : decode cL_law 856 = .ok (.aload_n 3, 1) := dk_45 (dk_at dksL_law_31 22 rfl rfl)
theorem dL_law_857 : decode cL_law 857 = .ok (.invokestatic 156, 3) := dk_184 0 156 (dk_at dksL_law_32 0 rfl rfl)
theorem dL_law_860 : decode cL_law 860 = .ok (.istore 5, 2) := dk_54 5 (dk_at dksL_law_32 3 rfl rfl)
theorem dL_law_862 : decode cL_law 862 = .ok (.aload_n 2, 1) := dk_44 (dk_at dksL_law_32 5 rfl rfl)
theorem dL_law_863 : decode cL_law 863 = .ok (.aload_n 0, 1) := dk_42 (dk_at dksL_law_32 6 rfl rfl)
theorem dL_law_864 : decode cL_law 864 = .ok (.iload 4, 2) := dk_21 4 (dk_at dksL_law_32 7 rfl rfl)
theorem dL_law_866 : decode cL_law 866 = .ok (.iconst 1, 1) := dk_4 (dk_at dksL_law_32 9 rfl rfl)
theorem dL_law_867 : decode cL_law 867 = .ok (.iadd, 1) := dk_96 (dk_at dksL_law_32 10 rfl rfl)
theorem dL_law_868 : decode cL_law 868 = .ok (.iaload, 1) := dk_46 (dk_at dksL_law_32 11 rfl rfl)
theorem dL_law_869 : decode cL_law 869 = .ok (.invokevirtual 158, 3) := dk_182 0 158 (dk_at dksL_law_32 12 rfl rfl)
theorem dL_law_872 : decode cL_law 872 = .ok (.istore 6, 2) := dk_54 6 (dk_at dksL_law_32 15 rfl rfl)
theorem dL_law_874 : decode cL_law 874 = .ok (.aload_n 2, 1) := dk_44 (dk_at dksL_law_32 17 rfl rfl)
theorem dL_law_875 : decode cL_law 875 = .ok (.invokevirtual 126, 3) := dk_182 0 126 (dk_at dksL_law_32 18 rfl rfl)
theorem dL_law_878 : decode cL_law 878 = .ok (.iload 5, 2) := dk_21 5 (dk_at dksL_law_32 21 rfl rfl)
theorem dL_law_880 : decode cL_law 880 = .ok (.if_icmp .eq 5, 3) := dk_159 0 5 (dk_at dksL_law_33 0 rfl rfl)
theorem dL_law_883 : decode cL_law 883 = .ok (.iconst 0, 1) := dk_3 (dk_at dksL_law_33 3 rfl rfl)
theorem dL_law_884 : decode cL_law 884 = .ok (.ireturn, 1) := dk_172 (dk_at dksL_law_33 4 rfl rfl)
theorem dL_law_885 : decode cL_law 885 = .ok (.iload 5, 2) := dk_21 5 (dk_at dksL_law_33 5 rfl rfl)
theorem dL_law_887 : decode cL_law 887 = .ok (.ifCond .ne 16, 3) := dk_154 0 16 (dk_at dksL_law_33 7 rfl rfl)
theorem dL_law_890 : decode cL_law 890 = .ok (.aload_n 3, 1) := dk_45 (dk_at dksL_law_33 10 rfl rfl)
theorem dL_law_891 : decode cL_law 891 = .ok (.getfield 13, 3) := dk_180 0 13 (dk_at dksL_law_33 11 rfl rfl)
theorem dL_law_894 : decode cL_law 894 = .ok (.iload 6, 2) := dk_21 6 (dk_at dksL_law_33 14 rfl rfl)
theorem dL_law_896 : decode cL_law 896 = .ok (.i2l, 1) := dk_133 (dk_at dksL_law_33 16 rfl rfl)
theorem dL_law_897 : decode cL_law 897 = .ok (.lcmp, 1) := dk_148 (dk_at dksL_law_33 17 rfl rfl)
theorem dL_law_898 : decode cL_law 898 = .ok (.ifCond .eq 5, 3) := dk_153 0 5 (dk_at dksL_law_33 18 rfl rfl)
theorem dL_law_901 : decode cL_law 901 = .ok (.iconst 0, 1) := dk_3 (dk_at dksL_law_33 21 rfl rfl)
theorem dL_law_902 : decode cL_law 902 = .ok (.ireturn, 1) := dk_172 (dk_at dksL_law_33 22 rfl rfl)
theorem dL_law_903 : decode cL_law 903 = .ok (.goto 1241, 3) := dk_167 4 217 (dk_at dksL_law_34 0 rfl rfl)
theorem dL_law_906 : decode cL_law 906 = .ok (.aload_n 1, 1) := dk_43 (dk_at dksL_law_34 3 rfl rfl)
theorem dL_law_907 : decode cL_law 907 = .ok (.aload_n 0, 1) := dk_42 (dk_at dksL_law_34 4 rfl rfl)
theorem dL_law_908 : decode cL_law 908 = .ok (.iload 4, 2) := dk_21 4 (dk_at dksL_law_34 5 rfl rfl)
theorem dL_law_910 : decode cL_law 910 = .ok (.iconst 1, 1) := dk_4 (dk_at dksL_law_34 7 rfl rfl)
theorem dL_law_911 : decode cL_law 911 = .ok (.iadd, 1) := dk_96 (dk_at dksL_law_34 8 rfl rfl)
theorem dL_law_912 : decode cL_law 912 = .ok (.iaload, 1) := dk_46 (dk_at dksL_law_34 9 rfl rfl)
theorem dL_law_913 : decode cL_law 913 = .ok (.aload_n 0, 1) := dk_42 (dk_at dksL_law_34 10 rfl rfl)
theorem dL_law_914 : decode cL_law 914 = .ok (.iload 4, 2) := dk_21 4 (dk_at dksL_law_34 11 rfl rfl)
theorem dL_law_916 : decode cL_law 916 = .ok (.iconst 2, 1) := dk_5 (dk_at dksL_law_34 13 rfl rfl)
theorem dL_law_917 : decode cL_law 917 = .ok (.iadd, 1) := dk_96 (dk_at dksL_law_34 14 rfl rfl)
theorem dL_law_918 : decode cL_law 918 = .ok (.iaload, 1) := dk_46 (dk_at dksL_law_34 15 rfl rfl)
theorem dL_law_919 : decode cL_law 919 = .ok (.aload_n 3, 1) := dk_45 (dk_at dksL_law_34 16 rfl rfl)
theorem dL_law_920 : decode cL_law 920 = .ok (.invokestatic 159, 3) := dk_184 0 159 (dk_at dksL_law_34 17 rfl rfl)
theorem dL_law_923 : decode cL_law 923 = .ok (.istore 5, 2) := dk_54 5 (dk_at dksL_law_34 20 rfl rfl)
theorem dL_law_925 : decode cL_law 925 = .ok (.aload_n 2, 1) := dk_44 (dk_at dksL_law_34 22 rfl rfl)
theorem dL_law_926 : decode cL_law 926 = .ok (.aload_n 0, 1) := dk_42 (dk_at dksL_law_34 23 rfl rfl)
theorem dL_law_927 : decode cL_law 927 = .ok (.iload 4, 2) := dk_21 4 (dk_at dksL_law_35 0 rfl rfl)
theorem dL_law_929 : decode cL_law 929 = .ok (.iconst 1, 1) := dk_4 (dk_at dksL_law_35 2 rfl rfl)
theorem dL_law_930 : decode cL_law 930 = .ok (.iadd, 1) := dk_96 (dk_at dksL_law_35 3 rfl rfl)
theorem dL_law_931 : decode cL_law 931 = .ok (.iaload, 1) := dk_46 (dk_at dksL_law_35 4 rfl rfl)
theorem dL_law_932 : decode cL_law 932 = .ok (.aload_n 0, 1) := dk_42 (dk_at dksL_law_35 5 rfl rfl)
theorem dL_law_933 : decode cL_law 933 = .ok (.iload 4, 2) := dk_21 4 (dk_at dksL_law_35 6 rfl rfl)
theorem dL_law_935 : decode cL_law 935 = .ok (.iconst 2, 1) := dk_5 (dk_at dksL_law_35 8 rfl rfl)
theorem dL_law_936 : decode cL_law 936 = .ok (.iadd, 1) := dk_96 (dk_at dksL_law_35 9 rfl rfl)
theorem dL_law_937 : decode cL_law 937 = .ok (.iaload, 1) := dk_46 (dk_at dksL_law_35 10 rfl rfl)
theorem dL_law_938 : decode cL_law 938 = .ok (.invokevirtual 161, 3) := dk_182 0 161 (dk_at dksL_law_35 11 rfl rfl)
theorem dL_law_941 : decode cL_law 941 = .ok (.istore 6, 2) := dk_54 6 (dk_at dksL_law_35 14 rfl rfl)
theorem dL_law_943 : decode cL_law 943 = .ok (.aload_n 2, 1) := dk_44 (dk_at dksL_law_35 16 rfl rfl)
theorem dL_law_944 : decode cL_law 944 = .ok (.invokevirtual 126, 3) := dk_182 0 126 (dk_at dksL_law_35 17 rfl rfl)
theorem dL_law_947 : decode cL_law 947 = .ok (.iload 5, 2) := dk_21 5 (dk_at dksL_law_35 20 rfl rfl)
theorem dL_law_949 : decode cL_law 949 = .ok (.if_icmp .eq 5, 3) := dk_159 0 5 (dk_at dksL_law_36 0 rfl rfl)
theorem dL_law_952 : decode cL_law 952 = .ok (.iconst 0, 1) := dk_3 (dk_at dksL_law_36 3 rfl rfl)
theorem dL_law_953 : decode cL_law 953 = .ok (.ireturn, 1) := dk_172 (dk_at dksL_law_36 4 rfl rfl)
theorem dL_law_954 : decode cL_law 954 = .ok (.iload 5, 2) := dk_21 5 (dk_at dksL_law_36 5 rfl rfl)
theorem dL_law_956 : decode cL_law 956 = .ok (.ifCond .ne 16, 3) := dk_154 0 16 (dk_at dksL_law_36 7 rfl rfl)
theorem dL_law_959 : decode cL_law 959 = .ok (.aload_n 3, 1) := dk_45 (dk_at dksL_law_36 10 rfl rfl)
theorem dL_law_960 : decode cL_law 960 = .ok (.getfield 13, 3) := dk_180 0 13 (dk_at dksL_law_36 11 rfl rfl)
theorem dL_law_963 : decode cL_law 963 = .ok (.iload 6, 2) := dk_21 6 (dk_at dksL_law_36 14 rfl rfl)
theorem dL_law_965 : decode cL_law 965 = .ok (.i2l, 1) := dk_133 (dk_at dksL_law_36 16 rfl rfl)
theorem dL_law_966 : decode cL_law 966 = .ok (.lcmp, 1) := dk_148 (dk_at dksL_law_36 17 rfl rfl)
theorem dL_law_967 : decode cL_law 967 = .ok (.ifCond .eq 5, 3) := dk_153 0 5 (dk_at dksL_law_36 18 rfl rfl)
theorem dL_law_970 : decode cL_law 970 = .ok (.iconst 0, 1) := dk_3 (dk_at dksL_law_36 21 rfl rfl)
theorem dL_law_971 : decode cL_law 971 = .ok (.ireturn, 1) := dk_172 (dk_at dksL_law_36 22 rfl rfl)
theorem dL_law_972 : decode cL_law 972 = .ok (.goto 1172, 3) := dk_167 4 148 (dk_at dksL_law_37 0 rfl rfl)
theorem dL_law_975 : decode cL_law 975 = .ok (.aload_n 1, 1) := dk_43 (dk_at dksL_law_37 3 rfl rfl)
theorem dL_law_976 : decode cL_law 976 = .ok (.aload_n 0, 1) := dk_42 (dk_at dksL_law_37 4 rfl rfl)
theorem dL_law_977 : decode cL_law 977 = .ok (.iload 4, 2) := dk_21 4 (dk_at dksL_law_37 5 rfl rfl)
theorem dL_law_979 : decode cL_law 979 = .ok (.iconst 1, 1) := dk_4 (dk_at dksL_law_37 7 rfl rfl)
theorem dL_law_980 : decode cL_law 980 = .ok (.iadd, 1) := dk_96 (dk_at dksL_law_37 8 rfl rfl)
theorem dL_law_981 : decode cL_law 981 = .ok (.iaload, 1) := dk_46 (dk_at dksL_law_37 9 rfl rfl)
theorem dL_law_982 : decode cL_law 982 = .ok (.aload_n 0, 1) := dk_42 (dk_at dksL_law_37 10 rfl rfl)
theorem dL_law_983 : decode cL_law 983 = .ok (.iload 4, 2) := dk_21 4 (dk_at dksL_law_37 11 rfl rfl)
theorem dL_law_985 : decode cL_law 985 = .ok (.iconst 2, 1) := dk_5 (dk_at dksL_law_37 13 rfl rfl)
theorem dL_law_986 : decode cL_law 986 = .ok (.iadd, 1) := dk_96 (dk_at dksL_law_37 14 rfl rfl)
theorem dL_law_987 : decode cL_law 987 = .ok (.iaload, 1) := dk_46 (dk_at dksL_law_37 15 rfl rfl)
theorem dL_law_988 : decode cL_law 988 = .ok (.aload_n 3, 1) := dk_45 (dk_at dksL_law_37 16 rfl rfl)
theorem dL_law_989 : decode cL_law 989 = .ok (.invokestatic 162, 3) := dk_184 0 162 (dk_at dksL_law_37 17 rfl rfl)
theorem dL_law_992 : decode cL_law 992 = .ok (.istore 5, 2) := dk_54 5 (dk_at dksL_law_37 20 rfl rfl)
theorem dL_law_994 : decode cL_law 994 = .ok (.aload_n 2, 1) := dk_44 (dk_at dksL_law_37 22 rfl rfl)
theorem dL_law_995 : decode cL_law 995 = .ok (.aload_n 0, 1) := dk_42 (dk_at dksL_law_37 23 rfl rfl)
theorem dL_law_996 : decode cL_law 996 = .ok (.iload 4, 2) := dk_21 4 (dk_at dksL_law_38 0 rfl rfl)
theorem dL_law_998 : decode cL_law 998 = .ok (.iconst 1, 1) := dk_4 (dk_at dksL_law_38 2 rfl rfl)
theorem dL_law_999 : decode cL_law 999 = .ok (.iadd, 1) := dk_96 (dk_at dksL_law_38 3 rfl rfl)
theorem dL_law_1000 : decode cL_law 1000 = .ok (.iaload, 1) := dk_46 (dk_at dksL_law_38 4 rfl rfl)
theorem dL_law_1001 : decode cL_law 1001 = .ok (.aload_n 0, 1) := dk_42 (dk_at dksL_law_38 5 rfl rfl)
theorem dL_law_1002 : decode cL_law 1002 = .ok (.iload 4, 2) := dk_21 4 (dk_at dksL_law_38 6 rfl rfl)
theorem dL_law_1004 : decode cL_law 1004 = .ok (.iconst 2, 1) := dk_5 (dk_at dksL_law_38 8 rfl rfl)
theorem dL_law_1005 : decode cL_law 1005 = .ok (.iadd, 1) := dk_96 (dk_at dksL_law_38 9 rfl rfl)
theorem dL_law_1006 : decode cL_law 1006 = .ok (.iaload, 1) := dk_46 (dk_at dksL_law_38 10 rfl rfl)
theorem dL_law_1007 : decode cL_law 1007 = .ok (.invokevirtual 164, 3) := dk_182 0 164 (dk_at dksL_law_38 11 rfl rfl)
theorem dL_law_1010 : decode cL_law 1010 = .ok (.istore 6, 2) := dk_54 6 (dk_at dksL_law_38 14 rfl rfl)
theorem dL_law_1012 : decode cL_law 1012 = .ok (.aload_n 2, 1) := dk_44 (dk_at dksL_law_38 16 rfl rfl)
theorem dL_law_1013 : decode cL_law 1013 = .ok (.invokevirtual 126, 3) := dk_182 0 126 (dk_at dksL_law_38 17 rfl rfl)
theorem dL_law_1016 : decode cL_law 1016 = .ok (.iload 5, 2) := dk_21 5 (dk_at dksL_law_38 20 rfl rfl)
theorem dL_law_1018 : decode cL_law 1018 = .ok (.if_icmp .eq 5, 3) := dk_159 0 5 (dk_at dksL_law_39 0 rfl rfl)
theorem dL_law_1021 : decode cL_law 1021 = .ok (.iconst 0, 1) := dk_3 (dk_at dksL_law_39 3 rfl rfl)
theorem dL_law_1022 : decode cL_law 1022 = .ok (.ireturn, 1) := dk_172 (dk_at dksL_law_39 4 rfl rfl)
theorem dL_law_1023 : decode cL_law 1023 = .ok (.iload 5, 2) := dk_21 5 (dk_at dksL_law_39 5 rfl rfl)
theorem dL_law_1025 : decode cL_law 1025 = .ok (.ifCond .ne 16, 3) := dk_154 0 16 (dk_at dksL_law_39 7 rfl rfl)
theorem dL_law_1028 : decode cL_law 1028 = .ok (.aload_n 3, 1) := dk_45 (dk_at dksL_law_39 10 rfl rfl)
theorem dL_law_1029 : decode cL_law 1029 = .ok (.getfield 13, 3) := dk_180 0 13 (dk_at dksL_law_39 11 rfl rfl)
theorem dL_law_1032 : decode cL_law 1032 = .ok (.iload 6, 2) := dk_21 6 (dk_at dksL_law_39 14 rfl rfl)
theorem dL_law_1034 : decode cL_law 1034 = .ok (.i2l, 1) := dk_133 (dk_at dksL_law_39 16 rfl rfl)
theorem dL_law_1035 : decode cL_law 1035 = .ok (.lcmp, 1) := dk_148 (dk_at dksL_law_39 17 rfl rfl)
theorem dL_law_1036 : decode cL_law 1036 = .ok (.ifCond .eq 5, 3) := dk_153 0 5 (dk_at dksL_law_39 18 rfl rfl)
theorem dL_law_1039 : decode cL_law 1039 = .ok (.iconst 0, 1) := dk_3 (dk_at dksL_law_39 21 rfl rfl)
theorem dL_law_1040 : decode cL_law 1040 = .ok (.ireturn, 1) := dk_172 (dk_at dksL_law_39 22 rfl rfl)
theorem dL_law_1041 : decode cL_law 1041 = .ok (.goto 1103, 3) := dk_167 4 79 (dk_at dksL_law_40 0 rfl rfl)
theorem dL_law_1044 : decode cL_law 1044 = .ok (.aload_n 1, 1) := dk_43 (dk_at dksL_law_40 3 rfl rfl)
theorem dL_law_1045 : decode cL_law 1045 = .ok (.aload_n 0, 1) := dk_42 (dk_at dksL_law_40 4 rfl rfl)
theorem dL_law_1046 : decode cL_law 1046 = .ok (.iload 4, 2) := dk_21 4 (dk_at dksL_law_40 5 rfl rfl)
theorem dL_law_1048 : decode cL_law 1048 = .ok (.iconst 1, 1) := dk_4 (dk_at dksL_law_40 7 rfl rfl)
theorem dL_law_1049 : decode cL_law 1049 = .ok (.iadd, 1) := dk_96 (dk_at dksL_law_40 8 rfl rfl)
theorem dL_law_1050 : decode cL_law 1050 = .ok (.iaload, 1) := dk_46 (dk_at dksL_law_40 9 rfl rfl)
theorem dL_law_1051 : decode cL_law 1051 = .ok (.aload_n 3, 1) := dk_45 (dk_at dksL_law_40 10 rfl rfl)
theorem dL_law_1052 : decode cL_law 1052 = .ok (.invokestatic 165, 3) := dk_184 0 165 (dk_at dksL_law_40 11 rfl rfl)
theorem dL_law_1055 : decode cL_law 1055 = .ok (.istore 5, 2) := dk_54 5 (dk_at dksL_law_40 14 rfl rfl)
theorem dL_law_1057 : decode cL_law 1057 = .ok (.aload_n 2, 1) := dk_44 (dk_at dksL_law_40 16 rfl rfl)
theorem dL_law_1058 : decode cL_law 1058 = .ok (.aload_n 0, 1) := dk_42 (dk_at dksL_law_40 17 rfl rfl)
theorem dL_law_1059 : decode cL_law 1059 = .ok (.iload 4, 2) := dk_21 4 (dk_at dksL_law_40 18 rfl rfl)
theorem dL_law_1061 : decode cL_law 1061 = .ok (.iconst 1, 1) := dk_4 (dk_at dksL_law_40 20 rfl rfl)
theorem dL_law_1062 : decode cL_law 1062 = .ok (.iadd, 1) := dk_96 (dk_at dksL_law_40 21 rfl rfl)
theorem dL_law_1063 : decode cL_law 1063 = .ok (.iaload, 1) := dk_46 (dk_at dksL_law_40 22 rfl rfl)
theorem dL_law_1064 : decode cL_law 1064 = .ok (.invokevirtual 167, 3) := dk_182 0 167 (dk_at dksL_law_41 0 rfl rfl)
theorem dL_law_1067 : decode cL_law 1067 = .ok (.istore 6, 2) := dk_54 6 (dk_at dksL_law_41 3 rfl rfl)
theorem dL_law_1069 : decode cL_law 1069 = .ok (.aload_n 2, 1) := dk_44 (dk_at dksL_law_41 5 rfl rfl)
theorem dL_law_1070 : decode cL_law 1070 = .ok (.invokevirtual 126, 3) := dk_182 0 126 (dk_at dksL_law_41 6 rfl rfl)
theorem dL_law_1073 : decode cL_law 1073 = .ok (.iload 5, 2) := dk_21 5 (dk_at dksL_law_41 9 rfl rfl)
theorem dL_law_1075 : decode cL_law 1075 = .ok (.if_icmp .eq 5, 3) := dk_159 0 5 (dk_at dksL_law_41 11 rfl rfl)
theorem dL_law_1078 : decode cL_law 1078 = .ok (.iconst 0, 1) := dk_3 (dk_at dksL_law_41 14 rfl rfl)
theorem dL_law_1079 : decode cL_law 1079 = .ok (.ireturn, 1) := dk_172 (dk_at dksL_law_41 15 rfl rfl)
theorem dL_law_1080 : decode cL_law 1080 = .ok (.iload 5, 2) := dk_21 5 (dk_at dksL_law_41 16 rfl rfl)
theorem dL_law_1082 : decode cL_law 1082 = .ok (.ifCond .ne 16, 3) := dk_154 0 16 (dk_at dksL_law_41 18 rfl rfl)
theorem dL_law_1085 : decode cL_law 1085 = .ok (.aload_n 3, 1) := dk_45 (dk_at dksL_law_41 21 rfl rfl)
theorem dL_law_1086 : decode cL_law 1086 = .ok (.getfield 13, 3) := dk_180 0 13 (dk_at dksL_law_42 0 rfl rfl)
theorem dL_law_1089 : decode cL_law 1089 = .ok (.iload 6, 2) := dk_21 6 (dk_at dksL_law_42 3 rfl rfl)
theorem dL_law_1091 : decode cL_law 1091 = .ok (.i2l, 1) := dk_133 (dk_at dksL_law_42 5 rfl rfl)
theorem dL_law_1092 : decode cL_law 1092 = .ok (.lcmp, 1) := dk_148 (dk_at dksL_law_42 6 rfl rfl)
theorem dL_law_1093 : decode cL_law 1093 = .ok (.ifCond .eq 5, 3) := dk_153 0 5 (dk_at dksL_law_42 7 rfl rfl)
theorem dL_law_1096 : decode cL_law 1096 = .ok (.iconst 0, 1) := dk_3 (dk_at dksL_law_42 10 rfl rfl)
theorem dL_law_1097 : decode cL_law 1097 = .ok (.ireturn, 1) := dk_172 (dk_at dksL_law_42 11 rfl rfl)
theorem dL_law_1098 : decode cL_law 1098 = .ok (.goto 1046, 3) := dk_167 4 22 (dk_at dksL_law_42 12 rfl rfl)
theorem dL_law_1101 : decode cL_law 1101 = .ok (.aload_n 1, 1) := dk_43 (dk_at dksL_law_42 15 rfl rfl)
theorem dL_law_1102 : decode cL_law 1102 = .ok (.aload_n 0, 1) := dk_42 (dk_at dksL_law_42 16 rfl rfl)
theorem dL_law_1103 : decode cL_law 1103 = .ok (.iload 4, 2) := dk_21 4 (dk_at dksL_law_42 17 rfl rfl)
theorem dL_law_1105 : decode cL_law 1105 = .ok (.iconst 1, 1) := dk_4 (dk_at dksL_law_42 19 rfl rfl)
theorem dL_law_1106 : decode cL_law 1106 = .ok (.iadd, 1) := dk_96 (dk_at dksL_law_42 20 rfl rfl)
theorem dL_law_1107 : decode cL_law 1107 = .ok (.iaload, 1) := dk_46 (dk_at dksL_law_42 21 rfl rfl)
theorem dL_law_1108 : decode cL_law 1108 = .ok (.aload_n 0, 1) := dk_42 (dk_at dksL_law_42 22 rfl rfl)
theorem dL_law_1109 : decode cL_law 1109 = .ok (.iload 4, 2) := dk_21 4 (dk_at dksL_law_43 0 rfl rfl)
theorem dL_law_1111 : decode cL_law 1111 = .ok (.iconst 2, 1) := dk_5 (dk_at dksL_law_43 2 rfl rfl)
theorem dL_law_1112 : decode cL_law 1112 = .ok (.iadd, 1) := dk_96 (dk_at dksL_law_43 3 rfl rfl)
theorem dL_law_1113 : decode cL_law 1113 = .ok (.iaload, 1) := dk_46 (dk_at dksL_law_43 4 rfl rfl)
theorem dL_law_1114 : decode cL_law 1114 = .ok (.aload_n 3, 1) := dk_45 (dk_at dksL_law_43 5 rfl rfl)
theorem dL_law_1115 : decode cL_law 1115 = .ok (.invokestatic 168, 3) := dk_184 0 168 (dk_at dksL_law_43 6 rfl rfl)
theorem dL_law_1118 : decode cL_law 1118 = .ok (.istore 5, 2) := dk_54 5 (dk_at dksL_law_43 9 rfl rfl)
theorem dL_law_1120 : decode cL_law 1120 = .ok (.aload_n 2, 1) := dk_44 (dk_at dksL_law_43 11 rfl rfl)
theorem dL_law_1121 : decode cL_law 1121 = .ok (.aload_n 0, 1) := dk_42 (dk_at dksL_law_43 12 rfl rfl)
theorem dL_law_1122 : decode cL_law 1122 = .ok (.iload 4, 2) := dk_21 4 (dk_at dksL_law_43 13 rfl rfl)
theorem dL_law_1124 : decode cL_law 1124 = .ok (.iconst 1, 1) := dk_4 (dk_at dksL_law_43 15 rfl rfl)
theorem dL_law_1125 : decode cL_law 1125 = .ok (.iadd, 1) := dk_96 (dk_at dksL_law_43 16 rfl rfl)
theorem dL_law_1126 : decode cL_law 1126 = .ok (.iaload, 1) := dk_46 (dk_at dksL_law_43 17 rfl rfl)
theorem dL_law_1127 : decode cL_law 1127 = .ok (.aload_n 0, 1) := dk_42 (dk_at dksL_law_43 18 rfl rfl)
theorem dL_law_1128 : decode cL_law 1128 = .ok (.iload 4, 2) := dk_21 4 (dk_at dksL_law_43 19 rfl rfl)
theorem dL_law_1130 : decode cL_law 1130 = .ok (.iconst 2, 1) := dk_5 (dk_at dksL_law_43 21 rfl rfl)
theorem dL_law_1131 : decode cL_law 1131 = .ok (.iadd, 1) := dk_96 (dk_at dksL_law_43 22 rfl rfl)
theorem dL_law_1132 : decode cL_law 1132 = .ok (.iaload, 1) := dk_46 (dk_at dksL_law_43 23 rfl rfl)
theorem dL_law_1133 : decode cL_law 1133 = .ok (.invokevirtual 170, 3) := dk_182 0 170 (dk_at dksL_law_44 0 rfl rfl)
theorem dL_law_1136 : decode cL_law 1136 = .ok (.istore 6, 2) := dk_54 6 (dk_at dksL_law_44 3 rfl rfl)
theorem dL_law_1138 : decode cL_law 1138 = .ok (.aload_n 2, 1) := dk_44 (dk_at dksL_law_44 5 rfl rfl)
theorem dL_law_1139 : decode cL_law 1139 = .ok (.invokevirtual 126, 3) := dk_182 0 126 (dk_at dksL_law_44 6 rfl rfl)
theorem dL_law_1142 : decode cL_law 1142 = .ok (.iload 5, 2) := dk_21 5 (dk_at dksL_law_44 9 rfl rfl)
theorem dL_law_1144 : decode cL_law 1144 = .ok (.if_icmp .eq 5, 3) := dk_159 0 5 (dk_at dksL_law_44 11 rfl rfl)
theorem dL_law_1147 : decode cL_law 1147 = .ok (.iconst 0, 1) := dk_3 (dk_at dksL_law_44 14 rfl rfl)
theorem dL_law_1148 : decode cL_law 1148 = .ok (.ireturn, 1) := dk_172 (dk_at dksL_law_44 15 rfl rfl)
theorem dL_law_1149 : decode cL_law 1149 = .ok (.iload 5, 2) := dk_21 5 (dk_at dksL_law_44 16 rfl rfl)
theorem dL_law_1151 : decode cL_law 1151 = .ok (.ifCond .ne 16, 3) := dk_154 0 16 (dk_at dksL_law_44 18 rfl rfl)
theorem dL_law_1154 : decode cL_law 1154 = .ok (.aload_n 3, 1) := dk_45 (dk_at dksL_law_44 21 rfl rfl)
theorem dL_law_1155 : decode cL_law 1155 = .ok (.getfield 13, 3) := dk_180 0 13 (dk_at dksL_law_45 0 rfl rfl)
theorem dL_law_1158 : decode cL_law 1158 = .ok (.iload 6, 2) := dk_21 6 (dk_at dksL_law_45 3 rfl rfl)
theorem dL_law_1160 : decode cL_law 1160 = .ok (.i2l, 1) := dk_133 (dk_at dksL_law_45 5 rfl rfl)
theorem dL_law_1161 : decode cL_law 1161 = .ok (.lcmp, 1) := dk_148 (dk_at dksL_law_45 6 rfl rfl)
theorem dL_law_1162 : decode cL_law 1162 = .ok (.ifCond .eq 5, 3) := dk_153 0 5 (dk_at dksL_law_45 7 rfl rfl)
theorem dL_law_1165 : decode cL_law 1165 = .ok (.iconst 0, 1) := dk_3 (dk_at dksL_law_45 10 rfl rfl)
theorem dL_law_1166 : decode cL_law 1166 = .ok (.ireturn, 1) := dk_172 (dk_at dksL_law_45 11 rfl rfl)
theorem dL_law_1167 : decode cL_law 1167 = .ok (.goto 977, 3) := dk_167 3 209 (dk_at dksL_law_45 12 rfl rfl)
theorem dL_law_1170 : decode cL_law 1170 = .ok (.aload_n 1, 1) := dk_43 (dk_at dksL_law_45 15 rfl rfl)
theorem dL_law_1171 : decode cL_law 1171 = .ok (.aload_n 0, 1) := dk_42 (dk_at dksL_law_45 16 rfl rfl)
theorem dL_law_1172 : decode cL_law 1172 = .ok (.iload 4, 2) := dk_21 4 (dk_at dksL_law_45 17 rfl rfl)
theorem dL_law_1174 : decode cL_law 1174 = .ok (.iconst 1, 1) := dk_4 (dk_at dksL_law_45 19 rfl rfl)
theorem dL_law_1175 : decode cL_law 1175 = .ok (.iadd, 1) := dk_96 (dk_at dksL_law_45 20 rfl rfl)
theorem dL_law_1176 : decode cL_law 1176 = .ok (.iaload, 1) := dk_46 (dk_at dksL_law_45 21 rfl rfl)
theorem dL_law_1177 : decode cL_law 1177 = .ok (.aload_n 0, 1) := dk_42 (dk_at dksL_law_45 22 rfl rfl)
theorem dL_law_1178 : decode cL_law 1178 = .ok (.iload 4, 2) := dk_21 4 (dk_at dksL_law_46 0 rfl rfl)
theorem dL_law_1180 : decode cL_law 1180 = .ok (.iconst 2, 1) := dk_5 (dk_at dksL_law_46 2 rfl rfl)
theorem dL_law_1181 : decode cL_law 1181 = .ok (.iadd, 1) := dk_96 (dk_at dksL_law_46 3 rfl rfl)
theorem dL_law_1182 : decode cL_law 1182 = .ok (.iaload, 1) := dk_46 (dk_at dksL_law_46 4 rfl rfl)
theorem dL_law_1183 : decode cL_law 1183 = .ok (.aload_n 3, 1) := dk_45 (dk_at dksL_law_46 5 rfl rfl)
theorem dL_law_1184 : decode cL_law 1184 = .ok (.invokestatic 171, 3) := dk_184 0 171 (dk_at dksL_law_46 6 rfl rfl)
theorem dL_law_1187 : decode cL_law 1187 = .ok (.istore 5, 2) := dk_54 5 (dk_at dksL_law_46 9 rfl rfl)
theorem dL_law_1189 : decode cL_law 1189 = .ok (.aload_n 2, 1) := dk_44 (dk_at dksL_law_46 11 rfl rfl)
theorem dL_law_1190 : decode cL_law 1190 = .ok (.aload_n 0, 1) := dk_42 (dk_at dksL_law_46 12 rfl rfl)
theorem dL_law_1191 : decode cL_law 1191 = .ok (.iload 4, 2) := dk_21 4 (dk_at dksL_law_46 13 rfl rfl)
theorem dL_law_1193 : decode cL_law 1193 = .ok (.iconst 1, 1) := dk_4 (dk_at dksL_law_46 15 rfl rfl)
theorem dL_law_1194 : decode cL_law 1194 = .ok (.iadd, 1) := dk_96 (dk_at dksL_law_46 16 rfl rfl)
theorem dL_law_1195 : decode cL_law 1195 = .ok (.iaload, 1) := dk_46 (dk_at dksL_law_46 17 rfl rfl)
theorem dL_law_1196 : decode cL_law 1196 = .ok (.aload_n 0, 1) := dk_42 (dk_at dksL_law_46 18 rfl rfl)
theorem dL_law_1197 : decode cL_law 1197 = .ok (.iload 4, 2) := dk_21 4 (dk_at dksL_law_46 19 rfl rfl)
theorem dL_law_1199 : decode cL_law 1199 = .ok (.iconst 2, 1) := dk_5 (dk_at dksL_law_46 21 rfl rfl)
theorem dL_law_1200 : decode cL_law 1200 = .ok (.iadd, 1) := dk_96 (dk_at dksL_law_46 22 rfl rfl)
theorem dL_law_1201 : decode cL_law 1201 = .ok (.iaload, 1) := dk_46 (dk_at dksL_law_46 23 rfl rfl)
theorem dL_law_1202 : decode cL_law 1202 = .ok (.invokevirtual 173, 3) := dk_182 0 173 (dk_at dksL_law_47 0 rfl rfl)
theorem dL_law_1205 : decode cL_law 1205 = .ok (.istore 6, 2) := dk_54 6 (dk_at dksL_law_47 3 rfl rfl)
theorem dL_law_1207 : decode cL_law 1207 = .ok (.aload_n 2, 1) := dk_44 (dk_at dksL_law_47 5 rfl rfl)
theorem dL_law_1208 : decode cL_law 1208 = .ok (.invokevirtual 126, 3) := dk_182 0 126 (dk_at dksL_law_47 6 rfl rfl)
theorem dL_law_1211 : decode cL_law 1211 = .ok (.iload 5, 2) := dk_21 5 (dk_at dksL_law_47 9 rfl rfl)
theorem dL_law_1213 : decode cL_law 1213 = .ok (.if_icmp .eq 5, 3) := dk_159 0 5 (dk_at dksL_law_47 11 rfl rfl)
theorem dL_law_1216 : decode cL_law 1216 = .ok (.iconst 0, 1) := dk_3 (dk_at dksL_law_47 14 rfl rfl)
theorem dL_law_1217 : decode cL_law 1217 = .ok (.ireturn, 1) := dk_172 (dk_at dksL_law_47 15 rfl rfl)
theorem dL_law_1218 : decode cL_law 1218 = .ok (.iload 5, 2) := dk_21 5 (dk_at dksL_law_47 16 rfl rfl)
theorem dL_law_1220 : decode cL_law 1220 = .ok (.ifCond .ne 16, 3) := dk_154 0 16 (dk_at dksL_law_47 18 rfl rfl)
theorem dL_law_1223 : decode cL_law 1223 = .ok (.aload_n 3, 1) := dk_45 (dk_at dksL_law_47 21 rfl rfl)
theorem dL_law_1224 : decode cL_law 1224 = .ok (.getfield 13, 3) := dk_180 0 13 (dk_at dksL_law_48 0 rfl rfl)
theorem dL_law_1227 : decode cL_law 1227 = .ok (.iload 6, 2) := dk_21 6 (dk_at dksL_law_48 3 rfl rfl)
theorem dL_law_1229 : decode cL_law 1229 = .ok (.i2l, 1) := dk_133 (dk_at dksL_law_48 5 rfl rfl)
theorem dL_law_1230 : decode cL_law 1230 = .ok (.lcmp, 1) := dk_148 (dk_at dksL_law_48 6 rfl rfl)
theorem dL_law_1231 : decode cL_law 1231 = .ok (.ifCond .eq 5, 3) := dk_153 0 5 (dk_at dksL_law_48 7 rfl rfl)
theorem dL_law_1234 : decode cL_law 1234 = .ok (.iconst 0, 1) := dk_3 (dk_at dksL_law_48 10 rfl rfl)
theorem dL_law_1235 : decode cL_law 1235 = .ok (.ireturn, 1) := dk_172 (dk_at dksL_law_48 11 rfl rfl)
theorem dL_law_1236 : decode cL_law 1236 = .ok (.goto 908, 3) := dk_167 3 140 (dk_at dksL_law_48 12 rfl rfl)
theorem dL_law_1239 : decode cL_law 1239 = .ok (.aload_n 1, 1) := dk_43 (dk_at dksL_law_48 15 rfl rfl)
theorem dL_law_1240 : decode cL_law 1240 = .ok (.aload_n 0, 1) := dk_42 (dk_at dksL_law_48 16 rfl rfl)
theorem dL_law_1241 : decode cL_law 1241 = .ok (.iload 4, 2) := dk_21 4 (dk_at dksL_law_48 17 rfl rfl)
theorem dL_law_1243 : decode cL_law 1243 = .ok (.iconst 1, 1) := dk_4 (dk_at dksL_law_48 19 rfl rfl)
theorem dL_law_1244 : decode cL_law 1244 = .ok (.iadd, 1) := dk_96 (dk_at dksL_law_48 20 rfl rfl)
theorem dL_law_1245 : decode cL_law 1245 = .ok (.iaload, 1) := dk_46 (dk_at dksL_law_48 21 rfl rfl)
theorem dL_law_1246 : decode cL_law 1246 = .ok (.aload_n 0, 1) := dk_42 (dk_at dksL_law_48 22 rfl rfl)
theorem dL_law_1247 : decode cL_law 1247 = .ok (.iload 4, 2) := dk_21 4 (dk_at dksL_law_49 0 rfl rfl)
theorem dL_law_1249 : decode cL_law 1249 = .ok (.iconst 2, 1) := dk_5 (dk_at dksL_law_49 2 rfl rfl)
theorem dL_law_1250 : decode cL_law 1250 = .ok (.iadd, 1) := dk_96 (dk_at dksL_law_49 3 rfl rfl)
theorem dL_law_1251 : decode cL_law 1251 = .ok (.iaload, 1) := dk_46 (dk_at dksL_law_49 4 rfl rfl)
theorem dL_law_1252 : decode cL_law 1252 = .ok (.aload_n 3, 1) := dk_45 (dk_at dksL_law_49 5 rfl rfl)
theorem dL_law_1253 : decode cL_law 1253 = .ok (.invokestatic 174, 3) := dk_184 0 174 (dk_at dksL_law_49 6 rfl rfl)
theorem dL_law_1256 : decode cL_law 1256 = .ok (.istore 5, 2) := dk_54 5 (dk_at dksL_law_49 9 rfl rfl)
theorem dL_law_1258 : decode cL_law 1258 = .ok (.aload_n 2, 1) := dk_44 (dk_at dksL_law_49 11 rfl rfl)
theorem dL_law_1259 : decode cL_law 1259 = .ok (.aload_n 0, 1) := dk_42 (dk_at dksL_law_49 12 rfl rfl)
theorem dL_law_1260 : decode cL_law 1260 = .ok (.iload 4, 2) := dk_21 4 (dk_at dksL_law_49 13 rfl rfl)
theorem dL_law_1262 : decode cL_law 1262 = .ok (.iconst 1, 1) := dk_4 (dk_at dksL_law_49 15 rfl rfl)
theorem dL_law_1263 : decode cL_law 1263 = .ok (.iadd, 1) := dk_96 (dk_at dksL_law_49 16 rfl rfl)
theorem dL_law_1264 : decode cL_law 1264 = .ok (.iaload, 1) := dk_46 (dk_at dksL_law_49 17 rfl rfl)
theorem dL_law_1265 : decode cL_law 1265 = .ok (.aload_n 0, 1) := dk_42 (dk_at dksL_law_49 18 rfl rfl)
theorem dL_law_1266 : decode cL_law 1266 = .ok (.iload 4, 2) := dk_21 4 (dk_at dksL_law_49 19 rfl rfl)
theorem dL_law_1268 : decode cL_law 1268 = .ok (.iconst 2, 1) := dk_5 (dk_at dksL_law_49 21 rfl rfl)
theorem dL_law_1269 : decode cL_law 1269 = .ok (.iadd, 1) := dk_96 (dk_at dksL_law_49 22 rfl rfl)
theorem dL_law_1270 : decode cL_law 1270 = .ok (.iaload, 1) := dk_46 (dk_at dksL_law_49 23 rfl rfl)
theorem dL_law_1271 : decode cL_law 1271 = .ok (.invokevirtual 176, 3) := dk_182 0 176 (dk_at dksL_law_50 0 rfl rfl)
theorem dL_law_1274 : decode cL_law 1274 = .ok (.istore 6, 2) := dk_54 6 (dk_at dksL_law_50 3 rfl rfl)
theorem dL_law_1276 : decode cL_law 1276 = .ok (.aload_n 2, 1) := dk_44 (dk_at dksL_law_50 5 rfl rfl)
theorem dL_law_1277 : decode cL_law 1277 = .ok (.invokevirtual 126, 3) := dk_182 0 126 (dk_at dksL_law_50 6 rfl rfl)
theorem dL_law_1280 : decode cL_law 1280 = .ok (.iload 5, 2) := dk_21 5 (dk_at dksL_law_50 9 rfl rfl)
theorem dL_law_1282 : decode cL_law 1282 = .ok (.if_icmp .eq 5, 3) := dk_159 0 5 (dk_at dksL_law_50 11 rfl rfl)
theorem dL_law_1285 : decode cL_law 1285 = .ok (.iconst 0, 1) := dk_3 (dk_at dksL_law_50 14 rfl rfl)
theorem dL_law_1286 : decode cL_law 1286 = .ok (.ireturn, 1) := dk_172 (dk_at dksL_law_50 15 rfl rfl)
theorem dL_law_1287 : decode cL_law 1287 = .ok (.iload 5, 2) := dk_21 5 (dk_at dksL_law_50 16 rfl rfl)
theorem dL_law_1289 : decode cL_law 1289 = .ok (.ifCond .ne 16, 3) := dk_154 0 16 (dk_at dksL_law_50 18 rfl rfl)
theorem dL_law_1292 : decode cL_law 1292 = .ok (.aload_n 3, 1) := dk_45 (dk_at dksL_law_50 21 rfl rfl)
theorem dL_law_1293 : decode cL_law 1293 = .ok (.getfield 13, 3) := dk_180 0 13 (dk_at dksL_law_51 0 rfl rfl)
theorem dL_law_1296 : decode cL_law 1296 = .ok (.iload 6, 2) := dk_21 6 (dk_at dksL_law_51 3 rfl rfl)
theorem dL_law_1298 : decode cL_law 1298 = .ok (.i2l, 1) := dk_133 (dk_at dksL_law_51 5 rfl rfl)
theorem dL_law_1299 : decode cL_law 1299 = .ok (.lcmp, 1) := dk_148 (dk_at dksL_law_51 6 rfl rfl)
theorem dL_law_1300 : decode cL_law 1300 = .ok (.ifCond .eq 5, 3) := dk_153 0 5 (dk_at dksL_law_51 7 rfl rfl)
theorem dL_law_1303 : decode cL_law 1303 = .ok (.iconst 0, 1) := dk_3 (dk_at dksL_law_51 10 rfl rfl)
theorem dL_law_1304 : decode cL_law 1304 = .ok (.ireturn, 1) := dk_172 (dk_at dksL_law_51 11 rfl rfl)
theorem dL_law_1305 : decode cL_law 1305 = .ok (.goto 839, 3) := dk_167 3 71 (dk_at dksL_law_51 12 rfl rfl)
theorem dL_law_1308 : decode cL_law 1308 = .ok (.aload_n 1, 1) := dk_43 (dk_at dksL_law_51 15 rfl rfl)
theorem dL_law_1309 : decode cL_law 1309 = .ok (.aload_n 0, 1) := dk_42 (dk_at dksL_law_51 16 rfl rfl)
theorem dL_law_1310 : decode cL_law 1310 = .ok (.iload 4, 2) := dk_21 4 (dk_at dksL_law_51 17 rfl rfl)
theorem dL_law_1312 : decode cL_law 1312 = .ok (.iconst 1, 1) := dk_4 (dk_at dksL_law_51 19 rfl rfl)
theorem dL_law_1313 : decode cL_law 1313 = .ok (.iadd, 1) := dk_96 (dk_at dksL_law_51 20 rfl rfl)
theorem dL_law_1314 : decode cL_law 1314 = .ok (.iaload, 1) := dk_46 (dk_at dksL_law_51 21 rfl rfl)
theorem dL_law_1315 : decode cL_law 1315 = .ok (.aload_n 0, 1) := dk_42 (dk_at dksL_law_51 22 rfl rfl)
theorem dL_law_1316 : decode cL_law 1316 = .ok (.iload 4, 2) := dk_21 4 (dk_at dksL_law_52 0 rfl rfl)
theorem dL_law_1318 : decode cL_law 1318 = .ok (.iconst 2, 1) := dk_5 (dk_at dksL_law_52 2 rfl rfl)
theorem dL_law_1319 : decode cL_law 1319 = .ok (.iadd, 1) := dk_96 (dk_at dksL_law_52 3 rfl rfl)
theorem dL_law_1320 : decode cL_law 1320 = .ok (.iaload, 1) := dk_46 (dk_at dksL_law_52 4 rfl rfl)
theorem dL_law_1321 : decode cL_law 1321 = .ok (.aload_n 3, 1) := dk_45 (dk_at dksL_law_52 5 rfl rfl)
theorem dL_law_1322 : decode cL_law 1322 = .ok (.invokestatic 177, 3) := dk_184 0 177 (dk_at dksL_law_52 6 rfl rfl)
theorem dL_law_1325 : decode cL_law 1325 = .ok (.istore 5, 2) := dk_54 5 (dk_at dksL_law_52 9 rfl rfl)
theorem dL_law_1327 : decode cL_law 1327 = .ok (.aload_n 2, 1) := dk_44 (dk_at dksL_law_52 11 rfl rfl)
theorem dL_law_1328 : decode cL_law 1328 = .ok (.aload_n 0, 1) := dk_42 (dk_at dksL_law_52 12 rfl rfl)
theorem dL_law_1329 : decode cL_law 1329 = .ok (.iload 4, 2) := dk_21 4 (dk_at dksL_law_52 13 rfl rfl)
theorem dL_law_1331 : decode cL_law 1331 = .ok (.iconst 1, 1) := dk_4 (dk_at dksL_law_52 15 rfl rfl)
theorem dL_law_1332 : decode cL_law 1332 = .ok (.iadd, 1) := dk_96 (dk_at dksL_law_52 16 rfl rfl)
theorem dL_law_1333 : decode cL_law 1333 = .ok (.iaload, 1) := dk_46 (dk_at dksL_law_52 17 rfl rfl)
theorem dL_law_1334 : decode cL_law 1334 = .ok (.aload_n 0, 1) := dk_42 (dk_at dksL_law_52 18 rfl rfl)
theorem dL_law_1335 : decode cL_law 1335 = .ok (.iload 4, 2) := dk_21 4 (dk_at dksL_law_52 19 rfl rfl)
theorem dL_law_1337 : decode cL_law 1337 = .ok (.iconst 2, 1) := dk_5 (dk_at dksL_law_52 21 rfl rfl)
theorem dL_law_1338 : decode cL_law 1338 = .ok (.iadd, 1) := dk_96 (dk_at dksL_law_52 22 rfl rfl)
theorem dL_law_1339 : decode cL_law 1339 = .ok (.iaload, 1) := dk_46 (dk_at dksL_law_52 23 rfl rfl)
theorem dL_law_1340 : decode cL_law 1340 = .ok (.invokevirtual 179, 3) := dk_182 0 179 (dk_at dksL_law_53 0 rfl rfl)
theorem dL_law_1343 : decode cL_law 1343 = .ok (.istore 6, 2) := dk_54 6 (dk_at dksL_law_53 3 rfl rfl)
theorem dL_law_1345 : decode cL_law 1345 = .ok (.aload_n 2, 1) := dk_44 (dk_at dksL_law_53 5 rfl rfl)
theorem dL_law_1346 : decode cL_law 1346 = .ok (.invokevirtual 126, 3) := dk_182 0 126 (dk_at dksL_law_53 6 rfl rfl)
theorem dL_law_1349 : decode cL_law 1349 = .ok (.iload 5, 2) := dk_21 5 (dk_at dksL_law_53 9 rfl rfl)
theorem dL_law_1351 : decode cL_law 1351 = .ok (.if_icmp .eq 5, 3) := dk_159 0 5 (dk_at dksL_law_53 11 rfl rfl)
theorem dL_law_1354 : decode cL_law 1354 = .ok (.iconst 0, 1) := dk_3 (dk_at dksL_law_53 14 rfl rfl)
theorem dL_law_1355 : decode cL_law 1355 = .ok (.ireturn, 1) := dk_172 (dk_at dksL_law_53 15 rfl rfl)
theorem dL_law_1356 : decode cL_law 1356 = .ok (.iload 5, 2) := dk_21 5 (dk_at dksL_law_53 16 rfl rfl)
theorem dL_law_1358 : decode cL_law 1358 = .ok (.ifCond .ne 16, 3) := dk_154 0 16 (dk_at dksL_law_53 18 rfl rfl)
theorem dL_law_1361 : decode cL_law 1361 = .ok (.aload_n 3, 1) := dk_45 (dk_at dksL_law_53 21 rfl rfl)
theorem dL_law_1362 : decode cL_law 1362 = .ok (.getfield 13, 3) := dk_180 0 13 (dk_at dksL_law_54 0 rfl rfl)
theorem dL_law_1365 : decode cL_law 1365 = .ok (.iload 6, 2) := dk_21 6 (dk_at dksL_law_54 3 rfl rfl)
theorem dL_law_1367 : decode cL_law 1367 = .ok (.i2l, 1) := dk_133 (dk_at dksL_law_54 5 rfl rfl)
theorem dL_law_1368 : decode cL_law 1368 = .ok (.lcmp, 1) := dk_148 (dk_at dksL_law_54 6 rfl rfl)
theorem dL_law_1369 : decode cL_law 1369 = .ok (.ifCond .eq 5, 3) := dk_153 0 5 (dk_at dksL_law_54 7 rfl rfl)
theorem dL_law_1372 : decode cL_law 1372 = .ok (.iconst 0, 1) := dk_3 (dk_at dksL_law_54 10 rfl rfl)
theorem dL_law_1373 : decode cL_law 1373 = .ok (.ireturn, 1) := dk_172 (dk_at dksL_law_54 11 rfl rfl)
theorem dL_law_1374 : decode cL_law 1374 = .ok (.goto 770, 3) := dk_167 3 2 (dk_at dksL_law_54 12 rfl rfl)
theorem dL_law_1377 : decode cL_law 1377 = .ok (.aload_n 1, 1) := dk_43 (dk_at dksL_law_54 15 rfl rfl)
theorem dL_law_1378 : decode cL_law 1378 = .ok (.aload_n 0, 1) := dk_42 (dk_at dksL_law_54 16 rfl rfl)
theorem dL_law_1379 : decode cL_law 1379 = .ok (.iload 4, 2) := dk_21 4 (dk_at dksL_law_54 17 rfl rfl)
theorem dL_law_1381 : decode cL_law 1381 = .ok (.iconst 1, 1) := dk_4 (dk_at dksL_law_54 19 rfl rfl)
theorem dL_law_1382 : decode cL_law 1382 = .ok (.iadd, 1) := dk_96 (dk_at dksL_law_54 20 rfl rfl)
theorem dL_law_1383 : decode cL_law 1383 = .ok (.iaload, 1) := dk_46 (dk_at dksL_law_54 21 rfl rfl)
theorem dL_law_1384 : decode cL_law 1384 = .ok (.aload_n 0, 1) := dk_42 (dk_at dksL_law_54 22 rfl rfl)
theorem dL_law_1385 : decode cL_law 1385 = .ok (.iload 4, 2) := dk_21 4 (dk_at dksL_law_55 0 rfl rfl)
theorem dL_law_1387 : decode cL_law 1387 = .ok (.iconst 2, 1) := dk_5 (dk_at dksL_law_55 2 rfl rfl)
theorem dL_law_1388 : decode cL_law 1388 = .ok (.iadd, 1) := dk_96 (dk_at dksL_law_55 3 rfl rfl)
theorem dL_law_1389 : decode cL_law 1389 = .ok (.iaload, 1) := dk_46 (dk_at dksL_law_55 4 rfl rfl)
theorem dL_law_1390 : decode cL_law 1390 = .ok (.aload_n 3, 1) := dk_45 (dk_at dksL_law_55 5 rfl rfl)
theorem dL_law_1391 : decode cL_law 1391 = .ok (.invokestatic 180, 3) := dk_184 0 180 (dk_at dksL_law_55 6 rfl rfl)
theorem dL_law_1394 : decode cL_law 1394 = .ok (.istore 5, 2) := dk_54 5 (dk_at dksL_law_55 9 rfl rfl)
theorem dL_law_1396 : decode cL_law 1396 = .ok (.aload_n 2, 1) := dk_44 (dk_at dksL_law_55 11 rfl rfl)
theorem dL_law_1397 : decode cL_law 1397 = .ok (.aload_n 0, 1) := dk_42 (dk_at dksL_law_55 12 rfl rfl)
theorem dL_law_1398 : decode cL_law 1398 = .ok (.iload 4, 2) := dk_21 4 (dk_at dksL_law_55 13 rfl rfl)
theorem dL_law_1400 : decode cL_law 1400 = .ok (.iconst 1, 1) := dk_4 (dk_at dksL_law_55 15 rfl rfl)
theorem dL_law_1401 : decode cL_law 1401 = .ok (.iadd, 1) := dk_96 (dk_at dksL_law_55 16 rfl rfl)
theorem dL_law_1402 : decode cL_law 1402 = .ok (.iaload, 1) := dk_46 (dk_at dksL_law_55 17 rfl rfl)
theorem dL_law_1403 : decode cL_law 1403 = .ok (.aload_n 0, 1) := dk_42 (dk_at dksL_law_55 18 rfl rfl)
theorem dL_law_1404 : decode cL_law 1404 = .ok (.iload 4, 2) := dk_21 4 (dk_at dksL_law_55 19 rfl rfl)
theorem dL_law_1406 : decode cL_law 1406 = .ok (.iconst 2, 1) := dk_5 (dk_at dksL_law_55 21 rfl rfl)
theorem dL_law_1407 : decode cL_law 1407 = .ok (.iadd, 1) := dk_96 (dk_at dksL_law_55 22 rfl rfl)
theorem dL_law_1408 : decode cL_law 1408 = .ok (.iaload, 1) := dk_46 (dk_at dksL_law_55 23 rfl rfl)
theorem dL_law_1409 : decode cL_law 1409 = .ok (.invokevirtual 182, 3) := dk_182 0 182 (dk_at dksL_law_56 0 rfl rfl)
theorem dL_law_1412 : decode cL_law 1412 = .ok (.istore 6, 2) := dk_54 6 (dk_at dksL_law_56 3 rfl rfl)
theorem dL_law_1414 : decode cL_law 1414 = .ok (.aload_n 2, 1) := dk_44 (dk_at dksL_law_56 5 rfl rfl)
theorem dL_law_1415 : decode cL_law 1415 = .ok (.invokevirtual 126, 3) := dk_182 0 126 (dk_at dksL_law_56 6 rfl rfl)
theorem dL_law_1418 : decode cL_law 1418 = .ok (.iload 5, 2) := dk_21 5 (dk_at dksL_law_56 9 rfl rfl)
theorem dL_law_1420 : decode cL_law 1420 = .ok (.if_icmp .eq 5, 3) := dk_159 0 5 (dk_at dksL_law_56 11 rfl rfl)
theorem dL_law_1423 : decode cL_law 1423 = .ok (.iconst 0, 1) := dk_3 (dk_at dksL_law_56 14 rfl rfl)
theorem dL_law_1424 : decode cL_law 1424 = .ok (.ireturn, 1) := dk_172 (dk_at dksL_law_56 15 rfl rfl)
theorem dL_law_1425 : decode cL_law 1425 = .ok (.iload 5, 2) := dk_21 5 (dk_at dksL_law_56 16 rfl rfl)
theorem dL_law_1427 : decode cL_law 1427 = .ok (.ifCond .ne 16, 3) := dk_154 0 16 (dk_at dksL_law_56 18 rfl rfl)
theorem dL_law_1430 : decode cL_law 1430 = .ok (.aload_n 3, 1) := dk_45 (dk_at dksL_law_56 21 rfl rfl)
theorem dL_law_1431 : decode cL_law 1431 = .ok (.getfield 13, 3) := dk_180 0 13 (dk_at dksL_law_57 0 rfl rfl)
theorem dL_law_1434 : decode cL_law 1434 = .ok (.iload 6, 2) := dk_21 6 (dk_at dksL_law_57 3 rfl rfl)
theorem dL_law_1436 : decode cL_law 1436 = .ok (.i2l, 1) := dk_133 (dk_at dksL_law_57 5 rfl rfl)
theorem dL_law_1437 : decode cL_law 1437 = .ok (.lcmp, 1) := dk_148 (dk_at dksL_law_57 6 rfl rfl)
theorem dL_law_1438 : decode cL_law 1438 = .ok (.ifCond .eq 5, 3) := dk_153 0 5 (dk_at dksL_law_57 7 rfl rfl)
theorem dL_law_1441 : decode cL_law 1441 = .ok (.iconst 0, 1) := dk_3 (dk_at dksL_law_57 10 rfl rfl)
theorem dL_law_1442 : decode cL_law 1442 = .ok (.ireturn, 1) := dk_172 (dk_at dksL_law_57 11 rfl rfl)
theorem dL_law_1443 : decode cL_law 1443 = .ok (.goto 701, 3) := dk_167 2 189 (dk_at dksL_law_57 12 rfl rfl)
theorem dL_law_1446 : decode cL_law 1446 = .ok (.aload_n 1, 1) := dk_43 (dk_at dksL_law_57 15 rfl rfl)
theorem dL_law_1447 : decode cL_law 1447 = .ok (.aload_n 0, 1) := dk_42 (dk_at dksL_law_57 16 rfl rfl)
theorem dL_law_1448 : decode cL_law 1448 = .ok (.iload 4, 2) := dk_21 4 (dk_at dksL_law_57 17 rfl rfl)
theorem dL_law_1450 : decode cL_law 1450 = .ok (.iconst 1, 1) := dk_4 (dk_at dksL_law_57 19 rfl rfl)
theorem dL_law_1451 : decode cL_law 1451 = .ok (.iadd, 1) := dk_96 (dk_at dksL_law_57 20 rfl rfl)
theorem dL_law_1452 : decode cL_law 1452 = .ok (.iaload, 1) := dk_46 (dk_at dksL_law_57 21 rfl rfl)
theorem dL_law_1453 : decode cL_law 1453 = .ok (.aload_n 0, 1) := dk_42 (dk_at dksL_law_57 22 rfl rfl)
theorem dL_law_1454 : decode cL_law 1454 = .ok (.iload 4, 2) := dk_21 4 (dk_at dksL_law_58 0 rfl rfl)
theorem dL_law_1456 : decode cL_law 1456 = .ok (.iconst 2, 1) := dk_5 (dk_at dksL_law_58 2 rfl rfl)
theorem dL_law_1457 : decode cL_law 1457 = .ok (.iadd, 1) := dk_96 (dk_at dksL_law_58 3 rfl rfl)
theorem dL_law_1458 : decode cL_law 1458 = .ok (.iaload, 1) := dk_46 (dk_at dksL_law_58 4 rfl rfl)
theorem dL_law_1459 : decode cL_law 1459 = .ok (.aload_n 3, 1) := dk_45 (dk_at dksL_law_58 5 rfl rfl)
theorem dL_law_1460 : decode cL_law 1460 = .ok (.invokestatic 183, 3) := dk_184 0 183 (dk_at dksL_law_58 6 rfl rfl)
theorem dL_law_1463 : decode cL_law 1463 = .ok (.istore 5, 2) := dk_54 5 (dk_at dksL_law_58 9 rfl rfl)
theorem dL_law_1465 : decode cL_law 1465 = .ok (.aload_n 2, 1) := dk_44 (dk_at dksL_law_58 11 rfl rfl)
theorem dL_law_1466 : decode cL_law 1466 = .ok (.aload_n 0, 1) := dk_42 (dk_at dksL_law_58 12 rfl rfl)
theorem dL_law_1467 : decode cL_law 1467 = .ok (.iload 4, 2) := dk_21 4 (dk_at dksL_law_58 13 rfl rfl)
theorem dL_law_1469 : decode cL_law 1469 = .ok (.iconst 1, 1) := dk_4 (dk_at dksL_law_58 15 rfl rfl)
theorem dL_law_1470 : decode cL_law 1470 = .ok (.iadd, 1) := dk_96 (dk_at dksL_law_58 16 rfl rfl)
theorem dL_law_1471 : decode cL_law 1471 = .ok (.iaload, 1) := dk_46 (dk_at dksL_law_58 17 rfl rfl)
theorem dL_law_1472 : decode cL_law 1472 = .ok (.aload_n 0, 1) := dk_42 (dk_at dksL_law_58 18 rfl rfl)
theorem dL_law_1473 : decode cL_law 1473 = .ok (.iload 4, 2) := dk_21 4 (dk_at dksL_law_58 19 rfl rfl)
theorem dL_law_1475 : decode cL_law 1475 = .ok (.iconst 2, 1) := dk_5 (dk_at dksL_law_58 21 rfl rfl)
theorem dL_law_1476 : decode cL_law 1476 = .ok (.iadd, 1) := dk_96 (dk_at dksL_law_58 22 rfl rfl)
theorem dL_law_1477 : decode cL_law 1477 = .ok (.iaload, 1) := dk_46 (dk_at dksL_law_58 23 rfl rfl)
theorem dL_law_1478 : decode cL_law 1478 = .ok (.invokevirtual 185, 3) := dk_182 0 185 (dk_at dksL_law_59 0 rfl rfl)
theorem dL_law_1481 : decode cL_law 1481 = .ok (.istore 6, 2) := dk_54 6 (dk_at dksL_law_59 3 rfl rfl)
theorem dL_law_1483 : decode cL_law 1483 = .ok (.aload_n 2, 1) := dk_44 (dk_at dksL_law_59 5 rfl rfl)
theorem dL_law_1484 : decode cL_law 1484 = .ok (.invokevirtual 126, 3) := dk_182 0 126 (dk_at dksL_law_59 6 rfl rfl)
theorem dL_law_1487 : decode cL_law 1487 = .ok (.iload 5, 2) := dk_21 5 (dk_at dksL_law_59 9 rfl rfl)
theorem dL_law_1489 : decode cL_law 1489 = .ok (.if_icmp .eq 5, 3) := dk_159 0 5 (dk_at dksL_law_59 11 rfl rfl)
theorem dL_law_1492 : decode cL_law 1492 = .ok (.iconst 0, 1) := dk_3 (dk_at dksL_law_59 14 rfl rfl)
theorem dL_law_1493 : decode cL_law 1493 = .ok (.ireturn, 1) := dk_172 (dk_at dksL_law_59 15 rfl rfl)
theorem dL_law_1494 : decode cL_law 1494 = .ok (.iload 5, 2) := dk_21 5 (dk_at dksL_law_59 16 rfl rfl)
theorem dL_law_1496 : decode cL_law 1496 = .ok (.ifCond .ne 23, 3) := dk_154 0 23 (dk_at dksL_law_59 18 rfl rfl)
theorem dL_law_1499 : decode cL_law 1499 = .ok (.aload_n 3, 1) := dk_45 (dk_at dksL_law_59 21 rfl rfl)
theorem dL_law_1500 : decode cL_law 1500 = .ok (.getfield 13, 3) := dk_180 0 13 (dk_at dksL_law_60 0 rfl rfl)
theorem dL_law_1503 : decode cL_law 1503 = .ok (.iload 6, 2) := dk_21 6 (dk_at dksL_law_60 3 rfl rfl)
theorem dL_law_1505 : decode cL_law 1505 = .ok (.ifCond .eq 7, 3) := dk_153 0 7 (dk_at dksL_law_60 5 rfl rfl)
theorem dL_law_1508 : decode cL_law 1508 = .ok (.lconst 1, 1) := dk_10 (dk_at dksL_law_60 8 rfl rfl)
theorem dL_law_1509 : decode cL_law 1509 = .ok (.goto 4, 3) := dk_167 0 4 (dk_at dksL_law_60 9 rfl rfl)
theorem dL_law_1512 : decode cL_law 1512 = .ok (.lconst 0, 1) := dk_9 (dk_at dksL_law_60 12 rfl rfl)
theorem dL_law_1513 : decode cL_law 1513 = .ok (.lcmp, 1) := dk_148 (dk_at dksL_law_60 13 rfl rfl)
theorem dL_law_1514 : decode cL_law 1514 = .ok (.ifCond .eq 5, 3) := dk_153 0 5 (dk_at dksL_law_60 14 rfl rfl)
theorem dL_law_1517 : decode cL_law 1517 = .ok (.iconst 0, 1) := dk_3 (dk_at dksL_law_60 17 rfl rfl)
theorem dL_law_1518 : decode cL_law 1518 = .ok (.ireturn, 1) := dk_172 (dk_at dksL_law_60 18 rfl rfl)
theorem dL_law_1519 : decode cL_law 1519 = .ok (.goto 625, 3) := dk_167 2 113 (dk_at dksL_law_60 19 rfl rfl)
theorem dL_law_1522 : decode cL_law 1522 = .ok (.aload_n 1, 1) := dk_43 (dk_at dksL_law_60 22 rfl rfl)
theorem dL_law_1523 : decode cL_law 1523 = .ok (.aload_n 0, 1) := dk_42 (dk_at dksL_law_60 23 rfl rfl)
theorem dL_law_1524 : decode cL_law 1524 = .ok (.iload 4, 2) := dk_21 4 (dk_at dksL_law_61 0 rfl rfl)
theorem dL_law_1526 : decode cL_law 1526 = .ok (.iconst 1, 1) := dk_4 (dk_at dksL_law_61 2 rfl rfl)
theorem dL_law_1527 : decode cL_law 1527 = .ok (.iadd, 1) := dk_96 (dk_at dksL_law_61 3 rfl rfl)
theorem dL_law_1528 : decode cL_law 1528 = .ok (.iaload, 1) := dk_46 (dk_at dksL_law_61 4 rfl rfl)
theorem dL_law_1529 : decode cL_law 1529 = .ok (.aload_n 0, 1) := dk_42 (dk_at dksL_law_61 5 rfl rfl)
theorem dL_law_1530 : decode cL_law 1530 = .ok (.iload 4, 2) := dk_21 4 (dk_at dksL_law_61 6 rfl rfl)
theorem dL_law_1532 : decode cL_law 1532 = .ok (.iconst 2, 1) := dk_5 (dk_at dksL_law_61 8 rfl rfl)
theorem dL_law_1533 : decode cL_law 1533 = .ok (.iadd, 1) := dk_96 (dk_at dksL_law_61 9 rfl rfl)
theorem dL_law_1534 : decode cL_law 1534 = .ok (.iaload, 1) := dk_46 (dk_at dksL_law_61 10 rfl rfl)
theorem dL_law_1535 : decode cL_law 1535 = .ok (.aload_n 3, 1) := dk_45 (dk_at dksL_law_61 11 rfl rfl)
theorem dL_law_1536 : decode cL_law 1536 = .ok (.invokestatic 186, 3) := dk_184 0 186 (dk_at dksL_law_61 12 rfl rfl)
theorem dL_law_1539 : decode cL_law 1539 = .ok (.istore 5, 2) := dk_54 5 (dk_at dksL_law_61 15 rfl rfl)
theorem dL_law_1541 : decode cL_law 1541 = .ok (.aload_n 2, 1) := dk_44 (dk_at dksL_law_61 17 rfl rfl)
theorem dL_law_1542 : decode cL_law 1542 = .ok (.aload_n 0, 1) := dk_42 (dk_at dksL_law_61 18 rfl rfl)
theorem dL_law_1543 : decode cL_law 1543 = .ok (.iload 4, 2) := dk_21 4 (dk_at dksL_law_61 19 rfl rfl)
theorem dL_law_1545 : decode cL_law 1545 = .ok (.iconst 1, 1) := dk_4 (dk_at dksL_law_61 21 rfl rfl)
theorem dL_law_1546 : decode cL_law 1546 = .ok (.iadd, 1) := dk_96 (dk_at dksL_law_61 22 rfl rfl)
theorem dL_law_1547 : decode cL_law 1547 = .ok (.iaload, 1) := dk_46 (dk_at dksL_law_61 23 rfl rfl)
theorem dL_law_1548 : decode cL_law 1548 = .ok (.aload_n 0, 1) := dk_42 (dk_at dksL_law_62 0 rfl rfl)
theorem dL_law_1549 : decode cL_law 1549 = .ok (.iload 4, 2) := dk_21 4 (dk_at dksL_law_62 1 rfl rfl)
theorem dL_law_1551 : decode cL_law 1551 = .ok (.iconst 2, 1) := dk_5 (dk_at dksL_law_62 3 rfl rfl)
theorem dL_law_1552 : decode cL_law 1552 = .ok (.iadd, 1) := dk_96 (dk_at dksL_law_62 4 rfl rfl)
theorem dL_law_1553 : decode cL_law 1553 = .ok (.iaload, 1) := dk_46 (dk_at dksL_law_62 5 rfl rfl)
theorem dL_law_1554 : decode cL_law 1554 = .ok (.invokevirtual 188, 3) := dk_182 0 188 (dk_at dksL_law_62 6 rfl rfl)
theorem dL_law_1557 : decode cL_law 1557 = .ok (.istore 6, 2) := dk_54 6 (dk_at dksL_law_62 9 rfl rfl)
theorem dL_law_1559 : decode cL_law 1559 = .ok (.aload_n 2, 1) := dk_44 (dk_at dksL_law_62 11 rfl rfl)
theorem dL_law_1560 : decode cL_law 1560 = .ok (.invokevirtual 126, 3) := dk_182 0 126 (dk_at dksL_law_62 12 rfl rfl)
theorem dL_law_1563 : decode cL_law 1563 = .ok (.iload 5, 2) := dk_21 5 (dk_at dksL_law_62 15 rfl rfl)
theorem dL_law_1565 : decode cL_law 1565 = .ok (.if_icmp .eq 5, 3) := dk_159 0 5 (dk_at dksL_law_62 17 rfl rfl)
theorem dL_law_1568 : decode cL_law 1568 = .ok (.iconst 0, 1) := dk_3 (dk_at dksL_law_62 20 rfl rfl)
theorem dL_law_1569 : decode cL_law 1569 = .ok (.ireturn, 1) := dk_172 (dk_at dksL_law_62 21 rfl rfl)
theorem dL_law_1570 : decode cL_law 1570 = .ok (.iload 5, 2) := dk_21 5 (dk_at dksL_law_62 22 rfl rfl)
theorem dL_law_1572 : decode cL_law 1572 = .ok (.ifCond .ne 16, 3) := dk_154 0 16 (dk_at dksL_law_63 0 rfl rfl)
theorem dL_law_1575 : decode cL_law 1575 = .ok (.aload_n 3, 1) := dk_45 (dk_at dksL_law_63 3 rfl rfl)
theorem dL_law_1576 : decode cL_law 1576 = .ok (.getfield 13, 3) := dk_180 0 13 (dk_at dksL_law_63 4 rfl rfl)
theorem dL_law_1579 : decode cL_law 1579 = .ok (.iload 6, 2) := dk_21 6 (dk_at dksL_law_63 7 rfl rfl)
theorem dL_law_1581 : decode cL_law 1581 = .ok (.i2l, 1) := dk_133 (dk_at dksL_law_63 9 rfl rfl)
theorem dL_law_1582 : decode cL_law 1582 = .ok (.lcmp, 1) := dk_148 (dk_at dksL_law_63 10 rfl rfl)
theorem dL_law_1583 : decode cL_law 1583 = .ok (.ifCond .eq 5, 3) := dk_153 0 5 (dk_at dksL_law_63 11 rfl rfl)
theorem dL_law_1586 : decode cL_law 1586 = .ok (.iconst 0, 1) := dk_3 (dk_at dksL_law_63 14 rfl rfl)
theorem dL_law_1587 : decode cL_law 1587 = .ok (.ireturn, 1) := dk_172 (dk_at dksL_law_63 15 rfl rfl)
theorem dL_law_1588 : decode cL_law 1588 = .ok (.goto 556, 3) := dk_167 2 44 (dk_at dksL_law_63 16 rfl rfl)
theorem dL_law_1591 : decode cL_law 1591 = .ok (.aload_n 1, 1) := dk_43 (dk_at dksL_law_63 19 rfl rfl)
theorem dL_law_1592 : decode cL_law 1592 = .ok (.aload_n 0, 1) := dk_42 (dk_at dksL_law_63 20 rfl rfl)
theorem dL_law_1593 : decode cL_law 1593 = .ok (.iload 4, 2) := dk_21 4 (dk_at dksL_law_63 21 rfl rfl)
theorem dL_law_1595 : decode cL_law 1595 = .ok (.iconst 1, 1) := dk_4 (dk_at dksL_law_63 23 rfl rfl)
theorem dL_law_1596 : decode cL_law 1596 = .ok (.iadd, 1) := dk_96 (dk_at dksL_law_64 0 rfl rfl)
theorem dL_law_1597 : decode cL_law 1597 = .ok (.iaload, 1) := dk_46 (dk_at dksL_law_64 1 rfl rfl)
theorem dL_law_1598 : decode cL_law 1598 = .ok (.aload_n 0, 1) := dk_42 (dk_at dksL_law_64 2 rfl rfl)
theorem dL_law_1599 : decode cL_law 1599 = .ok (.iload 4, 2) := dk_21 4 (dk_at dksL_law_64 3 rfl rfl)
theorem dL_law_1601 : decode cL_law 1601 = .ok (.iconst 2, 1) := dk_5 (dk_at dksL_law_64 5 rfl rfl)
theorem dL_law_1602 : decode cL_law 1602 = .ok (.iadd, 1) := dk_96 (dk_at dksL_law_64 6 rfl rfl)
theorem dL_law_1603 : decode cL_law 1603 = .ok (.iaload, 1) := dk_46 (dk_at dksL_law_64 7 rfl rfl)
theorem dL_law_1604 : decode cL_law 1604 = .ok (.ifCond .eq 7, 3) := dk_153 0 7 (dk_at dksL_law_64 8 rfl rfl)
theorem dL_law_1607 : decode cL_law 1607 = .ok (.iconst 1, 1) := dk_4 (dk_at dksL_law_64 11 rfl rfl)
theorem dL_law_1608 : decode cL_law 1608 = .ok (.goto 4, 3) := dk_167 0 4 (dk_at dksL_law_64 12 rfl rfl)
theorem dL_law_1611 : decode cL_law 1611 = .ok (.iconst 0, 1) := dk_3 (dk_at dksL_law_64 15 rfl rfl)
theorem dL_law_1612 : decode cL_law 1612 = .ok (.aload_n 3, 1) := dk_45 (dk_at dksL_law_64 16 rfl rfl)
theorem dL_law_1613 : decode cL_law 1613 = .ok (.invokestatic 189, 3) := dk_184 0 189 (dk_at dksL_law_64 17 rfl rfl)
theorem dL_law_1616 : decode cL_law 1616 = .ok (.istore 5, 2) := dk_54 5 (dk_at dksL_law_64 20 rfl rfl)
theorem dL_law_1618 : decode cL_law 1618 = .ok (.aload_n 2, 1) := dk_44 (dk_at dksL_law_64 22 rfl rfl)
theorem dL_law_1619 : decode cL_law 1619 = .ok (.aload_n 0, 1) := dk_42 (dk_at dksL_law_64 23 rfl rfl)
theorem dL_law_1620 : decode cL_law 1620 = .ok (.iload 4, 2) := dk_21 4 (dk_at dksL_law_65 0 rfl rfl)
theorem dL_law_1622 : decode cL_law 1622 = .ok (.iconst 1, 1) := dk_4 (dk_at dksL_law_65 2 rfl rfl)
theorem dL_law_1623 : decode cL_law 1623 = .ok (.iadd, 1) := dk_96 (dk_at dksL_law_65 3 rfl rfl)
theorem dL_law_1624 : decode cL_law 1624 = .ok (.iaload, 1) := dk_46 (dk_at dksL_law_65 4 rfl rfl)
theorem dL_law_1625 : decode cL_law 1625 = .ok (.aload_n 0, 1) := dk_42 (dk_at dksL_law_65 5 rfl rfl)
theorem dL_law_1626 : decode cL_law 1626 = .ok (.iload 4, 2) := dk_21 4 (dk_at dksL_law_65 6 rfl rfl)
theorem dL_law_1628 : decode cL_law 1628 = .ok (.iconst 2, 1) := dk_5 (dk_at dksL_law_65 8 rfl rfl)
theorem dL_law_1629 : decode cL_law 1629 = .ok (.iadd, 1) := dk_96 (dk_at dksL_law_65 9 rfl rfl)
theorem dL_law_1630 : decode cL_law 1630 = .ok (.iaload, 1) := dk_46 (dk_at dksL_law_65 10 rfl rfl)
theorem dL_law_1631 : decode cL_law 1631 = .ok (.ifCond .eq 7, 3) := dk_153 0 7 (dk_at dksL_law_65 11 rfl rfl)
theorem dL_law_1634 : decode cL_law 1634 = .ok (.iconst 1, 1) := dk_4 (dk_at dksL_law_65 14 rfl rfl)
theorem dL_law_1635 : decode cL_law 1635 = .ok (.goto 4, 3) := dk_167 0 4 (dk_at dksL_law_65 15 rfl rfl)
theorem dL_law_1638 : decode cL_law 1638 = .ok (.iconst 0, 1) := dk_3 (dk_at dksL_law_65 18 rfl rfl)
theorem dL_law_1639 : decode cL_law 1639 = .ok (.invokevirtual 192, 3) := dk_182 0 192 (dk_at dksL_law_65 19 rfl rfl)
theorem dL_law_1642 : decode cL_law 1642 = .ok (.istore 6, 2) := dk_54 6 (dk_at dksL_law_65 22 rfl rfl)
theorem dL_law_1644 : decode cL_law 1644 = .ok (.aload_n 2, 1) := dk_44 (dk_at dksL_law_66 0 rfl rfl)
theorem dL_law_1645 : decode cL_law 1645 = .ok (.invokevirtual 126, 3) := dk_182 0 126 (dk_at dksL_law_66 1 rfl rfl)
theorem dL_law_1648 : decode cL_law 1648 = .ok (.iload 5, 2) := dk_21 5 (dk_at dksL_law_66 4 rfl rfl)
theorem dL_law_1650 : decode cL_law 1650 = .ok (.if_icmp .eq 5, 3) := dk_159 0 5 (dk_at dksL_law_66 6 rfl rfl)
theorem dL_law_1653 : decode cL_law 1653 = .ok (.iconst 0, 1) := dk_3 (dk_at dksL_law_66 9 rfl rfl)
theorem dL_law_1654 : decode cL_law 1654 = .ok (.ireturn, 1) := dk_172 (dk_at dksL_law_66 10 rfl rfl)
theorem dL_law_1655 : decode cL_law 1655 = .ok (.iload 5, 2) := dk_21 5 (dk_at dksL_law_66 11 rfl rfl)
theorem dL_law_1657 : decode cL_law 1657 = .ok (.ifCond .ne 16, 3) := dk_154 0 16 (dk_at dksL_law_66 13 rfl rfl)
theorem dL_law_1660 : decode cL_law 1660 = .ok (.aload_n 3, 1) := dk_45 (dk_at dksL_law_66 16 rfl rfl)
theorem dL_law_1661 : decode cL_law 1661 = .ok (.getfield 13, 3) := dk_180 0 13 (dk_at dksL_law_66 17 rfl rfl)
theorem dL_law_1664 : decode cL_law 1664 = .ok (.iload 6, 2) := dk_21 6 (dk_at dksL_law_66 20 rfl rfl)
theorem dL_law_1666 : decode cL_law 1666 = .ok (.i2l, 1) := dk_133 (dk_at dksL_law_66 22 rfl rfl)
theorem dL_law_1667 : decode cL_law 1667 = .ok (.lcmp, 1) := dk_148 (dk_at dksL_law_66 23 rfl rfl)
theorem dL_law_1668 : decode cL_law 1668 = .ok (.ifCond .eq 5, 3) := dk_153 0 5 (dk_at dksL_law_67 0 rfl rfl)
theorem dL_law_1671 : decode cL_law 1671 = .ok (.iconst 0, 1) := dk_3 (dk_at dksL_law_67 3 rfl rfl)
theorem dL_law_1672 : decode cL_law 1672 = .ok (.ireturn, 1) := dk_172 (dk_at dksL_law_67 4 rfl rfl)
theorem dL_law_1673 : decode cL_law 1673 = .ok (.goto 471, 3) := dk_167 1 215 (dk_at dksL_law_67 5 rfl rfl)
theorem dL_law_1676 : decode cL_law 1676 = .ok (.aload_n 1, 1) := dk_43 (dk_at dksL_law_67 8 rfl rfl)
theorem dL_law_1677 : decode cL_law 1677 = .ok (.aload_n 0, 1) := dk_42 (dk_at dksL_law_67 9 rfl rfl)
theorem dL_law_1678 : decode cL_law 1678 = .ok (.iload 4, 2) := dk_21 4 (dk_at dksL_law_67 10 rfl rfl)
theorem dL_law_1680 : decode cL_law 1680 = .ok (.iconst 1, 1) := dk_4 (dk_at dksL_law_67 12 rfl rfl)
theorem dL_law_1681 : decode cL_law 1681 = .ok (.iadd, 1) := dk_96 (dk_at dksL_law_67 13 rfl rfl)
theorem dL_law_1682 : decode cL_law 1682 = .ok (.iaload, 1) := dk_46 (dk_at dksL_law_67 14 rfl rfl)
theorem dL_law_1683 : decode cL_law 1683 = .ok (.aload_n 3, 1) := dk_45 (dk_at dksL_law_67 15 rfl rfl)
theorem dL_law_1684 : decode cL_law 1684 = .ok (.invokestatic 193, 3) := dk_184 0 193 (dk_at dksL_law_67 16 rfl rfl)
theorem dL_law_1687 : decode cL_law 1687 = .ok (.istore 5, 2) := dk_54 5 (dk_at dksL_law_67 19 rfl rfl)
theorem dL_law_1689 : decode cL_law 1689 = .ok (.aload_n 2, 1) := dk_44 (dk_at dksL_law_67 21 rfl rfl)
theorem dL_law_1690 : decode cL_law 1690 = .ok (.aload_n 0, 1) := dk_42 (dk_at dksL_law_67 22 rfl rfl)
theorem dL_law_1691 : decode cL_law 1691 = .ok (.iload 4, 2) := dk_21 4 (dk_at dksL_law_68 0 rfl rfl)
theorem dL_law_1693 : decode cL_law 1693 = .ok (.iconst 1, 1) := dk_4 (dk_at dksL_law_68 2 rfl rfl)
theorem dL_law_1694 : decode cL_law 1694 = .ok (.iadd, 1) := dk_96 (dk_at dksL_law_68 3 rfl rfl)
theorem dL_law_1695 : decode cL_law 1695 = .ok (.iaload, 1) := dk_46 (dk_at dksL_law_68 4 rfl rfl)
theorem dL_law_1696 : decode cL_law 1696 = .ok (.invokevirtual 195, 3) := dk_182 0 195 (dk_at dksL_law_68 5 rfl rfl)
theorem dL_law_1699 : decode cL_law 1699 = .ok (.astore 6, 2) := dk_58 6 (dk_at dksL_law_68 8 rfl rfl)
theorem dL_law_1701 : decode cL_law 1701 = .ok (.aload_n 2, 1) := dk_44 (dk_at dksL_law_68 10 rfl rfl)
theorem dL_law_1702 : decode cL_law 1702 = .ok (.invokevirtual 126, 3) := dk_182 0 126 (dk_at dksL_law_68 11 rfl rfl)
theorem dL_law_1705 : decode cL_law 1705 = .ok (.iload 5, 2) := dk_21 5 (dk_at dksL_law_68 14 rfl rfl)
theorem dL_law_1707 : decode cL_law 1707 = .ok (.if_icmp .eq 5, 3) := dk_159 0 5 (dk_at dksL_law_68 16 rfl rfl)
theorem dL_law_1710 : decode cL_law 1710 = .ok (.iconst 0, 1) := dk_3 (dk_at dksL_law_68 19 rfl rfl)
theorem dL_law_1711 : decode cL_law 1711 = .ok (.ireturn, 1) := dk_172 (dk_at dksL_law_68 20 rfl rfl)
theorem dL_law_1712 : decode cL_law 1712 = .ok (.iload 5, 2) := dk_21 5 (dk_at dksL_law_68 21 rfl rfl)
theorem dL_law_1714 : decode cL_law 1714 = .ok (.ifCond .ne 17, 3) := dk_154 0 17 (dk_at dksL_law_69 0 rfl rfl)
theorem dL_law_1717 : decode cL_law 1717 = .ok (.aload_n 3, 1) := dk_45 (dk_at dksL_law_69 3 rfl rfl)
theorem dL_law_1718 : decode cL_law 1718 = .ok (.getfield 93, 3) := dk_180 0 93 (dk_at dksL_law_69 4 rfl rfl)
theorem dL_law_1721 : decode cL_law 1721 = .ok (.aload 6, 2) := dk_25 6 (dk_at dksL_law_69 7 rfl rfl)
theorem dL_law_1723 : decode cL_law 1723 = .ok (.invokevirtual 196, 3) := dk_182 0 196 (dk_at dksL_law_69 9 rfl rfl)
theorem dL_law_1726 : decode cL_law 1726 = .ok (.ifCond .ne 5, 3) := dk_154 0 5 (dk_at dksL_law_69 12 rfl rfl)
theorem dL_law_1729 : decode cL_law 1729 = .ok (.iconst 0, 1) := dk_3 (dk_at dksL_law_69 15 rfl rfl)
theorem dL_law_1730 : decode cL_law 1730 = .ok (.ireturn, 1) := dk_172 (dk_at dksL_law_69 16 rfl rfl)
theorem dL_law_1731 : decode cL_law 1731 = .ok (.goto 413, 3) := dk_167 1 157 (dk_at dksL_law_69 17 rfl rfl)
theorem dL_law_1734 : decode cL_law 1734 = .ok (.aload_n 1, 1) := dk_43 (dk_at dksL_law_69 20 rfl rfl)
theorem dL_law_1735 : decode cL_law 1735 = .ok (.aload_n 0, 1) := dk_42 (dk_at dksL_law_69 21 rfl rfl)
theorem dL_law_1736 : decode cL_law 1736 = .ok (.iload 4, 2) := dk_21 4 (dk_at dksL_law_69 22 rfl rfl)
theorem dL_law_1738 : decode cL_law 1738 = .ok (.iconst 1, 1) := dk_4 (dk_at dksL_law_70 0 rfl rfl)
theorem dL_law_1739 : decode cL_law 1739 = .ok (.iadd, 1) := dk_96 (dk_at dksL_law_70 1 rfl rfl)
theorem dL_law_1740 : decode cL_law 1740 = .ok (.iaload, 1) := dk_46 (dk_at dksL_law_70 2 rfl rfl)
theorem dL_law_1741 : decode cL_law 1741 = .ok (.aload_n 3, 1) := dk_45 (dk_at dksL_law_70 3 rfl rfl)
theorem dL_law_1742 : decode cL_law 1742 = .ok (.invokestatic 202, 3) := dk_184 0 202 (dk_at dksL_law_70 4 rfl rfl)
theorem dL_law_1745 : decode cL_law 1745 = .ok (.istore 5, 2) := dk_54 5 (dk_at dksL_law_70 7 rfl rfl)
theorem dL_law_1747 : decode cL_law 1747 = .ok (.aload_n 2, 1) := dk_44 (dk_at dksL_law_70 9 rfl rfl)
theorem dL_law_1748 : decode cL_law 1748 = .ok (.aload_n 0, 1) := dk_42 (dk_at dksL_law_70 10 rfl rfl)
theorem dL_law_1749 : decode cL_law 1749 = .ok (.iload 4, 2) := dk_21 4 (dk_at dksL_law_70 11 rfl rfl)
theorem dL_law_1751 : decode cL_law 1751 = .ok (.iconst 1, 1) := dk_4 (dk_at dksL_law_70 13 rfl rfl)
theorem dL_law_1752 : decode cL_law 1752 = .ok (.iadd, 1) := dk_96 (dk_at dksL_law_70 14 rfl rfl)
theorem dL_law_1753 : decode cL_law 1753 = .ok (.iaload, 1) := dk_46 (dk_at dksL_law_70 15 rfl rfl)
theorem dL_law_1754 : decode cL_law 1754 = .ok (.invokevirtual 204, 3) := dk_182 0 204 (dk_at dksL_law_70 16 rfl rfl)
theorem dL_law_1757 : decode cL_law 1757 = .ok (.istore 6, 2) := dk_54 6 (dk_at dksL_law_70 19 rfl rfl)
theorem dL_law_1759 : decode cL_law 1759 = .ok (.aload_n 2, 1) := dk_44 (dk_at dksL_law_70 21 rfl rfl)
theorem dL_law_1760 : decode cL_law 1760 = .ok (.invokevirtual 126, 3) := dk_182 0 126 (dk_at dksL_law_71 0 rfl rfl)
theorem dL_law_1763 : decode cL_law 1763 = .ok (.iload 5, 2) := dk_21 5 (dk_at dksL_law_71 3 rfl rfl)
theorem dL_law_1765 : decode cL_law 1765 = .ok (.if_icmp .eq 5, 3) := dk_159 0 5 (dk_at dksL_law_71 5 rfl rfl)
theorem dL_law_1768 : decode cL_law 1768 = .ok (.iconst 0, 1) := dk_3 (dk_at dksL_law_71 8 rfl rfl)
theorem dL_law_1769 : decode cL_law 1769 = .ok (.ireturn, 1) := dk_172 (dk_at dksL_law_71 9 rfl rfl)
theorem dL_law_1770 : decode cL_law 1770 = .ok (.iload 5, 2) := dk_21 5 (dk_at dksL_law_71 10 rfl rfl)
theorem dL_law_1772 : decode cL_law 1772 = .ok (.ifCond .ne 16, 3) := dk_154 0 16 (dk_at dksL_law_71 12 rfl rfl)
theorem dL_law_1775 : decode cL_law 1775 = .ok (.aload_n 3, 1) := dk_45 (dk_at dksL_law_71 15 rfl rfl)
theorem dL_law_1776 : decode cL_law 1776 = .ok (.getfield 13, 3) := dk_180 0 13 (dk_at dksL_law_71 16 rfl rfl)
theorem dL_law_1779 : decode cL_law 1779 = .ok (.iload 6, 2) := dk_21 6 (dk_at dksL_law_71 19 rfl rfl)
theorem dL_law_1781 : decode cL_law 1781 = .ok (.i2l, 1) := dk_133 (dk_at dksL_law_71 21 rfl rfl)
theorem dL_law_1782 : decode cL_law 1782 = .ok (.lcmp, 1) := dk_148 (dk_at dksL_law_71 22 rfl rfl)
theorem dL_law_1783 : decode cL_law 1783 = .ok (.ifCond .eq 5, 3) := dk_153 0 5 (dk_at dksL_law_72 0 rfl rfl)
theorem dL_law_1786 : decode cL_law 1786 = .ok (.iconst 0, 1) := dk_3 (dk_at dksL_law_72 3 rfl rfl)
theorem dL_law_1787 : decode cL_law 1787 = .ok (.ireturn, 1) := dk_172 (dk_at dksL_law_72 4 rfl rfl)
theorem dL_law_1788 : decode cL_law 1788 = .ok (.goto 356, 3) := dk_167 1 100 (dk_at dksL_law_72 5 rfl rfl)
theorem dL_law_1791 : decode cL_law 1791 = .ok (.aload_n 1, 1) := dk_43 (dk_at dksL_law_72 8 rfl rfl)
theorem dL_law_1792 : decode cL_law 1792 = .ok (.aload_n 0, 1) := dk_42 (dk_at dksL_law_72 9 rfl rfl)
theorem dL_law_1793 : decode cL_law 1793 = .ok (.iload 4, 2) := dk_21 4 (dk_at dksL_law_72 10 rfl rfl)
theorem dL_law_1795 : decode cL_law 1795 = .ok (.iconst 1, 1) := dk_4 (dk_at dksL_law_72 12 rfl rfl)
theorem dL_law_1796 : decode cL_law 1796 = .ok (.iadd, 1) := dk_96 (dk_at dksL_law_72 13 rfl rfl)
theorem dL_law_1797 : decode cL_law 1797 = .ok (.iaload, 1) := dk_46 (dk_at dksL_law_72 14 rfl rfl)
theorem dL_law_1798 : decode cL_law 1798 = .ok (.aload_n 3, 1) := dk_45 (dk_at dksL_law_72 15 rfl rfl)
theorem dL_law_1799 : decode cL_law 1799 = .ok (.invokestatic 205, 3) := dk_184 0 205 (dk_at dksL_law_72 16 rfl rfl)
theorem dL_law_1802 : decode cL_law 1802 = .ok (.istore 5, 2) := dk_54 5 (dk_at dksL_law_72 19 rfl rfl)
theorem dL_law_1804 : decode cL_law 1804 = .ok (.aload_n 2, 1) := dk_44 (dk_at dksL_law_72 21 rfl rfl)
theorem dL_law_1805 : decode cL_law 1805 = .ok (.aload_n 0, 1) := dk_42 (dk_at dksL_law_72 22 rfl rfl)
theorem dL_law_1806 : decode cL_law 1806 = .ok (.iload 4, 2) := dk_21 4 (dk_at dksL_law_73 0 rfl rfl)
theorem dL_law_1808 : decode cL_law 1808 = .ok (.iconst 1, 1) := dk_4 (dk_at dksL_law_73 2 rfl rfl)
theorem dL_law_1809 : decode cL_law 1809 = .ok (.iadd, 1) := dk_96 (dk_at dksL_law_73 3 rfl rfl)
theorem dL_law_1810 : decode cL_law 1810 = .ok (.iaload, 1) := dk_46 (dk_at dksL_law_73 4 rfl rfl)
theorem dL_law_1811 : decode cL_law 1811 = .ok (.invokevirtual 207, 3) := dk_182 0 207 (dk_at dksL_law_73 5 rfl rfl)
theorem dL_law_1814 : decode cL_law 1814 = .ok (.astore 6, 2) := dk_58 6 (dk_at dksL_law_73 8 rfl rfl)
theorem dL_law_1816 : decode cL_law 1816 = .ok (.aload_n 2, 1) := dk_44 (dk_at dksL_law_73 10 rfl rfl)
theorem dL_law_1817 : decode cL_law 1817 = .ok (.invokevirtual 126, 3) := dk_182 0 126 (dk_at dksL_law_73 11 rfl rfl)
theorem dL_law_1820 : decode cL_law 1820 = .ok (.iload 5, 2) := dk_21 5 (dk_at dksL_law_73 14 rfl rfl)
theorem dL_law_1822 : decode cL_law 1822 = .ok (.if_icmp .eq 5, 3) := dk_159 0 5 (dk_at dksL_law_73 16 rfl rfl)
theorem dL_law_1825 : decode cL_law 1825 = .ok (.iconst 0, 1) := dk_3 (dk_at dksL_law_73 19 rfl rfl)
theorem dL_law_1826 : decode cL_law 1826 = .ok (.ireturn, 1) := dk_172 (dk_at dksL_law_73 20 rfl rfl)
theorem dL_law_1827 : decode cL_law 1827 = .ok (.iload 5, 2) := dk_21 5 (dk_at dksL_law_73 21 rfl rfl)
theorem dL_law_1829 : decode cL_law 1829 = .ok (.ifCond .ne 17, 3) := dk_154 0 17 (dk_at dksL_law_74 0 rfl rfl)
theorem dL_law_1832 : decode cL_law 1832 = .ok (.aload_n 3, 1) := dk_45 (dk_at dksL_law_74 3 rfl rfl)
theorem dL_law_1833 : decode cL_law 1833 = .ok (.getfield 93, 3) := dk_180 0 93 (dk_at dksL_law_74 4 rfl rfl)
theorem dL_law_1836 : decode cL_law 1836 = .ok (.aload 6, 2) := dk_25 6 (dk_at dksL_law_74 7 rfl rfl)
theorem dL_law_1838 : decode cL_law 1838 = .ok (.invokevirtual 196, 3) := dk_182 0 196 (dk_at dksL_law_74 9 rfl rfl)
theorem dL_law_1841 : decode cL_law 1841 = .ok (.ifCond .ne 5, 3) := dk_154 0 5 (dk_at dksL_law_74 12 rfl rfl)
theorem dL_law_1844 : decode cL_law 1844 = .ok (.iconst 0, 1) := dk_3 (dk_at dksL_law_74 15 rfl rfl)
theorem dL_law_1845 : decode cL_law 1845 = .ok (.ireturn, 1) := dk_172 (dk_at dksL_law_74 16 rfl rfl)
theorem dL_law_1846 : decode cL_law 1846 = .ok (.goto 298, 3) := dk_167 1 42 (dk_at dksL_law_74 17 rfl rfl)
theorem dL_law_1849 : decode cL_law 1849 = .ok (.aload_n 1, 1) := dk_43 (dk_at dksL_law_74 20 rfl rfl)
theorem dL_law_1850 : decode cL_law 1850 = .ok (.aload_n 0, 1) := dk_42 (dk_at dksL_law_74 21 rfl rfl)
theorem dL_law_1851 : decode cL_law 1851 = .ok (.iload 4, 2) := dk_21 4 (dk_at dksL_law_74 22 rfl rfl)
theorem dL_law_1853 : decode cL_law 1853 = .ok (.iconst 1, 1) := dk_4 (dk_at dksL_law_75 0 rfl rfl)
theorem dL_law_1854 : decode cL_law 1854 = .ok (.iadd, 1) := dk_96 (dk_at dksL_law_75 1 rfl rfl)
theorem dL_law_1855 : decode cL_law 1855 = .ok (.iaload, 1) := dk_46 (dk_at dksL_law_75 2 rfl rfl)
theorem dL_law_1856 : decode cL_law 1856 = .ok (.aload_n 0, 1) := dk_42 (dk_at dksL_law_75 3 rfl rfl)
theorem dL_law_1857 : decode cL_law 1857 = .ok (.iload 4, 2) := dk_21 4 (dk_at dksL_law_75 4 rfl rfl)
theorem dL_law_1859 : decode cL_law 1859 = .ok (.iconst 2, 1) := dk_5 (dk_at dksL_law_75 6 rfl rfl)
theorem dL_law_1860 : decode cL_law 1860 = .ok (.iadd, 1) := dk_96 (dk_at dksL_law_75 7 rfl rfl)
theorem dL_law_1861 : decode cL_law 1861 = .ok (.iaload, 1) := dk_46 (dk_at dksL_law_75 8 rfl rfl)
theorem dL_law_1862 : decode cL_law 1862 = .ok (.aload_n 3, 1) := dk_45 (dk_at dksL_law_75 9 rfl rfl)
theorem dL_law_1863 : decode cL_law 1863 = .ok (.invokestatic 208, 3) := dk_184 0 208 (dk_at dksL_law_75 10 rfl rfl)
theorem dL_law_1866 : decode cL_law 1866 = .ok (.istore 5, 2) := dk_54 5 (dk_at dksL_law_75 13 rfl rfl)
theorem dL_law_1868 : decode cL_law 1868 = .ok (.aload_n 2, 1) := dk_44 (dk_at dksL_law_75 15 rfl rfl)
theorem dL_law_1869 : decode cL_law 1869 = .ok (.aload_n 0, 1) := dk_42 (dk_at dksL_law_75 16 rfl rfl)
theorem dL_law_1870 : decode cL_law 1870 = .ok (.iload 4, 2) := dk_21 4 (dk_at dksL_law_75 17 rfl rfl)
theorem dL_law_1872 : decode cL_law 1872 = .ok (.iconst 1, 1) := dk_4 (dk_at dksL_law_75 19 rfl rfl)
theorem dL_law_1873 : decode cL_law 1873 = .ok (.iadd, 1) := dk_96 (dk_at dksL_law_75 20 rfl rfl)
theorem dL_law_1874 : decode cL_law 1874 = .ok (.iaload, 1) := dk_46 (dk_at dksL_law_75 21 rfl rfl)
theorem dL_law_1875 : decode cL_law 1875 = .ok (.aload_n 0, 1) := dk_42 (dk_at dksL_law_75 22 rfl rfl)
theorem dL_law_1876 : decode cL_law 1876 = .ok (.iload 4, 2) := dk_21 4 (dk_at dksL_law_76 0 rfl rfl)
theorem dL_law_1878 : decode cL_law 1878 = .ok (.iconst 2, 1) := dk_5 (dk_at dksL_law_76 2 rfl rfl)
theorem dL_law_1879 : decode cL_law 1879 = .ok (.iadd, 1) := dk_96 (dk_at dksL_law_76 3 rfl rfl)
theorem dL_law_1880 : decode cL_law 1880 = .ok (.iaload, 1) := dk_46 (dk_at dksL_law_76 4 rfl rfl)
theorem dL_law_1881 : decode cL_law 1881 = .ok (.invokevirtual 210, 3) := dk_182 0 210 (dk_at dksL_law_76 5 rfl rfl)
theorem dL_law_1884 : decode cL_law 1884 = .ok (.istore 6, 2) := dk_54 6 (dk_at dksL_law_76 8 rfl rfl)
theorem dL_law_1886 : decode cL_law 1886 = .ok (.aload_n 2, 1) := dk_44 (dk_at dksL_law_76 10 rfl rfl)
theorem dL_law_1887 : decode cL_law 1887 = .ok (.invokevirtual 126, 3) := dk_182 0 126 (dk_at dksL_law_76 11 rfl rfl)
theorem dL_law_1890 : decode cL_law 1890 = .ok (.iload 5, 2) := dk_21 5 (dk_at dksL_law_76 14 rfl rfl)
theorem dL_law_1892 : decode cL_law 1892 = .ok (.if_icmp .eq 5, 3) := dk_159 0 5 (dk_at dksL_law_76 16 rfl rfl)
theorem dL_law_1895 : decode cL_law 1895 = .ok (.iconst 0, 1) := dk_3 (dk_at dksL_law_76 19 rfl rfl)
theorem dL_law_1896 : decode cL_law 1896 = .ok (.ireturn, 1) := dk_172 (dk_at dksL_law_76 20 rfl rfl)
theorem dL_law_1897 : decode cL_law 1897 = .ok (.iload 5, 2) := dk_21 5 (dk_at dksL_law_76 21 rfl rfl)
theorem dL_law_1899 : decode cL_law 1899 = .ok (.ifCond .ne 16, 3) := dk_154 0 16 (dk_at dksL_law_77 0 rfl rfl)
theorem dL_law_1902 : decode cL_law 1902 = .ok (.aload_n 3, 1) := dk_45 (dk_at dksL_law_77 3 rfl rfl)
theorem dL_law_1903 : decode cL_law 1903 = .ok (.getfield 13, 3) := dk_180 0 13 (dk_at dksL_law_77 4 rfl rfl)
theorem dL_law_1906 : decode cL_law 1906 = .ok (.iload 6, 2) := dk_21 6 (dk_at dksL_law_77 7 rfl rfl)
theorem dL_law_1908 : decode cL_law 1908 = .ok (.i2l, 1) := dk_133 (dk_at dksL_law_77 9 rfl rfl)
theorem dL_law_1909 : decode cL_law 1909 = .ok (.lcmp, 1) := dk_148 (dk_at dksL_law_77 10 rfl rfl)
theorem dL_law_1910 : decode cL_law 1910 = .ok (.ifCond .eq 5, 3) := dk_153 0 5 (dk_at dksL_law_77 11 rfl rfl)
theorem dL_law_1913 : decode cL_law 1913 = .ok (.iconst 0, 1) := dk_3 (dk_at dksL_law_77 14 rfl rfl)
theorem dL_law_1914 : decode cL_law 1914 = .ok (.ireturn, 1) := dk_172 (dk_at dksL_law_77 15 rfl rfl)
theorem dL_law_1915 : decode cL_law 1915 = .ok (.goto 229, 3) := dk_167 0 229 (dk_at dksL_law_77 16 rfl rfl)
theorem dL_law_1918 : decode cL_law 1918 = .ok (.aload_n 1, 1) := dk_43 (dk_at dksL_law_77 19 rfl rfl)
theorem dL_law_1919 : decode cL_law 1919 = .ok (.aload_n 0, 1) := dk_42 (dk_at dksL_law_77 20 rfl rfl)
theorem dL_law_1920 : decode cL_law 1920 = .ok (.iload 4, 2) := dk_21 4 (dk_at dksL_law_77 21 rfl rfl)
theorem dL_law_1922 : decode cL_law 1922 = .ok (.iconst 1, 1) := dk_4 (dk_at dksL_law_77 23 rfl rfl)
theorem dL_law_1923 : decode cL_law 1923 = .ok (.iadd, 1) := dk_96 (dk_at dksL_law_78 0 rfl rfl)
theorem dL_law_1924 : decode cL_law 1924 = .ok (.iaload, 1) := dk_46 (dk_at dksL_law_78 1 rfl rfl)
theorem dL_law_1925 : decode cL_law 1925 = .ok (.aload_n 0, 1) := dk_42 (dk_at dksL_law_78 2 rfl rfl)
theorem dL_law_1926 : decode cL_law 1926 = .ok (.iload 4, 2) := dk_21 4 (dk_at dksL_law_78 3 rfl rfl)
theorem dL_law_1928 : decode cL_law 1928 = .ok (.iconst 2, 1) := dk_5 (dk_at dksL_law_78 5 rfl rfl)
theorem dL_law_1929 : decode cL_law 1929 = .ok (.iadd, 1) := dk_96 (dk_at dksL_law_78 6 rfl rfl)
theorem dL_law_1930 : decode cL_law 1930 = .ok (.iaload, 1) := dk_46 (dk_at dksL_law_78 7 rfl rfl)
theorem dL_law_1931 : decode cL_law 1931 = .ok (.ifCond .eq 7, 3) := dk_153 0 7 (dk_at dksL_law_78 8 rfl rfl)
theorem dL_law_1934 : decode cL_law 1934 = .ok (.iconst 1, 1) := dk_4 (dk_at dksL_law_78 11 rfl rfl)
theorem dL_law_1935 : decode cL_law 1935 = .ok (.goto 4, 3) := dk_167 0 4 (dk_at dksL_law_78 12 rfl rfl)
theorem dL_law_1938 : decode cL_law 1938 = .ok (.iconst 0, 1) := dk_3 (dk_at dksL_law_78 15 rfl rfl)
theorem dL_law_1939 : decode cL_law 1939 = .ok (.aload_n 3, 1) := dk_45 (dk_at dksL_law_78 16 rfl rfl)
theorem dL_law_1940 : decode cL_law 1940 = .ok (.invokestatic 211, 3) := dk_184 0 211 (dk_at dksL_law_78 17 rfl rfl)
theorem dL_law_1943 : decode cL_law 1943 = .ok (.istore 5, 2) := dk_54 5 (dk_at dksL_law_78 20 rfl rfl)
theorem dL_law_1945 : decode cL_law 1945 = .ok (.aload_n 2, 1) := dk_44 (dk_at dksL_law_78 22 rfl rfl)
theorem dL_law_1946 : decode cL_law 1946 = .ok (.aload_n 0, 1) := dk_42 (dk_at dksL_law_78 23 rfl rfl)
theorem dL_law_1947 : decode cL_law 1947 = .ok (.iload 4, 2) := dk_21 4 (dk_at dksL_law_79 0 rfl rfl)
theorem dL_law_1949 : decode cL_law 1949 = .ok (.iconst 1, 1) := dk_4 (dk_at dksL_law_79 2 rfl rfl)
theorem dL_law_1950 : decode cL_law 1950 = .ok (.iadd, 1) := dk_96 (dk_at dksL_law_79 3 rfl rfl)
theorem dL_law_1951 : decode cL_law 1951 = .ok (.iaload, 1) := dk_46 (dk_at dksL_law_79 4 rfl rfl)
theorem dL_law_1952 : decode cL_law 1952 = .ok (.aload_n 0, 1) := dk_42 (dk_at dksL_law_79 5 rfl rfl)
theorem dL_law_1953 : decode cL_law 1953 = .ok (.iload 4, 2) := dk_21 4 (dk_at dksL_law_79 6 rfl rfl)
theorem dL_law_1955 : decode cL_law 1955 = .ok (.iconst 2, 1) := dk_5 (dk_at dksL_law_79 8 rfl rfl)
theorem dL_law_1956 : decode cL_law 1956 = .ok (.iadd, 1) := dk_96 (dk_at dksL_law_79 9 rfl rfl)
theorem dL_law_1957 : decode cL_law 1957 = .ok (.iaload, 1) := dk_46 (dk_at dksL_law_79 10 rfl rfl)
theorem dL_law_1958 : decode cL_law 1958 = .ok (.ifCond .eq 7, 3) := dk_153 0 7 (dk_at dksL_law_79 11 rfl rfl)
theorem dL_law_1961 : decode cL_law 1961 = .ok (.iconst 1, 1) := dk_4 (dk_at dksL_law_79 14 rfl rfl)
theorem dL_law_1962 : decode cL_law 1962 = .ok (.goto 4, 3) := dk_167 0 4 (dk_at dksL_law_79 15 rfl rfl)
theorem dL_law_1965 : decode cL_law 1965 = .ok (.iconst 0, 1) := dk_3 (dk_at dksL_law_79 18 rfl rfl)
theorem dL_law_1966 : decode cL_law 1966 = .ok (.invokevirtual 213, 3) := dk_182 0 213 (dk_at dksL_law_79 19 rfl rfl)
theorem dL_law_1969 : decode cL_law 1969 = .ok (.istore 6, 2) := dk_54 6 (dk_at dksL_law_79 22 rfl rfl)
theorem dL_law_1971 : decode cL_law 1971 = .ok (.aload_n 2, 1) := dk_44 (dk_at dksL_law_80 0 rfl rfl)
theorem dL_law_1972 : decode cL_law 1972 = .ok (.invokevirtual 126, 3) := dk_182 0 126 (dk_at dksL_law_80 1 rfl rfl)
theorem dL_law_1975 : decode cL_law 1975 = .ok (.iload 5, 2) := dk_21 5 (dk_at dksL_law_80 4 rfl rfl)
theorem dL_law_1977 : decode cL_law 1977 = .ok (.if_icmp .eq 5, 3) := dk_159 0 5 (dk_at dksL_law_80 6 rfl rfl)
theorem dL_law_1980 : decode cL_law 1980 = .ok (.iconst 0, 1) := dk_3 (dk_at dksL_law_80 9 rfl rfl)
theorem dL_law_1981 : decode cL_law 1981 = .ok (.ireturn, 1) := dk_172 (dk_at dksL_law_80 10 rfl rfl)
theorem dL_law_1982 : decode cL_law 1982 = .ok (.iload 5, 2) := dk_21 5 (dk_at dksL_law_80 11 rfl rfl)
theorem dL_law_1984 : decode cL_law 1984 = .ok (.ifCond .ne 16, 3) := dk_154 0 16 (dk_at dksL_law_80 13 rfl rfl)
theorem dL_law_1987 : decode cL_law 1987 = .ok (.aload_n 3, 1) := dk_45 (dk_at dksL_law_80 16 rfl rfl)
theorem dL_law_1988 : decode cL_law 1988 = .ok (.getfield 13, 3) := dk_180 0 13 (dk_at dksL_law_80 17 rfl rfl)
theorem dL_law_1991 : decode cL_law 1991 = .ok (.iload 6, 2) := dk_21 6 (dk_at dksL_law_80 20 rfl rfl)
theorem dL_law_1993 : decode cL_law 1993 = .ok (.i2l, 1) := dk_133 (dk_at dksL_law_80 22 rfl rfl)
theorem dL_law_1994 : decode cL_law 1994 = .ok (.lcmp, 1) := dk_148 (dk_at dksL_law_80 23 rfl rfl)
theorem dL_law_1995 : decode cL_law 1995 = .ok (.ifCond .eq 5, 3) := dk_153 0 5 (dk_at dksL_law_81 0 rfl rfl)
theorem dL_law_1998 : decode cL_law 1998 = .ok (.iconst 0, 1) := dk_3 (dk_at dksL_law_81 3 rfl rfl)
theorem dL_law_1999 : decode cL_law 1999 = .ok (.ireturn, 1) := dk_172 (dk_at dksL_law_81 4 rfl rfl)
theorem dL_law_2000 : decode cL_law 2000 = .ok (.goto 144, 3) := dk_167 0 144 (dk_at dksL_law_81 5 rfl rfl)
theorem dL_law_2003 : decode cL_law 2003 = .ok (.aload_n 1, 1) := dk_43 (dk_at dksL_law_81 8 rfl rfl)
theorem dL_law_2004 : decode cL_law 2004 = .ok (.aload_n 0, 1) := dk_42 (dk_at dksL_law_81 9 rfl rfl)
theorem dL_law_2005 : decode cL_law 2005 = .ok (.iload 4, 2) := dk_21 4 (dk_at dksL_law_81 10 rfl rfl)
theorem dL_law_2007 : decode cL_law 2007 = .ok (.iconst 1, 1) := dk_4 (dk_at dksL_law_81 12 rfl rfl)
theorem dL_law_2008 : decode cL_law 2008 = .ok (.iadd, 1) := dk_96 (dk_at dksL_law_81 13 rfl rfl)
theorem dL_law_2009 : decode cL_law 2009 = .ok (.iaload, 1) := dk_46 (dk_at dksL_law_81 14 rfl rfl)
theorem dL_law_2010 : decode cL_law 2010 = .ok (.aload_n 3, 1) := dk_45 (dk_at dksL_law_81 15 rfl rfl)
theorem dL_law_2011 : decode cL_law 2011 = .ok (.invokestatic 214, 3) := dk_184 0 214 (dk_at dksL_law_81 16 rfl rfl)
theorem dL_law_2014 : decode cL_law 2014 = .ok (.istore 5, 2) := dk_54 5 (dk_at dksL_law_81 19 rfl rfl)
theorem dL_law_2016 : decode cL_law 2016 = .ok (.aload_n 2, 1) := dk_44 (dk_at dksL_law_81 21 rfl rfl)
theorem dL_law_2017 : decode cL_law 2017 = .ok (.aload_n 0, 1) := dk_42 (dk_at dksL_law_81 22 rfl rfl)
theorem dL_law_2018 : decode cL_law 2018 = .ok (.iload 4, 2) := dk_21 4 (dk_at dksL_law_82 0 rfl rfl)
theorem dL_law_2020 : decode cL_law 2020 = .ok (.iconst 1, 1) := dk_4 (dk_at dksL_law_82 2 rfl rfl)
theorem dL_law_2021 : decode cL_law 2021 = .ok (.iadd, 1) := dk_96 (dk_at dksL_law_82 3 rfl rfl)
theorem dL_law_2022 : decode cL_law 2022 = .ok (.iaload, 1) := dk_46 (dk_at dksL_law_82 4 rfl rfl)
theorem dL_law_2023 : decode cL_law 2023 = .ok (.invokevirtual 216, 3) := dk_182 0 216 (dk_at dksL_law_82 5 rfl rfl)
theorem dL_law_2026 : decode cL_law 2026 = .ok (.istore 6, 2) := dk_54 6 (dk_at dksL_law_82 8 rfl rfl)
theorem dL_law_2028 : decode cL_law 2028 = .ok (.aload_n 2, 1) := dk_44 (dk_at dksL_law_82 10 rfl rfl)
theorem dL_law_2029 : decode cL_law 2029 = .ok (.invokevirtual 126, 3) := dk_182 0 126 (dk_at dksL_law_82 11 rfl rfl)
theorem dL_law_2032 : decode cL_law 2032 = .ok (.iload 5, 2) := dk_21 5 (dk_at dksL_law_82 14 rfl rfl)
theorem dL_law_2034 : decode cL_law 2034 = .ok (.if_icmp .eq 5, 3) := dk_159 0 5 (dk_at dksL_law_82 16 rfl rfl)
theorem dL_law_2037 : decode cL_law 2037 = .ok (.iconst 0, 1) := dk_3 (dk_at dksL_law_82 19 rfl rfl)
theorem dL_law_2038 : decode cL_law 2038 = .ok (.ireturn, 1) := dk_172 (dk_at dksL_law_82 20 rfl rfl)
theorem dL_law_2039 : decode cL_law 2039 = .ok (.iload 5, 2) := dk_21 5 (dk_at dksL_law_82 21 rfl rfl)
theorem dL_law_2041 : decode cL_law 2041 = .ok (.ifCond .ne 16, 3) := dk_154 0 16 (dk_at dksL_law_83 0 rfl rfl)
theorem dL_law_2044 : decode cL_law 2044 = .ok (.aload_n 3, 1) := dk_45 (dk_at dksL_law_83 3 rfl rfl)
theorem dL_law_2045 : decode cL_law 2045 = .ok (.getfield 13, 3) := dk_180 0 13 (dk_at dksL_law_83 4 rfl rfl)
theorem dL_law_2048 : decode cL_law 2048 = .ok (.iload 6, 2) := dk_21 6 (dk_at dksL_law_83 7 rfl rfl)
theorem dL_law_2050 : decode cL_law 2050 = .ok (.i2l, 1) := dk_133 (dk_at dksL_law_83 9 rfl rfl)
theorem dL_law_2051 : decode cL_law 2051 = .ok (.lcmp, 1) := dk_148 (dk_at dksL_law_83 10 rfl rfl)
theorem dL_law_2052 : decode cL_law 2052 = .ok (.ifCond .eq 5, 3) := dk_153 0 5 (dk_at dksL_law_83 11 rfl rfl)
theorem dL_law_2055 : decode cL_law 2055 = .ok (.iconst 0, 1) := dk_3 (dk_at dksL_law_83 14 rfl rfl)
theorem dL_law_2056 : decode cL_law 2056 = .ok (.ireturn, 1) := dk_172 (dk_at dksL_law_83 15 rfl rfl)
theorem dL_law_2057 : decode cL_law 2057 = .ok (.goto 87, 3) := dk_167 0 87 (dk_at dksL_law_83 16 rfl rfl)
theorem dL_law_2060 : decode cL_law 2060 = .ok (.aload_n 1, 1) := dk_43 (dk_at dksL_law_83 19 rfl rfl)
theorem dL_law_2061 : decode cL_law 2061 = .ok (.aload_n 0, 1) := dk_42 (dk_at dksL_law_83 20 rfl rfl)
theorem dL_law_2062 : decode cL_law 2062 = .ok (.iload 4, 2) := dk_21 4 (dk_at dksL_law_83 21 rfl rfl)
theorem dL_law_2064 : decode cL_law 2064 = .ok (.iconst 1, 1) := dk_4 (dk_at dksL_law_83 23 rfl rfl)
theorem dL_law_2065 : decode cL_law 2065 = .ok (.iadd, 1) := dk_96 (dk_at dksL_law_84 0 rfl rfl)
theorem dL_law_2066 : decode cL_law 2066 = .ok (.iaload, 1) := dk_46 (dk_at dksL_law_84 1 rfl rfl)
theorem dL_law_2067 : decode cL_law 2067 = .ok (.aload_n 3, 1) := dk_45 (dk_at dksL_law_84 2 rfl rfl)
theorem dL_law_2068 : decode cL_law 2068 = .ok (.invokestatic 217, 3) := dk_184 0 217 (dk_at dksL_law_84 3 rfl rfl)
theorem dL_law_2071 : decode cL_law 2071 = .ok (.istore 5, 2) := dk_54 5 (dk_at dksL_law_84 6 rfl rfl)
theorem dL_law_2073 : decode cL_law 2073 = .ok (.aload_n 2, 1) := dk_44 (dk_at dksL_law_84 8 rfl rfl)
theorem dL_law_2074 : decode cL_law 2074 = .ok (.aload_n 0, 1) := dk_42 (dk_at dksL_law_84 9 rfl rfl)
theorem dL_law_2075 : decode cL_law 2075 = .ok (.iload 4, 2) := dk_21 4 (dk_at dksL_law_84 10 rfl rfl)
theorem dL_law_2077 : decode cL_law 2077 = .ok (.iconst 1, 1) := dk_4 (dk_at dksL_law_84 12 rfl rfl)
theorem dL_law_2078 : decode cL_law 2078 = .ok (.iadd, 1) := dk_96 (dk_at dksL_law_84 13 rfl rfl)
theorem dL_law_2079 : decode cL_law 2079 = .ok (.iaload, 1) := dk_46 (dk_at dksL_law_84 14 rfl rfl)
theorem dL_law_2080 : decode cL_law 2080 = .ok (.invokevirtual 219, 3) := dk_182 0 219 (dk_at dksL_law_84 15 rfl rfl)
theorem dL_law_2083 : decode cL_law 2083 = .ok (.istore 6, 2) := dk_54 6 (dk_at dksL_law_84 18 rfl rfl)
theorem dL_law_2085 : decode cL_law 2085 = .ok (.aload_n 2, 1) := dk_44 (dk_at dksL_law_84 20 rfl rfl)
theorem dL_law_2086 : decode cL_law 2086 = .ok (.invokevirtual 126, 3) := dk_182 0 126 (dk_at dksL_law_84 21 rfl rfl)
theorem dL_law_2089 : decode cL_law 2089 = .ok (.iload 5, 2) := dk_21 5 (dk_at dksL_law_85 0 rfl rfl)
theorem dL_law_2091 : decode cL_law 2091 = .ok (.if_icmp .eq 5, 3) := dk_159 0 5 (dk_at dksL_law_85 2 rfl rfl)
theorem dL_law_2094 : decode cL_law 2094 = .ok (.iconst 0, 1) := dk_3 (dk_at dksL_law_85 5 rfl rfl)
theorem dL_law_2095 : decode cL_law 2095 = .ok (.ireturn, 1) := dk_172 (dk_at dksL_law_85 6 rfl rfl)
theorem dL_law_2096 : decode cL_law 2096 = .ok (.iload 5, 2) := dk_21 5 (dk_at dksL_law_85 7 rfl rfl)
theorem dL_law_2098 : decode cL_law 2098 = .ok (.ifCond .ne 16, 3) := dk_154 0 16 (dk_at dksL_law_85 9 rfl rfl)
theorem dL_law_2101 : decode cL_law 2101 = .ok (.aload_n 3, 1) := dk_45 (dk_at dksL_law_85 12 rfl rfl)
theorem dL_law_2102 : decode cL_law 2102 = .ok (.getfield 13, 3) := dk_180 0 13 (dk_at dksL_law_85 13 rfl rfl)
theorem dL_law_2105 : decode cL_law 2105 = .ok (.iload 6, 2) := dk_21 6 (dk_at dksL_law_85 16 rfl rfl)
theorem dL_law_2107 : decode cL_law 2107 = .ok (.i2l, 1) := dk_133 (dk_at dksL_law_85 18 rfl rfl)
theorem dL_law_2108 : decode cL_law 2108 = .ok (.lcmp, 1) := dk_148 (dk_at dksL_law_85 19 rfl rfl)
theorem dL_law_2109 : decode cL_law 2109 = .ok (.ifCond .eq 5, 3) := dk_153 0 5 (dk_at dksL_law_85 20 rfl rfl)
theorem dL_law_2112 : decode cL_law 2112 = .ok (.iconst 0, 1) := dk_3 (dk_at dksL_law_85 23 rfl rfl)
theorem dL_law_2113 : decode cL_law 2113 = .ok (.ireturn, 1) := dk_172 (dk_at dksL_law_86 0 rfl rfl)
theorem dL_law_2114 : decode cL_law 2114 = .ok (.goto 30, 3) := dk_167 0 30 (dk_at dksL_law_86 1 rfl rfl)
theorem dL_law_2117 : decode cL_law 2117 = .ok (.aload_n 1, 1) := dk_43 (dk_at dksL_law_86 4 rfl rfl)
theorem dL_law_2118 : decode cL_law 2118 = .ok (.invokevirtual 220, 3) := dk_182 0 220 (dk_at dksL_law_86 5 rfl rfl)
theorem dL_law_2121 : decode cL_law 2121 = .ok (.aload_n 2, 1) := dk_44 (dk_at dksL_law_86 8 rfl rfl)
theorem dL_law_2122 : decode cL_law 2122 = .ok (.invokevirtual 224, 3) := dk_182 0 224 (dk_at dksL_law_86 9 rfl rfl)
theorem dL_law_2125 : decode cL_law 2125 = .ok (.if_icmp .eq 19, 3) := dk_159 0 19 (dk_at dksL_law_86 12 rfl rfl)
theorem dL_law_2128 : decode cL_law 2128 = .ok (.iconst 0, 1) := dk_3 (dk_at dksL_law_86 15 rfl rfl)
theorem dL_law_2129 : decode cL_law 2129 = .ok (.ireturn, 1) := dk_172 (dk_at dksL_law_86 16 rfl rfl)
theorem dL_law_2130 : decode cL_law 2130 = .ok (.aload_n 1, 1) := dk_43 (dk_at dksL_law_86 17 rfl rfl)
theorem dL_law_2131 : decode cL_law 2131 = .ok (.invokevirtual 225, 3) := dk_182 0 225 (dk_at dksL_law_86 18 rfl rfl)
theorem dL_law_2134 : decode cL_law 2134 = .ok (.aload_n 2, 1) := dk_44 (dk_at dksL_law_86 21 rfl rfl)
theorem dL_law_2135 : decode cL_law 2135 = .ok (.invokevirtual 229, 3) := dk_182 0 229 (dk_at dksL_law_87 0 rfl rfl)
theorem dL_law_2138 : decode cL_law 2138 = .ok (.lcmp, 1) := dk_148 (dk_at dksL_law_87 3 rfl rfl)
theorem dL_law_2139 : decode cL_law 2139 = .ok (.ifCond .eq 5, 3) := dk_153 0 5 (dk_at dksL_law_87 4 rfl rfl)
theorem dL_law_2142 : decode cL_law 2142 = .ok (.iconst 0, 1) := dk_3 (dk_at dksL_law_87 7 rfl rfl)
theorem dL_law_2143 : decode cL_law 2143 = .ok (.ireturn, 1) := dk_172 (dk_at dksL_law_87 8 rfl rfl)
theorem dL_law_2144 : decode cL_law 2144 = .ok (.iinc 4 7, 3) := dk_132 4 7 (dk_at dksL_law_87 9 rfl rfl)
theorem dL_law_2147 : decode cL_law 2147 = .ok (.goto (-2120), 3) := dk_167 247 184 (dk_at dksL_law_87 12 rfl rfl)
theorem dL_law_2150 : decode cL_law 2150 = .ok (.iconst 1, 1) := dk_4 (dk_at dksL_law_87 15 rfl rfl)
theorem dL_law_2151 : decode cL_law 2151 = .ok (.ireturn, 1) := dk_172 (dk_at dksL_law_87 16 rfl rfl)

/-! FirstdanceAgencyLaw -/
set_option maxRecDepth 100000
def RX0 : String := "FirstdanceAgencyLaw"
abbrev cX0_player : ByteArray := method_2_code
def yX0_player : MethodName := ⟨RX0, "player", "(LFirstdanceAgency;IIIILFirstdanceAgencyLaw$Out;)I"⟩
def dkwX0_player_1 : List UInt8 := [5, 172, 58, 6, 6, 172, 3, 172]
abbrev dktX0_player_1 : List UInt8 := dkwX0_player_1 ++ []
def dkwX0_player_0 : List UInt8 := [25, 5, 42, 27, 28, 29, 21, 4, 182, 0, 7, 133, 181, 0, 13, 167, 0, 15, 58, 6, 4, 172, 58, 6]
abbrev dktX0_player_0 : List UInt8 := dkwX0_player_0 ++ dktX0_player_1
theorem dksX0_player_0 : cX0_player.data.toList.drop 0 = dktX0_player_0 := by decide +kernel
theorem dksX0_player_1 : cX0_player.data.toList.drop 24 = dktX0_player_1 := dk_seg dksX0_player_0 24 rfl rfl
theorem dX0_player_0 : decode cX0_player 0 = .ok (.aload 5, 2) := dk_25 5 (dk_at dksX0_player_0 0 rfl rfl)
theorem dX0_player_2 : decode cX0_player 2 = .ok (.aload_n 0, 1) := dk_42 (dk_at dksX0_player_0 2 rfl rfl)
theorem dX0_player_3 : decode cX0_player 3 = .ok (.iload_n 1, 1) := dk_27 (dk_at dksX0_player_0 3 rfl rfl)
theorem dX0_player_4 : decode cX0_player 4 = .ok (.iload_n 2, 1) := dk_28 (dk_at dksX0_player_0 4 rfl rfl)
theorem dX0_player_5 : decode cX0_player 5 = .ok (.iload_n 3, 1) := dk_29 (dk_at dksX0_player_0 5 rfl rfl)
theorem dX0_player_6 : decode cX0_player 6 = .ok (.iload 4, 2) := dk_21 4 (dk_at dksX0_player_0 6 rfl rfl)
theorem dX0_player_8 : decode cX0_player 8 = .ok (.invokevirtual 7, 3) := dk_182 0 7 (dk_at dksX0_player_0 8 rfl rfl)
theorem dX0_player_11 : decode cX0_player 11 = .ok (.i2l, 1) := dk_133 (dk_at dksX0_player_0 11 rfl rfl)
theorem dX0_player_12 : decode cX0_player 12 = .ok (.putfield 13, 3) := dk_181 0 13 (dk_at dksX0_player_0 12 rfl rfl)
theorem dX0_player_15 : decode cX0_player 15 = .ok (.goto 15, 3) := dk_167 0 15 (dk_at dksX0_player_0 15 rfl rfl)
theorem dX0_player_18 : decode cX0_player 18 = .ok (.astore 6, 2) := dk_58 6 (dk_at dksX0_player_0 18 rfl rfl)
theorem dX0_player_20 : decode cX0_player 20 = .ok (.iconst 1, 1) := dk_4 (dk_at dksX0_player_0 20 rfl rfl)
theorem dX0_player_21 : decode cX0_player 21 = .ok (.ireturn, 1) := dk_172 (dk_at dksX0_player_0 21 rfl rfl)
theorem dX0_player_22 : decode cX0_player 22 = .ok (.astore 6, 2) := dk_58 6 (dk_at dksX0_player_0 22 rfl rfl)
theorem dX0_player_24 : decode cX0_player 24 = .ok (.iconst 2, 1) := dk_5 (dk_at dksX0_player_1 0 rfl rfl)
theorem dX0_player_25 : decode cX0_player 25 = .ok (.ireturn, 1) := dk_172 (dk_at dksX0_player_1 1 rfl rfl)
theorem dX0_player_26 : decode cX0_player 26 = .ok (.astore 6, 2) := dk_58 6 (dk_at dksX0_player_1 2 rfl rfl)
theorem dX0_player_28 : decode cX0_player 28 = .ok (.iconst 3, 1) := dk_6 (dk_at dksX0_player_1 4 rfl rfl)
theorem dX0_player_29 : decode cX0_player 29 = .ok (.ireturn, 1) := dk_172 (dk_at dksX0_player_1 5 rfl rfl)
theorem dX0_player_30 : decode cX0_player 30 = .ok (.iconst 0, 1) := dk_3 (dk_at dksX0_player_1 6 rfl rfl)
theorem dX0_player_31 : decode cX0_player 31 = .ok (.ireturn, 1) := dk_172 (dk_at dksX0_player_1 7 rfl rfl)
abbrev cX0_learn : ByteArray := method_3_code
def yX0_learn : MethodName := ⟨RX0, "learn", "(LFirstdanceAgency;IILFirstdanceAgencyLaw$Out;)I"⟩
def dkwX0_learn_0 : List UInt8 := [45, 42, 27, 28, 182, 0, 25, 133, 181, 0, 13, 167, 0, 11, 58, 4, 4, 172, 58, 4, 5, 172, 3, 172]
abbrev dktX0_learn_0 : List UInt8 := dkwX0_learn_0 ++ []
theorem dksX0_learn_0 : cX0_learn.data.toList.drop 0 = dktX0_learn_0 := by decide +kernel
theorem dX0_learn_0 : decode cX0_learn 0 = .ok (.aload_n 3, 1) := dk_45 (dk_at dksX0_learn_0 0 rfl rfl)
theorem dX0_learn_1 : decode cX0_learn 1 = .ok (.aload_n 0, 1) := dk_42 (dk_at dksX0_learn_0 1 rfl rfl)
theorem dX0_learn_2 : decode cX0_learn 2 = .ok (.iload_n 1, 1) := dk_27 (dk_at dksX0_learn_0 2 rfl rfl)
theorem dX0_learn_3 : decode cX0_learn 3 = .ok (.iload_n 2, 1) := dk_28 (dk_at dksX0_learn_0 3 rfl rfl)
theorem dX0_learn_4 : decode cX0_learn 4 = .ok (.invokevirtual 25, 3) := dk_182 0 25 (dk_at dksX0_learn_0 4 rfl rfl)
theorem dX0_learn_7 : decode cX0_learn 7 = .ok (.i2l, 1) := dk_133 (dk_at dksX0_learn_0 7 rfl rfl)
theorem dX0_learn_8 : decode cX0_learn 8 = .ok (.putfield 13, 3) := dk_181 0 13 (dk_at dksX0_learn_0 8 rfl rfl)
theorem dX0_learn_11 : decode cX0_learn 11 = .ok (.goto 11, 3) := dk_167 0 11 (dk_at dksX0_learn_0 11 rfl rfl)
theorem dX0_learn_14 : decode cX0_learn 14 = .ok (.astore 4, 2) := dk_58 4 (dk_at dksX0_learn_0 14 rfl rfl)
theorem dX0_learn_16 : decode cX0_learn 16 = .ok (.iconst 1, 1) := dk_4 (dk_at dksX0_learn_0 16 rfl rfl)
theorem dX0_learn_17 : decode cX0_learn 17 = .ok (.ireturn, 1) := dk_172 (dk_at dksX0_learn_0 17 rfl rfl)
theorem dX0_learn_18 : decode cX0_learn 18 = .ok (.astore 4, 2) := dk_58 4 (dk_at dksX0_learn_0 18 rfl rfl)
theorem dX0_learn_20 : decode cX0_learn 20 = .ok (.iconst 2, 1) := dk_5 (dk_at dksX0_learn_0 20 rfl rfl)
theorem dX0_learn_21 : decode cX0_learn 21 = .ok (.ireturn, 1) := dk_172 (dk_at dksX0_learn_0 21 rfl rfl)
theorem dX0_learn_22 : decode cX0_learn 22 = .ok (.iconst 0, 1) := dk_3 (dk_at dksX0_learn_0 22 rfl rfl)
theorem dX0_learn_23 : decode cX0_learn 23 = .ok (.ireturn, 1) := dk_172 (dk_at dksX0_learn_0 23 rfl rfl)
abbrev cX0_song : ByteArray := method_4_code
def yX0_song : MethodName := ⟨RX0, "song", "(LFirstdanceAgency;IIIILFirstdanceAgencyLaw$Out;)I"⟩
def dkwX0_song_1 : List UInt8 := [5, 172, 3, 172]
abbrev dktX0_song_1 : List UInt8 := dkwX0_song_1 ++ []
def dkwX0_song_0 : List UInt8 := [25, 5, 42, 27, 28, 29, 21, 4, 182, 0, 29, 133, 181, 0, 13, 167, 0, 11, 58, 6, 4, 172, 58, 6]
abbrev dktX0_song_0 : List UInt8 := dkwX0_song_0 ++ dktX0_song_1
theorem dksX0_song_0 : cX0_song.data.toList.drop 0 = dktX0_song_0 := by decide +kernel
theorem dksX0_song_1 : cX0_song.data.toList.drop 24 = dktX0_song_1 := dk_seg dksX0_song_0 24 rfl rfl
theorem dX0_song_0 : decode cX0_song 0 = .ok (.aload 5, 2) := dk_25 5 (dk_at dksX0_song_0 0 rfl rfl)
theorem dX0_song_2 : decode cX0_song 2 = .ok (.aload_n 0, 1) := dk_42 (dk_at dksX0_song_0 2 rfl rfl)
theorem dX0_song_3 : decode cX0_song 3 = .ok (.iload_n 1, 1) := dk_27 (dk_at dksX0_song_0 3 rfl rfl)
theorem dX0_song_4 : decode cX0_song 4 = .ok (.iload_n 2, 1) := dk_28 (dk_at dksX0_song_0 4 rfl rfl)
theorem dX0_song_5 : decode cX0_song 5 = .ok (.iload_n 3, 1) := dk_29 (dk_at dksX0_song_0 5 rfl rfl)
theorem dX0_song_6 : decode cX0_song 6 = .ok (.iload 4, 2) := dk_21 4 (dk_at dksX0_song_0 6 rfl rfl)
theorem dX0_song_8 : decode cX0_song 8 = .ok (.invokevirtual 29, 3) := dk_182 0 29 (dk_at dksX0_song_0 8 rfl rfl)
theorem dX0_song_11 : decode cX0_song 11 = .ok (.i2l, 1) := dk_133 (dk_at dksX0_song_0 11 rfl rfl)
theorem dX0_song_12 : decode cX0_song 12 = .ok (.putfield 13, 3) := dk_181 0 13 (dk_at dksX0_song_0 12 rfl rfl)
theorem dX0_song_15 : decode cX0_song 15 = .ok (.goto 11, 3) := dk_167 0 11 (dk_at dksX0_song_0 15 rfl rfl)
theorem dX0_song_18 : decode cX0_song 18 = .ok (.astore 6, 2) := dk_58 6 (dk_at dksX0_song_0 18 rfl rfl)
theorem dX0_song_20 : decode cX0_song 20 = .ok (.iconst 1, 1) := dk_4 (dk_at dksX0_song_0 20 rfl rfl)
theorem dX0_song_21 : decode cX0_song 21 = .ok (.ireturn, 1) := dk_172 (dk_at dksX0_song_0 21 rfl rfl)
theorem dX0_song_22 : decode cX0_song 22 = .ok (.astore 6, 2) := dk_58 6 (dk_at dksX0_song_0 22 rfl rfl)
theorem dX0_song_24 : decode cX0_song 24 = .ok (.iconst 2, 1) := dk_5 (dk_at dksX0_song_1 0 rfl rfl)
theorem dX0_song_25 : decode cX0_song 25 = .ok (.ireturn, 1) := dk_172 (dk_at dksX0_song_1 1 rfl rfl)
theorem dX0_song_26 : decode cX0_song 26 = .ok (.iconst 0, 1) := dk_3 (dk_at dksX0_song_1 2 rfl rfl)
theorem dX0_song_27 : decode cX0_song 27 = .ok (.ireturn, 1) := dk_172 (dk_at dksX0_song_1 3 rfl rfl)
abbrev cX0_feud : ByteArray := method_5_code
def yX0_feud : MethodName := ⟨RX0, "feud", "(LFirstdanceAgency;IIZLFirstdanceAgencyLaw$Out;)I"⟩
def dkwX0_feud_1 : List UInt8 := [58, 5, 4, 172, 58, 5, 5, 172, 3, 172]
abbrev dktX0_feud_1 : List UInt8 := dkwX0_feud_1 ++ []
def dkwX0_feud_0 : List UInt8 := [25, 4, 42, 27, 28, 29, 182, 0, 32, 153, 0, 7, 10, 167, 0, 4, 9, 181, 0, 13, 167, 0, 11]
abbrev dktX0_feud_0 : List UInt8 := dkwX0_feud_0 ++ dktX0_feud_1
theorem dksX0_feud_0 : cX0_feud.data.toList.drop 0 = dktX0_feud_0 := by decide +kernel
theorem dksX0_feud_1 : cX0_feud.data.toList.drop 23 = dktX0_feud_1 := dk_seg dksX0_feud_0 23 rfl rfl
theorem dX0_feud_0 : decode cX0_feud 0 = .ok (.aload 4, 2) := dk_25 4 (dk_at dksX0_feud_0 0 rfl rfl)
theorem dX0_feud_2 : decode cX0_feud 2 = .ok (.aload_n 0, 1) := dk_42 (dk_at dksX0_feud_0 2 rfl rfl)
theorem dX0_feud_3 : decode cX0_feud 3 = .ok (.iload_n 1, 1) := dk_27 (dk_at dksX0_feud_0 3 rfl rfl)
theorem dX0_feud_4 : decode cX0_feud 4 = .ok (.iload_n 2, 1) := dk_28 (dk_at dksX0_feud_0 4 rfl rfl)
theorem dX0_feud_5 : decode cX0_feud 5 = .ok (.iload_n 3, 1) := dk_29 (dk_at dksX0_feud_0 5 rfl rfl)
theorem dX0_feud_6 : decode cX0_feud 6 = .ok (.invokevirtual 32, 3) := dk_182 0 32 (dk_at dksX0_feud_0 6 rfl rfl)
theorem dX0_feud_9 : decode cX0_feud 9 = .ok (.ifCond .eq 7, 3) := dk_153 0 7 (dk_at dksX0_feud_0 9 rfl rfl)
theorem dX0_feud_12 : decode cX0_feud 12 = .ok (.lconst 1, 1) := dk_10 (dk_at dksX0_feud_0 12 rfl rfl)
theorem dX0_feud_13 : decode cX0_feud 13 = .ok (.goto 4, 3) := dk_167 0 4 (dk_at dksX0_feud_0 13 rfl rfl)
theorem dX0_feud_16 : decode cX0_feud 16 = .ok (.lconst 0, 1) := dk_9 (dk_at dksX0_feud_0 16 rfl rfl)
theorem dX0_feud_17 : decode cX0_feud 17 = .ok (.putfield 13, 3) := dk_181 0 13 (dk_at dksX0_feud_0 17 rfl rfl)
theorem dX0_feud_20 : decode cX0_feud 20 = .ok (.goto 11, 3) := dk_167 0 11 (dk_at dksX0_feud_0 20 rfl rfl)
theorem dX0_feud_23 : decode cX0_feud 23 = .ok (.astore 5, 2) := dk_58 5 (dk_at dksX0_feud_1 0 rfl rfl)
theorem dX0_feud_25 : decode cX0_feud 25 = .ok (.iconst 1, 1) := dk_4 (dk_at dksX0_feud_1 2 rfl rfl)
theorem dX0_feud_26 : decode cX0_feud 26 = .ok (.ireturn, 1) := dk_172 (dk_at dksX0_feud_1 3 rfl rfl)
theorem dX0_feud_27 : decode cX0_feud 27 = .ok (.astore 5, 2) := dk_58 5 (dk_at dksX0_feud_1 4 rfl rfl)
theorem dX0_feud_29 : decode cX0_feud 29 = .ok (.iconst 2, 1) := dk_5 (dk_at dksX0_feud_1 6 rfl rfl)
theorem dX0_feud_30 : decode cX0_feud 30 = .ok (.ireturn, 1) := dk_172 (dk_at dksX0_feud_1 7 rfl rfl)
theorem dX0_feud_31 : decode cX0_feud 31 = .ok (.iconst 0, 1) := dk_3 (dk_at dksX0_feud_1 8 rfl rfl)
theorem dX0_feud_32 : decode cX0_feud 32 = .ok (.ireturn, 1) := dk_172 (dk_at dksX0_feud_1 9 rfl rfl)
abbrev cX0_road : ByteArray := method_6_code
def yX0_road : MethodName := ⟨RX0, "road", "(LFirstdanceAgency;IIILFirstdanceAgencyLaw$Out;)I"⟩
def dkwX0_road_1 : List UInt8 := [3, 172]
abbrev dktX0_road_1 : List UInt8 := dkwX0_road_1 ++ []
def dkwX0_road_0 : List UInt8 := [25, 4, 42, 27, 28, 29, 182, 0, 36, 133, 181, 0, 13, 167, 0, 11, 58, 5, 4, 172, 58, 5, 5, 172]
abbrev dktX0_road_0 : List UInt8 := dkwX0_road_0 ++ dktX0_road_1
theorem dksX0_road_0 : cX0_road.data.toList.drop 0 = dktX0_road_0 := by decide +kernel
theorem dksX0_road_1 : cX0_road.data.toList.drop 24 = dktX0_road_1 := dk_seg dksX0_road_0 24 rfl rfl
theorem dX0_road_0 : decode cX0_road 0 = .ok (.aload 4, 2) := dk_25 4 (dk_at dksX0_road_0 0 rfl rfl)
theorem dX0_road_2 : decode cX0_road 2 = .ok (.aload_n 0, 1) := dk_42 (dk_at dksX0_road_0 2 rfl rfl)
theorem dX0_road_3 : decode cX0_road 3 = .ok (.iload_n 1, 1) := dk_27 (dk_at dksX0_road_0 3 rfl rfl)
theorem dX0_road_4 : decode cX0_road 4 = .ok (.iload_n 2, 1) := dk_28 (dk_at dksX0_road_0 4 rfl rfl)
theorem dX0_road_5 : decode cX0_road 5 = .ok (.iload_n 3, 1) := dk_29 (dk_at dksX0_road_0 5 rfl rfl)
theorem dX0_road_6 : decode cX0_road 6 = .ok (.invokevirtual 36, 3) := dk_182 0 36 (dk_at dksX0_road_0 6 rfl rfl)
theorem dX0_road_9 : decode cX0_road 9 = .ok (.i2l, 1) := dk_133 (dk_at dksX0_road_0 9 rfl rfl)
theorem dX0_road_10 : decode cX0_road 10 = .ok (.putfield 13, 3) := dk_181 0 13 (dk_at dksX0_road_0 10 rfl rfl)
theorem dX0_road_13 : decode cX0_road 13 = .ok (.goto 11, 3) := dk_167 0 11 (dk_at dksX0_road_0 13 rfl rfl)
theorem dX0_road_16 : decode cX0_road 16 = .ok (.astore 5, 2) := dk_58 5 (dk_at dksX0_road_0 16 rfl rfl)
theorem dX0_road_18 : decode cX0_road 18 = .ok (.iconst 1, 1) := dk_4 (dk_at dksX0_road_0 18 rfl rfl)
theorem dX0_road_19 : decode cX0_road 19 = .ok (.ireturn, 1) := dk_172 (dk_at dksX0_road_0 19 rfl rfl)
theorem dX0_road_20 : decode cX0_road 20 = .ok (.astore 5, 2) := dk_58 5 (dk_at dksX0_road_0 20 rfl rfl)
theorem dX0_road_22 : decode cX0_road 22 = .ok (.iconst 2, 1) := dk_5 (dk_at dksX0_road_0 22 rfl rfl)
theorem dX0_road_23 : decode cX0_road 23 = .ok (.ireturn, 1) := dk_172 (dk_at dksX0_road_0 23 rfl rfl)
theorem dX0_road_24 : decode cX0_road 24 = .ok (.iconst 0, 1) := dk_3 (dk_at dksX0_road_1 0 rfl rfl)
theorem dX0_road_25 : decode cX0_road 25 = .ok (.ireturn, 1) := dk_172 (dk_at dksX0_road_1 1 rfl rfl)
abbrev cX0_band : ByteArray := method_7_code
def yX0_band : MethodName := ⟨RX0, "band", "(LFirstdanceAgency;ILFirstdanceAgencyLaw$Out;)I"⟩
def dkwX0_band_0 : List UInt8 := [44, 42, 27, 182, 0, 40, 133, 181, 0, 13, 167, 0, 9, 78, 4, 172, 78, 5, 172, 3, 172]
abbrev dktX0_band_0 : List UInt8 := dkwX0_band_0 ++ []
theorem dksX0_band_0 : cX0_band.data.toList.drop 0 = dktX0_band_0 := by decide +kernel
theorem dX0_band_0 : decode cX0_band 0 = .ok (.aload_n 2, 1) := dk_44 (dk_at dksX0_band_0 0 rfl rfl)
theorem dX0_band_1 : decode cX0_band 1 = .ok (.aload_n 0, 1) := dk_42 (dk_at dksX0_band_0 1 rfl rfl)
theorem dX0_band_2 : decode cX0_band 2 = .ok (.iload_n 1, 1) := dk_27 (dk_at dksX0_band_0 2 rfl rfl)
theorem dX0_band_3 : decode cX0_band 3 = .ok (.invokevirtual 40, 3) := dk_182 0 40 (dk_at dksX0_band_0 3 rfl rfl)
theorem dX0_band_6 : decode cX0_band 6 = .ok (.i2l, 1) := dk_133 (dk_at dksX0_band_0 6 rfl rfl)
theorem dX0_band_7 : decode cX0_band 7 = .ok (.putfield 13, 3) := dk_181 0 13 (dk_at dksX0_band_0 7 rfl rfl)
theorem dX0_band_10 : decode cX0_band 10 = .ok (.goto 9, 3) := dk_167 0 9 (dk_at dksX0_band_0 10 rfl rfl)
theorem dX0_band_13 : decode cX0_band 13 = .ok (.astore_n 3, 1) := dk_78 (dk_at dksX0_band_0 13 rfl rfl)
theorem dX0_band_14 : decode cX0_band 14 = .ok (.iconst 1, 1) := dk_4 (dk_at dksX0_band_0 14 rfl rfl)
theorem dX0_band_15 : decode cX0_band 15 = .ok (.ireturn, 1) := dk_172 (dk_at dksX0_band_0 15 rfl rfl)
theorem dX0_band_16 : decode cX0_band 16 = .ok (.astore_n 3, 1) := dk_78 (dk_at dksX0_band_0 16 rfl rfl)
theorem dX0_band_17 : decode cX0_band 17 = .ok (.iconst 2, 1) := dk_5 (dk_at dksX0_band_0 17 rfl rfl)
theorem dX0_band_18 : decode cX0_band 18 = .ok (.ireturn, 1) := dk_172 (dk_at dksX0_band_0 18 rfl rfl)
theorem dX0_band_19 : decode cX0_band 19 = .ok (.iconst 0, 1) := dk_3 (dk_at dksX0_band_0 19 rfl rfl)
theorem dX0_band_20 : decode cX0_band 20 = .ok (.ireturn, 1) := dk_172 (dk_at dksX0_band_0 20 rfl rfl)
abbrev cX0_ask : ByteArray := method_8_code
def yX0_ask : MethodName := ⟨RX0, "ask", "(LFirstdanceAgency;IIIIIILFirstdanceAgencyLaw$Out;)I"⟩
def dkwX0_ask_1 : List UInt8 := [4, 172, 58, 8, 5, 172, 58, 8, 6, 172, 3, 172]
abbrev dktX0_ask_1 : List UInt8 := dkwX0_ask_1 ++ []
def dkwX0_ask_0 : List UInt8 := [25, 7, 42, 27, 28, 29, 21, 4, 21, 5, 21, 6, 182, 0, 44, 133, 181, 0, 13, 167, 0, 15, 58, 8]
abbrev dktX0_ask_0 : List UInt8 := dkwX0_ask_0 ++ dktX0_ask_1
theorem dksX0_ask_0 : cX0_ask.data.toList.drop 0 = dktX0_ask_0 := by decide +kernel
theorem dksX0_ask_1 : cX0_ask.data.toList.drop 24 = dktX0_ask_1 := dk_seg dksX0_ask_0 24 rfl rfl
theorem dX0_ask_0 : decode cX0_ask 0 = .ok (.aload 7, 2) := dk_25 7 (dk_at dksX0_ask_0 0 rfl rfl)
theorem dX0_ask_2 : decode cX0_ask 2 = .ok (.aload_n 0, 1) := dk_42 (dk_at dksX0_ask_0 2 rfl rfl)
theorem dX0_ask_3 : decode cX0_ask 3 = .ok (.iload_n 1, 1) := dk_27 (dk_at dksX0_ask_0 3 rfl rfl)
theorem dX0_ask_4 : decode cX0_ask 4 = .ok (.iload_n 2, 1) := dk_28 (dk_at dksX0_ask_0 4 rfl rfl)
theorem dX0_ask_5 : decode cX0_ask 5 = .ok (.iload_n 3, 1) := dk_29 (dk_at dksX0_ask_0 5 rfl rfl)
theorem dX0_ask_6 : decode cX0_ask 6 = .ok (.iload 4, 2) := dk_21 4 (dk_at dksX0_ask_0 6 rfl rfl)
theorem dX0_ask_8 : decode cX0_ask 8 = .ok (.iload 5, 2) := dk_21 5 (dk_at dksX0_ask_0 8 rfl rfl)
theorem dX0_ask_10 : decode cX0_ask 10 = .ok (.iload 6, 2) := dk_21 6 (dk_at dksX0_ask_0 10 rfl rfl)
theorem dX0_ask_12 : decode cX0_ask 12 = .ok (.invokevirtual 44, 3) := dk_182 0 44 (dk_at dksX0_ask_0 12 rfl rfl)
theorem dX0_ask_15 : decode cX0_ask 15 = .ok (.i2l, 1) := dk_133 (dk_at dksX0_ask_0 15 rfl rfl)
theorem dX0_ask_16 : decode cX0_ask 16 = .ok (.putfield 13, 3) := dk_181 0 13 (dk_at dksX0_ask_0 16 rfl rfl)
theorem dX0_ask_19 : decode cX0_ask 19 = .ok (.goto 15, 3) := dk_167 0 15 (dk_at dksX0_ask_0 19 rfl rfl)
theorem dX0_ask_22 : decode cX0_ask 22 = .ok (.astore 8, 2) := dk_58 8 (dk_at dksX0_ask_0 22 rfl rfl)
theorem dX0_ask_24 : decode cX0_ask 24 = .ok (.iconst 1, 1) := dk_4 (dk_at dksX0_ask_1 0 rfl rfl)
theorem dX0_ask_25 : decode cX0_ask 25 = .ok (.ireturn, 1) := dk_172 (dk_at dksX0_ask_1 1 rfl rfl)
theorem dX0_ask_26 : decode cX0_ask 26 = .ok (.astore 8, 2) := dk_58 8 (dk_at dksX0_ask_1 2 rfl rfl)
theorem dX0_ask_28 : decode cX0_ask 28 = .ok (.iconst 2, 1) := dk_5 (dk_at dksX0_ask_1 4 rfl rfl)
theorem dX0_ask_29 : decode cX0_ask 29 = .ok (.ireturn, 1) := dk_172 (dk_at dksX0_ask_1 5 rfl rfl)
theorem dX0_ask_30 : decode cX0_ask 30 = .ok (.astore 8, 2) := dk_58 8 (dk_at dksX0_ask_1 6 rfl rfl)
theorem dX0_ask_32 : decode cX0_ask 32 = .ok (.iconst 3, 1) := dk_6 (dk_at dksX0_ask_1 8 rfl rfl)
theorem dX0_ask_33 : decode cX0_ask 33 = .ok (.ireturn, 1) := dk_172 (dk_at dksX0_ask_1 9 rfl rfl)
theorem dX0_ask_34 : decode cX0_ask 34 = .ok (.iconst 0, 1) := dk_3 (dk_at dksX0_ask_1 10 rfl rfl)
theorem dX0_ask_35 : decode cX0_ask 35 = .ok (.ireturn, 1) := dk_172 (dk_at dksX0_ask_1 11 rfl rfl)
abbrev cX0_fix : ByteArray := method_9_code
def yX0_fix : MethodName := ⟨RX0, "fix", "(LFirstdanceAgency;ILFirstdanceAgencyLaw$Out;)I"⟩
def dkwX0_fix_0 : List UInt8 := [44, 42, 27, 182, 0, 48, 133, 181, 0, 13, 167, 0, 9, 78, 4, 172, 78, 5, 172, 3, 172]
abbrev dktX0_fix_0 : List UInt8 := dkwX0_fix_0 ++ []
theorem dksX0_fix_0 : cX0_fix.data.toList.drop 0 = dktX0_fix_0 := by decide +kernel
theorem dX0_fix_0 : decode cX0_fix 0 = .ok (.aload_n 2, 1) := dk_44 (dk_at dksX0_fix_0 0 rfl rfl)
theorem dX0_fix_1 : decode cX0_fix 1 = .ok (.aload_n 0, 1) := dk_42 (dk_at dksX0_fix_0 1 rfl rfl)
theorem dX0_fix_2 : decode cX0_fix 2 = .ok (.iload_n 1, 1) := dk_27 (dk_at dksX0_fix_0 2 rfl rfl)
theorem dX0_fix_3 : decode cX0_fix 3 = .ok (.invokevirtual 48, 3) := dk_182 0 48 (dk_at dksX0_fix_0 3 rfl rfl)
theorem dX0_fix_6 : decode cX0_fix 6 = .ok (.i2l, 1) := dk_133 (dk_at dksX0_fix_0 6 rfl rfl)
theorem dX0_fix_7 : decode cX0_fix 7 = .ok (.putfield 13, 3) := dk_181 0 13 (dk_at dksX0_fix_0 7 rfl rfl)
theorem dX0_fix_10 : decode cX0_fix 10 = .ok (.goto 9, 3) := dk_167 0 9 (dk_at dksX0_fix_0 10 rfl rfl)
theorem dX0_fix_13 : decode cX0_fix 13 = .ok (.astore_n 3, 1) := dk_78 (dk_at dksX0_fix_0 13 rfl rfl)
theorem dX0_fix_14 : decode cX0_fix 14 = .ok (.iconst 1, 1) := dk_4 (dk_at dksX0_fix_0 14 rfl rfl)
theorem dX0_fix_15 : decode cX0_fix 15 = .ok (.ireturn, 1) := dk_172 (dk_at dksX0_fix_0 15 rfl rfl)
theorem dX0_fix_16 : decode cX0_fix 16 = .ok (.astore_n 3, 1) := dk_78 (dk_at dksX0_fix_0 16 rfl rfl)
theorem dX0_fix_17 : decode cX0_fix 17 = .ok (.iconst 2, 1) := dk_5 (dk_at dksX0_fix_0 17 rfl rfl)
theorem dX0_fix_18 : decode cX0_fix 18 = .ok (.ireturn, 1) := dk_172 (dk_at dksX0_fix_0 18 rfl rfl)
theorem dX0_fix_19 : decode cX0_fix 19 = .ok (.iconst 0, 1) := dk_3 (dk_at dksX0_fix_0 19 rfl rfl)
theorem dX0_fix_20 : decode cX0_fix 20 = .ok (.ireturn, 1) := dk_172 (dk_at dksX0_fix_0 20 rfl rfl)
abbrev cX0_cancel : ByteArray := method_10_code
def yX0_cancel : MethodName := ⟨RX0, "cancel", "(LFirstdanceAgency;ILFirstdanceAgencyLaw$Out;)I"⟩
def dkwX0_cancel_0 : List UInt8 := [44, 42, 27, 182, 0, 51, 133, 181, 0, 13, 167, 0, 9, 78, 4, 172, 78, 5, 172, 3, 172]
abbrev dktX0_cancel_0 : List UInt8 := dkwX0_cancel_0 ++ []
theorem dksX0_cancel_0 : cX0_cancel.data.toList.drop 0 = dktX0_cancel_0 := by decide +kernel
theorem dX0_cancel_0 : decode cX0_cancel 0 = .ok (.aload_n 2, 1) := dk_44 (dk_at dksX0_cancel_0 0 rfl rfl)
theorem dX0_cancel_1 : decode cX0_cancel 1 = .ok (.aload_n 0, 1) := dk_42 (dk_at dksX0_cancel_0 1 rfl rfl)
theorem dX0_cancel_2 : decode cX0_cancel 2 = .ok (.iload_n 1, 1) := dk_27 (dk_at dksX0_cancel_0 2 rfl rfl)
theorem dX0_cancel_3 : decode cX0_cancel 3 = .ok (.invokevirtual 51, 3) := dk_182 0 51 (dk_at dksX0_cancel_0 3 rfl rfl)
theorem dX0_cancel_6 : decode cX0_cancel 6 = .ok (.i2l, 1) := dk_133 (dk_at dksX0_cancel_0 6 rfl rfl)
theorem dX0_cancel_7 : decode cX0_cancel 7 = .ok (.putfield 13, 3) := dk_181 0 13 (dk_at dksX0_cancel_0 7 rfl rfl)
theorem dX0_cancel_10 : decode cX0_cancel 10 = .ok (.goto 9, 3) := dk_167 0 9 (dk_at dksX0_cancel_0 10 rfl rfl)
theorem dX0_cancel_13 : decode cX0_cancel 13 = .ok (.astore_n 3, 1) := dk_78 (dk_at dksX0_cancel_0 13 rfl rfl)
theorem dX0_cancel_14 : decode cX0_cancel 14 = .ok (.iconst 1, 1) := dk_4 (dk_at dksX0_cancel_0 14 rfl rfl)
theorem dX0_cancel_15 : decode cX0_cancel 15 = .ok (.ireturn, 1) := dk_172 (dk_at dksX0_cancel_0 15 rfl rfl)
theorem dX0_cancel_16 : decode cX0_cancel 16 = .ok (.astore_n 3, 1) := dk_78 (dk_at dksX0_cancel_0 16 rfl rfl)
theorem dX0_cancel_17 : decode cX0_cancel 17 = .ok (.iconst 2, 1) := dk_5 (dk_at dksX0_cancel_0 17 rfl rfl)
theorem dX0_cancel_18 : decode cX0_cancel 18 = .ok (.ireturn, 1) := dk_172 (dk_at dksX0_cancel_0 18 rfl rfl)
theorem dX0_cancel_19 : decode cX0_cancel 19 = .ok (.iconst 0, 1) := dk_3 (dk_at dksX0_cancel_0 19 rfl rfl)
theorem dX0_cancel_20 : decode cX0_cancel 20 = .ok (.ireturn, 1) := dk_172 (dk_at dksX0_cancel_0 20 rfl rfl)
abbrev cX0_ill : ByteArray := method_11_code
def yX0_ill : MethodName := ⟨RX0, "ill", "(LFirstdanceAgency;IILFirstdanceAgencyLaw$Out;)I"⟩
def dkwX0_ill_0 : List UInt8 := [45, 42, 27, 28, 182, 0, 54, 133, 181, 0, 13, 167, 0, 11, 58, 4, 4, 172, 58, 4, 5, 172, 3, 172]
abbrev dktX0_ill_0 : List UInt8 := dkwX0_ill_0 ++ []
theorem dksX0_ill_0 : cX0_ill.data.toList.drop 0 = dktX0_ill_0 := by decide +kernel
theorem dX0_ill_0 : decode cX0_ill 0 = .ok (.aload_n 3, 1) := dk_45 (dk_at dksX0_ill_0 0 rfl rfl)
theorem dX0_ill_1 : decode cX0_ill 1 = .ok (.aload_n 0, 1) := dk_42 (dk_at dksX0_ill_0 1 rfl rfl)
theorem dX0_ill_2 : decode cX0_ill 2 = .ok (.iload_n 1, 1) := dk_27 (dk_at dksX0_ill_0 2 rfl rfl)
theorem dX0_ill_3 : decode cX0_ill 3 = .ok (.iload_n 2, 1) := dk_28 (dk_at dksX0_ill_0 3 rfl rfl)
theorem dX0_ill_4 : decode cX0_ill 4 = .ok (.invokevirtual 54, 3) := dk_182 0 54 (dk_at dksX0_ill_0 4 rfl rfl)
theorem dX0_ill_7 : decode cX0_ill 7 = .ok (.i2l, 1) := dk_133 (dk_at dksX0_ill_0 7 rfl rfl)
theorem dX0_ill_8 : decode cX0_ill 8 = .ok (.putfield 13, 3) := dk_181 0 13 (dk_at dksX0_ill_0 8 rfl rfl)
theorem dX0_ill_11 : decode cX0_ill 11 = .ok (.goto 11, 3) := dk_167 0 11 (dk_at dksX0_ill_0 11 rfl rfl)
theorem dX0_ill_14 : decode cX0_ill 14 = .ok (.astore 4, 2) := dk_58 4 (dk_at dksX0_ill_0 14 rfl rfl)
theorem dX0_ill_16 : decode cX0_ill 16 = .ok (.iconst 1, 1) := dk_4 (dk_at dksX0_ill_0 16 rfl rfl)
theorem dX0_ill_17 : decode cX0_ill 17 = .ok (.ireturn, 1) := dk_172 (dk_at dksX0_ill_0 17 rfl rfl)
theorem dX0_ill_18 : decode cX0_ill 18 = .ok (.astore 4, 2) := dk_58 4 (dk_at dksX0_ill_0 18 rfl rfl)
theorem dX0_ill_20 : decode cX0_ill 20 = .ok (.iconst 2, 1) := dk_5 (dk_at dksX0_ill_0 20 rfl rfl)
theorem dX0_ill_21 : decode cX0_ill 21 = .ok (.ireturn, 1) := dk_172 (dk_at dksX0_ill_0 21 rfl rfl)
theorem dX0_ill_22 : decode cX0_ill 22 = .ok (.iconst 0, 1) := dk_3 (dk_at dksX0_ill_0 22 rfl rfl)
theorem dX0_ill_23 : decode cX0_ill 23 = .ok (.ireturn, 1) := dk_172 (dk_at dksX0_ill_0 23 rfl rfl)
abbrev cX0_late : ByteArray := method_12_code
def yX0_late : MethodName := ⟨RX0, "late", "(LFirstdanceAgency;IILFirstdanceAgencyLaw$Out;)I"⟩
def dkwX0_late_1 : List UInt8 := [6, 172, 3, 172]
abbrev dktX0_late_1 : List UInt8 := dkwX0_late_1 ++ []
def dkwX0_late_0 : List UInt8 := [45, 42, 27, 28, 182, 0, 57, 133, 181, 0, 13, 167, 0, 15, 58, 4, 4, 172, 58, 4, 5, 172, 58, 4]
abbrev dktX0_late_0 : List UInt8 := dkwX0_late_0 ++ dktX0_late_1
theorem dksX0_late_0 : cX0_late.data.toList.drop 0 = dktX0_late_0 := by decide +kernel
theorem dksX0_late_1 : cX0_late.data.toList.drop 24 = dktX0_late_1 := dk_seg dksX0_late_0 24 rfl rfl
theorem dX0_late_0 : decode cX0_late 0 = .ok (.aload_n 3, 1) := dk_45 (dk_at dksX0_late_0 0 rfl rfl)
theorem dX0_late_1 : decode cX0_late 1 = .ok (.aload_n 0, 1) := dk_42 (dk_at dksX0_late_0 1 rfl rfl)
theorem dX0_late_2 : decode cX0_late 2 = .ok (.iload_n 1, 1) := dk_27 (dk_at dksX0_late_0 2 rfl rfl)
theorem dX0_late_3 : decode cX0_late 3 = .ok (.iload_n 2, 1) := dk_28 (dk_at dksX0_late_0 3 rfl rfl)
theorem dX0_late_4 : decode cX0_late 4 = .ok (.invokevirtual 57, 3) := dk_182 0 57 (dk_at dksX0_late_0 4 rfl rfl)
theorem dX0_late_7 : decode cX0_late 7 = .ok (.i2l, 1) := dk_133 (dk_at dksX0_late_0 7 rfl rfl)
theorem dX0_late_8 : decode cX0_late 8 = .ok (.putfield 13, 3) := dk_181 0 13 (dk_at dksX0_late_0 8 rfl rfl)
theorem dX0_late_11 : decode cX0_late 11 = .ok (.goto 15, 3) := dk_167 0 15 (dk_at dksX0_late_0 11 rfl rfl)
theorem dX0_late_14 : decode cX0_late 14 = .ok (.astore 4, 2) := dk_58 4 (dk_at dksX0_late_0 14 rfl rfl)
theorem dX0_late_16 : decode cX0_late 16 = .ok (.iconst 1, 1) := dk_4 (dk_at dksX0_late_0 16 rfl rfl)
theorem dX0_late_17 : decode cX0_late 17 = .ok (.ireturn, 1) := dk_172 (dk_at dksX0_late_0 17 rfl rfl)
theorem dX0_late_18 : decode cX0_late 18 = .ok (.astore 4, 2) := dk_58 4 (dk_at dksX0_late_0 18 rfl rfl)
theorem dX0_late_20 : decode cX0_late 20 = .ok (.iconst 2, 1) := dk_5 (dk_at dksX0_late_0 20 rfl rfl)
theorem dX0_late_21 : decode cX0_late 21 = .ok (.ireturn, 1) := dk_172 (dk_at dksX0_late_0 21 rfl rfl)
theorem dX0_late_22 : decode cX0_late 22 = .ok (.astore 4, 2) := dk_58 4 (dk_at dksX0_late_0 22 rfl rfl)
theorem dX0_late_24 : decode cX0_late 24 = .ok (.iconst 3, 1) := dk_6 (dk_at dksX0_late_1 0 rfl rfl)
theorem dX0_late_25 : decode cX0_late 25 = .ok (.ireturn, 1) := dk_172 (dk_at dksX0_late_1 1 rfl rfl)
theorem dX0_late_26 : decode cX0_late 26 = .ok (.iconst 0, 1) := dk_3 (dk_at dksX0_late_1 2 rfl rfl)
theorem dX0_late_27 : decode cX0_late 27 = .ok (.ireturn, 1) := dk_172 (dk_at dksX0_late_1 3 rfl rfl)
abbrev cX0_pass : ByteArray := method_13_code
def yX0_pass : MethodName := ⟨RX0, "pass", "(LFirstdanceAgency;ILFirstdanceAgencyLaw$Out;)I"⟩
def dkwX0_pass_0 : List UInt8 := [44, 42, 27, 182, 0, 60, 133, 181, 0, 13, 167, 0, 9, 78, 4, 172, 78, 5, 172, 3, 172]
abbrev dktX0_pass_0 : List UInt8 := dkwX0_pass_0 ++ []
theorem dksX0_pass_0 : cX0_pass.data.toList.drop 0 = dktX0_pass_0 := by decide +kernel
theorem dX0_pass_0 : decode cX0_pass 0 = .ok (.aload_n 2, 1) := dk_44 (dk_at dksX0_pass_0 0 rfl rfl)
theorem dX0_pass_1 : decode cX0_pass 1 = .ok (.aload_n 0, 1) := dk_42 (dk_at dksX0_pass_0 1 rfl rfl)
theorem dX0_pass_2 : decode cX0_pass 2 = .ok (.iload_n 1, 1) := dk_27 (dk_at dksX0_pass_0 2 rfl rfl)
theorem dX0_pass_3 : decode cX0_pass 3 = .ok (.invokevirtual 60, 3) := dk_182 0 60 (dk_at dksX0_pass_0 3 rfl rfl)
theorem dX0_pass_6 : decode cX0_pass 6 = .ok (.i2l, 1) := dk_133 (dk_at dksX0_pass_0 6 rfl rfl)
theorem dX0_pass_7 : decode cX0_pass 7 = .ok (.putfield 13, 3) := dk_181 0 13 (dk_at dksX0_pass_0 7 rfl rfl)
theorem dX0_pass_10 : decode cX0_pass 10 = .ok (.goto 9, 3) := dk_167 0 9 (dk_at dksX0_pass_0 10 rfl rfl)
theorem dX0_pass_13 : decode cX0_pass 13 = .ok (.astore_n 3, 1) := dk_78 (dk_at dksX0_pass_0 13 rfl rfl)
theorem dX0_pass_14 : decode cX0_pass 14 = .ok (.iconst 1, 1) := dk_4 (dk_at dksX0_pass_0 14 rfl rfl)
theorem dX0_pass_15 : decode cX0_pass 15 = .ok (.ireturn, 1) := dk_172 (dk_at dksX0_pass_0 15 rfl rfl)
theorem dX0_pass_16 : decode cX0_pass 16 = .ok (.astore_n 3, 1) := dk_78 (dk_at dksX0_pass_0 16 rfl rfl)
theorem dX0_pass_17 : decode cX0_pass 17 = .ok (.iconst 2, 1) := dk_5 (dk_at dksX0_pass_0 17 rfl rfl)
theorem dX0_pass_18 : decode cX0_pass 18 = .ok (.ireturn, 1) := dk_172 (dk_at dksX0_pass_0 18 rfl rfl)
theorem dX0_pass_19 : decode cX0_pass 19 = .ok (.iconst 0, 1) := dk_3 (dk_at dksX0_pass_0 19 rfl rfl)
theorem dX0_pass_20 : decode cX0_pass 20 = .ok (.ireturn, 1) := dk_172 (dk_at dksX0_pass_0 20 rfl rfl)
abbrev cX0_ofPlayer : ByteArray := method_14_code
def yX0_ofPlayer : MethodName := ⟨RX0, "ofPlayer", "(LFirstdanceAgency;IILFirstdanceAgencyLaw$Out;)I"⟩
def dkwX0_ofPlayer_0 : List UInt8 := [45, 42, 27, 28, 182, 0, 63, 133, 181, 0, 13, 167, 0, 11, 58, 4, 4, 172, 58, 4, 5, 172, 3, 172]
abbrev dktX0_ofPlayer_0 : List UInt8 := dkwX0_ofPlayer_0 ++ []
theorem dksX0_ofPlayer_0 : cX0_ofPlayer.data.toList.drop 0 = dktX0_ofPlayer_0 := by decide +kernel
theorem dX0_ofPlayer_0 : decode cX0_ofPlayer 0 = .ok (.aload_n 3, 1) := dk_45 (dk_at dksX0_ofPlayer_0 0 rfl rfl)
theorem dX0_ofPlayer_1 : decode cX0_ofPlayer 1 = .ok (.aload_n 0, 1) := dk_42 (dk_at dksX0_ofPlayer_0 1 rfl rfl)
theorem dX0_ofPlayer_2 : decode cX0_ofPlayer 2 = .ok (.iload_n 1, 1) := dk_27 (dk_at dksX0_ofPlayer_0 2 rfl rfl)
theorem dX0_ofPlayer_3 : decode cX0_ofPlayer 3 = .ok (.iload_n 2, 1) := dk_28 (dk_at dksX0_ofPlayer_0 3 rfl rfl)
theorem dX0_ofPlayer_4 : decode cX0_ofPlayer 4 = .ok (.invokevirtual 63, 3) := dk_182 0 63 (dk_at dksX0_ofPlayer_0 4 rfl rfl)
theorem dX0_ofPlayer_7 : decode cX0_ofPlayer 7 = .ok (.i2l, 1) := dk_133 (dk_at dksX0_ofPlayer_0 7 rfl rfl)
theorem dX0_ofPlayer_8 : decode cX0_ofPlayer 8 = .ok (.putfield 13, 3) := dk_181 0 13 (dk_at dksX0_ofPlayer_0 8 rfl rfl)
theorem dX0_ofPlayer_11 : decode cX0_ofPlayer 11 = .ok (.goto 11, 3) := dk_167 0 11 (dk_at dksX0_ofPlayer_0 11 rfl rfl)
theorem dX0_ofPlayer_14 : decode cX0_ofPlayer 14 = .ok (.astore 4, 2) := dk_58 4 (dk_at dksX0_ofPlayer_0 14 rfl rfl)
theorem dX0_ofPlayer_16 : decode cX0_ofPlayer 16 = .ok (.iconst 1, 1) := dk_4 (dk_at dksX0_ofPlayer_0 16 rfl rfl)
theorem dX0_ofPlayer_17 : decode cX0_ofPlayer 17 = .ok (.ireturn, 1) := dk_172 (dk_at dksX0_ofPlayer_0 17 rfl rfl)
theorem dX0_ofPlayer_18 : decode cX0_ofPlayer 18 = .ok (.astore 4, 2) := dk_58 4 (dk_at dksX0_ofPlayer_0 18 rfl rfl)
theorem dX0_ofPlayer_20 : decode cX0_ofPlayer 20 = .ok (.iconst 2, 1) := dk_5 (dk_at dksX0_ofPlayer_0 20 rfl rfl)
theorem dX0_ofPlayer_21 : decode cX0_ofPlayer 21 = .ok (.ireturn, 1) := dk_172 (dk_at dksX0_ofPlayer_0 21 rfl rfl)
theorem dX0_ofPlayer_22 : decode cX0_ofPlayer 22 = .ok (.iconst 0, 1) := dk_3 (dk_at dksX0_ofPlayer_0 22 rfl rfl)
theorem dX0_ofPlayer_23 : decode cX0_ofPlayer 23 = .ok (.ireturn, 1) := dk_172 (dk_at dksX0_ofPlayer_0 23 rfl rfl)
abbrev cX0_ofSong : ByteArray := method_15_code
def yX0_ofSong : MethodName := ⟨RX0, "ofSong", "(LFirstdanceAgency;IILFirstdanceAgencyLaw$Out;)I"⟩
def dkwX0_ofSong_0 : List UInt8 := [45, 42, 27, 28, 182, 0, 66, 133, 181, 0, 13, 167, 0, 11, 58, 4, 4, 172, 58, 4, 5, 172, 3, 172]
abbrev dktX0_ofSong_0 : List UInt8 := dkwX0_ofSong_0 ++ []
theorem dksX0_ofSong_0 : cX0_ofSong.data.toList.drop 0 = dktX0_ofSong_0 := by decide +kernel
theorem dX0_ofSong_0 : decode cX0_ofSong 0 = .ok (.aload_n 3, 1) := dk_45 (dk_at dksX0_ofSong_0 0 rfl rfl)
theorem dX0_ofSong_1 : decode cX0_ofSong 1 = .ok (.aload_n 0, 1) := dk_42 (dk_at dksX0_ofSong_0 1 rfl rfl)
theorem dX0_ofSong_2 : decode cX0_ofSong 2 = .ok (.iload_n 1, 1) := dk_27 (dk_at dksX0_ofSong_0 2 rfl rfl)
theorem dX0_ofSong_3 : decode cX0_ofSong 3 = .ok (.iload_n 2, 1) := dk_28 (dk_at dksX0_ofSong_0 3 rfl rfl)
theorem dX0_ofSong_4 : decode cX0_ofSong 4 = .ok (.invokevirtual 66, 3) := dk_182 0 66 (dk_at dksX0_ofSong_0 4 rfl rfl)
theorem dX0_ofSong_7 : decode cX0_ofSong 7 = .ok (.i2l, 1) := dk_133 (dk_at dksX0_ofSong_0 7 rfl rfl)
theorem dX0_ofSong_8 : decode cX0_ofSong 8 = .ok (.putfield 13, 3) := dk_181 0 13 (dk_at dksX0_ofSong_0 8 rfl rfl)
theorem dX0_ofSong_11 : decode cX0_ofSong 11 = .ok (.goto 11, 3) := dk_167 0 11 (dk_at dksX0_ofSong_0 11 rfl rfl)
theorem dX0_ofSong_14 : decode cX0_ofSong 14 = .ok (.astore 4, 2) := dk_58 4 (dk_at dksX0_ofSong_0 14 rfl rfl)
theorem dX0_ofSong_16 : decode cX0_ofSong 16 = .ok (.iconst 1, 1) := dk_4 (dk_at dksX0_ofSong_0 16 rfl rfl)
theorem dX0_ofSong_17 : decode cX0_ofSong 17 = .ok (.ireturn, 1) := dk_172 (dk_at dksX0_ofSong_0 17 rfl rfl)
theorem dX0_ofSong_18 : decode cX0_ofSong 18 = .ok (.astore 4, 2) := dk_58 4 (dk_at dksX0_ofSong_0 18 rfl rfl)
theorem dX0_ofSong_20 : decode cX0_ofSong 20 = .ok (.iconst 2, 1) := dk_5 (dk_at dksX0_ofSong_0 20 rfl rfl)
theorem dX0_ofSong_21 : decode cX0_ofSong 21 = .ok (.ireturn, 1) := dk_172 (dk_at dksX0_ofSong_0 21 rfl rfl)
theorem dX0_ofSong_22 : decode cX0_ofSong 22 = .ok (.iconst 0, 1) := dk_3 (dk_at dksX0_ofSong_0 22 rfl rfl)
theorem dX0_ofSong_23 : decode cX0_ofSong 23 = .ok (.ireturn, 1) := dk_172 (dk_at dksX0_ofSong_0 23 rfl rfl)
abbrev cX0_ofBand : ByteArray := method_16_code
def yX0_ofBand : MethodName := ⟨RX0, "ofBand", "(LFirstdanceAgency;IILFirstdanceAgencyLaw$Out;)I"⟩
def dkwX0_ofBand_0 : List UInt8 := [45, 42, 27, 28, 182, 0, 69, 133, 181, 0, 13, 167, 0, 11, 58, 4, 4, 172, 58, 4, 5, 172, 3, 172]
abbrev dktX0_ofBand_0 : List UInt8 := dkwX0_ofBand_0 ++ []
theorem dksX0_ofBand_0 : cX0_ofBand.data.toList.drop 0 = dktX0_ofBand_0 := by decide +kernel
theorem dX0_ofBand_0 : decode cX0_ofBand 0 = .ok (.aload_n 3, 1) := dk_45 (dk_at dksX0_ofBand_0 0 rfl rfl)
theorem dX0_ofBand_1 : decode cX0_ofBand 1 = .ok (.aload_n 0, 1) := dk_42 (dk_at dksX0_ofBand_0 1 rfl rfl)
theorem dX0_ofBand_2 : decode cX0_ofBand 2 = .ok (.iload_n 1, 1) := dk_27 (dk_at dksX0_ofBand_0 2 rfl rfl)
theorem dX0_ofBand_3 : decode cX0_ofBand 3 = .ok (.iload_n 2, 1) := dk_28 (dk_at dksX0_ofBand_0 3 rfl rfl)
theorem dX0_ofBand_4 : decode cX0_ofBand 4 = .ok (.invokevirtual 69, 3) := dk_182 0 69 (dk_at dksX0_ofBand_0 4 rfl rfl)
theorem dX0_ofBand_7 : decode cX0_ofBand 7 = .ok (.i2l, 1) := dk_133 (dk_at dksX0_ofBand_0 7 rfl rfl)
theorem dX0_ofBand_8 : decode cX0_ofBand 8 = .ok (.putfield 13, 3) := dk_181 0 13 (dk_at dksX0_ofBand_0 8 rfl rfl)
theorem dX0_ofBand_11 : decode cX0_ofBand 11 = .ok (.goto 11, 3) := dk_167 0 11 (dk_at dksX0_ofBand_0 11 rfl rfl)
theorem dX0_ofBand_14 : decode cX0_ofBand 14 = .ok (.astore 4, 2) := dk_58 4 (dk_at dksX0_ofBand_0 14 rfl rfl)
theorem dX0_ofBand_16 : decode cX0_ofBand 16 = .ok (.iconst 1, 1) := dk_4 (dk_at dksX0_ofBand_0 16 rfl rfl)
theorem dX0_ofBand_17 : decode cX0_ofBand 17 = .ok (.ireturn, 1) := dk_172 (dk_at dksX0_ofBand_0 17 rfl rfl)
theorem dX0_ofBand_18 : decode cX0_ofBand 18 = .ok (.astore 4, 2) := dk_58 4 (dk_at dksX0_ofBand_0 18 rfl rfl)
theorem dX0_ofBand_20 : decode cX0_ofBand 20 = .ok (.iconst 2, 1) := dk_5 (dk_at dksX0_ofBand_0 20 rfl rfl)
theorem dX0_ofBand_21 : decode cX0_ofBand 21 = .ok (.ireturn, 1) := dk_172 (dk_at dksX0_ofBand_0 21 rfl rfl)
theorem dX0_ofBand_22 : decode cX0_ofBand 22 = .ok (.iconst 0, 1) := dk_3 (dk_at dksX0_ofBand_0 22 rfl rfl)
theorem dX0_ofBand_23 : decode cX0_ofBand 23 = .ok (.ireturn, 1) := dk_172 (dk_at dksX0_ofBand_0 23 rfl rfl)
abbrev cX0_ofWedding : ByteArray := method_17_code
def yX0_ofWedding : MethodName := ⟨RX0, "ofWedding", "(LFirstdanceAgency;IILFirstdanceAgencyLaw$Out;)I"⟩
def dkwX0_ofWedding_0 : List UInt8 := [45, 42, 27, 28, 182, 0, 72, 133, 181, 0, 13, 167, 0, 11, 58, 4, 4, 172, 58, 4, 5, 172, 3, 172]
abbrev dktX0_ofWedding_0 : List UInt8 := dkwX0_ofWedding_0 ++ []
theorem dksX0_ofWedding_0 : cX0_ofWedding.data.toList.drop 0 = dktX0_ofWedding_0 := by decide +kernel
theorem dX0_ofWedding_0 : decode cX0_ofWedding 0 = .ok (.aload_n 3, 1) := dk_45 (dk_at dksX0_ofWedding_0 0 rfl rfl)
theorem dX0_ofWedding_1 : decode cX0_ofWedding 1 = .ok (.aload_n 0, 1) := dk_42 (dk_at dksX0_ofWedding_0 1 rfl rfl)
theorem dX0_ofWedding_2 : decode cX0_ofWedding 2 = .ok (.iload_n 1, 1) := dk_27 (dk_at dksX0_ofWedding_0 2 rfl rfl)
theorem dX0_ofWedding_3 : decode cX0_ofWedding 3 = .ok (.iload_n 2, 1) := dk_28 (dk_at dksX0_ofWedding_0 3 rfl rfl)
theorem dX0_ofWedding_4 : decode cX0_ofWedding 4 = .ok (.invokevirtual 72, 3) := dk_182 0 72 (dk_at dksX0_ofWedding_0 4 rfl rfl)
theorem dX0_ofWedding_7 : decode cX0_ofWedding 7 = .ok (.i2l, 1) := dk_133 (dk_at dksX0_ofWedding_0 7 rfl rfl)
theorem dX0_ofWedding_8 : decode cX0_ofWedding 8 = .ok (.putfield 13, 3) := dk_181 0 13 (dk_at dksX0_ofWedding_0 8 rfl rfl)
theorem dX0_ofWedding_11 : decode cX0_ofWedding 11 = .ok (.goto 11, 3) := dk_167 0 11 (dk_at dksX0_ofWedding_0 11 rfl rfl)
theorem dX0_ofWedding_14 : decode cX0_ofWedding 14 = .ok (.astore 4, 2) := dk_58 4 (dk_at dksX0_ofWedding_0 14 rfl rfl)
theorem dX0_ofWedding_16 : decode cX0_ofWedding 16 = .ok (.iconst 1, 1) := dk_4 (dk_at dksX0_ofWedding_0 16 rfl rfl)
theorem dX0_ofWedding_17 : decode cX0_ofWedding 17 = .ok (.ireturn, 1) := dk_172 (dk_at dksX0_ofWedding_0 17 rfl rfl)
theorem dX0_ofWedding_18 : decode cX0_ofWedding 18 = .ok (.astore 4, 2) := dk_58 4 (dk_at dksX0_ofWedding_0 18 rfl rfl)
theorem dX0_ofWedding_20 : decode cX0_ofWedding 20 = .ok (.iconst 2, 1) := dk_5 (dk_at dksX0_ofWedding_0 20 rfl rfl)
theorem dX0_ofWedding_21 : decode cX0_ofWedding 21 = .ok (.ireturn, 1) := dk_172 (dk_at dksX0_ofWedding_0 21 rfl rfl)
theorem dX0_ofWedding_22 : decode cX0_ofWedding 22 = .ok (.iconst 0, 1) := dk_3 (dk_at dksX0_ofWedding_0 22 rfl rfl)
theorem dX0_ofWedding_23 : decode cX0_ofWedding 23 = .ok (.ireturn, 1) := dk_172 (dk_at dksX0_ofWedding_0 23 rfl rfl)
abbrev cX0_drive : ByteArray := method_18_code
def yX0_drive : MethodName := ⟨RX0, "drive", "(LFirstdanceAgency;IILFirstdanceAgencyLaw$Out;)I"⟩
def dkwX0_drive_0 : List UInt8 := [45, 42, 27, 28, 182, 0, 75, 133, 181, 0, 13, 167, 0, 7, 58, 4, 4, 172, 3, 172]
abbrev dktX0_drive_0 : List UInt8 := dkwX0_drive_0 ++ []
theorem dksX0_drive_0 : cX0_drive.data.toList.drop 0 = dktX0_drive_0 := by decide +kernel
theorem dX0_drive_0 : decode cX0_drive 0 = .ok (.aload_n 3, 1) := dk_45 (dk_at dksX0_drive_0 0 rfl rfl)
theorem dX0_drive_1 : decode cX0_drive 1 = .ok (.aload_n 0, 1) := dk_42 (dk_at dksX0_drive_0 1 rfl rfl)
theorem dX0_drive_2 : decode cX0_drive 2 = .ok (.iload_n 1, 1) := dk_27 (dk_at dksX0_drive_0 2 rfl rfl)
theorem dX0_drive_3 : decode cX0_drive 3 = .ok (.iload_n 2, 1) := dk_28 (dk_at dksX0_drive_0 3 rfl rfl)
theorem dX0_drive_4 : decode cX0_drive 4 = .ok (.invokevirtual 75, 3) := dk_182 0 75 (dk_at dksX0_drive_0 4 rfl rfl)
theorem dX0_drive_7 : decode cX0_drive 7 = .ok (.i2l, 1) := dk_133 (dk_at dksX0_drive_0 7 rfl rfl)
theorem dX0_drive_8 : decode cX0_drive 8 = .ok (.putfield 13, 3) := dk_181 0 13 (dk_at dksX0_drive_0 8 rfl rfl)
theorem dX0_drive_11 : decode cX0_drive 11 = .ok (.goto 7, 3) := dk_167 0 7 (dk_at dksX0_drive_0 11 rfl rfl)
theorem dX0_drive_14 : decode cX0_drive 14 = .ok (.astore 4, 2) := dk_58 4 (dk_at dksX0_drive_0 14 rfl rfl)
theorem dX0_drive_16 : decode cX0_drive 16 = .ok (.iconst 1, 1) := dk_4 (dk_at dksX0_drive_0 16 rfl rfl)
theorem dX0_drive_17 : decode cX0_drive 17 = .ok (.ireturn, 1) := dk_172 (dk_at dksX0_drive_0 17 rfl rfl)
theorem dX0_drive_18 : decode cX0_drive 18 = .ok (.iconst 0, 1) := dk_3 (dk_at dksX0_drive_0 18 rfl rfl)
theorem dX0_drive_19 : decode cX0_drive 19 = .ok (.ireturn, 1) := dk_172 (dk_at dksX0_drive_0 19 rfl rfl)
abbrev cX0_free : ByteArray := method_19_code
def yX0_free : MethodName := ⟨RX0, "free", "(LFirstdanceAgency;IILFirstdanceAgencyLaw$Out;)I"⟩
def dkwX0_free_1 : List UInt8 := [172, 3, 172]
abbrev dktX0_free_1 : List UInt8 := dkwX0_free_1 ++ []
def dkwX0_free_0 : List UInt8 := [45, 42, 27, 28, 182, 0, 78, 153, 0, 7, 10, 167, 0, 4, 9, 181, 0, 13, 167, 0, 7, 58, 4, 4]
abbrev dktX0_free_0 : List UInt8 := dkwX0_free_0 ++ dktX0_free_1
theorem dksX0_free_0 : cX0_free.data.toList.drop 0 = dktX0_free_0 := by decide +kernel
theorem dksX0_free_1 : cX0_free.data.toList.drop 24 = dktX0_free_1 := dk_seg dksX0_free_0 24 rfl rfl
theorem dX0_free_0 : decode cX0_free 0 = .ok (.aload_n 3, 1) := dk_45 (dk_at dksX0_free_0 0 rfl rfl)
theorem dX0_free_1 : decode cX0_free 1 = .ok (.aload_n 0, 1) := dk_42 (dk_at dksX0_free_0 1 rfl rfl)
theorem dX0_free_2 : decode cX0_free 2 = .ok (.iload_n 1, 1) := dk_27 (dk_at dksX0_free_0 2 rfl rfl)
theorem dX0_free_3 : decode cX0_free 3 = .ok (.iload_n 2, 1) := dk_28 (dk_at dksX0_free_0 3 rfl rfl)
theorem dX0_free_4 : decode cX0_free 4 = .ok (.invokevirtual 78, 3) := dk_182 0 78 (dk_at dksX0_free_0 4 rfl rfl)
theorem dX0_free_7 : decode cX0_free 7 = .ok (.ifCond .eq 7, 3) := dk_153 0 7 (dk_at dksX0_free_0 7 rfl rfl)
theorem dX0_free_10 : decode cX0_free 10 = .ok (.lconst 1, 1) := dk_10 (dk_at dksX0_free_0 10 rfl rfl)
theorem dX0_free_11 : decode cX0_free 11 = .ok (.goto 4, 3) := dk_167 0 4 (dk_at dksX0_free_0 11 rfl rfl)
theorem dX0_free_14 : decode cX0_free 14 = .ok (.lconst 0, 1) := dk_9 (dk_at dksX0_free_0 14 rfl rfl)
theorem dX0_free_15 : decode cX0_free 15 = .ok (.putfield 13, 3) := dk_181 0 13 (dk_at dksX0_free_0 15 rfl rfl)
theorem dX0_free_18 : decode cX0_free 18 = .ok (.goto 7, 3) := dk_167 0 7 (dk_at dksX0_free_0 18 rfl rfl)
theorem dX0_free_21 : decode cX0_free 21 = .ok (.astore 4, 2) := dk_58 4 (dk_at dksX0_free_0 21 rfl rfl)
theorem dX0_free_23 : decode cX0_free 23 = .ok (.iconst 1, 1) := dk_4 (dk_at dksX0_free_0 23 rfl rfl)
theorem dX0_free_24 : decode cX0_free 24 = .ok (.ireturn, 1) := dk_172 (dk_at dksX0_free_1 0 rfl rfl)
theorem dX0_free_25 : decode cX0_free 25 = .ok (.iconst 0, 1) := dk_3 (dk_at dksX0_free_1 1 rfl rfl)
theorem dX0_free_26 : decode cX0_free 26 = .ok (.ireturn, 1) := dk_172 (dk_at dksX0_free_1 2 rfl rfl)
abbrev cX0_filling : ByteArray := method_20_code
def yX0_filling : MethodName := ⟨RX0, "filling", "(LFirstdanceAgency;IILFirstdanceAgencyLaw$Out;)I"⟩
def dkwX0_filling_0 : List UInt8 := [45, 42, 27, 28, 182, 0, 82, 133, 181, 0, 13, 167, 0, 11, 58, 4, 4, 172, 58, 4, 5, 172, 3, 172]
abbrev dktX0_filling_0 : List UInt8 := dkwX0_filling_0 ++ []
theorem dksX0_filling_0 : cX0_filling.data.toList.drop 0 = dktX0_filling_0 := by decide +kernel
theorem dX0_filling_0 : decode cX0_filling 0 = .ok (.aload_n 3, 1) := dk_45 (dk_at dksX0_filling_0 0 rfl rfl)
theorem dX0_filling_1 : decode cX0_filling 1 = .ok (.aload_n 0, 1) := dk_42 (dk_at dksX0_filling_0 1 rfl rfl)
theorem dX0_filling_2 : decode cX0_filling 2 = .ok (.iload_n 1, 1) := dk_27 (dk_at dksX0_filling_0 2 rfl rfl)
theorem dX0_filling_3 : decode cX0_filling 3 = .ok (.iload_n 2, 1) := dk_28 (dk_at dksX0_filling_0 3 rfl rfl)
theorem dX0_filling_4 : decode cX0_filling 4 = .ok (.invokevirtual 82, 3) := dk_182 0 82 (dk_at dksX0_filling_0 4 rfl rfl)
theorem dX0_filling_7 : decode cX0_filling 7 = .ok (.i2l, 1) := dk_133 (dk_at dksX0_filling_0 7 rfl rfl)
theorem dX0_filling_8 : decode cX0_filling 8 = .ok (.putfield 13, 3) := dk_181 0 13 (dk_at dksX0_filling_0 8 rfl rfl)
theorem dX0_filling_11 : decode cX0_filling 11 = .ok (.goto 11, 3) := dk_167 0 11 (dk_at dksX0_filling_0 11 rfl rfl)
theorem dX0_filling_14 : decode cX0_filling 14 = .ok (.astore 4, 2) := dk_58 4 (dk_at dksX0_filling_0 14 rfl rfl)
theorem dX0_filling_16 : decode cX0_filling 16 = .ok (.iconst 1, 1) := dk_4 (dk_at dksX0_filling_0 16 rfl rfl)
theorem dX0_filling_17 : decode cX0_filling 17 = .ok (.ireturn, 1) := dk_172 (dk_at dksX0_filling_0 17 rfl rfl)
theorem dX0_filling_18 : decode cX0_filling 18 = .ok (.astore 4, 2) := dk_58 4 (dk_at dksX0_filling_0 18 rfl rfl)
theorem dX0_filling_20 : decode cX0_filling 20 = .ok (.iconst 2, 1) := dk_5 (dk_at dksX0_filling_0 20 rfl rfl)
theorem dX0_filling_21 : decode cX0_filling 21 = .ok (.ireturn, 1) := dk_172 (dk_at dksX0_filling_0 21 rfl rfl)
theorem dX0_filling_22 : decode cX0_filling 22 = .ok (.iconst 0, 1) := dk_3 (dk_at dksX0_filling_0 22 rfl rfl)
theorem dX0_filling_23 : decode cX0_filling 23 = .ok (.ireturn, 1) := dk_172 (dk_at dksX0_filling_0 23 rfl rfl)
abbrev cX0_set : ByteArray := method_21_code
def yX0_set : MethodName := ⟨RX0, "set", "(LFirstdanceAgency;IZLFirstdanceAgencyLaw$Out;)I"⟩
def dkwX0_set_0 : List UInt8 := [45, 42, 27, 28, 182, 0, 85, 133, 181, 0, 13, 167, 0, 7, 58, 4, 4, 172, 3, 172]
abbrev dktX0_set_0 : List UInt8 := dkwX0_set_0 ++ []
theorem dksX0_set_0 : cX0_set.data.toList.drop 0 = dktX0_set_0 := by decide +kernel
theorem dX0_set_0 : decode cX0_set 0 = .ok (.aload_n 3, 1) := dk_45 (dk_at dksX0_set_0 0 rfl rfl)
theorem dX0_set_1 : decode cX0_set 1 = .ok (.aload_n 0, 1) := dk_42 (dk_at dksX0_set_0 1 rfl rfl)
theorem dX0_set_2 : decode cX0_set 2 = .ok (.iload_n 1, 1) := dk_27 (dk_at dksX0_set_0 2 rfl rfl)
theorem dX0_set_3 : decode cX0_set 3 = .ok (.iload_n 2, 1) := dk_28 (dk_at dksX0_set_0 3 rfl rfl)
theorem dX0_set_4 : decode cX0_set 4 = .ok (.invokevirtual 85, 3) := dk_182 0 85 (dk_at dksX0_set_0 4 rfl rfl)
theorem dX0_set_7 : decode cX0_set 7 = .ok (.i2l, 1) := dk_133 (dk_at dksX0_set_0 7 rfl rfl)
theorem dX0_set_8 : decode cX0_set 8 = .ok (.putfield 13, 3) := dk_181 0 13 (dk_at dksX0_set_0 8 rfl rfl)
theorem dX0_set_11 : decode cX0_set 11 = .ok (.goto 7, 3) := dk_167 0 7 (dk_at dksX0_set_0 11 rfl rfl)
theorem dX0_set_14 : decode cX0_set 14 = .ok (.astore 4, 2) := dk_58 4 (dk_at dksX0_set_0 14 rfl rfl)
theorem dX0_set_16 : decode cX0_set 16 = .ok (.iconst 1, 1) := dk_4 (dk_at dksX0_set_0 16 rfl rfl)
theorem dX0_set_17 : decode cX0_set 17 = .ok (.ireturn, 1) := dk_172 (dk_at dksX0_set_0 17 rfl rfl)
theorem dX0_set_18 : decode cX0_set 18 = .ok (.iconst 0, 1) := dk_3 (dk_at dksX0_set_0 18 rfl rfl)
theorem dX0_set_19 : decode cX0_set 19 = .ok (.ireturn, 1) := dk_172 (dk_at dksX0_set_0 19 rfl rfl)
abbrev cX0_songs : ByteArray := method_22_code
def yX0_songs : MethodName := ⟨RX0, "songs", "(LFirstdanceAgency;ILFirstdanceAgencyLaw$Out;)I"⟩
def dkwX0_songs_0 : List UInt8 := [44, 42, 27, 182, 0, 89, 181, 0, 93, 167, 0, 6, 78, 4, 172, 3, 172]
abbrev dktX0_songs_0 : List UInt8 := dkwX0_songs_0 ++ []
theorem dksX0_songs_0 : cX0_songs.data.toList.drop 0 = dktX0_songs_0 := by decide +kernel
theorem dX0_songs_0 : decode cX0_songs 0 = .ok (.aload_n 2, 1) := dk_44 (dk_at dksX0_songs_0 0 rfl rfl)
theorem dX0_songs_1 : decode cX0_songs 1 = .ok (.aload_n 0, 1) := dk_42 (dk_at dksX0_songs_0 1 rfl rfl)
theorem dX0_songs_2 : decode cX0_songs 2 = .ok (.iload_n 1, 1) := dk_27 (dk_at dksX0_songs_0 2 rfl rfl)
theorem dX0_songs_3 : decode cX0_songs 3 = .ok (.invokevirtual 89, 3) := dk_182 0 89 (dk_at dksX0_songs_0 3 rfl rfl)
theorem dX0_songs_6 : decode cX0_songs 6 = .ok (.putfield 93, 3) := dk_181 0 93 (dk_at dksX0_songs_0 6 rfl rfl)
theorem dX0_songs_9 : decode cX0_songs 9 = .ok (.goto 6, 3) := dk_167 0 6 (dk_at dksX0_songs_0 9 rfl rfl)
theorem dX0_songs_12 : decode cX0_songs 12 = .ok (.astore_n 3, 1) := dk_78 (dk_at dksX0_songs_0 12 rfl rfl)
theorem dX0_songs_13 : decode cX0_songs 13 = .ok (.iconst 1, 1) := dk_4 (dk_at dksX0_songs_0 13 rfl rfl)
theorem dX0_songs_14 : decode cX0_songs 14 = .ok (.ireturn, 1) := dk_172 (dk_at dksX0_songs_0 14 rfl rfl)
theorem dX0_songs_15 : decode cX0_songs 15 = .ok (.iconst 0, 1) := dk_3 (dk_at dksX0_songs_0 15 rfl rfl)
theorem dX0_songs_16 : decode cX0_songs 16 = .ok (.ireturn, 1) := dk_172 (dk_at dksX0_songs_0 16 rfl rfl)
abbrev cX0_desk : ByteArray := method_23_code
def yX0_desk : MethodName := ⟨RX0, "desk", "(LFirstdanceAgency;ILFirstdanceAgencyLaw$Out;)I"⟩
def dkwX0_desk_0 : List UInt8 := [44, 42, 27, 182, 0, 97, 133, 181, 0, 13, 167, 0, 6, 78, 4, 172, 3, 172]
abbrev dktX0_desk_0 : List UInt8 := dkwX0_desk_0 ++ []
theorem dksX0_desk_0 : cX0_desk.data.toList.drop 0 = dktX0_desk_0 := by decide +kernel
theorem dX0_desk_0 : decode cX0_desk 0 = .ok (.aload_n 2, 1) := dk_44 (dk_at dksX0_desk_0 0 rfl rfl)
theorem dX0_desk_1 : decode cX0_desk 1 = .ok (.aload_n 0, 1) := dk_42 (dk_at dksX0_desk_0 1 rfl rfl)
theorem dX0_desk_2 : decode cX0_desk 2 = .ok (.iload_n 1, 1) := dk_27 (dk_at dksX0_desk_0 2 rfl rfl)
theorem dX0_desk_3 : decode cX0_desk 3 = .ok (.invokevirtual 97, 3) := dk_182 0 97 (dk_at dksX0_desk_0 3 rfl rfl)
theorem dX0_desk_6 : decode cX0_desk 6 = .ok (.i2l, 1) := dk_133 (dk_at dksX0_desk_0 6 rfl rfl)
theorem dX0_desk_7 : decode cX0_desk 7 = .ok (.putfield 13, 3) := dk_181 0 13 (dk_at dksX0_desk_0 7 rfl rfl)
theorem dX0_desk_10 : decode cX0_desk 10 = .ok (.goto 6, 3) := dk_167 0 6 (dk_at dksX0_desk_0 10 rfl rfl)
theorem dX0_desk_13 : decode cX0_desk 13 = .ok (.astore_n 3, 1) := dk_78 (dk_at dksX0_desk_0 13 rfl rfl)
theorem dX0_desk_14 : decode cX0_desk 14 = .ok (.iconst 1, 1) := dk_4 (dk_at dksX0_desk_0 14 rfl rfl)
theorem dX0_desk_15 : decode cX0_desk 15 = .ok (.ireturn, 1) := dk_172 (dk_at dksX0_desk_0 15 rfl rfl)
theorem dX0_desk_16 : decode cX0_desk 16 = .ok (.iconst 0, 1) := dk_3 (dk_at dksX0_desk_0 16 rfl rfl)
theorem dX0_desk_17 : decode cX0_desk 17 = .ok (.ireturn, 1) := dk_172 (dk_at dksX0_desk_0 17 rfl rfl)
abbrev cX0_tell : ByteArray := method_24_code
def yX0_tell : MethodName := ⟨RX0, "tell", "(LFirstdanceAgency;ILFirstdanceAgencyLaw$Out;)I"⟩
def dkwX0_tell_0 : List UInt8 := [44, 42, 27, 182, 0, 100, 181, 0, 93, 167, 0, 6, 78, 4, 172, 3, 172]
abbrev dktX0_tell_0 : List UInt8 := dkwX0_tell_0 ++ []
theorem dksX0_tell_0 : cX0_tell.data.toList.drop 0 = dktX0_tell_0 := by decide +kernel
theorem dX0_tell_0 : decode cX0_tell 0 = .ok (.aload_n 2, 1) := dk_44 (dk_at dksX0_tell_0 0 rfl rfl)
theorem dX0_tell_1 : decode cX0_tell 1 = .ok (.aload_n 0, 1) := dk_42 (dk_at dksX0_tell_0 1 rfl rfl)
theorem dX0_tell_2 : decode cX0_tell 2 = .ok (.iload_n 1, 1) := dk_27 (dk_at dksX0_tell_0 2 rfl rfl)
theorem dX0_tell_3 : decode cX0_tell 3 = .ok (.invokevirtual 100, 3) := dk_182 0 100 (dk_at dksX0_tell_0 3 rfl rfl)
theorem dX0_tell_6 : decode cX0_tell 6 = .ok (.putfield 93, 3) := dk_181 0 93 (dk_at dksX0_tell_0 6 rfl rfl)
theorem dX0_tell_9 : decode cX0_tell 9 = .ok (.goto 6, 3) := dk_167 0 6 (dk_at dksX0_tell_0 9 rfl rfl)
theorem dX0_tell_12 : decode cX0_tell 12 = .ok (.astore_n 3, 1) := dk_78 (dk_at dksX0_tell_0 12 rfl rfl)
theorem dX0_tell_13 : decode cX0_tell 13 = .ok (.iconst 1, 1) := dk_4 (dk_at dksX0_tell_0 13 rfl rfl)
theorem dX0_tell_14 : decode cX0_tell 14 = .ok (.ireturn, 1) := dk_172 (dk_at dksX0_tell_0 14 rfl rfl)
theorem dX0_tell_15 : decode cX0_tell 15 = .ok (.iconst 0, 1) := dk_3 (dk_at dksX0_tell_0 15 rfl rfl)
theorem dX0_tell_16 : decode cX0_tell 16 = .ok (.ireturn, 1) := dk_172 (dk_at dksX0_tell_0 16 rfl rfl)
abbrev cX0_wouldLose : ByteArray := method_25_code
def yX0_wouldLose : MethodName := ⟨RX0, "wouldLose", "(LFirstdanceAgency;IILFirstdanceAgencyLaw$Out;)I"⟩
def dkwX0_wouldLose_0 : List UInt8 := [45, 42, 27, 28, 182, 0, 103, 133, 181, 0, 13, 167, 0, 11, 58, 4, 4, 172, 58, 4, 5, 172, 3, 172]
abbrev dktX0_wouldLose_0 : List UInt8 := dkwX0_wouldLose_0 ++ []
theorem dksX0_wouldLose_0 : cX0_wouldLose.data.toList.drop 0 = dktX0_wouldLose_0 := by decide +kernel
theorem dX0_wouldLose_0 : decode cX0_wouldLose 0 = .ok (.aload_n 3, 1) := dk_45 (dk_at dksX0_wouldLose_0 0 rfl rfl)
theorem dX0_wouldLose_1 : decode cX0_wouldLose 1 = .ok (.aload_n 0, 1) := dk_42 (dk_at dksX0_wouldLose_0 1 rfl rfl)
theorem dX0_wouldLose_2 : decode cX0_wouldLose 2 = .ok (.iload_n 1, 1) := dk_27 (dk_at dksX0_wouldLose_0 2 rfl rfl)
theorem dX0_wouldLose_3 : decode cX0_wouldLose 3 = .ok (.iload_n 2, 1) := dk_28 (dk_at dksX0_wouldLose_0 3 rfl rfl)
theorem dX0_wouldLose_4 : decode cX0_wouldLose 4 = .ok (.invokevirtual 103, 3) := dk_182 0 103 (dk_at dksX0_wouldLose_0 4 rfl rfl)
theorem dX0_wouldLose_7 : decode cX0_wouldLose 7 = .ok (.i2l, 1) := dk_133 (dk_at dksX0_wouldLose_0 7 rfl rfl)
theorem dX0_wouldLose_8 : decode cX0_wouldLose 8 = .ok (.putfield 13, 3) := dk_181 0 13 (dk_at dksX0_wouldLose_0 8 rfl rfl)
theorem dX0_wouldLose_11 : decode cX0_wouldLose 11 = .ok (.goto 11, 3) := dk_167 0 11 (dk_at dksX0_wouldLose_0 11 rfl rfl)
theorem dX0_wouldLose_14 : decode cX0_wouldLose 14 = .ok (.astore 4, 2) := dk_58 4 (dk_at dksX0_wouldLose_0 14 rfl rfl)
theorem dX0_wouldLose_16 : decode cX0_wouldLose 16 = .ok (.iconst 1, 1) := dk_4 (dk_at dksX0_wouldLose_0 16 rfl rfl)
theorem dX0_wouldLose_17 : decode cX0_wouldLose 17 = .ok (.ireturn, 1) := dk_172 (dk_at dksX0_wouldLose_0 17 rfl rfl)
theorem dX0_wouldLose_18 : decode cX0_wouldLose 18 = .ok (.astore 4, 2) := dk_58 4 (dk_at dksX0_wouldLose_0 18 rfl rfl)
theorem dX0_wouldLose_20 : decode cX0_wouldLose 20 = .ok (.iconst 2, 1) := dk_5 (dk_at dksX0_wouldLose_0 20 rfl rfl)
theorem dX0_wouldLose_21 : decode cX0_wouldLose 21 = .ok (.ireturn, 1) := dk_172 (dk_at dksX0_wouldLose_0 21 rfl rfl)
theorem dX0_wouldLose_22 : decode cX0_wouldLose 22 = .ok (.iconst 0, 1) := dk_3 (dk_at dksX0_wouldLose_0 22 rfl rfl)
theorem dX0_wouldLose_23 : decode cX0_wouldLose 23 = .ok (.ireturn, 1) := dk_172 (dk_at dksX0_wouldLose_0 23 rfl rfl)
abbrev cX0_plan : ByteArray := method_26_code
def yX0_plan : MethodName := ⟨RX0, "plan", "(LFirstdanceAgency;IZLFirstdanceAgencyLaw$Out;)I"⟩
def dkwX0_plan_0 : List UInt8 := [45, 42, 27, 28, 182, 0, 106, 133, 181, 0, 13, 167, 0, 7, 58, 4, 4, 172, 3, 172]
abbrev dktX0_plan_0 : List UInt8 := dkwX0_plan_0 ++ []
theorem dksX0_plan_0 : cX0_plan.data.toList.drop 0 = dktX0_plan_0 := by decide +kernel
theorem dX0_plan_0 : decode cX0_plan 0 = .ok (.aload_n 3, 1) := dk_45 (dk_at dksX0_plan_0 0 rfl rfl)
theorem dX0_plan_1 : decode cX0_plan 1 = .ok (.aload_n 0, 1) := dk_42 (dk_at dksX0_plan_0 1 rfl rfl)
theorem dX0_plan_2 : decode cX0_plan 2 = .ok (.iload_n 1, 1) := dk_27 (dk_at dksX0_plan_0 2 rfl rfl)
theorem dX0_plan_3 : decode cX0_plan 3 = .ok (.iload_n 2, 1) := dk_28 (dk_at dksX0_plan_0 3 rfl rfl)
theorem dX0_plan_4 : decode cX0_plan 4 = .ok (.invokevirtual 106, 3) := dk_182 0 106 (dk_at dksX0_plan_0 4 rfl rfl)
theorem dX0_plan_7 : decode cX0_plan 7 = .ok (.i2l, 1) := dk_133 (dk_at dksX0_plan_0 7 rfl rfl)
theorem dX0_plan_8 : decode cX0_plan 8 = .ok (.putfield 13, 3) := dk_181 0 13 (dk_at dksX0_plan_0 8 rfl rfl)
theorem dX0_plan_11 : decode cX0_plan 11 = .ok (.goto 7, 3) := dk_167 0 7 (dk_at dksX0_plan_0 11 rfl rfl)
theorem dX0_plan_14 : decode cX0_plan 14 = .ok (.astore 4, 2) := dk_58 4 (dk_at dksX0_plan_0 14 rfl rfl)
theorem dX0_plan_16 : decode cX0_plan 16 = .ok (.iconst 1, 1) := dk_4 (dk_at dksX0_plan_0 16 rfl rfl)
theorem dX0_plan_17 : decode cX0_plan 17 = .ok (.ireturn, 1) := dk_172 (dk_at dksX0_plan_0 17 rfl rfl)
theorem dX0_plan_18 : decode cX0_plan 18 = .ok (.iconst 0, 1) := dk_3 (dk_at dksX0_plan_0 18 rfl rfl)
theorem dX0_plan_19 : decode cX0_plan 19 = .ok (.ireturn, 1) := dk_172 (dk_at dksX0_plan_0 19 rfl rfl)
abbrev cX0_wouldCancel : ByteArray := method_27_code
def yX0_wouldCancel : MethodName := ⟨RX0, "wouldCancel", "(LFirstdanceAgency;ILFirstdanceAgencyLaw$Out;)I"⟩
def dkwX0_wouldCancel_0 : List UInt8 := [44, 42, 27, 182, 0, 109, 133, 181, 0, 13, 167, 0, 9, 78, 4, 172, 78, 5, 172, 3, 172]
abbrev dktX0_wouldCancel_0 : List UInt8 := dkwX0_wouldCancel_0 ++ []
theorem dksX0_wouldCancel_0 : cX0_wouldCancel.data.toList.drop 0 = dktX0_wouldCancel_0 := by decide +kernel
theorem dX0_wouldCancel_0 : decode cX0_wouldCancel 0 = .ok (.aload_n 2, 1) := dk_44 (dk_at dksX0_wouldCancel_0 0 rfl rfl)
theorem dX0_wouldCancel_1 : decode cX0_wouldCancel 1 = .ok (.aload_n 0, 1) := dk_42 (dk_at dksX0_wouldCancel_0 1 rfl rfl)
theorem dX0_wouldCancel_2 : decode cX0_wouldCancel 2 = .ok (.iload_n 1, 1) := dk_27 (dk_at dksX0_wouldCancel_0 2 rfl rfl)
theorem dX0_wouldCancel_3 : decode cX0_wouldCancel 3 = .ok (.invokevirtual 109, 3) := dk_182 0 109 (dk_at dksX0_wouldCancel_0 3 rfl rfl)
theorem dX0_wouldCancel_6 : decode cX0_wouldCancel 6 = .ok (.i2l, 1) := dk_133 (dk_at dksX0_wouldCancel_0 6 rfl rfl)
theorem dX0_wouldCancel_7 : decode cX0_wouldCancel 7 = .ok (.putfield 13, 3) := dk_181 0 13 (dk_at dksX0_wouldCancel_0 7 rfl rfl)
theorem dX0_wouldCancel_10 : decode cX0_wouldCancel 10 = .ok (.goto 9, 3) := dk_167 0 9 (dk_at dksX0_wouldCancel_0 10 rfl rfl)
theorem dX0_wouldCancel_13 : decode cX0_wouldCancel 13 = .ok (.astore_n 3, 1) := dk_78 (dk_at dksX0_wouldCancel_0 13 rfl rfl)
theorem dX0_wouldCancel_14 : decode cX0_wouldCancel 14 = .ok (.iconst 1, 1) := dk_4 (dk_at dksX0_wouldCancel_0 14 rfl rfl)
theorem dX0_wouldCancel_15 : decode cX0_wouldCancel 15 = .ok (.ireturn, 1) := dk_172 (dk_at dksX0_wouldCancel_0 15 rfl rfl)
theorem dX0_wouldCancel_16 : decode cX0_wouldCancel 16 = .ok (.astore_n 3, 1) := dk_78 (dk_at dksX0_wouldCancel_0 16 rfl rfl)
theorem dX0_wouldCancel_17 : decode cX0_wouldCancel 17 = .ok (.iconst 2, 1) := dk_5 (dk_at dksX0_wouldCancel_0 17 rfl rfl)
theorem dX0_wouldCancel_18 : decode cX0_wouldCancel 18 = .ok (.ireturn, 1) := dk_172 (dk_at dksX0_wouldCancel_0 18 rfl rfl)
theorem dX0_wouldCancel_19 : decode cX0_wouldCancel 19 = .ok (.iconst 0, 1) := dk_3 (dk_at dksX0_wouldCancel_0 19 rfl rfl)
theorem dX0_wouldCancel_20 : decode cX0_wouldCancel 20 = .ok (.ireturn, 1) := dk_172 (dk_at dksX0_wouldCancel_0 20 rfl rfl)
abbrev cX0_key : ByteArray := method_28_code
def yX0_key : MethodName := ⟨RX0, "key", "(LFirstdanceAgency;ILFirstdanceAgencyLaw$Out;)I"⟩
def dkwX0_key_0 : List UInt8 := [44, 42, 27, 182, 0, 112, 133, 181, 0, 13, 167, 0, 6, 78, 4, 172, 3, 172]
abbrev dktX0_key_0 : List UInt8 := dkwX0_key_0 ++ []
theorem dksX0_key_0 : cX0_key.data.toList.drop 0 = dktX0_key_0 := by decide +kernel
theorem dX0_key_0 : decode cX0_key 0 = .ok (.aload_n 2, 1) := dk_44 (dk_at dksX0_key_0 0 rfl rfl)
theorem dX0_key_1 : decode cX0_key 1 = .ok (.aload_n 0, 1) := dk_42 (dk_at dksX0_key_0 1 rfl rfl)
theorem dX0_key_2 : decode cX0_key 2 = .ok (.iload_n 1, 1) := dk_27 (dk_at dksX0_key_0 2 rfl rfl)
theorem dX0_key_3 : decode cX0_key 3 = .ok (.invokevirtual 112, 3) := dk_182 0 112 (dk_at dksX0_key_0 3 rfl rfl)
theorem dX0_key_6 : decode cX0_key 6 = .ok (.i2l, 1) := dk_133 (dk_at dksX0_key_0 6 rfl rfl)
theorem dX0_key_7 : decode cX0_key 7 = .ok (.putfield 13, 3) := dk_181 0 13 (dk_at dksX0_key_0 7 rfl rfl)
theorem dX0_key_10 : decode cX0_key 10 = .ok (.goto 6, 3) := dk_167 0 6 (dk_at dksX0_key_0 10 rfl rfl)
theorem dX0_key_13 : decode cX0_key 13 = .ok (.astore_n 3, 1) := dk_78 (dk_at dksX0_key_0 13 rfl rfl)
theorem dX0_key_14 : decode cX0_key 14 = .ok (.iconst 1, 1) := dk_4 (dk_at dksX0_key_0 14 rfl rfl)
theorem dX0_key_15 : decode cX0_key 15 = .ok (.ireturn, 1) := dk_172 (dk_at dksX0_key_0 15 rfl rfl)
theorem dX0_key_16 : decode cX0_key 16 = .ok (.iconst 0, 1) := dk_3 (dk_at dksX0_key_0 16 rfl rfl)
theorem dX0_key_17 : decode cX0_key 17 = .ok (.ireturn, 1) := dk_172 (dk_at dksX0_key_0 17 rfl rfl)
theorem q99 : (Jvm.Cond.initialized "FirstdanceAgencyLaw") ∈ lw_all := lw_g (lw_at lw_m1 0 rfl) rfl
theorem q141 : (Jvm.Cond.classLink "FirstdanceAgencyLaw" (8 : Nat) "FirstdanceAgency") ∈ lw_all := lw_g (lw_at lw_m1 42 rfl) rfl
theorem q143 : (Jvm.Cond.methodLink "FirstdanceAgencyLaw" (115 : Nat) ({ cls := "FirstdanceAgency", name := "<init>", desc := "()V" } : Jvm.MethodName)) ∈ lw_all := lw_g (lw_at lw_m1 44 rfl) rfl
theorem q322 : (Jvm.Cond.methodLink "FirstdanceAgencyLaw" (220 : Nat) ({ cls := "FirstdanceAgency", name := "isSound", desc := "()Z" } : Jvm.MethodName)) ∈ lw_all := lw_g (lw_at lw_m1 223 rfl) rfl
theorem q425 : (Jvm.Cond.methodLink "FirstdanceAgencyLaw" (225 : Nat) ({ cls := "FirstdanceAgency", name := "digest", desc := "()J" } : Jvm.MethodName)) ∈ lw_all := lw_g (lw_at lw_m2 86 rfl) rfl
theorem q737 : (Jvm.Cond.classLink "FirstdanceAgencyLaw" (14 : Nat) "FirstdanceAgencyLaw$Out") ∈ lw_all := lw_g (lw_at lw_m3 158 rfl) rfl
theorem q739 : (Jvm.Cond.methodLinkNest "FirstdanceAgencyLaw" (119 : Nat) ({ cls := "FirstdanceAgencyLaw$Out", name := "<init>", desc := "()V" } : Jvm.MethodName) "FirstdanceAgencyLaw") ∈ lw_tbl := lw_at lw_m3 160 rfl
theorem q743 : (Jvm.Cond.fieldLinkNest "FirstdanceAgencyLaw" (13 : Nat) "FirstdanceAgencyLaw$Out" "n" "J" "FirstdanceAgencyLaw") ∈ lw_tbl := lw_at lw_m3 164 rfl
theorem q744 : (Jvm.Cond.fieldLinkNest "FirstdanceAgencyLaw" (93 : Nat) "FirstdanceAgencyLaw$Out" "s" "Ljava/lang/String;" "FirstdanceAgencyLaw") ∈ lw_tbl := lw_at lw_m3 165 rfl
theorem q750 : (Jvm.Cond.methodLink "FirstdanceAgencyLaw" (120 : Nat) ({ cls := "FirstdanceAgencyLaw", name := "player", desc := "(LFirstdanceAgency;IIIILFirstdanceAgencyLaw$Out;)I" } : Jvm.MethodName)) ∈ lw_all := lw_g (lw_at lw_m3 171 rfl) rfl
theorem q751 : (Jvm.Cond.static ({ cls := "FirstdanceAgencyLaw", name := "player", desc := "(LFirstdanceAgency;IIIILFirstdanceAgencyLaw$Out;)I" } : Jvm.MethodName)) ∈ lw_all := lw_g (lw_at lw_m3 172 rfl) rfl
theorem q752 : (Jvm.Cond.codeWith ({ cls := "FirstdanceAgencyLaw", name := "player", desc := "(LFirstdanceAgency;IIIILFirstdanceAgencyLaw$Out;)I" } : Jvm.MethodName) method_2_code (7 : Nat) (Option.some Jvm.ClassFile.FieldType.int) [((0 : Nat), (15 : Nat), (18 : Nat), (19 : Nat)), ((0 : Nat), (15 : Nat), (22 : Nat), (21 : Nat)), ((0 : Nat), (15 : Nat), (26 : Nat), (23 : Nat))]) ∈ lw_all := lw_g (lw_at lw_m3 173 rfl) rfl
theorem q753 : (Jvm.Cond.classLink "FirstdanceAgencyLaw" (19 : Nat) "java/lang/IndexOutOfBoundsException") ∈ lw_all := lw_g (lw_at lw_m3 174 rfl) rfl
theorem q830 : (Jvm.Cond.classLink "FirstdanceAgencyLaw" (21 : Nat) "java/lang/IllegalArgumentException") ∈ lw_all := lw_g (lw_at lw_m4 11 rfl) rfl
theorem q831 : (Jvm.Cond.classLink "FirstdanceAgencyLaw" (23 : Nat) "java/lang/IllegalStateException") ∈ lw_all := lw_g (lw_at lw_m4 12 rfl) rfl
theorem q832 : (Jvm.Cond.methodLink "FirstdanceAgencyLaw" (7 : Nat) ({ cls := "FirstdanceAgency", name := "player", desc := "(IIII)I" } : Jvm.MethodName)) ∈ lw_all := lw_g (lw_at lw_m4 13 rfl) rfl
theorem q937 : (Jvm.Cond.methodLink "FirstdanceAgencyLaw" (130 : Nat) ({ cls := "FirstdanceAgencyLaw", name := "learn", desc := "(LFirstdanceAgency;IILFirstdanceAgencyLaw$Out;)I" } : Jvm.MethodName)) ∈ lw_all := lw_g (lw_at lw_m4 118 rfl) rfl
theorem q938 : (Jvm.Cond.static ({ cls := "FirstdanceAgencyLaw", name := "learn", desc := "(LFirstdanceAgency;IILFirstdanceAgencyLaw$Out;)I" } : Jvm.MethodName)) ∈ lw_all := lw_g (lw_at lw_m4 119 rfl) rfl
theorem q939 : (Jvm.Cond.codeWith ({ cls := "FirstdanceAgencyLaw", name := "learn", desc := "(LFirstdanceAgency;IILFirstdanceAgencyLaw$Out;)I" } : Jvm.MethodName) method_3_code (5 : Nat) (Option.some Jvm.ClassFile.FieldType.int) [((0 : Nat), (11 : Nat), (14 : Nat), (19 : Nat)), ((0 : Nat), (11 : Nat), (18 : Nat), (21 : Nat))]) ∈ lw_all := lw_g (lw_at lw_m4 120 rfl) rfl
theorem q940 : (Jvm.Cond.methodLink "FirstdanceAgencyLaw" (25 : Nat) ({ cls := "FirstdanceAgency", name := "learn", desc := "(II)I" } : Jvm.MethodName)) ∈ lw_all := lw_g (lw_at lw_m4 121 rfl) rfl
theorem q948 : (Jvm.Cond.methodLink "FirstdanceAgencyLaw" (134 : Nat) ({ cls := "FirstdanceAgencyLaw", name := "song", desc := "(LFirstdanceAgency;IIIILFirstdanceAgencyLaw$Out;)I" } : Jvm.MethodName)) ∈ lw_all := lw_g (lw_at lw_m4 129 rfl) rfl
theorem q949 : (Jvm.Cond.static ({ cls := "FirstdanceAgencyLaw", name := "song", desc := "(LFirstdanceAgency;IIIILFirstdanceAgencyLaw$Out;)I" } : Jvm.MethodName)) ∈ lw_all := lw_g (lw_at lw_m4 130 rfl) rfl
theorem q950 : (Jvm.Cond.codeWith ({ cls := "FirstdanceAgencyLaw", name := "song", desc := "(LFirstdanceAgency;IIIILFirstdanceAgencyLaw$Out;)I" } : Jvm.MethodName) method_4_code (7 : Nat) (Option.some Jvm.ClassFile.FieldType.int) [((0 : Nat), (15 : Nat), (18 : Nat), (19 : Nat)), ((0 : Nat), (15 : Nat), (22 : Nat), (21 : Nat))]) ∈ lw_all := lw_g (lw_at lw_m4 131 rfl) rfl
theorem q951 : (Jvm.Cond.methodLink "FirstdanceAgencyLaw" (29 : Nat) ({ cls := "FirstdanceAgency", name := "song", desc := "(IIII)I" } : Jvm.MethodName)) ∈ lw_all := lw_g (lw_at lw_m4 132 rfl) rfl
theorem q955 : (Jvm.Cond.methodLink "FirstdanceAgencyLaw" (137 : Nat) ({ cls := "FirstdanceAgencyLaw", name := "feud", desc := "(LFirstdanceAgency;IIZLFirstdanceAgencyLaw$Out;)I" } : Jvm.MethodName)) ∈ lw_all := lw_g (lw_at lw_m4 136 rfl) rfl
theorem q956 : (Jvm.Cond.static ({ cls := "FirstdanceAgencyLaw", name := "feud", desc := "(LFirstdanceAgency;IIZLFirstdanceAgencyLaw$Out;)I" } : Jvm.MethodName)) ∈ lw_all := lw_g (lw_at lw_m4 137 rfl) rfl
theorem q957 : (Jvm.Cond.codeWith ({ cls := "FirstdanceAgencyLaw", name := "feud", desc := "(LFirstdanceAgency;IIZLFirstdanceAgencyLaw$Out;)I" } : Jvm.MethodName) method_5_code (6 : Nat) (Option.some Jvm.ClassFile.FieldType.int) [((0 : Nat), (20 : Nat), (23 : Nat), (19 : Nat)), ((0 : Nat), (20 : Nat), (27 : Nat), (21 : Nat))]) ∈ lw_all := lw_g (lw_at lw_m4 138 rfl) rfl
theorem q958 : (Jvm.Cond.methodLink "FirstdanceAgencyLaw" (32 : Nat) ({ cls := "FirstdanceAgency", name := "feud", desc := "(IIZ)Z" } : Jvm.MethodName)) ∈ lw_all := lw_g (lw_at lw_m4 139 rfl) rfl
theorem q962 : (Jvm.Cond.methodLink "FirstdanceAgencyLaw" (141 : Nat) ({ cls := "FirstdanceAgencyLaw", name := "road", desc := "(LFirstdanceAgency;IIILFirstdanceAgencyLaw$Out;)I" } : Jvm.MethodName)) ∈ lw_all := lw_g (lw_at lw_m4 143 rfl) rfl
theorem q963 : (Jvm.Cond.static ({ cls := "FirstdanceAgencyLaw", name := "road", desc := "(LFirstdanceAgency;IIILFirstdanceAgencyLaw$Out;)I" } : Jvm.MethodName)) ∈ lw_all := lw_g (lw_at lw_m4 144 rfl) rfl
theorem q964 : (Jvm.Cond.codeWith ({ cls := "FirstdanceAgencyLaw", name := "road", desc := "(LFirstdanceAgency;IIILFirstdanceAgencyLaw$Out;)I" } : Jvm.MethodName) method_6_code (6 : Nat) (Option.some Jvm.ClassFile.FieldType.int) [((0 : Nat), (13 : Nat), (16 : Nat), (19 : Nat)), ((0 : Nat), (13 : Nat), (20 : Nat), (21 : Nat))]) ∈ lw_all := lw_g (lw_at lw_m4 145 rfl) rfl
theorem q965 : (Jvm.Cond.methodLink "FirstdanceAgencyLaw" (36 : Nat) ({ cls := "FirstdanceAgency", name := "road", desc := "(III)I" } : Jvm.MethodName)) ∈ lw_all := lw_g (lw_at lw_m4 146 rfl) rfl
theorem q973 : (Jvm.Cond.methodLink "FirstdanceAgencyLaw" (145 : Nat) ({ cls := "FirstdanceAgencyLaw", name := "band", desc := "(LFirstdanceAgency;ILFirstdanceAgencyLaw$Out;)I" } : Jvm.MethodName)) ∈ lw_all := lw_g (lw_at lw_m4 154 rfl) rfl
theorem q974 : (Jvm.Cond.static ({ cls := "FirstdanceAgencyLaw", name := "band", desc := "(LFirstdanceAgency;ILFirstdanceAgencyLaw$Out;)I" } : Jvm.MethodName)) ∈ lw_all := lw_g (lw_at lw_m4 155 rfl) rfl
theorem q975 : (Jvm.Cond.codeWith ({ cls := "FirstdanceAgencyLaw", name := "band", desc := "(LFirstdanceAgency;ILFirstdanceAgencyLaw$Out;)I" } : Jvm.MethodName) method_7_code (4 : Nat) (Option.some Jvm.ClassFile.FieldType.int) [((0 : Nat), (10 : Nat), (13 : Nat), (21 : Nat)), ((0 : Nat), (10 : Nat), (16 : Nat), (23 : Nat))]) ∈ lw_all := lw_g (lw_at lw_m4 156 rfl) rfl
theorem q976 : (Jvm.Cond.methodLink "FirstdanceAgencyLaw" (40 : Nat) ({ cls := "FirstdanceAgency", name := "band", desc := "(I)I" } : Jvm.MethodName)) ∈ lw_all := lw_g (lw_at lw_m4 157 rfl) rfl
theorem q992 : (Jvm.Cond.methodLink "FirstdanceAgencyLaw" (149 : Nat) ({ cls := "FirstdanceAgencyLaw", name := "ask", desc := "(LFirstdanceAgency;IIIIIILFirstdanceAgencyLaw$Out;)I" } : Jvm.MethodName)) ∈ lw_all := lw_g (lw_at lw_m4 173 rfl) rfl
theorem q993 : (Jvm.Cond.static ({ cls := "FirstdanceAgencyLaw", name := "ask", desc := "(LFirstdanceAgency;IIIIIILFirstdanceAgencyLaw$Out;)I" } : Jvm.MethodName)) ∈ lw_all := lw_g (lw_at lw_m4 174 rfl) rfl
theorem q994 : (Jvm.Cond.codeWith ({ cls := "FirstdanceAgencyLaw", name := "ask", desc := "(LFirstdanceAgency;IIIIIILFirstdanceAgencyLaw$Out;)I" } : Jvm.MethodName) method_8_code (9 : Nat) (Option.some Jvm.ClassFile.FieldType.int) [((0 : Nat), (19 : Nat), (22 : Nat), (19 : Nat)), ((0 : Nat), (19 : Nat), (26 : Nat), (21 : Nat)), ((0 : Nat), (19 : Nat), (30 : Nat), (23 : Nat))]) ∈ lw_all := lw_g (lw_at lw_m4 175 rfl) rfl
theorem q995 : (Jvm.Cond.methodLink "FirstdanceAgencyLaw" (44 : Nat) ({ cls := "FirstdanceAgency", name := "ask", desc := "(IIIIII)I" } : Jvm.MethodName)) ∈ lw_all := lw_g (lw_at lw_m4 176 rfl) rfl
theorem q1059 : (Jvm.Cond.methodLink "FirstdanceAgencyLaw" (153 : Nat) ({ cls := "FirstdanceAgencyLaw", name := "fix", desc := "(LFirstdanceAgency;ILFirstdanceAgencyLaw$Out;)I" } : Jvm.MethodName)) ∈ lw_all := lw_g (lw_at lw_m5 0 rfl) rfl
theorem q1060 : (Jvm.Cond.static ({ cls := "FirstdanceAgencyLaw", name := "fix", desc := "(LFirstdanceAgency;ILFirstdanceAgencyLaw$Out;)I" } : Jvm.MethodName)) ∈ lw_all := lw_g (lw_at lw_m5 1 rfl) rfl
theorem q1061 : (Jvm.Cond.codeWith ({ cls := "FirstdanceAgencyLaw", name := "fix", desc := "(LFirstdanceAgency;ILFirstdanceAgencyLaw$Out;)I" } : Jvm.MethodName) method_9_code (4 : Nat) (Option.some Jvm.ClassFile.FieldType.int) [((0 : Nat), (10 : Nat), (13 : Nat), (19 : Nat)), ((0 : Nat), (10 : Nat), (16 : Nat), (23 : Nat))]) ∈ lw_all := lw_g (lw_at lw_m5 2 rfl) rfl
theorem q1062 : (Jvm.Cond.methodLink "FirstdanceAgencyLaw" (48 : Nat) ({ cls := "FirstdanceAgency", name := "fix", desc := "(I)I" } : Jvm.MethodName)) ∈ lw_all := lw_g (lw_at lw_m5 3 rfl) rfl
theorem q1074 : (Jvm.Cond.methodLink "FirstdanceAgencyLaw" (156 : Nat) ({ cls := "FirstdanceAgencyLaw", name := "cancel", desc := "(LFirstdanceAgency;ILFirstdanceAgencyLaw$Out;)I" } : Jvm.MethodName)) ∈ lw_all := lw_g (lw_at lw_m5 15 rfl) rfl
theorem q1075 : (Jvm.Cond.static ({ cls := "FirstdanceAgencyLaw", name := "cancel", desc := "(LFirstdanceAgency;ILFirstdanceAgencyLaw$Out;)I" } : Jvm.MethodName)) ∈ lw_all := lw_g (lw_at lw_m5 16 rfl) rfl
theorem q1076 : (Jvm.Cond.codeWith ({ cls := "FirstdanceAgencyLaw", name := "cancel", desc := "(LFirstdanceAgency;ILFirstdanceAgencyLaw$Out;)I" } : Jvm.MethodName) method_10_code (4 : Nat) (Option.some Jvm.ClassFile.FieldType.int) [((0 : Nat), (10 : Nat), (13 : Nat), (19 : Nat)), ((0 : Nat), (10 : Nat), (16 : Nat), (23 : Nat))]) ∈ lw_all := lw_g (lw_at lw_m5 17 rfl) rfl
theorem q1077 : (Jvm.Cond.methodLink "FirstdanceAgencyLaw" (51 : Nat) ({ cls := "FirstdanceAgency", name := "cancel", desc := "(I)I" } : Jvm.MethodName)) ∈ lw_all := lw_g (lw_at lw_m5 18 rfl) rfl
theorem q1085 : (Jvm.Cond.methodLink "FirstdanceAgencyLaw" (159 : Nat) ({ cls := "FirstdanceAgencyLaw", name := "ill", desc := "(LFirstdanceAgency;IILFirstdanceAgencyLaw$Out;)I" } : Jvm.MethodName)) ∈ lw_all := lw_g (lw_at lw_m5 26 rfl) rfl
theorem q1086 : (Jvm.Cond.static ({ cls := "FirstdanceAgencyLaw", name := "ill", desc := "(LFirstdanceAgency;IILFirstdanceAgencyLaw$Out;)I" } : Jvm.MethodName)) ∈ lw_all := lw_g (lw_at lw_m5 27 rfl) rfl
theorem q1087 : (Jvm.Cond.codeWith ({ cls := "FirstdanceAgencyLaw", name := "ill", desc := "(LFirstdanceAgency;IILFirstdanceAgencyLaw$Out;)I" } : Jvm.MethodName) method_11_code (5 : Nat) (Option.some Jvm.ClassFile.FieldType.int) [((0 : Nat), (11 : Nat), (14 : Nat), (19 : Nat)), ((0 : Nat), (11 : Nat), (18 : Nat), (21 : Nat))]) ∈ lw_all := lw_g (lw_at lw_m5 28 rfl) rfl
theorem q1088 : (Jvm.Cond.methodLink "FirstdanceAgencyLaw" (54 : Nat) ({ cls := "FirstdanceAgency", name := "ill", desc := "(II)I" } : Jvm.MethodName)) ∈ lw_all := lw_g (lw_at lw_m5 29 rfl) rfl
theorem q1096 : (Jvm.Cond.methodLink "FirstdanceAgencyLaw" (162 : Nat) ({ cls := "FirstdanceAgencyLaw", name := "late", desc := "(LFirstdanceAgency;IILFirstdanceAgencyLaw$Out;)I" } : Jvm.MethodName)) ∈ lw_all := lw_g (lw_at lw_m5 37 rfl) rfl
theorem q1097 : (Jvm.Cond.static ({ cls := "FirstdanceAgencyLaw", name := "late", desc := "(LFirstdanceAgency;IILFirstdanceAgencyLaw$Out;)I" } : Jvm.MethodName)) ∈ lw_all := lw_g (lw_at lw_m5 38 rfl) rfl
theorem q1098 : (Jvm.Cond.codeWith ({ cls := "FirstdanceAgencyLaw", name := "late", desc := "(LFirstdanceAgency;IILFirstdanceAgencyLaw$Out;)I" } : Jvm.MethodName) method_12_code (5 : Nat) (Option.some Jvm.ClassFile.FieldType.int) [((0 : Nat), (11 : Nat), (14 : Nat), (19 : Nat)), ((0 : Nat), (11 : Nat), (18 : Nat), (21 : Nat)), ((0 : Nat), (11 : Nat), (22 : Nat), (23 : Nat))]) ∈ lw_all := lw_g (lw_at lw_m5 39 rfl) rfl
theorem q1099 : (Jvm.Cond.methodLink "FirstdanceAgencyLaw" (57 : Nat) ({ cls := "FirstdanceAgency", name := "late", desc := "(II)I" } : Jvm.MethodName)) ∈ lw_all := lw_g (lw_at lw_m5 40 rfl) rfl
theorem q1103 : (Jvm.Cond.methodLink "FirstdanceAgencyLaw" (165 : Nat) ({ cls := "FirstdanceAgencyLaw", name := "pass", desc := "(LFirstdanceAgency;ILFirstdanceAgencyLaw$Out;)I" } : Jvm.MethodName)) ∈ lw_all := lw_g (lw_at lw_m5 44 rfl) rfl
theorem q1104 : (Jvm.Cond.static ({ cls := "FirstdanceAgencyLaw", name := "pass", desc := "(LFirstdanceAgency;ILFirstdanceAgencyLaw$Out;)I" } : Jvm.MethodName)) ∈ lw_all := lw_g (lw_at lw_m5 45 rfl) rfl
theorem q1105 : (Jvm.Cond.codeWith ({ cls := "FirstdanceAgencyLaw", name := "pass", desc := "(LFirstdanceAgency;ILFirstdanceAgencyLaw$Out;)I" } : Jvm.MethodName) method_13_code (4 : Nat) (Option.some Jvm.ClassFile.FieldType.int) [((0 : Nat), (10 : Nat), (13 : Nat), (21 : Nat)), ((0 : Nat), (10 : Nat), (16 : Nat), (23 : Nat))]) ∈ lw_all := lw_g (lw_at lw_m5 46 rfl) rfl
theorem q1106 : (Jvm.Cond.methodLink "FirstdanceAgencyLaw" (60 : Nat) ({ cls := "FirstdanceAgency", name := "pass", desc := "(I)I" } : Jvm.MethodName)) ∈ lw_all := lw_g (lw_at lw_m5 47 rfl) rfl
theorem q1133 : (Jvm.Cond.methodLink "FirstdanceAgencyLaw" (168 : Nat) ({ cls := "FirstdanceAgencyLaw", name := "ofPlayer", desc := "(LFirstdanceAgency;IILFirstdanceAgencyLaw$Out;)I" } : Jvm.MethodName)) ∈ lw_all := lw_g (lw_at lw_m5 74 rfl) rfl
theorem q1134 : (Jvm.Cond.static ({ cls := "FirstdanceAgencyLaw", name := "ofPlayer", desc := "(LFirstdanceAgency;IILFirstdanceAgencyLaw$Out;)I" } : Jvm.MethodName)) ∈ lw_all := lw_g (lw_at lw_m5 75 rfl) rfl
theorem q1135 : (Jvm.Cond.codeWith ({ cls := "FirstdanceAgencyLaw", name := "ofPlayer", desc := "(LFirstdanceAgency;IILFirstdanceAgencyLaw$Out;)I" } : Jvm.MethodName) method_14_code (5 : Nat) (Option.some Jvm.ClassFile.FieldType.int) [((0 : Nat), (11 : Nat), (14 : Nat), (19 : Nat)), ((0 : Nat), (11 : Nat), (18 : Nat), (21 : Nat))]) ∈ lw_all := lw_g (lw_at lw_m5 76 rfl) rfl
theorem q1136 : (Jvm.Cond.methodLink "FirstdanceAgencyLaw" (63 : Nat) ({ cls := "FirstdanceAgency", name := "ofPlayer", desc := "(II)I" } : Jvm.MethodName)) ∈ lw_all := lw_g (lw_at lw_m5 77 rfl) rfl
theorem q1140 : (Jvm.Cond.methodLink "FirstdanceAgencyLaw" (171 : Nat) ({ cls := "FirstdanceAgencyLaw", name := "ofSong", desc := "(LFirstdanceAgency;IILFirstdanceAgencyLaw$Out;)I" } : Jvm.MethodName)) ∈ lw_all := lw_g (lw_at lw_m5 81 rfl) rfl
theorem q1141 : (Jvm.Cond.static ({ cls := "FirstdanceAgencyLaw", name := "ofSong", desc := "(LFirstdanceAgency;IILFirstdanceAgencyLaw$Out;)I" } : Jvm.MethodName)) ∈ lw_all := lw_g (lw_at lw_m5 82 rfl) rfl
theorem q1142 : (Jvm.Cond.codeWith ({ cls := "FirstdanceAgencyLaw", name := "ofSong", desc := "(LFirstdanceAgency;IILFirstdanceAgencyLaw$Out;)I" } : Jvm.MethodName) method_15_code (5 : Nat) (Option.some Jvm.ClassFile.FieldType.int) [((0 : Nat), (11 : Nat), (14 : Nat), (19 : Nat)), ((0 : Nat), (11 : Nat), (18 : Nat), (21 : Nat))]) ∈ lw_all := lw_g (lw_at lw_m5 83 rfl) rfl
theorem q1143 : (Jvm.Cond.methodLink "FirstdanceAgencyLaw" (66 : Nat) ({ cls := "FirstdanceAgency", name := "ofSong", desc := "(II)I" } : Jvm.MethodName)) ∈ lw_all := lw_g (lw_at lw_m5 84 rfl) rfl
theorem q1147 : (Jvm.Cond.methodLink "FirstdanceAgencyLaw" (174 : Nat) ({ cls := "FirstdanceAgencyLaw", name := "ofBand", desc := "(LFirstdanceAgency;IILFirstdanceAgencyLaw$Out;)I" } : Jvm.MethodName)) ∈ lw_all := lw_g (lw_at lw_m5 88 rfl) rfl
theorem q1148 : (Jvm.Cond.static ({ cls := "FirstdanceAgencyLaw", name := "ofBand", desc := "(LFirstdanceAgency;IILFirstdanceAgencyLaw$Out;)I" } : Jvm.MethodName)) ∈ lw_all := lw_g (lw_at lw_m5 89 rfl) rfl
theorem q1149 : (Jvm.Cond.codeWith ({ cls := "FirstdanceAgencyLaw", name := "ofBand", desc := "(LFirstdanceAgency;IILFirstdanceAgencyLaw$Out;)I" } : Jvm.MethodName) method_16_code (5 : Nat) (Option.some Jvm.ClassFile.FieldType.int) [((0 : Nat), (11 : Nat), (14 : Nat), (19 : Nat)), ((0 : Nat), (11 : Nat), (18 : Nat), (21 : Nat))]) ∈ lw_all := lw_g (lw_at lw_m5 90 rfl) rfl
theorem q1150 : (Jvm.Cond.methodLink "FirstdanceAgencyLaw" (69 : Nat) ({ cls := "FirstdanceAgency", name := "ofBand", desc := "(II)I" } : Jvm.MethodName)) ∈ lw_all := lw_g (lw_at lw_m5 91 rfl) rfl
theorem q1154 : (Jvm.Cond.methodLink "FirstdanceAgencyLaw" (177 : Nat) ({ cls := "FirstdanceAgencyLaw", name := "ofWedding", desc := "(LFirstdanceAgency;IILFirstdanceAgencyLaw$Out;)I" } : Jvm.MethodName)) ∈ lw_all := lw_g (lw_at lw_m5 95 rfl) rfl
theorem q1155 : (Jvm.Cond.static ({ cls := "FirstdanceAgencyLaw", name := "ofWedding", desc := "(LFirstdanceAgency;IILFirstdanceAgencyLaw$Out;)I" } : Jvm.MethodName)) ∈ lw_all := lw_g (lw_at lw_m5 96 rfl) rfl
theorem q1156 : (Jvm.Cond.codeWith ({ cls := "FirstdanceAgencyLaw", name := "ofWedding", desc := "(LFirstdanceAgency;IILFirstdanceAgencyLaw$Out;)I" } : Jvm.MethodName) method_17_code (5 : Nat) (Option.some Jvm.ClassFile.FieldType.int) [((0 : Nat), (11 : Nat), (14 : Nat), (19 : Nat)), ((0 : Nat), (11 : Nat), (18 : Nat), (21 : Nat))]) ∈ lw_all := lw_g (lw_at lw_m5 97 rfl) rfl
theorem q1157 : (Jvm.Cond.methodLink "FirstdanceAgencyLaw" (72 : Nat) ({ cls := "FirstdanceAgency", name := "ofWedding", desc := "(II)I" } : Jvm.MethodName)) ∈ lw_all := lw_g (lw_at lw_m5 98 rfl) rfl
theorem q1161 : (Jvm.Cond.methodLink "FirstdanceAgencyLaw" (180 : Nat) ({ cls := "FirstdanceAgencyLaw", name := "drive", desc := "(LFirstdanceAgency;IILFirstdanceAgencyLaw$Out;)I" } : Jvm.MethodName)) ∈ lw_all := lw_g (lw_at lw_m5 102 rfl) rfl
theorem q1162 : (Jvm.Cond.static ({ cls := "FirstdanceAgencyLaw", name := "drive", desc := "(LFirstdanceAgency;IILFirstdanceAgencyLaw$Out;)I" } : Jvm.MethodName)) ∈ lw_all := lw_g (lw_at lw_m5 103 rfl) rfl
theorem q1163 : (Jvm.Cond.codeWith ({ cls := "FirstdanceAgencyLaw", name := "drive", desc := "(LFirstdanceAgency;IILFirstdanceAgencyLaw$Out;)I" } : Jvm.MethodName) method_18_code (5 : Nat) (Option.some Jvm.ClassFile.FieldType.int) [((0 : Nat), (11 : Nat), (14 : Nat), (19 : Nat))]) ∈ lw_all := lw_g (lw_at lw_m5 104 rfl) rfl
theorem q1164 : (Jvm.Cond.methodLink "FirstdanceAgencyLaw" (75 : Nat) ({ cls := "FirstdanceAgency", name := "drive", desc := "(II)I" } : Jvm.MethodName)) ∈ lw_all := lw_g (lw_at lw_m5 105 rfl) rfl
theorem q1168 : (Jvm.Cond.methodLink "FirstdanceAgencyLaw" (183 : Nat) ({ cls := "FirstdanceAgencyLaw", name := "free", desc := "(LFirstdanceAgency;IILFirstdanceAgencyLaw$Out;)I" } : Jvm.MethodName)) ∈ lw_all := lw_g (lw_at lw_m5 109 rfl) rfl
theorem q1169 : (Jvm.Cond.static ({ cls := "FirstdanceAgencyLaw", name := "free", desc := "(LFirstdanceAgency;IILFirstdanceAgencyLaw$Out;)I" } : Jvm.MethodName)) ∈ lw_all := lw_g (lw_at lw_m5 110 rfl) rfl
theorem q1170 : (Jvm.Cond.codeWith ({ cls := "FirstdanceAgencyLaw", name := "free", desc := "(LFirstdanceAgency;IILFirstdanceAgencyLaw$Out;)I" } : Jvm.MethodName) method_19_code (5 : Nat) (Option.some Jvm.ClassFile.FieldType.int) [((0 : Nat), (18 : Nat), (21 : Nat), (19 : Nat))]) ∈ lw_all := lw_g (lw_at lw_m5 111 rfl) rfl
theorem q1171 : (Jvm.Cond.methodLink "FirstdanceAgencyLaw" (78 : Nat) ({ cls := "FirstdanceAgency", name := "free", desc := "(II)Z" } : Jvm.MethodName)) ∈ lw_all := lw_g (lw_at lw_m5 112 rfl) rfl
theorem q1175 : (Jvm.Cond.methodLink "FirstdanceAgencyLaw" (186 : Nat) ({ cls := "FirstdanceAgencyLaw", name := "filling", desc := "(LFirstdanceAgency;IILFirstdanceAgencyLaw$Out;)I" } : Jvm.MethodName)) ∈ lw_all := lw_g (lw_at lw_m5 116 rfl) rfl
theorem q1176 : (Jvm.Cond.static ({ cls := "FirstdanceAgencyLaw", name := "filling", desc := "(LFirstdanceAgency;IILFirstdanceAgencyLaw$Out;)I" } : Jvm.MethodName)) ∈ lw_all := lw_g (lw_at lw_m5 117 rfl) rfl
theorem q1177 : (Jvm.Cond.codeWith ({ cls := "FirstdanceAgencyLaw", name := "filling", desc := "(LFirstdanceAgency;IILFirstdanceAgencyLaw$Out;)I" } : Jvm.MethodName) method_20_code (5 : Nat) (Option.some Jvm.ClassFile.FieldType.int) [((0 : Nat), (11 : Nat), (14 : Nat), (19 : Nat)), ((0 : Nat), (11 : Nat), (18 : Nat), (21 : Nat))]) ∈ lw_all := lw_g (lw_at lw_m5 118 rfl) rfl
theorem q1178 : (Jvm.Cond.methodLink "FirstdanceAgencyLaw" (82 : Nat) ({ cls := "FirstdanceAgency", name := "filling", desc := "(II)I" } : Jvm.MethodName)) ∈ lw_all := lw_g (lw_at lw_m5 119 rfl) rfl
theorem q1182 : (Jvm.Cond.methodLink "FirstdanceAgencyLaw" (189 : Nat) ({ cls := "FirstdanceAgencyLaw", name := "set", desc := "(LFirstdanceAgency;IZLFirstdanceAgencyLaw$Out;)I" } : Jvm.MethodName)) ∈ lw_all := lw_g (lw_at lw_m5 123 rfl) rfl
theorem q1183 : (Jvm.Cond.static ({ cls := "FirstdanceAgencyLaw", name := "set", desc := "(LFirstdanceAgency;IZLFirstdanceAgencyLaw$Out;)I" } : Jvm.MethodName)) ∈ lw_all := lw_g (lw_at lw_m5 124 rfl) rfl
theorem q1184 : (Jvm.Cond.codeWith ({ cls := "FirstdanceAgencyLaw", name := "set", desc := "(LFirstdanceAgency;IZLFirstdanceAgencyLaw$Out;)I" } : Jvm.MethodName) method_21_code (5 : Nat) (Option.some Jvm.ClassFile.FieldType.int) [((0 : Nat), (11 : Nat), (14 : Nat), (21 : Nat))]) ∈ lw_all := lw_g (lw_at lw_m5 125 rfl) rfl
theorem q1185 : (Jvm.Cond.methodLink "FirstdanceAgencyLaw" (85 : Nat) ({ cls := "FirstdanceAgency", name := "set", desc := "(IZ)I" } : Jvm.MethodName)) ∈ lw_all := lw_g (lw_at lw_m5 126 rfl) rfl
theorem q1189 : (Jvm.Cond.methodLink "FirstdanceAgencyLaw" (193 : Nat) ({ cls := "FirstdanceAgencyLaw", name := "songs", desc := "(LFirstdanceAgency;ILFirstdanceAgencyLaw$Out;)I" } : Jvm.MethodName)) ∈ lw_all := lw_g (lw_at lw_m5 130 rfl) rfl
theorem q1190 : (Jvm.Cond.static ({ cls := "FirstdanceAgencyLaw", name := "songs", desc := "(LFirstdanceAgency;ILFirstdanceAgencyLaw$Out;)I" } : Jvm.MethodName)) ∈ lw_all := lw_g (lw_at lw_m5 131 rfl) rfl
theorem q1191 : (Jvm.Cond.codeWith ({ cls := "FirstdanceAgencyLaw", name := "songs", desc := "(LFirstdanceAgency;ILFirstdanceAgencyLaw$Out;)I" } : Jvm.MethodName) method_22_code (4 : Nat) (Option.some Jvm.ClassFile.FieldType.int) [((0 : Nat), (9 : Nat), (12 : Nat), (19 : Nat))]) ∈ lw_all := lw_g (lw_at lw_m5 132 rfl) rfl
theorem q1192 : (Jvm.Cond.methodLink "FirstdanceAgencyLaw" (89 : Nat) ({ cls := "FirstdanceAgency", name := "songs", desc := "(I)Ljava/lang/String;" } : Jvm.MethodName)) ∈ lw_all := lw_g (lw_at lw_m5 133 rfl) rfl
theorem q1448 : (Jvm.Cond.methodLink "FirstdanceAgencyLaw" (202 : Nat) ({ cls := "FirstdanceAgencyLaw", name := "desk", desc := "(LFirstdanceAgency;ILFirstdanceAgencyLaw$Out;)I" } : Jvm.MethodName)) ∈ lw_all := lw_g (lw_at lw_m6 149 rfl) rfl
theorem q1449 : (Jvm.Cond.static ({ cls := "FirstdanceAgencyLaw", name := "desk", desc := "(LFirstdanceAgency;ILFirstdanceAgencyLaw$Out;)I" } : Jvm.MethodName)) ∈ lw_all := lw_g (lw_at lw_m6 150 rfl) rfl
theorem q1450 : (Jvm.Cond.codeWith ({ cls := "FirstdanceAgencyLaw", name := "desk", desc := "(LFirstdanceAgency;ILFirstdanceAgencyLaw$Out;)I" } : Jvm.MethodName) method_23_code (4 : Nat) (Option.some Jvm.ClassFile.FieldType.int) [((0 : Nat), (10 : Nat), (13 : Nat), (21 : Nat))]) ∈ lw_all := lw_g (lw_at lw_m6 151 rfl) rfl
theorem q1451 : (Jvm.Cond.methodLink "FirstdanceAgencyLaw" (97 : Nat) ({ cls := "FirstdanceAgency", name := "desk", desc := "(I)I" } : Jvm.MethodName)) ∈ lw_all := lw_g (lw_at lw_m6 152 rfl) rfl
theorem q1455 : (Jvm.Cond.methodLink "FirstdanceAgencyLaw" (205 : Nat) ({ cls := "FirstdanceAgencyLaw", name := "tell", desc := "(LFirstdanceAgency;ILFirstdanceAgencyLaw$Out;)I" } : Jvm.MethodName)) ∈ lw_all := lw_g (lw_at lw_m6 156 rfl) rfl
theorem q1456 : (Jvm.Cond.static ({ cls := "FirstdanceAgencyLaw", name := "tell", desc := "(LFirstdanceAgency;ILFirstdanceAgencyLaw$Out;)I" } : Jvm.MethodName)) ∈ lw_all := lw_g (lw_at lw_m6 157 rfl) rfl
theorem q1457 : (Jvm.Cond.codeWith ({ cls := "FirstdanceAgencyLaw", name := "tell", desc := "(LFirstdanceAgency;ILFirstdanceAgencyLaw$Out;)I" } : Jvm.MethodName) method_24_code (4 : Nat) (Option.some Jvm.ClassFile.FieldType.int) [((0 : Nat), (9 : Nat), (12 : Nat), (19 : Nat))]) ∈ lw_all := lw_g (lw_at lw_m6 158 rfl) rfl
theorem q1458 : (Jvm.Cond.methodLink "FirstdanceAgencyLaw" (100 : Nat) ({ cls := "FirstdanceAgency", name := "tell", desc := "(I)Ljava/lang/String;" } : Jvm.MethodName)) ∈ lw_all := lw_g (lw_at lw_m6 159 rfl) rfl
theorem q1478 : (Jvm.Cond.methodLink "FirstdanceAgencyLaw" (208 : Nat) ({ cls := "FirstdanceAgencyLaw", name := "wouldLose", desc := "(LFirstdanceAgency;IILFirstdanceAgencyLaw$Out;)I" } : Jvm.MethodName)) ∈ lw_all := lw_g (lw_at lw_m6 179 rfl) rfl
theorem q1479 : (Jvm.Cond.static ({ cls := "FirstdanceAgencyLaw", name := "wouldLose", desc := "(LFirstdanceAgency;IILFirstdanceAgencyLaw$Out;)I" } : Jvm.MethodName)) ∈ lw_all := lw_g (lw_at lw_m6 180 rfl) rfl
theorem q1480 : (Jvm.Cond.codeWith ({ cls := "FirstdanceAgencyLaw", name := "wouldLose", desc := "(LFirstdanceAgency;IILFirstdanceAgencyLaw$Out;)I" } : Jvm.MethodName) method_25_code (5 : Nat) (Option.some Jvm.ClassFile.FieldType.int) [((0 : Nat), (11 : Nat), (14 : Nat), (19 : Nat)), ((0 : Nat), (11 : Nat), (18 : Nat), (21 : Nat))]) ∈ lw_all := lw_g (lw_at lw_m6 181 rfl) rfl
theorem q1481 : (Jvm.Cond.methodLink "FirstdanceAgencyLaw" (103 : Nat) ({ cls := "FirstdanceAgency", name := "wouldLose", desc := "(II)I" } : Jvm.MethodName)) ∈ lw_all := lw_g (lw_at lw_m6 182 rfl) rfl
theorem q1499 : (Jvm.Cond.methodLink "FirstdanceAgencyLaw" (211 : Nat) ({ cls := "FirstdanceAgencyLaw", name := "plan", desc := "(LFirstdanceAgency;IZLFirstdanceAgencyLaw$Out;)I" } : Jvm.MethodName)) ∈ lw_all := lw_g (lw_at lw_m6 200 rfl) rfl
theorem q1500 : (Jvm.Cond.static ({ cls := "FirstdanceAgencyLaw", name := "plan", desc := "(LFirstdanceAgency;IZLFirstdanceAgencyLaw$Out;)I" } : Jvm.MethodName)) ∈ lw_all := lw_g (lw_at lw_m6 201 rfl) rfl
theorem q1501 : (Jvm.Cond.codeWith ({ cls := "FirstdanceAgencyLaw", name := "plan", desc := "(LFirstdanceAgency;IZLFirstdanceAgencyLaw$Out;)I" } : Jvm.MethodName) method_26_code (5 : Nat) (Option.some Jvm.ClassFile.FieldType.int) [((0 : Nat), (11 : Nat), (14 : Nat), (21 : Nat))]) ∈ lw_all := lw_g (lw_at lw_m6 202 rfl) rfl
theorem q1502 : (Jvm.Cond.methodLink "FirstdanceAgencyLaw" (106 : Nat) ({ cls := "FirstdanceAgency", name := "plan", desc := "(IZ)I" } : Jvm.MethodName)) ∈ lw_all := lw_g (lw_at lw_m6 203 rfl) rfl
theorem q1514 : (Jvm.Cond.methodLink "FirstdanceAgencyLaw" (214 : Nat) ({ cls := "FirstdanceAgencyLaw", name := "wouldCancel", desc := "(LFirstdanceAgency;ILFirstdanceAgencyLaw$Out;)I" } : Jvm.MethodName)) ∈ lw_all := lw_g (lw_at lw_m6 215 rfl) rfl
theorem q1515 : (Jvm.Cond.static ({ cls := "FirstdanceAgencyLaw", name := "wouldCancel", desc := "(LFirstdanceAgency;ILFirstdanceAgencyLaw$Out;)I" } : Jvm.MethodName)) ∈ lw_all := lw_g (lw_at lw_m6 216 rfl) rfl
theorem q1516 : (Jvm.Cond.codeWith ({ cls := "FirstdanceAgencyLaw", name := "wouldCancel", desc := "(LFirstdanceAgency;ILFirstdanceAgencyLaw$Out;)I" } : Jvm.MethodName) method_27_code (4 : Nat) (Option.some Jvm.ClassFile.FieldType.int) [((0 : Nat), (10 : Nat), (13 : Nat), (19 : Nat)), ((0 : Nat), (10 : Nat), (16 : Nat), (23 : Nat))]) ∈ lw_all := lw_g (lw_at lw_m6 217 rfl) rfl
theorem q1517 : (Jvm.Cond.methodLink "FirstdanceAgencyLaw" (109 : Nat) ({ cls := "FirstdanceAgency", name := "wouldCancel", desc := "(I)I" } : Jvm.MethodName)) ∈ lw_all := lw_g (lw_at lw_m6 218 rfl) rfl
theorem q1521 : (Jvm.Cond.methodLink "FirstdanceAgencyLaw" (217 : Nat) ({ cls := "FirstdanceAgencyLaw", name := "key", desc := "(LFirstdanceAgency;ILFirstdanceAgencyLaw$Out;)I" } : Jvm.MethodName)) ∈ lw_all := lw_g (lw_at lw_m6 222 rfl) rfl
theorem q1522 : (Jvm.Cond.static ({ cls := "FirstdanceAgencyLaw", name := "key", desc := "(LFirstdanceAgency;ILFirstdanceAgencyLaw$Out;)I" } : Jvm.MethodName)) ∈ lw_all := lw_g (lw_at lw_m6 223 rfl) rfl
theorem q1523 : (Jvm.Cond.codeWith ({ cls := "FirstdanceAgencyLaw", name := "key", desc := "(LFirstdanceAgency;ILFirstdanceAgencyLaw$Out;)I" } : Jvm.MethodName) method_28_code (4 : Nat) (Option.some Jvm.ClassFile.FieldType.int) [((0 : Nat), (10 : Nat), (13 : Nat), (19 : Nat))]) ∈ lw_all := lw_g (lw_at lw_m6 224 rfl) rfl
theorem q1524 : (Jvm.Cond.methodLink "FirstdanceAgencyLaw" (112 : Nat) ({ cls := "FirstdanceAgency", name := "key", desc := "(I)I" } : Jvm.MethodName)) ∈ lw_all := lw_g (lw_at lw_m6 225 rfl) rfl
theorem q1528 : (Jvm.Cond.classLink "FirstdanceAgencyLaw" (116 : Nat) "FirstdanceAgencyModel") ∈ lw_all := lw_g (lw_at lw_m6 229 rfl) rfl
theorem q1530 : (Jvm.Cond.methodLink "FirstdanceAgencyLaw" (118 : Nat) ({ cls := "FirstdanceAgencyModel", name := "<init>", desc := "()V" } : Jvm.MethodName)) ∈ lw_all := lw_g (lw_at lw_m6 231 rfl) rfl
theorem q1580 : (Jvm.Cond.methodLink "FirstdanceAgencyLaw" (126 : Nat) ({ cls := "FirstdanceAgencyModel", name := "thrown", desc := "()I" } : Jvm.MethodName)) ∈ lw_all := lw_g (lw_at lw_m7 41 rfl) rfl
theorem q1584 : (Jvm.Cond.methodLink "FirstdanceAgencyLaw" (125 : Nat) ({ cls := "FirstdanceAgencyModel", name := "player", desc := "(IIII)I" } : Jvm.MethodName)) ∈ lw_all := lw_g (lw_at lw_m7 45 rfl) rfl
theorem q1631 : (Jvm.Cond.methodLink "FirstdanceAgencyLaw" (133 : Nat) ({ cls := "FirstdanceAgencyModel", name := "learn", desc := "(II)I" } : Jvm.MethodName)) ∈ lw_all := lw_g (lw_at lw_m7 92 rfl) rfl
theorem q1646 : (Jvm.Cond.methodLink "FirstdanceAgencyLaw" (136 : Nat) ({ cls := "FirstdanceAgencyModel", name := "song", desc := "(IIII)I" } : Jvm.MethodName)) ∈ lw_all := lw_g (lw_at lw_m7 107 rfl) rfl
theorem q1650 : (Jvm.Cond.methodLink "FirstdanceAgencyLaw" (140 : Nat) ({ cls := "FirstdanceAgencyModel", name := "feud", desc := "(IIZ)Z" } : Jvm.MethodName)) ∈ lw_all := lw_g (lw_at lw_m7 111 rfl) rfl
theorem q1657 : (Jvm.Cond.methodLink "FirstdanceAgencyLaw" (144 : Nat) ({ cls := "FirstdanceAgencyModel", name := "road", desc := "(III)I" } : Jvm.MethodName)) ∈ lw_all := lw_g (lw_at lw_m7 118 rfl) rfl
theorem q1668 : (Jvm.Cond.methodLink "FirstdanceAgencyLaw" (148 : Nat) ({ cls := "FirstdanceAgencyModel", name := "band", desc := "(I)I" } : Jvm.MethodName)) ∈ lw_all := lw_g (lw_at lw_m7 129 rfl) rfl
theorem q1679 : (Jvm.Cond.methodLink "FirstdanceAgencyLaw" (152 : Nat) ({ cls := "FirstdanceAgencyModel", name := "ask", desc := "(IIIIII)I" } : Jvm.MethodName)) ∈ lw_all := lw_g (lw_at lw_m7 140 rfl) rfl
theorem q1741 : (Jvm.Cond.methodLink "FirstdanceAgencyLaw" (155 : Nat) ({ cls := "FirstdanceAgencyModel", name := "fix", desc := "(I)I" } : Jvm.MethodName)) ∈ lw_all := lw_g (lw_at lw_m7 202 rfl) rfl
theorem q1852 : (Jvm.Cond.methodLink "FirstdanceAgencyLaw" (158 : Nat) ({ cls := "FirstdanceAgencyModel", name := "cancel", desc := "(I)I" } : Jvm.MethodName)) ∈ lw_all := lw_g (lw_at lw_m8 73 rfl) rfl
theorem q1861 : (Jvm.Cond.methodLink "FirstdanceAgencyLaw" (161 : Nat) ({ cls := "FirstdanceAgencyModel", name := "ill", desc := "(II)I" } : Jvm.MethodName)) ∈ lw_all := lw_g (lw_at lw_m8 82 rfl) rfl
theorem q1869 : (Jvm.Cond.methodLink "FirstdanceAgencyLaw" (164 : Nat) ({ cls := "FirstdanceAgencyModel", name := "late", desc := "(II)I" } : Jvm.MethodName)) ∈ lw_all := lw_g (lw_at lw_m8 90 rfl) rfl
theorem q1878 : (Jvm.Cond.methodLink "FirstdanceAgencyLaw" (167 : Nat) ({ cls := "FirstdanceAgencyModel", name := "pass", desc := "(I)I" } : Jvm.MethodName)) ∈ lw_all := lw_g (lw_at lw_m8 99 rfl) rfl
theorem q1909 : (Jvm.Cond.methodLink "FirstdanceAgencyLaw" (170 : Nat) ({ cls := "FirstdanceAgencyModel", name := "ofPlayer", desc := "(II)I" } : Jvm.MethodName)) ∈ lw_all := lw_g (lw_at lw_m8 130 rfl) rfl
theorem q1921 : (Jvm.Cond.methodLink "FirstdanceAgencyLaw" (173 : Nat) ({ cls := "FirstdanceAgencyModel", name := "ofSong", desc := "(II)I" } : Jvm.MethodName)) ∈ lw_all := lw_g (lw_at lw_m8 142 rfl) rfl
theorem q1933 : (Jvm.Cond.methodLink "FirstdanceAgencyLaw" (176 : Nat) ({ cls := "FirstdanceAgencyModel", name := "ofBand", desc := "(II)I" } : Jvm.MethodName)) ∈ lw_all := lw_g (lw_at lw_m8 154 rfl) rfl
theorem q1941 : (Jvm.Cond.methodLink "FirstdanceAgencyLaw" (179 : Nat) ({ cls := "FirstdanceAgencyModel", name := "ofWedding", desc := "(II)I" } : Jvm.MethodName)) ∈ lw_all := lw_g (lw_at lw_m8 162 rfl) rfl
theorem q1949 : (Jvm.Cond.methodLink "FirstdanceAgencyLaw" (182 : Nat) ({ cls := "FirstdanceAgencyModel", name := "drive", desc := "(II)I" } : Jvm.MethodName)) ∈ lw_all := lw_g (lw_at lw_m8 170 rfl) rfl
theorem q1953 : (Jvm.Cond.methodLink "FirstdanceAgencyLaw" (185 : Nat) ({ cls := "FirstdanceAgencyModel", name := "free", desc := "(II)Z" } : Jvm.MethodName)) ∈ lw_all := lw_g (lw_at lw_m8 174 rfl) rfl
theorem q1957 : (Jvm.Cond.methodLink "FirstdanceAgencyLaw" (188 : Nat) ({ cls := "FirstdanceAgencyModel", name := "filling", desc := "(II)I" } : Jvm.MethodName)) ∈ lw_all := lw_g (lw_at lw_m8 178 rfl) rfl
theorem q1973 : (Jvm.Cond.methodLink "FirstdanceAgencyLaw" (192 : Nat) ({ cls := "FirstdanceAgencyModel", name := "set", desc := "(IZ)I" } : Jvm.MethodName)) ∈ lw_all := lw_g (lw_at lw_m8 194 rfl) rfl
theorem q1981 : (Jvm.Cond.methodLink "FirstdanceAgencyLaw" (195 : Nat) ({ cls := "FirstdanceAgencyModel", name := "songs", desc := "(I)Ljava/lang/String;" } : Jvm.MethodName)) ∈ lw_all := lw_g (lw_at lw_m8 202 rfl) rfl
theorem q1994 : (Jvm.Cond.methodLink "FirstdanceAgencyLaw" (204 : Nat) ({ cls := "FirstdanceAgencyModel", name := "desk", desc := "(I)I" } : Jvm.MethodName)) ∈ lw_all := lw_g (lw_at lw_m8 215 rfl) rfl
theorem q2010 : (Jvm.Cond.methodLink "FirstdanceAgencyLaw" (207 : Nat) ({ cls := "FirstdanceAgencyModel", name := "tell", desc := "(I)Ljava/lang/String;" } : Jvm.MethodName)) ∈ lw_all := lw_g (lw_at lw_m8 231 rfl) rfl
theorem q2023 : (Jvm.Cond.methodLink "FirstdanceAgencyLaw" (210 : Nat) ({ cls := "FirstdanceAgencyModel", name := "wouldLose", desc := "(II)I" } : Jvm.MethodName)) ∈ lw_all := lw_g (lw_at lw_m9 4 rfl) rfl
theorem q2027 : (Jvm.Cond.methodLink "FirstdanceAgencyLaw" (213 : Nat) ({ cls := "FirstdanceAgencyModel", name := "plan", desc := "(IZ)I" } : Jvm.MethodName)) ∈ lw_all := lw_g (lw_at lw_m9 8 rfl) rfl
theorem q2036 : (Jvm.Cond.methodLink "FirstdanceAgencyLaw" (216 : Nat) ({ cls := "FirstdanceAgencyModel", name := "wouldCancel", desc := "(I)I" } : Jvm.MethodName)) ∈ lw_all := lw_g (lw_at lw_m9 17 rfl) rfl
theorem q2040 : (Jvm.Cond.methodLink "FirstdanceAgencyLaw" (219 : Nat) ({ cls := "FirstdanceAgencyModel", name := "key", desc := "(I)I" } : Jvm.MethodName)) ∈ lw_all := lw_g (lw_at lw_m9 21 rfl) rfl
theorem q2044 : (Jvm.Cond.methodLink "FirstdanceAgencyLaw" (224 : Nat) ({ cls := "FirstdanceAgencyModel", name := "isSound", desc := "()Z" } : Jvm.MethodName)) ∈ lw_all := lw_g (lw_at lw_m9 25 rfl) rfl
theorem q2052 : (Jvm.Cond.methodLink "FirstdanceAgencyLaw" (229 : Nat) ({ cls := "FirstdanceAgencyModel", name := "digest", desc := "()J" } : Jvm.MethodName)) ∈ lw_all := lw_g (lw_at lw_m9 33 rfl) rfl
theorem q2062 : (Jvm.Cond.methodLink "FirstdanceAgencyLaw" (196 : Nat) ({ cls := "java/lang/String", name := "equals", desc := "(Ljava/lang/Object;)Z" } : Jvm.MethodName)) ∈ lw_all := lw_g (lw_at lw_m9 43 rfl) rfl

theorem q1256 : (Jvm.Cond.sameMethod "[B" "java/lang/Object" "clone" "()Ljava/lang/Object;") ∈ lw_all := lw_g (lw_at lw_m5 197 rfl) rfl
set_option maxRecDepth 100000
theorem q1259 : (Jvm.Cond.selects "[B" ({ cls := "[B", name := "clone", desc := "()Ljava/lang/Object;" } : Jvm.MethodName) ({ cls := "java/lang/Object", name := "clone", desc := "()Ljava/lang/Object;" } : Jvm.MethodName)) ∈ lw_all := lw_g (lw_at lw_m5 200 rfl) rfl
theorem q1260 : (Jvm.Cond.castable "[B" "java/lang/Cloneable") ∈ lw_tbl := lw_at lw_m5 201 rfl
theorem q2116 : (Jvm.Cond.castable "[B" "java/lang/Object") ∈ lw_tbl := lw_at lw_m9 97 rfl

theorem q2114 : (Jvm.Cond.castable "[I" "java/lang/Object") ∈ lw_tbl := lw_at lw_m9 95 rfl
set_option maxRecDepth 100000

theorem q2111 : (Jvm.Cond.sameMethod "[Ljava/lang/Object;" "java/lang/Object" "getClass" "()Ljava/lang/Class;") ∈ lw_all := lw_g (lw_at lw_m9 92 rfl) rfl
set_option maxRecDepth 100000
theorem q2112 : (Jvm.Cond.selects "[Ljava/lang/Object;" ({ cls := "java/lang/Object", name := "getClass", desc := "()Ljava/lang/Class;" } : Jvm.MethodName) ({ cls := "java/lang/Object", name := "getClass", desc := "()Ljava/lang/Class;" } : Jvm.MethodName)) ∈ lw_all := lw_g (lw_at lw_m9 93 rfl) rfl
theorem q2115 : (Jvm.Cond.castable "[Ljava/lang/Object;" "java/lang/Object") ∈ lw_tbl := lw_at lw_m9 96 rfl

theorem q2117 : (Jvm.Cond.castable "[Z" "java/lang/Object") ∈ lw_tbl := lw_at lw_m9 98 rfl
set_option maxRecDepth 100000

theorem q127 : (Jvm.Cond.initialized "java/lang/Integer$IntegerCache") ∈ lw_all := lw_g (lw_at lw_m1 28 rfl) rfl
set_option maxRecDepth 100000
theorem q634 : (Jvm.Cond.laysStatic "java/lang/Integer$IntegerCache" "high" "I") ∈ lw_tbl := lw_at lw_m3 55 rfl
theorem q636 : (Jvm.Cond.laysStatic "java/lang/Integer$IntegerCache" "cache" "[Ljava/lang/Integer;") ∈ lw_tbl := lw_at lw_m3 57 rfl

theorem q109 : (Jvm.Cond.initialized "java/lang/System") ∈ lw_all := lw_g (lw_at lw_m1 10 rfl) rfl
set_option maxRecDepth 100000
theorem q296 : (Jvm.Cond.static ({ cls := "java/lang/System", name := "arraycopy", desc := "(Ljava/lang/Object;ILjava/lang/Object;II)V" } : Jvm.MethodName)) ∈ lw_all := lw_g (lw_at lw_m1 197 rfl) rfl
theorem q297 : (Jvm.Cond.native ({ cls := "java/lang/System", name := "arraycopy", desc := "(Ljava/lang/Object;ILjava/lang/Object;II)V" } : Jvm.MethodName)) ∈ lw_all := lw_g (lw_at lw_m1 198 rfl) rfl

theorem q1831 : (Jvm.Cond.interfaceMethod "java/util/Iterator" "java/util/Iterator" "hasNext" "()Z") ∈ lw_tbl := lw_at lw_m8 52 rfl
set_option maxRecDepth 100000
theorem q1832 : (Jvm.Cond.declares ({ cls := "java/util/Iterator", name := "hasNext", desc := "()Z" } : Jvm.MethodName)) ∈ lw_tbl := lw_at lw_m8 53 rfl
theorem q1841 : (Jvm.Cond.interfaceMethod "java/util/Iterator" "java/util/Iterator" "next" "()Ljava/lang/Object;") ∈ lw_tbl := lw_at lw_m8 62 rfl
theorem q1842 : (Jvm.Cond.declares ({ cls := "java/util/Iterator", name := "next", desc := "()Ljava/lang/Object;" } : Jvm.MethodName)) ∈ lw_tbl := lw_at lw_m8 63 rfl

theorem q225 : (Jvm.Cond.interfaceMethod "java/util/List" "java/util/List" "add" "(Ljava/lang/Object;)Z") ∈ lw_tbl := lw_at lw_m1 126 rfl
set_option maxRecDepth 100000
theorem q226 : (Jvm.Cond.declares ({ cls := "java/util/List", name := "add", desc := "(Ljava/lang/Object;)Z" } : Jvm.MethodName)) ∈ lw_tbl := lw_at lw_m1 127 rfl
theorem q332 : (Jvm.Cond.interfaceMethod "java/util/List" "java/util/List" "size" "()I") ∈ lw_tbl := lw_at lw_m1 233 rfl
theorem q333 : (Jvm.Cond.declares ({ cls := "java/util/List", name := "size", desc := "()I" } : Jvm.MethodName)) ∈ lw_tbl := lw_at lw_m1 234 rfl
theorem q345 : (Jvm.Cond.interfaceMethod "java/util/List" "java/util/List" "get" "(I)Ljava/lang/Object;") ∈ lw_tbl := lw_at lw_m2 6 rfl
theorem q346 : (Jvm.Cond.declares ({ cls := "java/util/List", name := "get", desc := "(I)Ljava/lang/Object;" } : Jvm.MethodName)) ∈ lw_tbl := lw_at lw_m2 7 rfl
theorem q725 : (Jvm.Cond.interfaceMethod "java/util/List" "java/util/List" "set" "(ILjava/lang/Object;)Ljava/lang/Object;") ∈ lw_tbl := lw_at lw_m3 146 rfl
theorem q726 : (Jvm.Cond.declares ({ cls := "java/util/List", name := "set", desc := "(ILjava/lang/Object;)Ljava/lang/Object;" } : Jvm.MethodName)) ∈ lw_tbl := lw_at lw_m3 147 rfl

theorem q199 : (Jvm.Cond.arrayClass Jvm.ClassFile.FieldType.int) ∈ lw_all := lw_g (lw_at lw_m1 100 rfl) rfl
set_option maxRecDepth 100000
theorem q290 : (Jvm.Cond.arrayOver (Jvm.ClassFile.FieldType.object "java/lang/Object")) ∈ lw_tbl := lw_at lw_m1 191 rfl
theorem q825 : (Jvm.Cond.arrayClass Jvm.ClassFile.FieldType.byte) ∈ lw_all := lw_g (lw_at lw_m4 6 rfl) rfl
theorem q936 : (Jvm.Cond.arrayClass Jvm.ClassFile.FieldType.boolean) ∈ lw_all := lw_g (lw_at lw_m4 117 rfl) rfl

