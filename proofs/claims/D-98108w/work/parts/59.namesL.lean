/-! NAMES (from claim/names): the law's own code and words -/
set_option maxRecDepth 100000
abbrev cL_law : ByteArray := code
def dkwL_law_83 : List UInt8 := [7, 96, 46, 42, 29, 8, 96, 46, 182, 1, 37, 159, 0, 5, 3, 172, 132, 3, 6, 167, 247, 104, 4, 172]
abbrev dktL_law_83 : List UInt8 := dkwL_law_83 ++ []
def dkwL_law_82 : List UInt8 := [8, 96, 46, 182, 1, 34, 44, 42, 29, 4, 96, 46, 42, 29, 5, 96, 46, 42, 29, 6, 96, 46, 42, 29]
abbrev dktL_law_82 : List UInt8 := dkwL_law_82 ++ dktL_law_83
def dkwL_law_81 : List UInt8 := [172, 43, 42, 29, 4, 96, 46, 42, 29, 5, 96, 46, 42, 29, 6, 96, 46, 42, 29, 7, 96, 46, 42, 29]
abbrev dktL_law_81 : List UInt8 := dkwL_law_81 ++ dktL_law_82
def dkwL_law_80 : List UInt8 := [96, 46, 133, 16, 32, 121, 42, 29, 7, 96, 46, 133, 20, 1, 27, 127, 129, 182, 1, 33, 159, 0, 68, 3]
abbrev dktL_law_80 : List UInt8 := dkwL_law_80 ++ dktL_law_81
def dkwL_law_79 : List UInt8 := [46, 133, 20, 1, 27, 127, 129, 182, 1, 29, 44, 42, 29, 4, 96, 46, 42, 29, 5, 96, 46, 42, 29, 6]
abbrev dktL_law_79 : List UInt8 := dkwL_law_79 ++ dktL_law_80
def dkwL_law_78 : List UInt8 := [43, 42, 29, 4, 96, 46, 42, 29, 5, 96, 46, 42, 29, 6, 96, 46, 133, 16, 32, 121, 42, 29, 7, 96]
abbrev dktL_law_78 : List UInt8 := dkwL_law_78 ++ dktL_law_79
def dkwL_law_77 : List UInt8 := [44, 42, 29, 4, 96, 46, 42, 29, 5, 96, 46, 42, 29, 6, 96, 46, 182, 1, 26, 159, 0, 141, 3, 172]
abbrev dktL_law_77 : List UInt8 := dkwL_law_77 ++ dktL_law_78
def dkwL_law_76 : List UInt8 := [159, 0, 184, 3, 172, 43, 42, 29, 4, 96, 46, 42, 29, 5, 96, 46, 42, 29, 6, 96, 46, 182, 1, 23]
abbrev dktL_law_76 : List UInt8 := dkwL_law_76 ++ dktL_law_77
def dkwL_law_75 : List UInt8 := [159, 0, 207, 3, 172, 43, 42, 29, 4, 96, 46, 182, 1, 19, 44, 42, 29, 4, 96, 46, 182, 1, 22]
abbrev dktL_law_75 : List UInt8 := dkwL_law_75 ++ dktL_law_76
def dkwL_law_74 : List UInt8 := [159, 0, 230, 3, 172, 43, 42, 29, 4, 96, 46, 182, 1, 15, 44, 42, 29, 4, 96, 46, 182, 1, 18]
abbrev dktL_law_74 : List UInt8 := dkwL_law_74 ++ dktL_law_75
def dkwL_law_73 : List UInt8 := [159, 0, 253, 3, 172, 43, 42, 29, 4, 96, 46, 182, 1, 11, 44, 42, 29, 4, 96, 46, 182, 1, 14]
abbrev dktL_law_73 : List UInt8 := dkwL_law_73 ++ dktL_law_74
def dkwL_law_72 : List UInt8 := [46, 42, 29, 5, 96, 46, 42, 29, 6, 96, 46, 42, 29, 7, 96, 46, 42, 29, 8, 96, 46, 182, 1, 10]
abbrev dktL_law_72 : List UInt8 := dkwL_law_72 ++ dktL_law_73
def dkwL_law_71 : List UInt8 := [46, 42, 29, 6, 96, 46, 42, 29, 7, 96, 46, 42, 29, 8, 96, 46, 182, 1, 7, 44, 42, 29, 4, 96]
abbrev dktL_law_71 : List UInt8 := dkwL_law_71 ++ dktL_law_72
def dkwL_law_70 : List UInt8 := [46, 42, 29, 5, 96, 46, 182, 1, 6, 159, 1, 60, 3, 172, 43, 42, 29, 4, 96, 46, 42, 29, 5, 96]
abbrev dktL_law_70 : List UInt8 := dkwL_law_70 ++ dktL_law_71
def dkwL_law_69 : List UInt8 := [159, 1, 93, 3, 172, 43, 42, 29, 4, 96, 46, 42, 29, 5, 96, 46, 182, 1, 3, 44, 42, 29, 4, 96]
abbrev dktL_law_69 : List UInt8 := dkwL_law_69 ++ dktL_law_70
def dkwL_law_68 : List UInt8 := [182, 0, 255, 44, 42, 29, 4, 96, 46, 42, 29, 5, 96, 46, 42, 29, 6, 96, 46, 182, 1, 2]
abbrev dktL_law_68 : List UInt8 := dkwL_law_68 ++ dktL_law_69
def dkwL_law_67 : List UInt8 := [182, 0, 254, 159, 1, 136, 3, 172, 43, 42, 29, 4, 96, 46, 42, 29, 5, 96, 46, 42, 29, 6, 96, 46]
abbrev dktL_law_67 : List UInt8 := dkwL_law_67 ++ dktL_law_68
def dkwL_law_66 : List UInt8 := [182, 0, 250, 159, 1, 159, 3, 172, 43, 42, 29, 4, 96, 46, 182, 0, 251, 44, 42, 29, 4, 96, 46]
abbrev dktL_law_66 : List UInt8 := dkwL_law_66 ++ dktL_law_67
def dkwL_law_65 : List UInt8 := [29, 4, 96, 46, 42, 29, 5, 96, 46, 182, 0, 246, 159, 1, 172, 3, 172, 43, 182, 0, 247, 44]
abbrev dktL_law_65 : List UInt8 := dkwL_law_65 ++ dktL_law_66
def dkwL_law_64 : List UInt8 := [182, 0, 242, 159, 1, 205, 3, 172, 43, 42, 29, 4, 96, 46, 42, 29, 5, 96, 46, 182, 0, 243, 44, 42]
abbrev dktL_law_64 : List UInt8 := dkwL_law_64 ++ dktL_law_65
def dkwL_law_63 : List UInt8 := [182, 0, 238, 159, 1, 228, 3, 172, 43, 42, 29, 4, 96, 46, 182, 0, 239, 44, 42, 29, 4, 96, 46]
abbrev dktL_law_63 : List UInt8 := dkwL_law_63 ++ dktL_law_64
def dkwL_law_62 : List UInt8 := [182, 0, 234, 159, 1, 251, 3, 172, 43, 42, 29, 4, 96, 46, 182, 0, 235, 44, 42, 29, 4, 96, 46]
abbrev dktL_law_62 : List UInt8 := dkwL_law_62 ++ dktL_law_63
def dkwL_law_61 : List UInt8 := [4, 96, 46, 42, 29, 5, 96, 46, 182, 0, 231, 44, 42, 29, 4, 96, 46, 42, 29, 5, 96, 46]
abbrev dktL_law_61 : List UInt8 := dkwL_law_61 ++ dktL_law_62
def dkwL_law_60 : List UInt8 := [29, 4, 96, 46, 182, 0, 227, 44, 42, 29, 4, 96, 46, 182, 0, 230, 159, 2, 28, 3, 172, 43, 42, 29]
abbrev dktL_law_60 : List UInt8 := dkwL_law_60 ++ dktL_law_61
def dkwL_law_59 : List UInt8 := [182, 0, 223, 44, 42, 29, 4, 96, 46, 42, 29, 5, 96, 46, 182, 0, 226, 159, 2, 51, 3, 172, 43, 42]
abbrev dktL_law_59 : List UInt8 := dkwL_law_59 ++ dktL_law_60
def dkwL_law_58 : List UInt8 := [42, 29, 4, 96, 46, 182, 0, 222, 159, 2, 84, 3, 172, 43, 42, 29, 4, 96, 46, 42, 29, 5, 96, 46]
abbrev dktL_law_58 : List UInt8 := dkwL_law_58 ++ dktL_law_59
def dkwL_law_57 : List UInt8 := [172, 43, 182, 0, 215, 44, 182, 0, 218, 159, 2, 107, 3, 172, 43, 42, 29, 4, 96, 46, 182, 0, 219, 44]
abbrev dktL_law_57 : List UInt8 := dkwL_law_57 ++ dktL_law_58
def dkwL_law_56 : List UInt8 := [3, 172, 43, 42, 29, 4, 96, 46, 182, 0, 211, 44, 42, 29, 4, 96, 46, 182, 0, 214, 159, 2, 120, 3]
abbrev dktL_law_56 : List UInt8 := dkwL_law_56 ++ dktL_law_57
def dkwL_law_55 : List UInt8 := [29, 5, 96, 46, 182, 0, 207, 44, 42, 29, 4, 96, 46, 42, 29, 5, 96, 46, 182, 0, 210, 159, 2, 143]
abbrev dktL_law_55 : List UInt8 := dkwL_law_55 ++ dktL_law_56
def dkwL_law_54 : List UInt8 := [182, 0, 203, 44, 42, 29, 4, 96, 46, 182, 0, 206, 159, 2, 176, 3, 172, 43, 42, 29, 4, 96, 46, 42]
abbrev dktL_law_54 : List UInt8 := dkwL_law_54 ++ dktL_law_55
def dkwL_law_53 : List UInt8 := [42, 29, 4, 96, 46, 42, 29, 5, 96, 46, 182, 0, 202, 159, 2, 199, 3, 172, 43, 42, 29, 4, 96, 46]
abbrev dktL_law_53 : List UInt8 := dkwL_law_53 ++ dktL_law_54
def dkwL_law_52 : List UInt8 := [46, 182, 0, 198, 159, 2, 232, 3, 172, 43, 42, 29, 4, 96, 46, 42, 29, 5, 96, 46, 182, 0, 199, 44]
abbrev dktL_law_52 : List UInt8 := dkwL_law_52 ++ dktL_law_53
def dkwL_law_51 : List UInt8 := [43, 42, 29, 4, 96, 46, 42, 29, 5, 96, 46, 182, 0, 195, 44, 42, 29, 4, 96, 46, 42, 29, 5, 96]
abbrev dktL_law_51 : List UInt8 := dkwL_law_51 ++ dktL_law_52
def dkwL_law_50 : List UInt8 := [172, 43, 42, 29, 4, 96, 46, 182, 0, 191, 44, 42, 29, 4, 96, 46, 182, 0, 194, 159, 3, 9, 3, 172]
abbrev dktL_law_50 : List UInt8 := dkwL_law_50 ++ dktL_law_51
def dkwL_law_49 : List UInt8 := [182, 0, 183, 44, 182, 0, 186, 159, 3, 45, 3, 172, 43, 182, 0, 187, 44, 182, 0, 190, 159, 3, 32, 3]
abbrev dktL_law_49 : List UInt8 := dkwL_law_49 ++ dktL_law_50
def dkwL_law_48 : List UInt8 := [29, 4, 96, 46, 182, 0, 179, 44, 42, 29, 4, 96, 46, 182, 0, 182, 159, 3, 58, 3, 172, 43]
abbrev dktL_law_48 : List UInt8 := dkwL_law_48 ++ dktL_law_49
def dkwL_law_47 : List UInt8 := [182, 0, 175, 44, 42, 29, 4, 96, 46, 42, 29, 5, 96, 46, 182, 0, 178, 159, 3, 81, 3, 172, 43, 42]
abbrev dktL_law_47 : List UInt8 := dkwL_law_47 ++ dktL_law_48
def dkwL_law_46 : List UInt8 := [182, 0, 171, 44, 182, 0, 174, 159, 3, 114, 3, 172, 43, 42, 29, 4, 96, 46, 42, 29, 5, 96, 46]
abbrev dktL_law_46 : List UInt8 := dkwL_law_46 ++ dktL_law_47
def dkwL_law_45 : List UInt8 := [42, 29, 4, 96, 46, 182, 0, 166, 44, 42, 29, 4, 96, 46, 182, 0, 170, 148, 153, 3, 127, 3, 172, 43]
abbrev dktL_law_45 : List UInt8 := dkwL_law_45 ++ dktL_law_46
def dkwL_law_44 : List UInt8 := [43, 42, 29, 4, 96, 46, 182, 0, 162, 44, 42, 29, 4, 96, 46, 182, 0, 165, 159, 3, 151, 3, 172, 43]
abbrev dktL_law_44 : List UInt8 := dkwL_law_44 ++ dktL_law_45
def dkwL_law_43 : List UInt8 := [172, 43, 42, 29, 4, 96, 46, 182, 0, 158, 44, 42, 29, 4, 96, 46, 182, 0, 161, 159, 3, 174, 3, 172]
abbrev dktL_law_43 : List UInt8 := dkwL_law_43 ++ dktL_law_44
def dkwL_law_42 : List UInt8 := [182, 0, 150, 44, 182, 0, 153, 159, 3, 210, 3, 172, 43, 182, 0, 154, 44, 182, 0, 157, 159, 3, 197, 3]
abbrev dktL_law_42 : List UInt8 := dkwL_law_42 ++ dktL_law_43
def dkwL_law_41 : List UInt8 := [182, 0, 145, 159, 3, 236, 3, 172, 43, 182, 0, 146, 44, 182, 0, 149, 159, 3, 223, 3, 172, 43]
abbrev dktL_law_41 : List UInt8 := dkwL_law_41 ++ dktL_law_42
def dkwL_law_40 : List UInt8 := [182, 0, 141, 159, 4, 3, 3, 172, 43, 42, 29, 4, 96, 46, 182, 0, 142, 44, 42, 29, 4, 96, 46]
abbrev dktL_law_40 : List UInt8 := dkwL_law_40 ++ dktL_law_41
def dkwL_law_39 : List UInt8 := [182, 0, 137, 159, 4, 26, 3, 172, 43, 42, 29, 4, 96, 46, 182, 0, 138, 44, 42, 29, 4, 96, 46]
abbrev dktL_law_39 : List UInt8 := dkwL_law_39 ++ dktL_law_40
def dkwL_law_38 : List UInt8 := [29, 4, 96, 46, 42, 29, 5, 96, 46, 182, 0, 133, 159, 4, 39, 3, 172, 43, 182, 0, 134, 44]
abbrev dktL_law_38 : List UInt8 := dkwL_law_38 ++ dktL_law_39
def dkwL_law_37 : List UInt8 := [182, 0, 129, 159, 4, 72, 3, 172, 43, 42, 29, 4, 96, 46, 42, 29, 5, 96, 46, 182, 0, 130, 44, 42]
abbrev dktL_law_37 : List UInt8 := dkwL_law_37 ++ dktL_law_38
def dkwL_law_36 : List UInt8 := [182, 0, 125, 159, 4, 95, 3, 172, 43, 42, 29, 4, 96, 46, 182, 0, 126, 44, 42, 29, 4, 96, 46]
abbrev dktL_law_36 : List UInt8 := dkwL_law_36 ++ dktL_law_37
def dkwL_law_35 : List UInt8 := [159, 4, 121, 3, 172, 43, 182, 0, 118, 44, 182, 0, 121, 159, 4, 108, 3, 172, 43, 182, 0, 122, 44]
abbrev dktL_law_35 : List UInt8 := dkwL_law_35 ++ dktL_law_36
def dkwL_law_34 : List UInt8 := [42, 29, 5, 96, 46, 182, 0, 114, 44, 42, 29, 4, 96, 46, 42, 29, 5, 96, 46, 182, 0, 117]
abbrev dktL_law_34 : List UInt8 := dkwL_law_34 ++ dktL_law_35
def dkwL_law_33 : List UInt8 := [159, 4, 167, 3, 172, 43, 182, 0, 110, 44, 182, 0, 113, 159, 4, 154, 3, 172, 43, 42, 29, 4, 96, 46]
abbrev dktL_law_33 : List UInt8 := dkwL_law_33 ++ dktL_law_34
def dkwL_law_32 : List UInt8 := [159, 4, 190, 3, 172, 43, 42, 29, 4, 96, 46, 182, 0, 106, 44, 42, 29, 4, 96, 46, 182, 0, 109]
abbrev dktL_law_32 : List UInt8 := dkwL_law_32 ++ dktL_law_33
def dkwL_law_31 : List UInt8 := [46, 42, 29, 5, 96, 46, 182, 0, 101, 159, 4, 203, 3, 172, 43, 182, 0, 102, 44, 182, 0, 105]
abbrev dktL_law_31 : List UInt8 := dkwL_law_31 ++ dktL_law_32
def dkwL_law_30 : List UInt8 := [159, 4, 236, 3, 172, 43, 42, 29, 4, 96, 46, 42, 29, 5, 96, 46, 182, 0, 98, 44, 42, 29, 4, 96]
abbrev dktL_law_30 : List UInt8 := dkwL_law_30 ++ dktL_law_31
def dkwL_law_29 : List UInt8 := [182, 0, 94, 44, 42, 29, 4, 96, 46, 42, 29, 5, 96, 46, 42, 29, 6, 96, 46, 182, 0, 97]
abbrev dktL_law_29 : List UInt8 := dkwL_law_29 ++ dktL_law_30
def dkwL_law_28 : List UInt8 := [182, 0, 93, 159, 5, 23, 3, 172, 43, 42, 29, 4, 96, 46, 42, 29, 5, 96, 46, 42, 29, 6, 96, 46]
abbrev dktL_law_28 : List UInt8 := dkwL_law_28 ++ dktL_law_29
def dkwL_law_27 : List UInt8 := [29, 4, 96, 46, 42, 29, 5, 96, 46, 182, 0, 90, 44, 42, 29, 4, 96, 46, 42, 29, 5, 96, 46]
abbrev dktL_law_27 : List UInt8 := dkwL_law_27 ++ dktL_law_28
def dkwL_law_26 : List UInt8 := [46, 182, 0, 85, 159, 5, 69, 3, 172, 43, 182, 0, 86, 44, 182, 0, 89, 159, 5, 56, 3, 172, 43, 42]
abbrev dktL_law_26 : List UInt8 := dkwL_law_26 ++ dktL_law_27
def dkwL_law_25 : List UInt8 := [43, 42, 29, 4, 96, 46, 42, 29, 5, 96, 46, 182, 0, 82, 44, 42, 29, 4, 96, 46, 42, 29, 5, 96]
abbrev dktL_law_25 : List UInt8 := dkwL_law_25 ++ dktL_law_26
def dkwL_law_24 : List UInt8 := [44, 42, 29, 4, 96, 46, 42, 29, 5, 96, 46, 42, 29, 6, 96, 46, 182, 0, 81, 159, 5, 102, 3, 172]
abbrev dktL_law_24 : List UInt8 := dkwL_law_24 ++ dktL_law_25
def dkwL_law_23 : List UInt8 := [159, 5, 145, 3, 172, 43, 42, 29, 4, 96, 46, 42, 29, 5, 96, 46, 42, 29, 6, 96, 46, 182, 0, 78]
abbrev dktL_law_23 : List UInt8 := dkwL_law_23 ++ dktL_law_24
def dkwL_law_22 : List UInt8 := [182, 0, 74, 44, 42, 29, 4, 96, 46, 42, 29, 5, 96, 46, 42, 29, 6, 96, 46, 182, 0, 77]
abbrev dktL_law_22 : List UInt8 := dkwL_law_22 ++ dktL_law_23
def dkwL_law_21 : List UInt8 := [182, 0, 73, 159, 5, 188, 3, 172, 43, 42, 29, 4, 96, 46, 42, 29, 5, 96, 46, 42, 29, 6, 96, 46]
abbrev dktL_law_21 : List UInt8 := dkwL_law_21 ++ dktL_law_22
def dkwL_law_20 : List UInt8 := [29, 4, 96, 46, 42, 29, 5, 96, 46, 182, 0, 70, 44, 42, 29, 4, 96, 46, 42, 29, 5, 96, 46]
abbrev dktL_law_20 : List UInt8 := dkwL_law_20 ++ dktL_law_21
def dkwL_law_19 : List UInt8 := [182, 0, 66, 44, 42, 29, 4, 96, 46, 42, 29, 5, 96, 46, 182, 0, 69, 159, 5, 221, 3, 172, 43, 42]
abbrev dktL_law_19 : List UInt8 := dkwL_law_19 ++ dktL_law_20
def dkwL_law_18 : List UInt8 := [42, 29, 4, 96, 46, 182, 0, 65, 159, 5, 254, 3, 172, 43, 42, 29, 4, 96, 46, 42, 29, 5, 96, 46]
abbrev dktL_law_18 : List UInt8 := dkwL_law_18 ++ dktL_law_19
def dkwL_law_17 : List UInt8 := [46, 42, 29, 5, 96, 46, 182, 0, 61, 159, 6, 21, 3, 172, 43, 42, 29, 4, 96, 46, 182, 0, 62, 44]
abbrev dktL_law_17 : List UInt8 := dkwL_law_17 ++ dktL_law_18
def dkwL_law_16 : List UInt8 := [159, 6, 54, 3, 172, 43, 42, 29, 4, 96, 46, 42, 29, 5, 96, 46, 182, 0, 58, 44, 42, 29, 4, 96]
abbrev dktL_law_16 : List UInt8 := dkwL_law_16 ++ dktL_law_17
def dkwL_law_15 : List UInt8 := [159, 6, 77, 3, 172, 43, 42, 29, 4, 96, 46, 182, 0, 54, 44, 42, 29, 4, 96, 46, 182, 0, 57]
abbrev dktL_law_15 : List UInt8 := dkwL_law_15 ++ dktL_law_16
def dkwL_law_14 : List UInt8 := [159, 6, 100, 3, 172, 43, 42, 29, 4, 96, 46, 182, 0, 50, 44, 42, 29, 4, 96, 46, 182, 0, 53]
abbrev dktL_law_14 : List UInt8 := dkwL_law_14 ++ dktL_law_15
def dkwL_law_13 : List UInt8 := [182, 0, 45, 44, 42, 29, 4, 96, 46, 42, 29, 5, 96, 46, 42, 29, 6, 96, 46, 182, 0, 49]
abbrev dktL_law_13 : List UInt8 := dkwL_law_13 ++ dktL_law_14
def dkwL_law_12 : List UInt8 := [182, 0, 44, 159, 6, 143, 3, 172, 43, 42, 29, 4, 96, 46, 42, 29, 5, 96, 46, 42, 29, 6, 96, 46]
abbrev dktL_law_12 : List UInt8 := dkwL_law_12 ++ dktL_law_13
def dkwL_law_11 : List UInt8 := [42, 29, 4, 96, 46, 42, 29, 5, 96, 46, 182, 0, 41, 44, 42, 29, 4, 96, 46, 42, 29, 5, 96, 46]
abbrev dktL_law_11 : List UInt8 := dkwL_law_11 ++ dktL_law_12
def dkwL_law_10 : List UInt8 := [46, 182, 0, 37, 44, 42, 29, 4, 96, 46, 42, 29, 5, 96, 46, 182, 0, 40, 159, 6, 176, 3, 172, 43]
abbrev dktL_law_10 : List UInt8 := dkwL_law_10 ++ dktL_law_11
def dkwL_law_9 : List UInt8 := [46, 42, 29, 5, 96, 46, 182, 0, 36, 159, 6, 209, 3, 172, 43, 42, 29, 4, 96, 46, 42, 29, 5, 96]
abbrev dktL_law_9 : List UInt8 := dkwL_law_9 ++ dktL_law_10
def dkwL_law_8 : List UInt8 := [159, 6, 242, 3, 172, 43, 42, 29, 4, 96, 46, 42, 29, 5, 96, 46, 182, 0, 32, 44, 42, 29, 4, 96]
abbrev dktL_law_8 : List UInt8 := dkwL_law_8 ++ dktL_law_9
def dkwL_law_7 : List UInt8 := [159, 7, 9, 3, 172, 43, 42, 29, 4, 96, 46, 182, 0, 28, 44, 42, 29, 4, 96, 46, 182, 0, 31]
abbrev dktL_law_7 : List UInt8 := dkwL_law_7 ++ dktL_law_8
def dkwL_law_6 : List UInt8 := [44, 42, 29, 4, 96, 46, 182, 0, 22, 159, 7, 22, 3, 172, 43, 182, 0, 23, 44, 182, 0, 27]
abbrev dktL_law_6 : List UInt8 := dkwL_law_6 ++ dktL_law_7
def dkwL_law_5 : List UInt8 := [96, 46, 42, 29, 8, 96, 46, 182, 0, 17, 159, 7, 45, 3, 172, 43, 42, 29, 4, 96, 46, 182, 0, 18]
abbrev dktL_law_5 : List UInt8 := dkwL_law_5 ++ dktL_law_6
def dkwL_law_4 : List UInt8 := [96, 46, 182, 0, 13, 44, 42, 29, 4, 96, 46, 42, 29, 5, 96, 46, 42, 29, 6, 96, 46, 42, 29, 7]
abbrev dktL_law_4 : List UInt8 := dkwL_law_4 ++ dktL_law_5
def dkwL_law_3 : List UInt8 := [43, 42, 29, 4, 96, 46, 42, 29, 5, 96, 46, 42, 29, 6, 96, 46, 42, 29, 7, 96, 46, 42, 29, 8]
abbrev dktL_law_3 : List UInt8 := dkwL_law_3 ++ dktL_law_4
def dkwL_law_2 : List UInt8 := [170, 0, 0, 0, 0, 8, 134, 0, 0, 0, 0, 0, 0, 0, 67, 0, 0, 1, 31, 0, 0, 1, 94, 0, 0, 1, 117, 0, 0, 1, 130, 0, 0, 1, 153, 0, 0, 1, 186, 0, 0, 1, 219, 0, 0, 1, 252, 0, 0, 2, 39, 0, 0, 2, 62, 0, 0, 2, 85, 0, 0, 2, 118, 0, 0, 2, 141, 0, 0, 2, 174, 0, 0, 2, 207, 0, 0, 2, 250, 0, 0, 3, 37, 0, 0, 3, 70, 0, 0, 3, 83, 0, 0, 3, 116, 0, 0, 3, 159, 0, 0, 3, 192, 0, 0, 3, 205, 0, 0, 3, 228, 0, 0, 3, 241, 0, 0, 4, 18, 0, 0, 4, 31, 0, 0, 4, 44, 0, 0, 4, 67, 0, 0, 4, 100, 0, 0, 4, 113, 0, 0, 4, 136, 0, 0, 4, 159, 0, 0, 4, 172, 0, 0, 4, 185, 0, 0, 4, 198, 0, 0, 4, 221, 0, 0, 4, 244, 0, 0, 5, 12, 0, 0, 5, 25, 0, 0, 5, 58, 0, 0, 5, 81, 0, 0, 5, 94, 0, 0, 5, 107, 0, 0, 5, 130, 0, 0, 5, 163, 0, 0, 5, 196, 0, 0, 5, 219, 0, 0, 5, 252, 0, 0, 6, 19, 0, 0, 6, 32, 0, 0, 6, 55, 0, 0, 6, 88, 0, 0, 6, 111, 0, 0, 6, 144, 0, 0, 6, 167, 0, 0, 6, 190, 0, 0, 6, 223, 0, 0, 6, 236, 0, 0, 7, 3, 0, 0, 7, 46, 0, 0, 7, 79, 0, 0, 7, 142, 0, 0, 7, 165, 0, 0, 7, 188, 0, 0, 7, 211, 0, 0, 7, 254, 0, 0, 8, 71]
abbrev dktL_law_2 : List UInt8 := dkwL_law_2 ++ dktL_law_3
def dkwL_law_1 : List UInt8 := [163, 8, 149, 42, 29, 46, 16, 127, 126]
abbrev dktL_law_1 : List UInt8 := dkwL_law_1 ++ dktL_law_2
def dkwL_law_0 : List UInt8 := [187, 0, 7, 89, 183, 0, 9, 76, 187, 0, 10, 89, 183, 0, 12, 77, 3, 62, 29, 42, 190, 16, 6, 100]
abbrev dktL_law_0 : List UInt8 := dkwL_law_0 ++ dktL_law_1
theorem dksL_law_0 : cL_law.data.toList.drop 0 = dktL_law_0 := by decide +kernel
theorem dksL_law_1 : cL_law.data.toList.drop 24 = dktL_law_1 := dk_seg dksL_law_0 24 rfl rfl
theorem dksL_law_2 : cL_law.data.toList.drop 33 = dktL_law_2 := dk_seg dksL_law_1 9 rfl rfl
theorem dksL_law_3 : cL_law.data.toList.drop 320 = dktL_law_3 := dk_seg dksL_law_2 287 rfl rfl
theorem dksL_law_4 : cL_law.data.toList.drop 344 = dktL_law_4 := dk_seg dksL_law_3 24 rfl rfl
theorem dksL_law_5 : cL_law.data.toList.drop 368 = dktL_law_5 := dk_seg dksL_law_4 24 rfl rfl
theorem dksL_law_6 : cL_law.data.toList.drop 392 = dktL_law_6 := dk_seg dksL_law_5 24 rfl rfl
theorem dksL_law_7 : cL_law.data.toList.drop 414 = dktL_law_7 := dk_seg dksL_law_6 22 rfl rfl
theorem dksL_law_8 : cL_law.data.toList.drop 437 = dktL_law_8 := dk_seg dksL_law_7 23 rfl rfl
theorem dksL_law_9 : cL_law.data.toList.drop 461 = dktL_law_9 := dk_seg dksL_law_8 24 rfl rfl
theorem dksL_law_10 : cL_law.data.toList.drop 485 = dktL_law_10 := dk_seg dksL_law_9 24 rfl rfl
theorem dksL_law_11 : cL_law.data.toList.drop 509 = dktL_law_11 := dk_seg dksL_law_10 24 rfl rfl
theorem dksL_law_12 : cL_law.data.toList.drop 533 = dktL_law_12 := dk_seg dksL_law_11 24 rfl rfl
theorem dksL_law_13 : cL_law.data.toList.drop 557 = dktL_law_13 := dk_seg dksL_law_12 24 rfl rfl
theorem dksL_law_14 : cL_law.data.toList.drop 579 = dktL_law_14 := dk_seg dksL_law_13 22 rfl rfl
theorem dksL_law_15 : cL_law.data.toList.drop 602 = dktL_law_15 := dk_seg dksL_law_14 23 rfl rfl
theorem dksL_law_16 : cL_law.data.toList.drop 625 = dktL_law_16 := dk_seg dksL_law_15 23 rfl rfl
theorem dksL_law_17 : cL_law.data.toList.drop 649 = dktL_law_17 := dk_seg dksL_law_16 24 rfl rfl
theorem dksL_law_18 : cL_law.data.toList.drop 673 = dktL_law_18 := dk_seg dksL_law_17 24 rfl rfl
theorem dksL_law_19 : cL_law.data.toList.drop 697 = dktL_law_19 := dk_seg dksL_law_18 24 rfl rfl
theorem dksL_law_20 : cL_law.data.toList.drop 721 = dktL_law_20 := dk_seg dksL_law_19 24 rfl rfl
theorem dksL_law_21 : cL_law.data.toList.drop 744 = dktL_law_21 := dk_seg dksL_law_20 23 rfl rfl
theorem dksL_law_22 : cL_law.data.toList.drop 768 = dktL_law_22 := dk_seg dksL_law_21 24 rfl rfl
theorem dksL_law_23 : cL_law.data.toList.drop 790 = dktL_law_23 := dk_seg dksL_law_22 22 rfl rfl
theorem dksL_law_24 : cL_law.data.toList.drop 814 = dktL_law_24 := dk_seg dksL_law_23 24 rfl rfl
theorem dksL_law_25 : cL_law.data.toList.drop 838 = dktL_law_25 := dk_seg dksL_law_24 24 rfl rfl
theorem dksL_law_26 : cL_law.data.toList.drop 862 = dktL_law_26 := dk_seg dksL_law_25 24 rfl rfl
theorem dksL_law_27 : cL_law.data.toList.drop 886 = dktL_law_27 := dk_seg dksL_law_26 24 rfl rfl
theorem dksL_law_28 : cL_law.data.toList.drop 909 = dktL_law_28 := dk_seg dksL_law_27 23 rfl rfl
theorem dksL_law_29 : cL_law.data.toList.drop 933 = dktL_law_29 := dk_seg dksL_law_28 24 rfl rfl
theorem dksL_law_30 : cL_law.data.toList.drop 955 = dktL_law_30 := dk_seg dksL_law_29 22 rfl rfl
theorem dksL_law_31 : cL_law.data.toList.drop 979 = dktL_law_31 := dk_seg dksL_law_30 24 rfl rfl
theorem dksL_law_32 : cL_law.data.toList.drop 1001 = dktL_law_32 := dk_seg dksL_law_31 22 rfl rfl
theorem dksL_law_33 : cL_law.data.toList.drop 1024 = dktL_law_33 := dk_seg dksL_law_32 23 rfl rfl
theorem dksL_law_34 : cL_law.data.toList.drop 1048 = dktL_law_34 := dk_seg dksL_law_33 24 rfl rfl
theorem dksL_law_35 : cL_law.data.toList.drop 1070 = dktL_law_35 := dk_seg dksL_law_34 22 rfl rfl
theorem dksL_law_36 : cL_law.data.toList.drop 1093 = dktL_law_36 := dk_seg dksL_law_35 23 rfl rfl
theorem dksL_law_37 : cL_law.data.toList.drop 1116 = dktL_law_37 := dk_seg dksL_law_36 23 rfl rfl
theorem dksL_law_38 : cL_law.data.toList.drop 1140 = dktL_law_38 := dk_seg dksL_law_37 24 rfl rfl
theorem dksL_law_39 : cL_law.data.toList.drop 1162 = dktL_law_39 := dk_seg dksL_law_38 22 rfl rfl
theorem dksL_law_40 : cL_law.data.toList.drop 1185 = dktL_law_40 := dk_seg dksL_law_39 23 rfl rfl
theorem dksL_law_41 : cL_law.data.toList.drop 1208 = dktL_law_41 := dk_seg dksL_law_40 23 rfl rfl
theorem dksL_law_42 : cL_law.data.toList.drop 1230 = dktL_law_42 := dk_seg dksL_law_41 22 rfl rfl
theorem dksL_law_43 : cL_law.data.toList.drop 1254 = dktL_law_43 := dk_seg dksL_law_42 24 rfl rfl
theorem dksL_law_44 : cL_law.data.toList.drop 1278 = dktL_law_44 := dk_seg dksL_law_43 24 rfl rfl
theorem dksL_law_45 : cL_law.data.toList.drop 1302 = dktL_law_45 := dk_seg dksL_law_44 24 rfl rfl
theorem dksL_law_46 : cL_law.data.toList.drop 1326 = dktL_law_46 := dk_seg dksL_law_45 24 rfl rfl
theorem dksL_law_47 : cL_law.data.toList.drop 1349 = dktL_law_47 := dk_seg dksL_law_46 23 rfl rfl
theorem dksL_law_48 : cL_law.data.toList.drop 1373 = dktL_law_48 := dk_seg dksL_law_47 24 rfl rfl
theorem dksL_law_49 : cL_law.data.toList.drop 1395 = dktL_law_49 := dk_seg dksL_law_48 22 rfl rfl
theorem dksL_law_50 : cL_law.data.toList.drop 1419 = dktL_law_50 := dk_seg dksL_law_49 24 rfl rfl
theorem dksL_law_51 : cL_law.data.toList.drop 1443 = dktL_law_51 := dk_seg dksL_law_50 24 rfl rfl
theorem dksL_law_52 : cL_law.data.toList.drop 1467 = dktL_law_52 := dk_seg dksL_law_51 24 rfl rfl
theorem dksL_law_53 : cL_law.data.toList.drop 1491 = dktL_law_53 := dk_seg dksL_law_52 24 rfl rfl
theorem dksL_law_54 : cL_law.data.toList.drop 1515 = dktL_law_54 := dk_seg dksL_law_53 24 rfl rfl
theorem dksL_law_55 : cL_law.data.toList.drop 1539 = dktL_law_55 := dk_seg dksL_law_54 24 rfl rfl
theorem dksL_law_56 : cL_law.data.toList.drop 1563 = dktL_law_56 := dk_seg dksL_law_55 24 rfl rfl
theorem dksL_law_57 : cL_law.data.toList.drop 1587 = dktL_law_57 := dk_seg dksL_law_56 24 rfl rfl
theorem dksL_law_58 : cL_law.data.toList.drop 1611 = dktL_law_58 := dk_seg dksL_law_57 24 rfl rfl
theorem dksL_law_59 : cL_law.data.toList.drop 1635 = dktL_law_59 := dk_seg dksL_law_58 24 rfl rfl
theorem dksL_law_60 : cL_law.data.toList.drop 1659 = dktL_law_60 := dk_seg dksL_law_59 24 rfl rfl
theorem dksL_law_61 : cL_law.data.toList.drop 1683 = dktL_law_61 := dk_seg dksL_law_60 24 rfl rfl
theorem dksL_law_62 : cL_law.data.toList.drop 1705 = dktL_law_62 := dk_seg dksL_law_61 22 rfl rfl
theorem dksL_law_63 : cL_law.data.toList.drop 1728 = dktL_law_63 := dk_seg dksL_law_62 23 rfl rfl
theorem dksL_law_64 : cL_law.data.toList.drop 1751 = dktL_law_64 := dk_seg dksL_law_63 23 rfl rfl
theorem dksL_law_65 : cL_law.data.toList.drop 1775 = dktL_law_65 := dk_seg dksL_law_64 24 rfl rfl
theorem dksL_law_66 : cL_law.data.toList.drop 1797 = dktL_law_66 := dk_seg dksL_law_65 22 rfl rfl
theorem dksL_law_67 : cL_law.data.toList.drop 1820 = dktL_law_67 := dk_seg dksL_law_66 23 rfl rfl
theorem dksL_law_68 : cL_law.data.toList.drop 1844 = dktL_law_68 := dk_seg dksL_law_67 24 rfl rfl
theorem dksL_law_69 : cL_law.data.toList.drop 1866 = dktL_law_69 := dk_seg dksL_law_68 22 rfl rfl
theorem dksL_law_70 : cL_law.data.toList.drop 1890 = dktL_law_70 := dk_seg dksL_law_69 24 rfl rfl
theorem dksL_law_71 : cL_law.data.toList.drop 1914 = dktL_law_71 := dk_seg dksL_law_70 24 rfl rfl
theorem dksL_law_72 : cL_law.data.toList.drop 1938 = dktL_law_72 := dk_seg dksL_law_71 24 rfl rfl
theorem dksL_law_73 : cL_law.data.toList.drop 1962 = dktL_law_73 := dk_seg dksL_law_72 24 rfl rfl
theorem dksL_law_74 : cL_law.data.toList.drop 1985 = dktL_law_74 := dk_seg dksL_law_73 23 rfl rfl
theorem dksL_law_75 : cL_law.data.toList.drop 2008 = dktL_law_75 := dk_seg dksL_law_74 23 rfl rfl
theorem dksL_law_76 : cL_law.data.toList.drop 2031 = dktL_law_76 := dk_seg dksL_law_75 23 rfl rfl
theorem dksL_law_77 : cL_law.data.toList.drop 2055 = dktL_law_77 := dk_seg dksL_law_76 24 rfl rfl
theorem dksL_law_78 : cL_law.data.toList.drop 2079 = dktL_law_78 := dk_seg dksL_law_77 24 rfl rfl
theorem dksL_law_79 : cL_law.data.toList.drop 2103 = dktL_law_79 := dk_seg dksL_law_78 24 rfl rfl
theorem dksL_law_80 : cL_law.data.toList.drop 2127 = dktL_law_80 := dk_seg dksL_law_79 24 rfl rfl
theorem dksL_law_81 : cL_law.data.toList.drop 2151 = dktL_law_81 := dk_seg dksL_law_80 24 rfl rfl
theorem dksL_law_82 : cL_law.data.toList.drop 2175 = dktL_law_82 := dk_seg dksL_law_81 24 rfl rfl
theorem dksL_law_83 : cL_law.data.toList.drop 2199 = dktL_law_83 := dk_seg dksL_law_82 24 rfl rfl
theorem dL_law_0 : decode cL_law 0 = .ok (.new 7, 3) := dk_187 0 7 (dk_at dksL_law_0 0 rfl rfl)
theorem dL_law_3 : decode cL_law 3 = .ok (.dup, 1) := dk_89 (dk_at dksL_law_0 3 rfl rfl)
theorem dL_law_4 : decode cL_law 4 = .ok (.invokespecial 9, 3) := dk_183 0 9 (dk_at dksL_law_0 4 rfl rfl)
theorem dL_law_7 : decode cL_law 7 = .ok (.astore_n 1, 1) := dk_76 (dk_at dksL_law_0 7 rfl rfl)
theorem dL_law_8 : decode cL_law 8 = .ok (.new 10, 3) := dk_187 0 10 (dk_at dksL_law_0 8 rfl rfl)
theorem dL_law_11 : decode cL_law 11 = .ok (.dup, 1) := dk_89 (dk_at dksL_law_0 11 rfl rfl)
theorem dL_law_12 : decode cL_law 12 = .ok (.invokespecial 12, 3) := dk_183 0 12 (dk_at dksL_law_0 12 rfl rfl)
theorem dL_law_15 : decode cL_law 15 = .ok (.astore_n 2, 1) := dk_77 (dk_at dksL_law_0 15 rfl rfl)
theorem dL_law_16 : decode cL_law 16 = .ok (.iconst 0, 1) := dk_3 (dk_at dksL_law_0 16 rfl rfl)
theorem dL_law_17 : decode cL_law 17 = .ok (.istore_n 3, 1) := dk_62 (dk_at dksL_law_0 17 rfl rfl)
theorem dL_law_18 : decode cL_law 18 = .ok (.iload_n 3, 1) := dk_29 (dk_at dksL_law_0 18 rfl rfl)
theorem dL_law_19 : decode cL_law 19 = .ok (.aload_n 0, 1) := dk_42 (dk_at dksL_law_0 19 rfl rfl)
theorem dL_law_20 : decode cL_law 20 = .ok (.arraylength, 1) := dk_190 (dk_at dksL_law_0 20 rfl rfl)
theorem dL_law_21 : decode cL_law 21 = .ok (.bipush 6, 2) := dk_16 6 (dk_at dksL_law_0 21 rfl rfl)
theorem dL_law_23 : decode cL_law 23 = .ok (.isub, 1) := dk_100 (dk_at dksL_law_0 23 rfl rfl)
theorem dL_law_24 : decode cL_law 24 = .ok (.if_icmp .gt 2197, 3) := dk_163 8 149 (dk_at dksL_law_1 0 rfl rfl)
theorem dL_law_27 : decode cL_law 27 = .ok (.aload_n 0, 1) := dk_42 (dk_at dksL_law_1 3 rfl rfl)
theorem dL_law_28 : decode cL_law 28 = .ok (.iload_n 3, 1) := dk_29 (dk_at dksL_law_1 4 rfl rfl)
theorem dL_law_29 : decode cL_law 29 = .ok (.iaload, 1) := dk_46 (dk_at dksL_law_1 5 rfl rfl)
theorem dL_law_30 : decode cL_law 30 = .ok (.bipush 127, 2) := dk_16 127 (dk_at dksL_law_1 6 rfl rfl)
theorem dL_law_32 : decode cL_law 32 = .ok (.iand, 1) := dk_126 (dk_at dksL_law_1 8 rfl rfl)
theorem dL_law_33 : decode cL_law 33 = .ok (.tableswitch 2182 0 67 #[287, 350, 373, 386, 409, 442, 475, 508, 551, 574, 597, 630, 653, 686, 719, 762, 805, 838, 851, 884, 927, 960, 973, 996, 1009, 1042, 1055, 1068, 1091, 1124, 1137, 1160, 1183, 1196, 1209, 1222, 1245, 1268, 1292, 1305, 1338, 1361, 1374, 1387, 1410, 1443, 1476, 1499, 1532, 1555, 1568, 1591, 1624, 1647, 1680, 1703, 1726, 1759, 1772, 1795, 1838, 1871, 1934, 1957, 1980, 2003, 2046, 2119], 287) := by decide +kernel
theorem dL_law_320 : decode cL_law 320 = .ok (.aload_n 1, 1) := dk_43 (dk_at dksL_law_3 0 rfl rfl)
theorem dL_law_321 : decode cL_law 321 = .ok (.aload_n 0, 1) := dk_42 (dk_at dksL_law_3 1 rfl rfl)
theorem dL_law_322 : decode cL_law 322 = .ok (.iload_n 3, 1) := dk_29 (dk_at dksL_law_3 2 rfl rfl)
theorem dL_law_323 : decode cL_law 323 = .ok (.iconst 1, 1) := dk_4 (dk_at dksL_law_3 3 rfl rfl)
theorem dL_law_324 : decode cL_law 324 = .ok (.iadd, 1) := dk_96 (dk_at dksL_law_3 4 rfl rfl)
theorem dL_law_325 : decode cL_law 325 = .ok (.iaload, 1) := dk_46 (dk_at dksL_law_3 5 rfl rfl)
theorem dL_law_326 : decode cL_law 326 = .ok (.aload_n 0, 1) := dk_42 (dk_at dksL_law_3 6 rfl rfl)
theorem dL_law_327 : decode cL_law 327 = .ok (.iload_n 3, 1) := dk_29 (dk_at dksL_law_3 7 rfl rfl)
theorem dL_law_328 : decode cL_law 328 = .ok (.iconst 2, 1) := dk_5 (dk_at dksL_law_3 8 rfl rfl)
theorem dL_law_329 : decode cL_law 329 = .ok (.iadd, 1) := dk_96 (dk_at dksL_law_3 9 rfl rfl)
theorem dL_law_330 : decode cL_law 330 = .ok (.iaload, 1) := dk_46 (dk_at dksL_law_3 10 rfl rfl)
theorem dL_law_331 : decode cL_law 331 = .ok (.aload_n 0, 1) := dk_42 (dk_at dksL_law_3 11 rfl rfl)
theorem dL_law_332 : decode cL_law 332 = .ok (.iload_n 3, 1) := dk_29 (dk_at dksL_law_3 12 rfl rfl)
theorem dL_law_333 : decode cL_law 333 = .ok (.iconst 3, 1) := dk_6 (dk_at dksL_law_3 13 rfl rfl)
theorem dL_law_334 : decode cL_law 334 = .ok (.iadd, 1) := dk_96 (dk_at dksL_law_3 14 rfl rfl)
theorem dL_law_335 : decode cL_law 335 = .ok (.iaload, 1) := dk_46 (dk_at dksL_law_3 15 rfl rfl)
theorem dL_law_336 : decode cL_law 336 = .ok (.aload_n 0, 1) := dk_42 (dk_at dksL_law_3 16 rfl rfl)
theorem dL_law_337 : decode cL_law 337 = .ok (.iload_n 3, 1) := dk_29 (dk_at dksL_law_3 17 rfl rfl)
theorem dL_law_338 : decode cL_law 338 = .ok (.iconst 4, 1) := dk_7 (dk_at dksL_law_3 18 rfl rfl)
theorem dL_law_339 : decode cL_law 339 = .ok (.iadd, 1) := dk_96 (dk_at dksL_law_3 19 rfl rfl)
theorem dL_law_340 : decode cL_law 340 = .ok (.iaload, 1) := dk_46 (dk_at dksL_law_3 20 rfl rfl)
theorem dL_law_341 : decode cL_law 341 = .ok (.aload_n 0, 1) := dk_42 (dk_at dksL_law_3 21 rfl rfl)
theorem dL_law_342 : decode cL_law 342 = .ok (.iload_n 3, 1) := dk_29 (dk_at dksL_law_3 22 rfl rfl)
theorem dL_law_343 : decode cL_law 343 = .ok (.iconst 5, 1) := dk_8 (dk_at dksL_law_3 23 rfl rfl)
theorem dL_law_344 : decode cL_law 344 = .ok (.iadd, 1) := dk_96 (dk_at dksL_law_4 0 rfl rfl)
theorem dL_law_345 : decode cL_law 345 = .ok (.iaload, 1) := dk_46 (dk_at dksL_law_4 1 rfl rfl)
theorem dL_law_346 : decode cL_law 346 = .ok (.invokevirtual 13, 3) := dk_182 0 13 (dk_at dksL_law_4 2 rfl rfl)
theorem dL_law_349 : decode cL_law 349 = .ok (.aload_n 2, 1) := dk_44 (dk_at dksL_law_4 5 rfl rfl)
theorem dL_law_350 : decode cL_law 350 = .ok (.aload_n 0, 1) := dk_42 (dk_at dksL_law_4 6 rfl rfl)
theorem dL_law_351 : decode cL_law 351 = .ok (.iload_n 3, 1) := dk_29 (dk_at dksL_law_4 7 rfl rfl)
theorem dL_law_352 : decode cL_law 352 = .ok (.iconst 1, 1) := dk_4 (dk_at dksL_law_4 8 rfl rfl)
theorem dL_law_353 : decode cL_law 353 = .ok (.iadd, 1) := dk_96 (dk_at dksL_law_4 9 rfl rfl)
theorem dL_law_354 : decode cL_law 354 = .ok (.iaload, 1) := dk_46 (dk_at dksL_law_4 10 rfl rfl)
theorem dL_law_355 : decode cL_law 355 = .ok (.aload_n 0, 1) := dk_42 (dk_at dksL_law_4 11 rfl rfl)
theorem dL_law_356 : decode cL_law 356 = .ok (.iload_n 3, 1) := dk_29 (dk_at dksL_law_4 12 rfl rfl)
theorem dL_law_357 : decode cL_law 357 = .ok (.iconst 2, 1) := dk_5 (dk_at dksL_law_4 13 rfl rfl)
theorem dL_law_358 : decode cL_law 358 = .ok (.iadd, 1) := dk_96 (dk_at dksL_law_4 14 rfl rfl)
theorem dL_law_359 : decode cL_law 359 = .ok (.iaload, 1) := dk_46 (dk_at dksL_law_4 15 rfl rfl)
theorem dL_law_360 : decode cL_law 360 = .ok (.aload_n 0, 1) := dk_42 (dk_at dksL_law_4 16 rfl rfl)
theorem dL_law_361 : decode cL_law 361 = .ok (.iload_n 3, 1) := dk_29 (dk_at dksL_law_4 17 rfl rfl)
theorem dL_law_362 : decode cL_law 362 = .ok (.iconst 3, 1) := dk_6 (dk_at dksL_law_4 18 rfl rfl)
theorem dL_law_363 : decode cL_law 363 = .ok (.iadd, 1) := dk_96 (dk_at dksL_law_4 19 rfl rfl)
theorem dL_law_364 : decode cL_law 364 = .ok (.iaload, 1) := dk_46 (dk_at dksL_law_4 20 rfl rfl)
theorem dL_law_365 : decode cL_law 365 = .ok (.aload_n 0, 1) := dk_42 (dk_at dksL_law_4 21 rfl rfl)
theorem dL_law_366 : decode cL_law 366 = .ok (.iload_n 3, 1) := dk_29 (dk_at dksL_law_4 22 rfl rfl)
theorem dL_law_367 : decode cL_law 367 = .ok (.iconst 4, 1) := dk_7 (dk_at dksL_law_4 23 rfl rfl)
theorem dL_law_368 : decode cL_law 368 = .ok (.iadd, 1) := dk_96 (dk_at dksL_law_5 0 rfl rfl)
theorem dL_law_369 : decode cL_law 369 = .ok (.iaload, 1) := dk_46 (dk_at dksL_law_5 1 rfl rfl)
theorem dL_law_370 : decode cL_law 370 = .ok (.aload_n 0, 1) := dk_42 (dk_at dksL_law_5 2 rfl rfl)
theorem dL_law_371 : decode cL_law 371 = .ok (.iload_n 3, 1) := dk_29 (dk_at dksL_law_5 3 rfl rfl)
theorem dL_law_372 : decode cL_law 372 = .ok (.iconst 5, 1) := dk_8 (dk_at dksL_law_5 4 rfl rfl)
theorem dL_law_373 : decode cL_law 373 = .ok (.iadd, 1) := dk_96 (dk_at dksL_law_5 5 rfl rfl)
theorem dL_law_374 : decode cL_law 374 = .ok (.iaload, 1) := dk_46 (dk_at dksL_law_5 6 rfl rfl)
theorem dL_law_375 : decode cL_law 375 = .ok (.invokevirtual 17, 3) := dk_182 0 17 (dk_at dksL_law_5 7 rfl rfl)
theorem dL_law_378 : decode cL_law 378 = .ok (.if_icmp .eq 1837, 3) := dk_159 7 45 (dk_at dksL_law_5 10 rfl rfl)
theorem dL_law_381 : decode cL_law 381 = .ok (.iconst 0, 1) := dk_3 (dk_at dksL_law_5 13 rfl rfl)
theorem dL_law_382 : decode cL_law 382 = .ok (.ireturn, 1) := dk_172 (dk_at dksL_law_5 14 rfl rfl)
theorem dL_law_383 : decode cL_law 383 = .ok (.aload_n 1, 1) := dk_43 (dk_at dksL_law_5 15 rfl rfl)
theorem dL_law_384 : decode cL_law 384 = .ok (.aload_n 0, 1) := dk_42 (dk_at dksL_law_5 16 rfl rfl)
theorem dL_law_385 : decode cL_law 385 = .ok (.iload_n 3, 1) := dk_29 (dk_at dksL_law_5 17 rfl rfl)
theorem dL_law_386 : decode cL_law 386 = .ok (.iconst 1, 1) := dk_4 (dk_at dksL_law_5 18 rfl rfl)
theorem dL_law_387 : decode cL_law 387 = .ok (.iadd, 1) := dk_96 (dk_at dksL_law_5 19 rfl rfl)
theorem dL_law_388 : decode cL_law 388 = .ok (.iaload, 1) := dk_46 (dk_at dksL_law_5 20 rfl rfl)
theorem dL_law_389 : decode cL_law 389 = .ok (.invokevirtual 18, 3) := dk_182 0 18 (dk_at dksL_law_5 21 rfl rfl)
theorem dL_law_392 : decode cL_law 392 = .ok (.aload_n 2, 1) := dk_44 (dk_at dksL_law_6 0 rfl rfl)
theorem dL_law_393 : decode cL_law 393 = .ok (.aload_n 0, 1) := dk_42 (dk_at dksL_law_6 1 rfl rfl)
theorem dL_law_394 : decode cL_law 394 = .ok (.iload_n 3, 1) := dk_29 (dk_at dksL_law_6 2 rfl rfl)
theorem dL_law_395 : decode cL_law 395 = .ok (.iconst 1, 1) := dk_4 (dk_at dksL_law_6 3 rfl rfl)
theorem dL_law_396 : decode cL_law 396 = .ok (.iadd, 1) := dk_96 (dk_at dksL_law_6 4 rfl rfl)
theorem dL_law_397 : decode cL_law 397 = .ok (.iaload, 1) := dk_46 (dk_at dksL_law_6 5 rfl rfl)
theorem dL_law_398 : decode cL_law 398 = .ok (.invokevirtual 22, 3) := dk_182 0 22 (dk_at dksL_law_6 6 rfl rfl)
theorem dL_law_401 : decode cL_law 401 = .ok (.if_icmp .eq 1814, 3) := dk_159 7 22 (dk_at dksL_law_6 9 rfl rfl)
theorem dL_law_404 : decode cL_law 404 = .ok (.iconst 0, 1) := dk_3 (dk_at dksL_law_6 12 rfl rfl)
theorem dL_law_405 : decode cL_law 405 = .ok (.ireturn, 1) := dk_172 (dk_at dksL_law_6 13 rfl rfl)
theorem dL_law_406 : decode cL_law 406 = .ok (.aload_n 1, 1) := dk_43 (dk_at dksL_law_6 14 rfl rfl)
theorem dL_law_407 : decode cL_law 407 = .ok (.invokevirtual 23, 3) := dk_182 0 23 (dk_at dksL_law_6 15 rfl rfl)
theorem dL_law_410 : decode cL_law 410 = .ok (.aload_n 2, 1) := dk_44 (dk_at dksL_law_6 18 rfl rfl)
theorem dL_law_411 : decode cL_law 411 = .ok (.invokevirtual 27, 3) := dk_182 0 27 (dk_at dksL_law_6 19 rfl rfl)
theorem dL_law_414 : decode cL_law 414 = .ok (.if_icmp .eq 1801, 3) := dk_159 7 9 (dk_at dksL_law_7 0 rfl rfl)
theorem dL_law_417 : decode cL_law 417 = .ok (.iconst 0, 1) := dk_3 (dk_at dksL_law_7 3 rfl rfl)
theorem dL_law_418 : decode cL_law 418 = .ok (.ireturn, 1) := dk_172 (dk_at dksL_law_7 4 rfl rfl)
theorem dL_law_419 : decode cL_law 419 = .ok (.aload_n 1, 1) := dk_43 (dk_at dksL_law_7 5 rfl rfl)
theorem dL_law_420 : decode cL_law 420 = .ok (.aload_n 0, 1) := dk_42 (dk_at dksL_law_7 6 rfl rfl)
theorem dL_law_421 : decode cL_law 421 = .ok (.iload_n 3, 1) := dk_29 (dk_at dksL_law_7 7 rfl rfl)
theorem dL_law_422 : decode cL_law 422 = .ok (.iconst 1, 1) := dk_4 (dk_at dksL_law_7 8 rfl rfl)
theorem dL_law_423 : decode cL_law 423 = .ok (.iadd, 1) := dk_96 (dk_at dksL_law_7 9 rfl rfl)
theorem dL_law_424 : decode cL_law 424 = .ok (.iaload, 1) := dk_46 (dk_at dksL_law_7 10 rfl rfl)
theorem dL_law_425 : decode cL_law 425 = .ok (.invokevirtual 28, 3) := dk_182 0 28 (dk_at dksL_law_7 11 rfl rfl)
theorem dL_law_428 : decode cL_law 428 = .ok (.aload_n 2, 1) := dk_44 (dk_at dksL_law_7 14 rfl rfl)
theorem dL_law_429 : decode cL_law 429 = .ok (.aload_n 0, 1) := dk_42 (dk_at dksL_law_7 15 rfl rfl)
theorem dL_law_430 : decode cL_law 430 = .ok (.iload_n 3, 1) := dk_29 (dk_at dksL_law_7 16 rfl rfl)
theorem dL_law_431 : decode cL_law 431 = .ok (.iconst 1, 1) := dk_4 (dk_at dksL_law_7 17 rfl rfl)
theorem dL_law_432 : decode cL_law 432 = .ok (.iadd, 1) := dk_96 (dk_at dksL_law_7 18 rfl rfl)
theorem dL_law_433 : decode cL_law 433 = .ok (.iaload, 1) := dk_46 (dk_at dksL_law_7 19 rfl rfl)
theorem dL_law_434 : decode cL_law 434 = .ok (.invokevirtual 31, 3) := dk_182 0 31 (dk_at dksL_law_7 20 rfl rfl)
theorem dL_law_437 : decode cL_law 437 = .ok (.if_icmp .eq 1778, 3) := dk_159 6 242 (dk_at dksL_law_8 0 rfl rfl)
theorem dL_law_440 : decode cL_law 440 = .ok (.iconst 0, 1) := dk_3 (dk_at dksL_law_8 3 rfl rfl)
theorem dL_law_441 : decode cL_law 441 = .ok (.ireturn, 1) := dk_172 (dk_at dksL_law_8 4 rfl rfl)
theorem dL_law_442 : decode cL_law 442 = .ok (.aload_n 1, 1) := dk_43 (dk_at dksL_law_8 5 rfl rfl)
theorem dL_law_443 : decode cL_law 443 = .ok (.aload_n 0, 1) := dk_42 (dk_at dksL_law_8 6 rfl rfl)
theorem dL_law_444 : decode cL_law 444 = .ok (.iload_n 3, 1) := dk_29 (dk_at dksL_law_8 7 rfl rfl)
theorem dL_law_445 : decode cL_law 445 = .ok (.iconst 1, 1) := dk_4 (dk_at dksL_law_8 8 rfl rfl)
theorem dL_law_446 : decode cL_law 446 = .ok (.iadd, 1) := dk_96 (dk_at dksL_law_8 9 rfl rfl)
theorem dL_law_447 : decode cL_law 447 = .ok (.iaload, 1) := dk_46 (dk_at dksL_law_8 10 rfl rfl)
theorem dL_law_448 : decode cL_law 448 = .ok (.aload_n 0, 1) := dk_42 (dk_at dksL_law_8 11 rfl rfl)
theorem dL_law_449 : decode cL_law 449 = .ok (.iload_n 3, 1) := dk_29 (dk_at dksL_law_8 12 rfl rfl)
theorem dL_law_450 : decode cL_law 450 = .ok (.iconst 2, 1) := dk_5 (dk_at dksL_law_8 13 rfl rfl)
theorem dL_law_451 : decode cL_law 451 = .ok (.iadd, 1) := dk_96 (dk_at dksL_law_8 14 rfl rfl)
theorem dL_law_452 : decode cL_law 452 = .ok (.iaload, 1) := dk_46 (dk_at dksL_law_8 15 rfl rfl)
theorem dL_law_453 : decode cL_law 453 = .ok (.invokevirtual 32, 3) := dk_182 0 32 (dk_at dksL_law_8 16 rfl rfl)
theorem dL_law_456 : decode cL_law 456 = .ok (.aload_n 2, 1) := dk_44 (dk_at dksL_law_8 19 rfl rfl)
theorem dL_law_457 : decode cL_law 457 = .ok (.aload_n 0, 1) := dk_42 (dk_at dksL_law_8 20 rfl rfl)
theorem dL_law_458 : decode cL_law 458 = .ok (.iload_n 3, 1) := dk_29 (dk_at dksL_law_8 21 rfl rfl)
theorem dL_law_459 : decode cL_law 459 = .ok (.iconst 1, 1) := dk_4 (dk_at dksL_law_8 22 rfl rfl)
theorem dL_law_460 : decode cL_law 460 = .ok (.iadd, 1) := dk_96 (dk_at dksL_law_8 23 rfl rfl)
theorem dL_law_461 : decode cL_law 461 = .ok (.iaload, 1) := dk_46 (dk_at dksL_law_9 0 rfl rfl)
theorem dL_law_462 : decode cL_law 462 = .ok (.aload_n 0, 1) := dk_42 (dk_at dksL_law_9 1 rfl rfl)
theorem dL_law_463 : decode cL_law 463 = .ok (.iload_n 3, 1) := dk_29 (dk_at dksL_law_9 2 rfl rfl)
theorem dL_law_464 : decode cL_law 464 = .ok (.iconst 2, 1) := dk_5 (dk_at dksL_law_9 3 rfl rfl)
theorem dL_law_465 : decode cL_law 465 = .ok (.iadd, 1) := dk_96 (dk_at dksL_law_9 4 rfl rfl)
theorem dL_law_466 : decode cL_law 466 = .ok (.iaload, 1) := dk_46 (dk_at dksL_law_9 5 rfl rfl)
theorem dL_law_467 : decode cL_law 467 = .ok (.invokevirtual 36, 3) := dk_182 0 36 (dk_at dksL_law_9 6 rfl rfl)
theorem dL_law_470 : decode cL_law 470 = .ok (.if_icmp .eq 1745, 3) := dk_159 6 209 (dk_at dksL_law_9 9 rfl rfl)
theorem dL_law_473 : decode cL_law 473 = .ok (.iconst 0, 1) := dk_3 (dk_at dksL_law_9 12 rfl rfl)
theorem dL_law_474 : decode cL_law 474 = .ok (.ireturn, 1) := dk_172 (dk_at dksL_law_9 13 rfl rfl)
theorem dL_law_475 : decode cL_law 475 = .ok (.aload_n 1, 1) := dk_43 (dk_at dksL_law_9 14 rfl rfl)
theorem dL_law_476 : decode cL_law 476 = .ok (.aload_n 0, 1) := dk_42 (dk_at dksL_law_9 15 rfl rfl)
theorem dL_law_477 : decode cL_law 477 = .ok (.iload_n 3, 1) := dk_29 (dk_at dksL_law_9 16 rfl rfl)
theorem dL_law_478 : decode cL_law 478 = .ok (.iconst 1, 1) := dk_4 (dk_at dksL_law_9 17 rfl rfl)
theorem dL_law_479 : decode cL_law 479 = .ok (.iadd, 1) := dk_96 (dk_at dksL_law_9 18 rfl rfl)
theorem dL_law_480 : decode cL_law 480 = .ok (.iaload, 1) := dk_46 (dk_at dksL_law_9 19 rfl rfl)
theorem dL_law_481 : decode cL_law 481 = .ok (.aload_n 0, 1) := dk_42 (dk_at dksL_law_9 20 rfl rfl)
theorem dL_law_482 : decode cL_law 482 = .ok (.iload_n 3, 1) := dk_29 (dk_at dksL_law_9 21 rfl rfl)
theorem dL_law_483 : decode cL_law 483 = .ok (.iconst 2, 1) := dk_5 (dk_at dksL_law_9 22 rfl rfl)
theorem dL_law_484 : decode cL_law 484 = .ok (.iadd, 1) := dk_96 (dk_at dksL_law_9 23 rfl rfl)
theorem dL_law_485 : decode cL_law 485 = .ok (.iaload, 1) := dk_46 (dk_at dksL_law_10 0 rfl rfl)
theorem dL_law_486 : decode cL_law 486 = .ok (.invokevirtual 37, 3) := dk_182 0 37 (dk_at dksL_law_10 1 rfl rfl)
theorem dL_law_489 : decode cL_law 489 = .ok (.aload_n 2, 1) := dk_44 (dk_at dksL_law_10 4 rfl rfl)
theorem dL_law_490 : decode cL_law 490 = .ok (.aload_n 0, 1) := dk_42 (dk_at dksL_law_10 5 rfl rfl)
theorem dL_law_491 : decode cL_law 491 = .ok (.iload_n 3, 1) := dk_29 (dk_at dksL_law_10 6 rfl rfl)
theorem dL_law_492 : decode cL_law 492 = .ok (.iconst 1, 1) := dk_4 (dk_at dksL_law_10 7 rfl rfl)
theorem dL_law_493 : decode cL_law 493 = .ok (.iadd, 1) := dk_96 (dk_at dksL_law_10 8 rfl rfl)
theorem dL_law_494 : decode cL_law 494 = .ok (.iaload, 1) := dk_46 (dk_at dksL_law_10 9 rfl rfl)
theorem dL_law_495 : decode cL_law 495 = .ok (.aload_n 0, 1) := dk_42 (dk_at dksL_law_10 10 rfl rfl)
theorem dL_law_496 : decode cL_law 496 = .ok (.iload_n 3, 1) := dk_29 (dk_at dksL_law_10 11 rfl rfl)
theorem dL_law_497 : decode cL_law 497 = .ok (.iconst 2, 1) := dk_5 (dk_at dksL_law_10 12 rfl rfl)
theorem dL_law_498 : decode cL_law 498 = .ok (.iadd, 1) := dk_96 (dk_at dksL_law_10 13 rfl rfl)
theorem dL_law_499 : decode cL_law 499 = .ok (.iaload, 1) := dk_46 (dk_at dksL_law_10 14 rfl rfl)
theorem dL_law_500 : decode cL_law 500 = .ok (.invokevirtual 40, 3) := dk_182 0 40 (dk_at dksL_law_10 15 rfl rfl)
theorem dL_law_503 : decode cL_law 503 = .ok (.if_icmp .eq 1712, 3) := dk_159 6 176 (dk_at dksL_law_10 18 rfl rfl)
theorem dL_law_506 : decode cL_law 506 = .ok (.iconst 0, 1) := dk_3 (dk_at dksL_law_10 21 rfl rfl)
theorem dL_law_507 : decode cL_law 507 = .ok (.ireturn, 1) := dk_172 (dk_at dksL_law_10 22 rfl rfl)
theorem dL_law_508 : decode cL_law 508 = .ok (.aload_n 1, 1) := dk_43 (dk_at dksL_law_10 23 rfl rfl)
theorem dL_law_509 : decode cL_law 509 = .ok (.aload_n 0, 1) := dk_42 (dk_at dksL_law_11 0 rfl rfl)
theorem dL_law_510 : decode cL_law 510 = .ok (.iload_n 3, 1) := dk_29 (dk_at dksL_law_11 1 rfl rfl)
theorem dL_law_511 : decode cL_law 511 = .ok (.iconst 1, 1) := dk_4 (dk_at dksL_law_11 2 rfl rfl)
theorem dL_law_512 : decode cL_law 512 = .ok (.iadd, 1) := dk_96 (dk_at dksL_law_11 3 rfl rfl)
theorem dL_law_513 : decode cL_law 513 = .ok (.iaload, 1) := dk_46 (dk_at dksL_law_11 4 rfl rfl)
theorem dL_law_514 : decode cL_law 514 = .ok (.aload_n 0, 1) := dk_42 (dk_at dksL_law_11 5 rfl rfl)
theorem dL_law_515 : decode cL_law 515 = .ok (.iload_n 3, 1) := dk_29 (dk_at dksL_law_11 6 rfl rfl)
theorem dL_law_516 : decode cL_law 516 = .ok (.iconst 2, 1) := dk_5 (dk_at dksL_law_11 7 rfl rfl)
theorem dL_law_517 : decode cL_law 517 = .ok (.iadd, 1) := dk_96 (dk_at dksL_law_11 8 rfl rfl)
theorem dL_law_518 : decode cL_law 518 = .ok (.iaload, 1) := dk_46 (dk_at dksL_law_11 9 rfl rfl)
theorem dL_law_519 : decode cL_law 519 = .ok (.invokevirtual 41, 3) := dk_182 0 41 (dk_at dksL_law_11 10 rfl rfl)
theorem dL_law_522 : decode cL_law 522 = .ok (.aload_n 2, 1) := dk_44 (dk_at dksL_law_11 13 rfl rfl)
theorem dL_law_523 : decode cL_law 523 = .ok (.aload_n 0, 1) := dk_42 (dk_at dksL_law_11 14 rfl rfl)
theorem dL_law_524 : decode cL_law 524 = .ok (.iload_n 3, 1) := dk_29 (dk_at dksL_law_11 15 rfl rfl)
theorem dL_law_525 : decode cL_law 525 = .ok (.iconst 1, 1) := dk_4 (dk_at dksL_law_11 16 rfl rfl)
theorem dL_law_526 : decode cL_law 526 = .ok (.iadd, 1) := dk_96 (dk_at dksL_law_11 17 rfl rfl)
theorem dL_law_527 : decode cL_law 527 = .ok (.iaload, 1) := dk_46 (dk_at dksL_law_11 18 rfl rfl)
theorem dL_law_528 : decode cL_law 528 = .ok (.aload_n 0, 1) := dk_42 (dk_at dksL_law_11 19 rfl rfl)
theorem dL_law_529 : decode cL_law 529 = .ok (.iload_n 3, 1) := dk_29 (dk_at dksL_law_11 20 rfl rfl)
theorem dL_law_530 : decode cL_law 530 = .ok (.iconst 2, 1) := dk_5 (dk_at dksL_law_11 21 rfl rfl)
theorem dL_law_531 : decode cL_law 531 = .ok (.iadd, 1) := dk_96 (dk_at dksL_law_11 22 rfl rfl)
theorem dL_law_532 : decode cL_law 532 = .ok (.iaload, 1) := dk_46 (dk_at dksL_law_11 23 rfl rfl)
theorem dL_law_533 : decode cL_law 533 = .ok (.invokevirtual 44, 3) := dk_182 0 44 (dk_at dksL_law_12 0 rfl rfl)
theorem dL_law_536 : decode cL_law 536 = .ok (.if_icmp .eq 1679, 3) := dk_159 6 143 (dk_at dksL_law_12 3 rfl rfl)
theorem dL_law_539 : decode cL_law 539 = .ok (.iconst 0, 1) := dk_3 (dk_at dksL_law_12 6 rfl rfl)
theorem dL_law_540 : decode cL_law 540 = .ok (.ireturn, 1) := dk_172 (dk_at dksL_law_12 7 rfl rfl)
theorem dL_law_541 : decode cL_law 541 = .ok (.aload_n 1, 1) := dk_43 (dk_at dksL_law_12 8 rfl rfl)
theorem dL_law_542 : decode cL_law 542 = .ok (.aload_n 0, 1) := dk_42 (dk_at dksL_law_12 9 rfl rfl)
theorem dL_law_543 : decode cL_law 543 = .ok (.iload_n 3, 1) := dk_29 (dk_at dksL_law_12 10 rfl rfl)
theorem dL_law_544 : decode cL_law 544 = .ok (.iconst 1, 1) := dk_4 (dk_at dksL_law_12 11 rfl rfl)
theorem dL_law_545 : decode cL_law 545 = .ok (.iadd, 1) := dk_96 (dk_at dksL_law_12 12 rfl rfl)
theorem dL_law_546 : decode cL_law 546 = .ok (.iaload, 1) := dk_46 (dk_at dksL_law_12 13 rfl rfl)
theorem dL_law_547 : decode cL_law 547 = .ok (.aload_n 0, 1) := dk_42 (dk_at dksL_law_12 14 rfl rfl)
theorem dL_law_548 : decode cL_law 548 = .ok (.iload_n 3, 1) := dk_29 (dk_at dksL_law_12 15 rfl rfl)
theorem dL_law_549 : decode cL_law 549 = .ok (.iconst 2, 1) := dk_5 (dk_at dksL_law_12 16 rfl rfl)
theorem dL_law_550 : decode cL_law 550 = .ok (.iadd, 1) := dk_96 (dk_at dksL_law_12 17 rfl rfl)
theorem dL_law_551 : decode cL_law 551 = .ok (.iaload, 1) := dk_46 (dk_at dksL_law_12 18 rfl rfl)
theorem dL_law_552 : decode cL_law 552 = .ok (.aload_n 0, 1) := dk_42 (dk_at dksL_law_12 19 rfl rfl)
theorem dL_law_553 : decode cL_law 553 = .ok (.iload_n 3, 1) := dk_29 (dk_at dksL_law_12 20 rfl rfl)
theorem dL_law_554 : decode cL_law 554 = .ok (.iconst 3, 1) := dk_6 (dk_at dksL_law_12 21 rfl rfl)
theorem dL_law_555 : decode cL_law 555 = .ok (.iadd, 1) := dk_96 (dk_at dksL_law_12 22 rfl rfl)
theorem dL_law_556 : decode cL_law 556 = .ok (.iaload, 1) := dk_46 (dk_at dksL_law_12 23 rfl rfl)
theorem dL_law_557 : decode cL_law 557 = .ok (.invokevirtual 45, 3) := dk_182 0 45 (dk_at dksL_law_13 0 rfl rfl)
theorem dL_law_560 : decode cL_law 560 = .ok (.aload_n 2, 1) := dk_44 (dk_at dksL_law_13 3 rfl rfl)
theorem dL_law_561 : decode cL_law 561 = .ok (.aload_n 0, 1) := dk_42 (dk_at dksL_law_13 4 rfl rfl)
theorem dL_law_562 : decode cL_law 562 = .ok (.iload_n 3, 1) := dk_29 (dk_at dksL_law_13 5 rfl rfl)
theorem dL_law_563 : decode cL_law 563 = .ok (.iconst 1, 1) := dk_4 (dk_at dksL_law_13 6 rfl rfl)
theorem dL_law_564 : decode cL_law 564 = .ok (.iadd, 1) := dk_96 (dk_at dksL_law_13 7 rfl rfl)
theorem dL_law_565 : decode cL_law 565 = .ok (.iaload, 1) := dk_46 (dk_at dksL_law_13 8 rfl rfl)
theorem dL_law_566 : decode cL_law 566 = .ok (.aload_n 0, 1) := dk_42 (dk_at dksL_law_13 9 rfl rfl)
theorem dL_law_567 : decode cL_law 567 = .ok (.iload_n 3, 1) := dk_29 (dk_at dksL_law_13 10 rfl rfl)
theorem dL_law_568 : decode cL_law 568 = .ok (.iconst 2, 1) := dk_5 (dk_at dksL_law_13 11 rfl rfl)
theorem dL_law_569 : decode cL_law 569 = .ok (.iadd, 1) := dk_96 (dk_at dksL_law_13 12 rfl rfl)
theorem dL_law_570 : decode cL_law 570 = .ok (.iaload, 1) := dk_46 (dk_at dksL_law_13 13 rfl rfl)
theorem dL_law_571 : decode cL_law 571 = .ok (.aload_n 0, 1) := dk_42 (dk_at dksL_law_13 14 rfl rfl)
theorem dL_law_572 : decode cL_law 572 = .ok (.iload_n 3, 1) := dk_29 (dk_at dksL_law_13 15 rfl rfl)
theorem dL_law_573 : decode cL_law 573 = .ok (.iconst 3, 1) := dk_6 (dk_at dksL_law_13 16 rfl rfl)
theorem dL_law_574 : decode cL_law 574 = .ok (.iadd, 1) := dk_96 (dk_at dksL_law_13 17 rfl rfl)
theorem dL_law_575 : decode cL_law 575 = .ok (.iaload, 1) := dk_46 (dk_at dksL_law_13 18 rfl rfl)
theorem dL_law_576 : decode cL_law 576 = .ok (.invokevirtual 49, 3) := dk_182 0 49 (dk_at dksL_law_13 19 rfl rfl)
theorem dL_law_579 : decode cL_law 579 = .ok (.if_icmp .eq 1636, 3) := dk_159 6 100 (dk_at dksL_law_14 0 rfl rfl)
theorem dL_law_582 : decode cL_law 582 = .ok (.iconst 0, 1) := dk_3 (dk_at dksL_law_14 3 rfl rfl)
theorem dL_law_583 : decode cL_law 583 = .ok (.ireturn, 1) := dk_172 (dk_at dksL_law_14 4 rfl rfl)
theorem dL_law_584 : decode cL_law 584 = .ok (.aload_n 1, 1) := dk_43 (dk_at dksL_law_14 5 rfl rfl)
theorem dL_law_585 : decode cL_law 585 = .ok (.aload_n 0, 1) := dk_42 (dk_at dksL_law_14 6 rfl rfl)
theorem dL_law_586 : decode cL_law 586 = .ok (.iload_n 3, 1) := dk_29 (dk_at dksL_law_14 7 rfl rfl)
theorem dL_law_587 : decode cL_law 587 = .ok (.iconst 1, 1) := dk_4 (dk_at dksL_law_14 8 rfl rfl)
theorem dL_law_588 : decode cL_law 588 = .ok (.iadd, 1) := dk_96 (dk_at dksL_law_14 9 rfl rfl)
theorem dL_law_589 : decode cL_law 589 = .ok (.iaload, 1) := dk_46 (dk_at dksL_law_14 10 rfl rfl)
theorem dL_law_590 : decode cL_law 590 = .ok (.invokevirtual 50, 3) := dk_182 0 50 (dk_at dksL_law_14 11 rfl rfl)
theorem dL_law_593 : decode cL_law 593 = .ok (.aload_n 2, 1) := dk_44 (dk_at dksL_law_14 14 rfl rfl)
theorem dL_law_594 : decode cL_law 594 = .ok (.aload_n 0, 1) := dk_42 (dk_at dksL_law_14 15 rfl rfl)
theorem dL_law_595 : decode cL_law 595 = .ok (.iload_n 3, 1) := dk_29 (dk_at dksL_law_14 16 rfl rfl)
theorem dL_law_596 : decode cL_law 596 = .ok (.iconst 1, 1) := dk_4 (dk_at dksL_law_14 17 rfl rfl)
theorem dL_law_597 : decode cL_law 597 = .ok (.iadd, 1) := dk_96 (dk_at dksL_law_14 18 rfl rfl)
theorem dL_law_598 : decode cL_law 598 = .ok (.iaload, 1) := dk_46 (dk_at dksL_law_14 19 rfl rfl)
theorem dL_law_599 : decode cL_law 599 = .ok (.invokevirtual 53, 3) := dk_182 0 53 (dk_at dksL_law_14 20 rfl rfl)
theorem dL_law_602 : decode cL_law 602 = .ok (.if_icmp .eq 1613, 3) := dk_159 6 77 (dk_at dksL_law_15 0 rfl rfl)
theorem dL_law_605 : decode cL_law 605 = .ok (.iconst 0, 1) := dk_3 (dk_at dksL_law_15 3 rfl rfl)
theorem dL_law_606 : decode cL_law 606 = .ok (.ireturn, 1) := dk_172 (dk_at dksL_law_15 4 rfl rfl)
theorem dL_law_607 : decode cL_law 607 = .ok (.aload_n 1, 1) := dk_43 (dk_at dksL_law_15 5 rfl rfl)
theorem dL_law_608 : decode cL_law 608 = .ok (.aload_n 0, 1) := dk_42 (dk_at dksL_law_15 6 rfl rfl)
theorem dL_law_609 : decode cL_law 609 = .ok (.iload_n 3, 1) := dk_29 (dk_at dksL_law_15 7 rfl rfl)
theorem dL_law_610 : decode cL_law 610 = .ok (.iconst 1, 1) := dk_4 (dk_at dksL_law_15 8 rfl rfl)
theorem dL_law_611 : decode cL_law 611 = .ok (.iadd, 1) := dk_96 (dk_at dksL_law_15 9 rfl rfl)
theorem dL_law_612 : decode cL_law 612 = .ok (.iaload, 1) := dk_46 (dk_at dksL_law_15 10 rfl rfl)
theorem dL_law_613 : decode cL_law 613 = .ok (.invokevirtual 54, 3) := dk_182 0 54 (dk_at dksL_law_15 11 rfl rfl)
theorem dL_law_616 : decode cL_law 616 = .ok (.aload_n 2, 1) := dk_44 (dk_at dksL_law_15 14 rfl rfl)
theorem dL_law_617 : decode cL_law 617 = .ok (.aload_n 0, 1) := dk_42 (dk_at dksL_law_15 15 rfl rfl)
theorem dL_law_618 : decode cL_law 618 = .ok (.iload_n 3, 1) := dk_29 (dk_at dksL_law_15 16 rfl rfl)
theorem dL_law_619 : decode cL_law 619 = .ok (.iconst 1, 1) := dk_4 (dk_at dksL_law_15 17 rfl rfl)
theorem dL_law_620 : decode cL_law 620 = .ok (.iadd, 1) := dk_96 (dk_at dksL_law_15 18 rfl rfl)
theorem dL_law_621 : decode cL_law 621 = .ok (.iaload, 1) := dk_46 (dk_at dksL_law_15 19 rfl rfl)
theorem dL_law_622 : decode cL_law 622 = .ok (.invokevirtual 57, 3) := dk_182 0 57 (dk_at dksL_law_15 20 rfl rfl)
theorem dL_law_625 : decode cL_law 625 = .ok (.if_icmp .eq 1590, 3) := dk_159 6 54 (dk_at dksL_law_16 0 rfl rfl)
theorem dL_law_628 : decode cL_law 628 = .ok (.iconst 0, 1) := dk_3 (dk_at dksL_law_16 3 rfl rfl)
theorem dL_law_629 : decode cL_law 629 = .ok (.ireturn, 1) := dk_172 (dk_at dksL_law_16 4 rfl rfl)
theorem dL_law_630 : decode cL_law 630 = .ok (.aload_n 1, 1) := dk_43 (dk_at dksL_law_16 5 rfl rfl)
theorem dL_law_631 : decode cL_law 631 = .ok (.aload_n 0, 1) := dk_42 (dk_at dksL_law_16 6 rfl rfl)
theorem dL_law_632 : decode cL_law 632 = .ok (.iload_n 3, 1) := dk_29 (dk_at dksL_law_16 7 rfl rfl)
theorem dL_law_633 : decode cL_law 633 = .ok (.iconst 1, 1) := dk_4 (dk_at dksL_law_16 8 rfl rfl)
theorem dL_law_634 : decode cL_law 634 = .ok (.iadd, 1) := dk_96 (dk_at dksL_law_16 9 rfl rfl)
theorem dL_law_635 : decode cL_law 635 = .ok (.iaload, 1) := dk_46 (dk_at dksL_law_16 10 rfl rfl)
theorem dL_law_636 : decode cL_law 636 = .ok (.aload_n 0, 1) := dk_42 (dk_at dksL_law_16 11 rfl rfl)
theorem dL_law_637 : decode cL_law 637 = .ok (.iload_n 3, 1) := dk_29 (dk_at dksL_law_16 12 rfl rfl)
theorem dL_law_638 : decode cL_law 638 = .ok (.iconst 2, 1) := dk_5 (dk_at dksL_law_16 13 rfl rfl)
theorem dL_law_639 : decode cL_law 639 = .ok (.iadd, 1) := dk_96 (dk_at dksL_law_16 14 rfl rfl)
theorem dL_law_640 : decode cL_law 640 = .ok (.iaload, 1) := dk_46 (dk_at dksL_law_16 15 rfl rfl)
theorem dL_law_641 : decode cL_law 641 = .ok (.invokevirtual 58, 3) := dk_182 0 58 (dk_at dksL_law_16 16 rfl rfl)
theorem dL_law_644 : decode cL_law 644 = .ok (.aload_n 2, 1) := dk_44 (dk_at dksL_law_16 19 rfl rfl)
theorem dL_law_645 : decode cL_law 645 = .ok (.aload_n 0, 1) := dk_42 (dk_at dksL_law_16 20 rfl rfl)
theorem dL_law_646 : decode cL_law 646 = .ok (.iload_n 3, 1) := dk_29 (dk_at dksL_law_16 21 rfl rfl)
theorem dL_law_647 : decode cL_law 647 = .ok (.iconst 1, 1) := dk_4 (dk_at dksL_law_16 22 rfl rfl)
theorem dL_law_648 : decode cL_law 648 = .ok (.iadd, 1) := dk_96 (dk_at dksL_law_16 23 rfl rfl)
theorem dL_law_649 : decode cL_law 649 = .ok (.iaload, 1) := dk_46 (dk_at dksL_law_17 0 rfl rfl)
theorem dL_law_650 : decode cL_law 650 = .ok (.aload_n 0, 1) := dk_42 (dk_at dksL_law_17 1 rfl rfl)
theorem dL_law_651 : decode cL_law 651 = .ok (.iload_n 3, 1) := dk_29 (dk_at dksL_law_17 2 rfl rfl)
theorem dL_law_652 : decode cL_law 652 = .ok (.iconst 2, 1) := dk_5 (dk_at dksL_law_17 3 rfl rfl)
theorem dL_law_653 : decode cL_law 653 = .ok (.iadd, 1) := dk_96 (dk_at dksL_law_17 4 rfl rfl)
theorem dL_law_654 : decode cL_law 654 = .ok (.iaload, 1) := dk_46 (dk_at dksL_law_17 5 rfl rfl)
theorem dL_law_655 : decode cL_law 655 = .ok (.invokevirtual 61, 3) := dk_182 0 61 (dk_at dksL_law_17 6 rfl rfl)
theorem dL_law_658 : decode cL_law 658 = .ok (.if_icmp .eq 1557, 3) := dk_159 6 21 (dk_at dksL_law_17 9 rfl rfl)
theorem dL_law_661 : decode cL_law 661 = .ok (.iconst 0, 1) := dk_3 (dk_at dksL_law_17 12 rfl rfl)
theorem dL_law_662 : decode cL_law 662 = .ok (.ireturn, 1) := dk_172 (dk_at dksL_law_17 13 rfl rfl)
theorem dL_law_663 : decode cL_law 663 = .ok (.aload_n 1, 1) := dk_43 (dk_at dksL_law_17 14 rfl rfl)
theorem dL_law_664 : decode cL_law 664 = .ok (.aload_n 0, 1) := dk_42 (dk_at dksL_law_17 15 rfl rfl)
theorem dL_law_665 : decode cL_law 665 = .ok (.iload_n 3, 1) := dk_29 (dk_at dksL_law_17 16 rfl rfl)
theorem dL_law_666 : decode cL_law 666 = .ok (.iconst 1, 1) := dk_4 (dk_at dksL_law_17 17 rfl rfl)
theorem dL_law_667 : decode cL_law 667 = .ok (.iadd, 1) := dk_96 (dk_at dksL_law_17 18 rfl rfl)
theorem dL_law_668 : decode cL_law 668 = .ok (.iaload, 1) := dk_46 (dk_at dksL_law_17 19 rfl rfl)
theorem dL_law_669 : decode cL_law 669 = .ok (.invokevirtual 62, 3) := dk_182 0 62 (dk_at dksL_law_17 20 rfl rfl)
theorem dL_law_672 : decode cL_law 672 = .ok (.aload_n 2, 1) := dk_44 (dk_at dksL_law_17 23 rfl rfl)
theorem dL_law_673 : decode cL_law 673 = .ok (.aload_n 0, 1) := dk_42 (dk_at dksL_law_18 0 rfl rfl)
theorem dL_law_674 : decode cL_law 674 = .ok (.iload_n 3, 1) := dk_29 (dk_at dksL_law_18 1 rfl rfl)
theorem dL_law_675 : decode cL_law 675 = .ok (.iconst 1, 1) := dk_4 (dk_at dksL_law_18 2 rfl rfl)
theorem dL_law_676 : decode cL_law 676 = .ok (.iadd, 1) := dk_96 (dk_at dksL_law_18 3 rfl rfl)
theorem dL_law_677 : decode cL_law 677 = .ok (.iaload, 1) := dk_46 (dk_at dksL_law_18 4 rfl rfl)
theorem dL_law_678 : decode cL_law 678 = .ok (.invokevirtual 65, 3) := dk_182 0 65 (dk_at dksL_law_18 5 rfl rfl)
theorem dL_law_681 : decode cL_law 681 = .ok (.if_icmp .eq 1534, 3) := dk_159 5 254 (dk_at dksL_law_18 8 rfl rfl)
theorem dL_law_684 : decode cL_law 684 = .ok (.iconst 0, 1) := dk_3 (dk_at dksL_law_18 11 rfl rfl)
theorem dL_law_685 : decode cL_law 685 = .ok (.ireturn, 1) := dk_172 (dk_at dksL_law_18 12 rfl rfl)
theorem dL_law_686 : decode cL_law 686 = .ok (.aload_n 1, 1) := dk_43 (dk_at dksL_law_18 13 rfl rfl)
theorem dL_law_687 : decode cL_law 687 = .ok (.aload_n 0, 1) := dk_42 (dk_at dksL_law_18 14 rfl rfl)
theorem dL_law_688 : decode cL_law 688 = .ok (.iload_n 3, 1) := dk_29 (dk_at dksL_law_18 15 rfl rfl)
theorem dL_law_689 : decode cL_law 689 = .ok (.iconst 1, 1) := dk_4 (dk_at dksL_law_18 16 rfl rfl)
theorem dL_law_690 : decode cL_law 690 = .ok (.iadd, 1) := dk_96 (dk_at dksL_law_18 17 rfl rfl)
theorem dL_law_691 : decode cL_law 691 = .ok (.iaload, 1) := dk_46 (dk_at dksL_law_18 18 rfl rfl)
theorem dL_law_692 : decode cL_law 692 = .ok (.aload_n 0, 1) := dk_42 (dk_at dksL_law_18 19 rfl rfl)
theorem dL_law_693 : decode cL_law 693 = .ok (.iload_n 3, 1) := dk_29 (dk_at dksL_law_18 20 rfl rfl)
theorem dL_law_694 : decode cL_law 694 = .ok (.iconst 2, 1) := dk_5 (dk_at dksL_law_18 21 rfl rfl)
theorem dL_law_695 : decode cL_law 695 = .ok (.iadd, 1) := dk_96 (dk_at dksL_law_18 22 rfl rfl)
theorem dL_law_696 : decode cL_law 696 = .ok (.iaload, 1) := dk_46 (dk_at dksL_law_18 23 rfl rfl)
theorem dL_law_697 : decode cL_law 697 = .ok (.invokevirtual 66, 3) := dk_182 0 66 (dk_at dksL_law_19 0 rfl rfl)
theorem dL_law_700 : decode cL_law 700 = .ok (.aload_n 2, 1) := dk_44 (dk_at dksL_law_19 3 rfl rfl)
theorem dL_law_701 : decode cL_law 701 = .ok (.aload_n 0, 1) := dk_42 (dk_at dksL_law_19 4 rfl rfl)
theorem dL_law_702 : decode cL_law 702 = .ok (.iload_n 3, 1) := dk_29 (dk_at dksL_law_19 5 rfl rfl)
theorem dL_law_703 : decode cL_law 703 = .ok (.iconst 1, 1) := dk_4 (dk_at dksL_law_19 6 rfl rfl)
theorem dL_law_704 : decode cL_law 704 = .ok (.iadd, 1) := dk_96 (dk_at dksL_law_19 7 rfl rfl)
theorem dL_law_705 : decode cL_law 705 = .ok (.iaload, 1) := dk_46 (dk_at dksL_law_19 8 rfl rfl)
theorem dL_law_706 : decode cL_law 706 = .ok (.aload_n 0, 1) := dk_42 (dk_at dksL_law_19 9 rfl rfl)
theorem dL_law_707 : decode cL_law 707 = .ok (.iload_n 3, 1) := dk_29 (dk_at dksL_law_19 10 rfl rfl)
theorem dL_law_708 : decode cL_law 708 = .ok (.iconst 2, 1) := dk_5 (dk_at dksL_law_19 11 rfl rfl)
theorem dL_law_709 : decode cL_law 709 = .ok (.iadd, 1) := dk_96 (dk_at dksL_law_19 12 rfl rfl)
theorem dL_law_710 : decode cL_law 710 = .ok (.iaload, 1) := dk_46 (dk_at dksL_law_19 13 rfl rfl)
theorem dL_law_711 : decode cL_law 711 = .ok (.invokevirtual 69, 3) := dk_182 0 69 (dk_at dksL_law_19 14 rfl rfl)
theorem dL_law_714 : decode cL_law 714 = .ok (.if_icmp .eq 1501, 3) := dk_159 5 221 (dk_at dksL_law_19 17 rfl rfl)
theorem dL_law_717 : decode cL_law 717 = .ok (.iconst 0, 1) := dk_3 (dk_at dksL_law_19 20 rfl rfl)
theorem dL_law_718 : decode cL_law 718 = .ok (.ireturn, 1) := dk_172 (dk_at dksL_law_19 21 rfl rfl)
theorem dL_law_719 : decode cL_law 719 = .ok (.aload_n 1, 1) := dk_43 (dk_at dksL_law_19 22 rfl rfl)
theorem dL_law_720 : decode cL_law 720 = .ok (.aload_n 0, 1) := dk_42 (dk_at dksL_law_19 23 rfl rfl)
theorem dL_law_721 : decode cL_law 721 = .ok (.iload_n 3, 1) := dk_29 (dk_at dksL_law_20 0 rfl rfl)
theorem dL_law_722 : decode cL_law 722 = .ok (.iconst 1, 1) := dk_4 (dk_at dksL_law_20 1 rfl rfl)
theorem dL_law_723 : decode cL_law 723 = .ok (.iadd, 1) := dk_96 (dk_at dksL_law_20 2 rfl rfl)
theorem dL_law_724 : decode cL_law 724 = .ok (.iaload, 1) := dk_46 (dk_at dksL_law_20 3 rfl rfl)
theorem dL_law_725 : decode cL_law 725 = .ok (.aload_n 0, 1) := dk_42 (dk_at dksL_law_20 4 rfl rfl)
theorem dL_law_726 : decode cL_law 726 = .ok (.iload_n 3, 1) := dk_29 (dk_at dksL_law_20 5 rfl rfl)
theorem dL_law_727 : decode cL_law 727 = .ok (.iconst 2, 1) := dk_5 (dk_at dksL_law_20 6 rfl rfl)
theorem dL_law_728 : decode cL_law 728 = .ok (.iadd, 1) := dk_96 (dk_at dksL_law_20 7 rfl rfl)
theorem dL_law_729 : decode cL_law 729 = .ok (.iaload, 1) := dk_46 (dk_at dksL_law_20 8 rfl rfl)
theorem dL_law_730 : decode cL_law 730 = .ok (.invokevirtual 70, 3) := dk_182 0 70 (dk_at dksL_law_20 9 rfl rfl)
theorem dL_law_733 : decode cL_law 733 = .ok (.aload_n 2, 1) := dk_44 (dk_at dksL_law_20 12 rfl rfl)
theorem dL_law_734 : decode cL_law 734 = .ok (.aload_n 0, 1) := dk_42 (dk_at dksL_law_20 13 rfl rfl)
theorem dL_law_735 : decode cL_law 735 = .ok (.iload_n 3, 1) := dk_29 (dk_at dksL_law_20 14 rfl rfl)
theorem dL_law_736 : decode cL_law 736 = .ok (.iconst 1, 1) := dk_4 (dk_at dksL_law_20 15 rfl rfl)
theorem dL_law_737 : decode cL_law 737 = .ok (.iadd, 1) := dk_96 (dk_at dksL_law_20 16 rfl rfl)
theorem dL_law_738 : decode cL_law 738 = .ok (.iaload, 1) := dk_46 (dk_at dksL_law_20 17 rfl rfl)
theorem dL_law_739 : decode cL_law 739 = .ok (.aload_n 0, 1) := dk_42 (dk_at dksL_law_20 18 rfl rfl)
theorem dL_law_740 : decode cL_law 740 = .ok (.iload_n 3, 1) := dk_29 (dk_at dksL_law_20 19 rfl rfl)
theorem dL_law_741 : decode cL_law 741 = .ok (.iconst 2, 1) := dk_5 (dk_at dksL_law_20 20 rfl rfl)
theorem dL_law_742 : decode cL_law 742 = .ok (.iadd, 1) := dk_96 (dk_at dksL_law_20 21 rfl rfl)
theorem dL_law_743 : decode cL_law 743 = .ok (.iaload, 1) := dk_46 (dk_at dksL_law_20 22 rfl rfl)
theorem dL_law_744 : decode cL_law 744 = .ok (.invokevirtual 73, 3) := dk_182 0 73 (dk_at dksL_law_21 0 rfl rfl)
theorem dL_law_747 : decode cL_law 747 = .ok (.if_icmp .eq 1468, 3) := dk_159 5 188 (dk_at dksL_law_21 3 rfl rfl)
theorem dL_law_750 : decode cL_law 750 = .ok (.iconst 0, 1) := dk_3 (dk_at dksL_law_21 6 rfl rfl)
theorem dL_law_751 : decode cL_law 751 = .ok (.ireturn, 1) := dk_172 (dk_at dksL_law_21 7 rfl rfl)
theorem dL_law_752 : decode cL_law 752 = .ok (.aload_n 1, 1) := dk_43 (dk_at dksL_law_21 8 rfl rfl)
theorem dL_law_753 : decode cL_law 753 = .ok (.aload_n 0, 1) := dk_42 (dk_at dksL_law_21 9 rfl rfl)
theorem dL_law_754 : decode cL_law 754 = .ok (.iload_n 3, 1) := dk_29 (dk_at dksL_law_21 10 rfl rfl)
theorem dL_law_755 : decode cL_law 755 = .ok (.iconst 1, 1) := dk_4 (dk_at dksL_law_21 11 rfl rfl)
theorem dL_law_756 : decode cL_law 756 = .ok (.iadd, 1) := dk_96 (dk_at dksL_law_21 12 rfl rfl)
theorem dL_law_757 : decode cL_law 757 = .ok (.iaload, 1) := dk_46 (dk_at dksL_law_21 13 rfl rfl)
theorem dL_law_758 : decode cL_law 758 = .ok (.aload_n 0, 1) := dk_42 (dk_at dksL_law_21 14 rfl rfl)
theorem dL_law_759 : decode cL_law 759 = .ok (.iload_n 3, 1) := dk_29 (dk_at dksL_law_21 15 rfl rfl)
theorem dL_law_760 : decode cL_law 760 = .ok (.iconst 2, 1) := dk_5 (dk_at dksL_law_21 16 rfl rfl)
theorem dL_law_761 : decode cL_law 761 = .ok (.iadd, 1) := dk_96 (dk_at dksL_law_21 17 rfl rfl)
theorem dL_law_762 : decode cL_law 762 = .ok (.iaload, 1) := dk_46 (dk_at dksL_law_21 18 rfl rfl)
theorem dL_law_763 : decode cL_law 763 = .ok (.aload_n 0, 1) := dk_42 (dk_at dksL_law_21 19 rfl rfl)
theorem dL_law_764 : decode cL_law 764 = .ok (.iload_n 3, 1) := dk_29 (dk_at dksL_law_21 20 rfl rfl)
theorem dL_law_765 : decode cL_law 765 = .ok (.iconst 3, 1) := dk_6 (dk_at dksL_law_21 21 rfl rfl)
theorem dL_law_766 : decode cL_law 766 = .ok (.iadd, 1) := dk_96 (dk_at dksL_law_21 22 rfl rfl)
theorem dL_law_767 : decode cL_law 767 = .ok (.iaload, 1) := dk_46 (dk_at dksL_law_21 23 rfl rfl)
theorem dL_law_768 : decode cL_law 768 = .ok (.invokevirtual 74, 3) := dk_182 0 74 (dk_at dksL_law_22 0 rfl rfl)
theorem dL_law_771 : decode cL_law 771 = .ok (.aload_n 2, 1) := dk_44 (dk_at dksL_law_22 3 rfl rfl)
theorem dL_law_772 : decode cL_law 772 = .ok (.aload_n 0, 1) := dk_42 (dk_at dksL_law_22 4 rfl rfl)
theorem dL_law_773 : decode cL_law 773 = .ok (.iload_n 3, 1) := dk_29 (dk_at dksL_law_22 5 rfl rfl)
theorem dL_law_774 : decode cL_law 774 = .ok (.iconst 1, 1) := dk_4 (dk_at dksL_law_22 6 rfl rfl)
theorem dL_law_775 : decode cL_law 775 = .ok (.iadd, 1) := dk_96 (dk_at dksL_law_22 7 rfl rfl)
theorem dL_law_776 : decode cL_law 776 = .ok (.iaload, 1) := dk_46 (dk_at dksL_law_22 8 rfl rfl)
theorem dL_law_777 : decode cL_law 777 = .ok (.aload_n 0, 1) := dk_42 (dk_at dksL_law_22 9 rfl rfl)
theorem dL_law_778 : decode cL_law 778 = .ok (.iload_n 3, 1) := dk_29 (dk_at dksL_law_22 10 rfl rfl)
theorem dL_law_779 : decode cL_law 779 = .ok (.iconst 2, 1) := dk_5 (dk_at dksL_law_22 11 rfl rfl)
theorem dL_law_780 : decode cL_law 780 = .ok (.iadd, 1) := dk_96 (dk_at dksL_law_22 12 rfl rfl)
theorem dL_law_781 : decode cL_law 781 = .ok (.iaload, 1) := dk_46 (dk_at dksL_law_22 13 rfl rfl)
theorem dL_law_782 : decode cL_law 782 = .ok (.aload_n 0, 1) := dk_42 (dk_at dksL_law_22 14 rfl rfl)
theorem dL_law_783 : decode cL_law 783 = .ok (.iload_n 3, 1) := dk_29 (dk_at dksL_law_22 15 rfl rfl)
theorem dL_law_784 : decode cL_law 784 = .ok (.iconst 3, 1) := dk_6 (dk_at dksL_law_22 16 rfl rfl)
theorem dL_law_785 : decode cL_law 785 = .ok (.iadd, 1) := dk_96 (dk_at dksL_law_22 17 rfl rfl)
theorem dL_law_786 : decode cL_law 786 = .ok (.iaload, 1) := dk_46 (dk_at dksL_law_22 18 rfl rfl)
theorem dL_law_787 : decode cL_law 787 = .ok (.invokevirtual 77, 3) := dk_182 0 77 (dk_at dksL_law_22 19 rfl rfl)
theorem dL_law_790 : decode cL_law 790 = .ok (.if_icmp .eq 1425, 3) := dk_159 5 145 (dk_at dksL_law_23 0 rfl rfl)
theorem dL_law_793 : decode cL_law 793 = .ok (.iconst 0, 1) := dk_3 (dk_at dksL_law_23 3 rfl rfl)
theorem dL_law_794 : decode cL_law 794 = .ok (.ireturn, 1) := dk_172 (dk_at dksL_law_23 4 rfl rfl)
theorem dL_law_795 : decode cL_law 795 = .ok (.aload_n 1, 1) := dk_43 (dk_at dksL_law_23 5 rfl rfl)
theorem dL_law_796 : decode cL_law 796 = .ok (.aload_n 0, 1) := dk_42 (dk_at dksL_law_23 6 rfl rfl)
theorem dL_law_797 : decode cL_law 797 = .ok (.iload_n 3, 1) := dk_29 (dk_at dksL_law_23 7 rfl rfl)
theorem dL_law_798 : decode cL_law 798 = .ok (.iconst 1, 1) := dk_4 (dk_at dksL_law_23 8 rfl rfl)
theorem dL_law_799 : decode cL_law 799 = .ok (.iadd, 1) := dk_96 (dk_at dksL_law_23 9 rfl rfl)
theorem dL_law_800 : decode cL_law 800 = .ok (.iaload, 1) := dk_46 (dk_at dksL_law_23 10 rfl rfl)
theorem dL_law_801 : decode cL_law 801 = .ok (.aload_n 0, 1) := dk_42 (dk_at dksL_law_23 11 rfl rfl)
theorem dL_law_802 : decode cL_law 802 = .ok (.iload_n 3, 1) := dk_29 (dk_at dksL_law_23 12 rfl rfl)
theorem dL_law_803 : decode cL_law 803 = .ok (.iconst 2, 1) := dk_5 (dk_at dksL_law_23 13 rfl rfl)
theorem dL_law_804 : decode cL_law 804 = .ok (.iadd, 1) := dk_96 (dk_at dksL_law_23 14 rfl rfl)
theorem dL_law_805 : decode cL_law 805 = .ok (.iaload, 1) := dk_46 (dk_at dksL_law_23 15 rfl rfl)
theorem dL_law_806 : decode cL_law 806 = .ok (.aload_n 0, 1) := dk_42 (dk_at dksL_law_23 16 rfl rfl)
theorem dL_law_807 : decode cL_law 807 = .ok (.iload_n 3, 1) := dk_29 (dk_at dksL_law_23 17 rfl rfl)
theorem dL_law_808 : decode cL_law 808 = .ok (.iconst 3, 1) := dk_6 (dk_at dksL_law_23 18 rfl rfl)
theorem dL_law_809 : decode cL_law 809 = .ok (.iadd, 1) := dk_96 (dk_at dksL_law_23 19 rfl rfl)
theorem dL_law_810 : decode cL_law 810 = .ok (.iaload, 1) := dk_46 (dk_at dksL_law_23 20 rfl rfl)
theorem dL_law_811 : decode cL_law 811 = .ok (.invokevirtual 78, 3) := dk_182 0 78 (dk_at dksL_law_23 21 rfl rfl)
theorem dL_law_814 : decode cL_law 814 = .ok (.aload_n 2, 1) := dk_44 (dk_at dksL_law_24 0 rfl rfl)
theorem dL_law_815 : decode cL_law 815 = .ok (.aload_n 0, 1) := dk_42 (dk_at dksL_law_24 1 rfl rfl)
theorem dL_law_816 : decode cL_law 816 = .ok (.iload_n 3, 1) := dk_29 (dk_at dksL_law_24 2 rfl rfl)
theorem dL_law_817 : decode cL_law 817 = .ok (.iconst 1, 1) := dk_4 (dk_at dksL_law_24 3 rfl rfl)
theorem dL_law_818 : decode cL_law 818 = .ok (.iadd, 1) := dk_96 (dk_at dksL_law_24 4 rfl rfl)
theorem dL_law_819 : decode cL_law 819 = .ok (.iaload, 1) := dk_46 (dk_at dksL_law_24 5 rfl rfl)
theorem dL_law_820 : decode cL_law 820 = .ok (.aload_n 0, 1) := dk_42 (dk_at dksL_law_24 6 rfl rfl)
theorem dL_law_821 : decode cL_law 821 = .ok (.iload_n 3, 1) := dk_29 (dk_at dksL_law_24 7 rfl rfl)
theorem dL_law_822 : decode cL_law 822 = .ok (.iconst 2, 1) := dk_5 (dk_at dksL_law_24 8 rfl rfl)
theorem dL_law_823 : decode cL_law 823 = .ok (.iadd, 1) := dk_96 (dk_at dksL_law_24 9 rfl rfl)
theorem dL_law_824 : decode cL_law 824 = .ok (.iaload, 1) := dk_46 (dk_at dksL_law_24 10 rfl rfl)
theorem dL_law_825 : decode cL_law 825 = .ok (.aload_n 0, 1) := dk_42 (dk_at dksL_law_24 11 rfl rfl)
theorem dL_law_826 : decode cL_law 826 = .ok (.iload_n 3, 1) := dk_29 (dk_at dksL_law_24 12 rfl rfl)
theorem dL_law_827 : decode cL_law 827 = .ok (.iconst 3, 1) := dk_6 (dk_at dksL_law_24 13 rfl rfl)
theorem dL_law_828 : decode cL_law 828 = .ok (.iadd, 1) := dk_96 (dk_at dksL_law_24 14 rfl rfl)
theorem dL_law_829 : decode cL_law 829 = .ok (.iaload, 1) := dk_46 (dk_at dksL_law_24 15 rfl rfl)
theorem dL_law_830 : decode cL_law 830 = .ok (.invokevirtual 81, 3) := dk_182 0 81 (dk_at dksL_law_24 16 rfl rfl)
theorem dL_law_833 : decode cL_law 833 = .ok (.if_icmp .eq 1382, 3) := dk_159 5 102 (dk_at dksL_law_24 19 rfl rfl)
theorem dL_law_836 : decode cL_law 836 = .ok (.iconst 0, 1) := dk_3 (dk_at dksL_law_24 22 rfl rfl)
theorem dL_law_837 : decode cL_law 837 = .ok (.ireturn, 1) := dk_172 (dk_at dksL_law_24 23 rfl rfl)
theorem dL_law_838 : decode cL_law 838 = .ok (.aload_n 1, 1) := dk_43 (dk_at dksL_law_25 0 rfl rfl)
theorem dL_law_839 : decode cL_law 839 = .ok (.aload_n 0, 1) := dk_42 (dk_at dksL_law_25 1 rfl rfl)
theorem dL_law_840 : decode cL_law 840 = .ok (.iload_n 3, 1) := dk_29 (dk_at dksL_law_25 2 rfl rfl)
theorem dL_law_841 : decode cL_law 841 = .ok (.iconst 1, 1) := dk_4 (dk_at dksL_law_25 3 rfl rfl)
theorem dL_law_842 : decode cL_law 842 = .ok (.iadd, 1) := dk_96 (dk_at dksL_law_25 4 rfl rfl)
theorem dL_law_843 : decode cL_law 843 = .ok (.iaload, 1) := dk_46 (dk_at dksL_law_25 5 rfl rfl)
theorem dL_law_844 : decode cL_law 844 = .ok (.aload_n 0, 1) := dk_42 (dk_at dksL_law_25 6 rfl rfl)
theorem dL_law_845 : decode cL_law 845 = .ok (.iload_n 3, 1) := dk_29 (dk_at dksL_law_25 7 rfl rfl)
theorem dL_law_846 : decode cL_law 846 = .ok (.iconst 2, 1) := dk_5 (dk_at dksL_law_25 8 rfl rfl)
theorem dL_law_847 : decode cL_law 847 = .ok (.iadd, 1) := dk_96 (dk_at dksL_law_25 9 rfl rfl)
theorem dL_law_848 : decode cL_law 848 = .ok (.iaload, 1) := dk_46 (dk_at dksL_law_25 10 rfl rfl)
theorem dL_law_849 : decode cL_law 849 = .ok (.invokevirtual 82, 3) := dk_182 0 82 (dk_at dksL_law_25 11 rfl rfl)
theorem dL_law_852 : decode cL_law 852 = .ok (.aload_n 2, 1) := dk_44 (dk_at dksL_law_25 14 rfl rfl)
theorem dL_law_853 : decode cL_law 853 = .ok (.aload_n 0, 1) := dk_42 (dk_at dksL_law_25 15 rfl rfl)
theorem dL_law_854 : decode cL_law 854 = .ok (.iload_n 3, 1) := dk_29 (dk_at dksL_law_25 16 rfl rfl)
theorem dL_law_855 : decode cL_law 855 = .ok (.iconst 1, 1) := dk_4 (dk_at dksL_law_25 17 rfl rfl)
theorem dL_law_856 : decode cL_law 856 = .ok (.iadd, 1) := dk_96 (dk_at dksL_law_25 18 rfl rfl)
theorem dL_law_857 : decode cL_law 857 = .ok (.iaload, 1) := dk_46 (dk_at dksL_law_25 19 rfl rfl)
theorem dL_law_858 : decode cL_law 858 = .ok (.aload_n 0, 1) := dk_42 (dk_at dksL_law_25 20 rfl rfl)
theorem dL_law_859 : decode cL_law 859 = .ok (.iload_n 3, 1) := dk_29 (dk_at dksL_law_25 21 rfl rfl)
theorem dL_law_860 : decode cL_law 860 = .ok (.iconst 2, 1) := dk_5 (dk_at dksL_law_25 22 rfl rfl)
theorem dL_law_861 : decode cL_law 861 = .ok (.iadd, 1) := dk_96 (dk_at dksL_law_25 23 rfl rfl)
theorem dL_law_862 : decode cL_law 862 = .ok (.iaload, 1) := dk_46 (dk_at dksL_law_26 0 rfl rfl)
theorem dL_law_863 : decode cL_law 863 = .ok (.invokevirtual 85, 3) := dk_182 0 85 (dk_at dksL_law_26 1 rfl rfl)
theorem dL_law_866 : decode cL_law 866 = .ok (.if_icmp .eq 1349, 3) := dk_159 5 69 (dk_at dksL_law_26 4 rfl rfl)
theorem dL_law_869 : decode cL_law 869 = .ok (.iconst 0, 1) := dk_3 (dk_at dksL_law_26 7 rfl rfl)
theorem dL_law_870 : decode cL_law 870 = .ok (.ireturn, 1) := dk_172 (dk_at dksL_law_26 8 rfl rfl)
theorem dL_law_871 : decode cL_law 871 = .ok (.aload_n 1, 1) := dk_43 (dk_at dksL_law_26 9 rfl rfl)
theorem dL_law_872 : decode cL_law 872 = .ok (.invokevirtual 86, 3) := dk_182 0 86 (dk_at dksL_law_26 10 rfl rfl)
theorem dL_law_875 : decode cL_law 875 = .ok (.aload_n 2, 1) := dk_44 (dk_at dksL_law_26 13 rfl rfl)
theorem dL_law_876 : decode cL_law 876 = .ok (.invokevirtual 89, 3) := dk_182 0 89 (dk_at dksL_law_26 14 rfl rfl)
theorem dL_law_879 : decode cL_law 879 = .ok (.if_icmp .eq 1336, 3) := dk_159 5 56 (dk_at dksL_law_26 17 rfl rfl)
theorem dL_law_882 : decode cL_law 882 = .ok (.iconst 0, 1) := dk_3 (dk_at dksL_law_26 20 rfl rfl)
theorem dL_law_883 : decode cL_law 883 = .ok (.ireturn, 1) := dk_172 (dk_at dksL_law_26 21 rfl rfl)
theorem dL_law_884 : decode cL_law 884 = .ok (.aload_n 1, 1) := dk_43 (dk_at dksL_law_26 22 rfl rfl)
theorem dL_law_885 : decode cL_law 885 = .ok (.aload_n 0, 1) := dk_42 (dk_at dksL_law_26 23 rfl rfl)
theorem dL_law_886 : decode cL_law 886 = .ok (.iload_n 3, 1) := dk_29 (dk_at dksL_law_27 0 rfl rfl)
theorem dL_law_887 : decode cL_law 887 = .ok (.iconst 1, 1) := dk_4 (dk_at dksL_law_27 1 rfl rfl)
theorem dL_law_888 : decode cL_law 888 = .ok (.iadd, 1) := dk_96 (dk_at dksL_law_27 2 rfl rfl)
theorem dL_law_889 : decode cL_law 889 = .ok (.iaload, 1) := dk_46 (dk_at dksL_law_27 3 rfl rfl)
theorem dL_law_890 : decode cL_law 890 = .ok (.aload_n 0, 1) := dk_42 (dk_at dksL_law_27 4 rfl rfl)
theorem dL_law_891 : decode cL_law 891 = .ok (.iload_n 3, 1) := dk_29 (dk_at dksL_law_27 5 rfl rfl)
theorem dL_law_892 : decode cL_law 892 = .ok (.iconst 2, 1) := dk_5 (dk_at dksL_law_27 6 rfl rfl)
theorem dL_law_893 : decode cL_law 893 = .ok (.iadd, 1) := dk_96 (dk_at dksL_law_27 7 rfl rfl)
theorem dL_law_894 : decode cL_law 894 = .ok (.iaload, 1) := dk_46 (dk_at dksL_law_27 8 rfl rfl)
theorem dL_law_895 : decode cL_law 895 = .ok (.invokevirtual 90, 3) := dk_182 0 90 (dk_at dksL_law_27 9 rfl rfl)
theorem dL_law_898 : decode cL_law 898 = .ok (.aload_n 2, 1) := dk_44 (dk_at dksL_law_27 12 rfl rfl)
theorem dL_law_899 : decode cL_law 899 = .ok (.aload_n 0, 1) := dk_42 (dk_at dksL_law_27 13 rfl rfl)
theorem dL_law_900 : decode cL_law 900 = .ok (.iload_n 3, 1) := dk_29 (dk_at dksL_law_27 14 rfl rfl)
theorem dL_law_901 : decode cL_law 901 = .ok (.iconst 1, 1) := dk_4 (dk_at dksL_law_27 15 rfl rfl)
theorem dL_law_902 : decode cL_law 902 = .ok (.iadd, 1) := dk_96 (dk_at dksL_law_27 16 rfl rfl)
theorem dL_law_903 : decode cL_law 903 = .ok (.iaload, 1) := dk_46 (dk_at dksL_law_27 17 rfl rfl)
theorem dL_law_904 : decode cL_law 904 = .ok (.aload_n 0, 1) := dk_42 (dk_at dksL_law_27 18 rfl rfl)
theorem dL_law_905 : decode cL_law 905 = .ok (.iload_n 3, 1) := dk_29 (dk_at dksL_law_27 19 rfl rfl)
theorem dL_law_906 : decode cL_law 906 = .ok (.iconst 2, 1) := dk_5 (dk_at dksL_law_27 20 rfl rfl)
theorem dL_law_907 : decode cL_law 907 = .ok (.iadd, 1) := dk_96 (dk_at dksL_law_27 21 rfl rfl)
theorem dL_law_908 : decode cL_law 908 = .ok (.iaload, 1) := dk_46 (dk_at dksL_law_27 22 rfl rfl)
theorem dL_law_909 : decode cL_law 909 = .ok (.invokevirtual 93, 3) := dk_182 0 93 (dk_at dksL_law_28 0 rfl rfl)
theorem dL_law_912 : decode cL_law 912 = .ok (.if_icmp .eq 1303, 3) := dk_159 5 23 (dk_at dksL_law_28 3 rfl rfl)
theorem dL_law_915 : decode cL_law 915 = .ok (.iconst 0, 1) := dk_3 (dk_at dksL_law_28 6 rfl rfl)
theorem dL_law_916 : decode cL_law 916 = .ok (.ireturn, 1) := dk_172 (dk_at dksL_law_28 7 rfl rfl)
theorem dL_law_917 : decode cL_law 917 = .ok (.aload_n 1, 1) := dk_43 (dk_at dksL_law_28 8 rfl rfl)
theorem dL_law_918 : decode cL_law 918 = .ok (.aload_n 0, 1) := dk_42 (dk_at dksL_law_28 9 rfl rfl)
theorem dL_law_919 : decode cL_law 919 = .ok (.iload_n 3, 1) := dk_29 (dk_at dksL_law_28 10 rfl rfl)
theorem dL_law_920 : decode cL_law 920 = .ok (.iconst 1, 1) := dk_4 (dk_at dksL_law_28 11 rfl rfl)
theorem dL_law_921 : decode cL_law 921 = .ok (.iadd, 1) := dk_96 (dk_at dksL_law_28 12 rfl rfl)
theorem dL_law_922 : decode cL_law 922 = .ok (.iaload, 1) := dk_46 (dk_at dksL_law_28 13 rfl rfl)
theorem dL_law_923 : decode cL_law 923 = .ok (.aload_n 0, 1) := dk_42 (dk_at dksL_law_28 14 rfl rfl)
theorem dL_law_924 : decode cL_law 924 = .ok (.iload_n 3, 1) := dk_29 (dk_at dksL_law_28 15 rfl rfl)
theorem dL_law_925 : decode cL_law 925 = .ok (.iconst 2, 1) := dk_5 (dk_at dksL_law_28 16 rfl rfl)
theorem dL_law_926 : decode cL_law 926 = .ok (.iadd, 1) := dk_96 (dk_at dksL_law_28 17 rfl rfl)
theorem dL_law_927 : decode cL_law 927 = .ok (.iaload, 1) := dk_46 (dk_at dksL_law_28 18 rfl rfl)
theorem dL_law_928 : decode cL_law 928 = .ok (.aload_n 0, 1) := dk_42 (dk_at dksL_law_28 19 rfl rfl)
theorem dL_law_929 : decode cL_law 929 = .ok (.iload_n 3, 1) := dk_29 (dk_at dksL_law_28 20 rfl rfl)
theorem dL_law_930 : decode cL_law 930 = .ok (.iconst 3, 1) := dk_6 (dk_at dksL_law_28 21 rfl rfl)
theorem dL_law_931 : decode cL_law 931 = .ok (.iadd, 1) := dk_96 (dk_at dksL_law_28 22 rfl rfl)
theorem dL_law_932 : decode cL_law 932 = .ok (.iaload, 1) := dk_46 (dk_at dksL_law_28 23 rfl rfl)
theorem dL_law_933 : decode cL_law 933 = .ok (.invokevirtual 94, 3) := dk_182 0 94 (dk_at dksL_law_29 0 rfl rfl)
theorem dL_law_936 : decode cL_law 936 = .ok (.aload_n 2, 1) := dk_44 (dk_at dksL_law_29 3 rfl rfl)
theorem dL_law_937 : decode cL_law 937 = .ok (.aload_n 0, 1) := dk_42 (dk_at dksL_law_29 4 rfl rfl)
theorem dL_law_938 : decode cL_law 938 = .ok (.iload_n 3, 1) := dk_29 (dk_at dksL_law_29 5 rfl rfl)
theorem dL_law_939 : decode cL_law 939 = .ok (.iconst 1, 1) := dk_4 (dk_at dksL_law_29 6 rfl rfl)
theorem dL_law_940 : decode cL_law 940 = .ok (.iadd, 1) := dk_96 (dk_at dksL_law_29 7 rfl rfl)
theorem dL_law_941 : decode cL_law 941 = .ok (.iaload, 1) := dk_46 (dk_at dksL_law_29 8 rfl rfl)
theorem dL_law_942 : decode cL_law 942 = .ok (.aload_n 0, 1) := dk_42 (dk_at dksL_law_29 9 rfl rfl)
theorem dL_law_943 : decode cL_law 943 = .ok (.iload_n 3, 1) := dk_29 (dk_at dksL_law_29 10 rfl rfl)
theorem dL_law_944 : decode cL_law 944 = .ok (.iconst 2, 1) := dk_5 (dk_at dksL_law_29 11 rfl rfl)
theorem dL_law_945 : decode cL_law 945 = .ok (.iadd, 1) := dk_96 (dk_at dksL_law_29 12 rfl rfl)
theorem dL_law_946 : decode cL_law 946 = .ok (.iaload, 1) := dk_46 (dk_at dksL_law_29 13 rfl rfl)
theorem dL_law_947 : decode cL_law 947 = .ok (.aload_n 0, 1) := dk_42 (dk_at dksL_law_29 14 rfl rfl)
theorem dL_law_948 : decode cL_law 948 = .ok (.iload_n 3, 1) := dk_29 (dk_at dksL_law_29 15 rfl rfl)
theorem dL_law_949 : decode cL_law 949 = .ok (.iconst 3, 1) := dk_6 (dk_at dksL_law_29 16 rfl rfl)
theorem dL_law_950 : decode cL_law 950 = .ok (.iadd, 1) := dk_96 (dk_at dksL_law_29 17 rfl rfl)
theorem dL_law_951 : decode cL_law 951 = .ok (.iaload, 1) := dk_46 (dk_at dksL_law_29 18 rfl rfl)
theorem dL_law_952 : decode cL_law 952 = .ok (.invokevirtual 97, 3) := dk_182 0 97 (dk_at dksL_law_29 19 rfl rfl)
theorem dL_law_955 : decode cL_law 955 = .ok (.if_icmp .eq 1260, 3) := dk_159 4 236 (dk_at dksL_law_30 0 rfl rfl)
theorem dL_law_958 : decode cL_law 958 = .ok (.iconst 0, 1) := dk_3 (dk_at dksL_law_30 3 rfl rfl)
theorem dL_law_959 : decode cL_law 959 = .ok (.ireturn, 1) := dk_172 (dk_at dksL_law_30 4 rfl rfl)
theorem dL_law_960 : decode cL_law 960 = .ok (.aload_n 1, 1) := dk_43 (dk_at dksL_law_30 5 rfl rfl)
theorem dL_law_961 : decode cL_law 961 = .ok (.aload_n 0, 1) := dk_42 (dk_at dksL_law_30 6 rfl rfl)
theorem dL_law_962 : decode cL_law 962 = .ok (.iload_n 3, 1) := dk_29 (dk_at dksL_law_30 7 rfl rfl)
theorem dL_law_963 : decode cL_law 963 = .ok (.iconst 1, 1) := dk_4 (dk_at dksL_law_30 8 rfl rfl)
theorem dL_law_964 : decode cL_law 964 = .ok (.iadd, 1) := dk_96 (dk_at dksL_law_30 9 rfl rfl)
theorem dL_law_965 : decode cL_law 965 = .ok (.iaload, 1) := dk_46 (dk_at dksL_law_30 10 rfl rfl)
theorem dL_law_966 : decode cL_law 966 = .ok (.aload_n 0, 1) := dk_42 (dk_at dksL_law_30 11 rfl rfl)
theorem dL_law_967 : decode cL_law 967 = .ok (.iload_n 3, 1) := dk_29 (dk_at dksL_law_30 12 rfl rfl)
theorem dL_law_968 : decode cL_law 968 = .ok (.iconst 2, 1) := dk_5 (dk_at dksL_law_30 13 rfl rfl)
theorem dL_law_969 : decode cL_law 969 = .ok (.iadd, 1) := dk_96 (dk_at dksL_law_30 14 rfl rfl)
theorem dL_law_970 : decode cL_law 970 = .ok (.iaload, 1) := dk_46 (dk_at dksL_law_30 15 rfl rfl)
theorem dL_law_971 : decode cL_law 971 = .ok (.invokevirtual 98, 3) := dk_182 0 98 (dk_at dksL_law_30 16 rfl rfl)
theorem dL_law_974 : decode cL_law 974 = .ok (.aload_n 2, 1) := dk_44 (dk_at dksL_law_30 19 rfl rfl)
theorem dL_law_975 : decode cL_law 975 = .ok (.aload_n 0, 1) := dk_42 (dk_at dksL_law_30 20 rfl rfl)
theorem dL_law_976 : decode cL_law 976 = .ok (.iload_n 3, 1) := dk_29 (dk_at dksL_law_30 21 rfl rfl)
theorem dL_law_977 : decode cL_law 977 = .ok (.iconst 1, 1) := dk_4 (dk_at dksL_law_30 22 rfl rfl)
theorem dL_law_978 : decode cL_law 978 = .ok (.iadd, 1) := dk_96 (dk_at dksL_law_30 23 rfl rfl)
theorem dL_law_979 : decode cL_law 979 = .ok (.iaload, 1) := dk_46 (dk_at dksL_law_31 0 rfl rfl)
theorem dL_law_980 : decode cL_law 980 = .ok (.aload_n 0, 1) := dk_42 (dk_at dksL_law_31 1 rfl rfl)
theorem dL_law_981 : decode cL_law 981 = .ok (.iload_n 3, 1) := dk_29 (dk_at dksL_law_31 2 rfl rfl)
theorem dL_law_982 : decode cL_law 982 = .ok (.iconst 2, 1) := dk_5 (dk_at dksL_law_31 3 rfl rfl)
theorem dL_law_983 : decode cL_law 983 = .ok (.iadd, 1) := dk_96 (dk_at dksL_law_31 4 rfl rfl)
theorem dL_law_984 : decode cL_law 984 = .ok (.iaload, 1) := dk_46 (dk_at dksL_law_31 5 rfl rfl)
theorem dL_law_985 : decode cL_law 985 = .ok (.invokevirtual 101, 3) := dk_182 0 101 (dk_at dksL_law_31 6 rfl rfl)
theorem dL_law_988 : decode cL_law 988 = .ok (.if_icmp .eq 1227, 3) := dk_159 4 203 (dk_at dksL_law_31 9 rfl rfl)
theorem dL_law_991 : decode cL_law 991 = .ok (.iconst 0, 1) := dk_3 (dk_at dksL_law_31 12 rfl rfl)
theorem dL_law_992 : decode cL_law 992 = .ok (.ireturn, 1) := dk_172 (dk_at dksL_law_31 13 rfl rfl)
theorem dL_law_993 : decode cL_law 993 = .ok (.aload_n 1, 1) := dk_43 (dk_at dksL_law_31 14 rfl rfl)
theorem dL_law_994 : decode cL_law 994 = .ok (.invokevirtual 102, 3) := dk_182 0 102 (dk_at dksL_law_31 15 rfl rfl)
theorem dL_law_997 : decode cL_law 997 = .ok (.aload_n 2, 1) := dk_44 (dk_at dksL_law_31 18 rfl rfl)
theorem dL_law_998 : decode cL_law 998 = .ok (.invokevirtual 105, 3) := dk_182 0 105 (dk_at dksL_law_31 19 rfl rfl)
theorem dL_law_1001 : decode cL_law 1001 = .ok (.if_icmp .eq 1214, 3) := dk_159 4 190 (dk_at dksL_law_32 0 rfl rfl)
theorem dL_law_1004 : decode cL_law 1004 = .ok (.iconst 0, 1) := dk_3 (dk_at dksL_law_32 3 rfl rfl)
theorem dL_law_1005 : decode cL_law 1005 = .ok (.ireturn, 1) := dk_172 (dk_at dksL_law_32 4 rfl rfl)
theorem dL_law_1006 : decode cL_law 1006 = .ok (.aload_n 1, 1) := dk_43 (dk_at dksL_law_32 5 rfl rfl)
theorem dL_law_1007 : decode cL_law 1007 = .ok (.aload_n 0, 1) := dk_42 (dk_at dksL_law_32 6 rfl rfl)
theorem dL_law_1008 : decode cL_law 1008 = .ok (.iload_n 3, 1) := dk_29 (dk_at dksL_law_32 7 rfl rfl)
theorem dL_law_1009 : decode cL_law 1009 = .ok (.iconst 1, 1) := dk_4 (dk_at dksL_law_32 8 rfl rfl)
theorem dL_law_1010 : decode cL_law 1010 = .ok (.iadd, 1) := dk_96 (dk_at dksL_law_32 9 rfl rfl)
theorem dL_law_1011 : decode cL_law 1011 = .ok (.iaload, 1) := dk_46 (dk_at dksL_law_32 10 rfl rfl)
theorem dL_law_1012 : decode cL_law 1012 = .ok (.invokevirtual 106, 3) := dk_182 0 106 (dk_at dksL_law_32 11 rfl rfl)
theorem dL_law_1015 : decode cL_law 1015 = .ok (.aload_n 2, 1) := dk_44 (dk_at dksL_law_32 14 rfl rfl)
theorem dL_law_1016 : decode cL_law 1016 = .ok (.aload_n 0, 1) := dk_42 (dk_at dksL_law_32 15 rfl rfl)
theorem dL_law_1017 : decode cL_law 1017 = .ok (.iload_n 3, 1) := dk_29 (dk_at dksL_law_32 16 rfl rfl)
theorem dL_law_1018 : decode cL_law 1018 = .ok (.iconst 1, 1) := dk_4 (dk_at dksL_law_32 17 rfl rfl)
theorem dL_law_1019 : decode cL_law 1019 = .ok (.iadd, 1) := dk_96 (dk_at dksL_law_32 18 rfl rfl)
theorem dL_law_1020 : decode cL_law 1020 = .ok (.iaload, 1) := dk_46 (dk_at dksL_law_32 19 rfl rfl)
theorem dL_law_1021 : decode cL_law 1021 = .ok (.invokevirtual 109, 3) := dk_182 0 109 (dk_at dksL_law_32 20 rfl rfl)
theorem dL_law_1024 : decode cL_law 1024 = .ok (.if_icmp .eq 1191, 3) := dk_159 4 167 (dk_at dksL_law_33 0 rfl rfl)
theorem dL_law_1027 : decode cL_law 1027 = .ok (.iconst 0, 1) := dk_3 (dk_at dksL_law_33 3 rfl rfl)
theorem dL_law_1028 : decode cL_law 1028 = .ok (.ireturn, 1) := dk_172 (dk_at dksL_law_33 4 rfl rfl)
theorem dL_law_1029 : decode cL_law 1029 = .ok (.aload_n 1, 1) := dk_43 (dk_at dksL_law_33 5 rfl rfl)
theorem dL_law_1030 : decode cL_law 1030 = .ok (.invokevirtual 110, 3) := dk_182 0 110 (dk_at dksL_law_33 6 rfl rfl)
theorem dL_law_1033 : decode cL_law 1033 = .ok (.aload_n 2, 1) := dk_44 (dk_at dksL_law_33 9 rfl rfl)
theorem dL_law_1034 : decode cL_law 1034 = .ok (.invokevirtual 113, 3) := dk_182 0 113 (dk_at dksL_law_33 10 rfl rfl)
theorem dL_law_1037 : decode cL_law 1037 = .ok (.if_icmp .eq 1178, 3) := dk_159 4 154 (dk_at dksL_law_33 13 rfl rfl)
theorem dL_law_1040 : decode cL_law 1040 = .ok (.iconst 0, 1) := dk_3 (dk_at dksL_law_33 16 rfl rfl)
theorem dL_law_1041 : decode cL_law 1041 = .ok (.ireturn, 1) := dk_172 (dk_at dksL_law_33 17 rfl rfl)
theorem dL_law_1042 : decode cL_law 1042 = .ok (.aload_n 1, 1) := dk_43 (dk_at dksL_law_33 18 rfl rfl)
theorem dL_law_1043 : decode cL_law 1043 = .ok (.aload_n 0, 1) := dk_42 (dk_at dksL_law_33 19 rfl rfl)
theorem dL_law_1044 : decode cL_law 1044 = .ok (.iload_n 3, 1) := dk_29 (dk_at dksL_law_33 20 rfl rfl)
theorem dL_law_1045 : decode cL_law 1045 = .ok (.iconst 1, 1) := dk_4 (dk_at dksL_law_33 21 rfl rfl)
theorem dL_law_1046 : decode cL_law 1046 = .ok (.iadd, 1) := dk_96 (dk_at dksL_law_33 22 rfl rfl)
theorem dL_law_1047 : decode cL_law 1047 = .ok (.iaload, 1) := dk_46 (dk_at dksL_law_33 23 rfl rfl)
theorem dL_law_1048 : decode cL_law 1048 = .ok (.aload_n 0, 1) := dk_42 (dk_at dksL_law_34 0 rfl rfl)
theorem dL_law_1049 : decode cL_law 1049 = .ok (.iload_n 3, 1) := dk_29 (dk_at dksL_law_34 1 rfl rfl)
theorem dL_law_1050 : decode cL_law 1050 = .ok (.iconst 2, 1) := dk_5 (dk_at dksL_law_34 2 rfl rfl)
theorem dL_law_1051 : decode cL_law 1051 = .ok (.iadd, 1) := dk_96 (dk_at dksL_law_34 3 rfl rfl)
theorem dL_law_1052 : decode cL_law 1052 = .ok (.iaload, 1) := dk_46 (dk_at dksL_law_34 4 rfl rfl)
theorem dL_law_1053 : decode cL_law 1053 = .ok (.invokevirtual 114, 3) := dk_182 0 114 (dk_at dksL_law_34 5 rfl rfl)
theorem dL_law_1056 : decode cL_law 1056 = .ok (.aload_n 2, 1) := dk_44 (dk_at dksL_law_34 8 rfl rfl)
theorem dL_law_1057 : decode cL_law 1057 = .ok (.aload_n 0, 1) := dk_42 (dk_at dksL_law_34 9 rfl rfl)
theorem dL_law_1058 : decode cL_law 1058 = .ok (.iload_n 3, 1) := dk_29 (dk_at dksL_law_34 10 rfl rfl)
theorem dL_law_1059 : decode cL_law 1059 = .ok (.iconst 1, 1) := dk_4 (dk_at dksL_law_34 11 rfl rfl)
theorem dL_law_1060 : decode cL_law 1060 = .ok (.iadd, 1) := dk_96 (dk_at dksL_law_34 12 rfl rfl)
theorem dL_law_1061 : decode cL_law 1061 = .ok (.iaload, 1) := dk_46 (dk_at dksL_law_34 13 rfl rfl)
theorem dL_law_1062 : decode cL_law 1062 = .ok (.aload_n 0, 1) := dk_42 (dk_at dksL_law_34 14 rfl rfl)
theorem dL_law_1063 : decode cL_law 1063 = .ok (.iload_n 3, 1) := dk_29 (dk_at dksL_law_34 15 rfl rfl)
theorem dL_law_1064 : decode cL_law 1064 = .ok (.iconst 2, 1) := dk_5 (dk_at dksL_law_34 16 rfl rfl)
theorem dL_law_1065 : decode cL_law 1065 = .ok (.iadd, 1) := dk_96 (dk_at dksL_law_34 17 rfl rfl)
theorem dL_law_1066 : decode cL_law 1066 = .ok (.iaload, 1) := dk_46 (dk_at dksL_law_34 18 rfl rfl)
theorem dL_law_1067 : decode cL_law 1067 = .ok (.invokevirtual 117, 3) := dk_182 0 117 (dk_at dksL_law_34 19 rfl rfl)
theorem dL_law_1070 : decode cL_law 1070 = .ok (.if_icmp .eq 1145, 3) := dk_159 4 121 (dk_at dksL_law_35 0 rfl rfl)
theorem dL_law_1073 : decode cL_law 1073 = .ok (.iconst 0, 1) := dk_3 (dk_at dksL_law_35 3 rfl rfl)
theorem dL_law_1074 : decode cL_law 1074 = .ok (.ireturn, 1) := dk_172 (dk_at dksL_law_35 4 rfl rfl)
theorem dL_law_1075 : decode cL_law 1075 = .ok (.aload_n 1, 1) := dk_43 (dk_at dksL_law_35 5 rfl rfl)
theorem dL_law_1076 : decode cL_law 1076 = .ok (.invokevirtual 118, 3) := dk_182 0 118 (dk_at dksL_law_35 6 rfl rfl)
theorem dL_law_1079 : decode cL_law 1079 = .ok (.aload_n 2, 1) := dk_44 (dk_at dksL_law_35 9 rfl rfl)
theorem dL_law_1080 : decode cL_law 1080 = .ok (.invokevirtual 121, 3) := dk_182 0 121 (dk_at dksL_law_35 10 rfl rfl)
theorem dL_law_1083 : decode cL_law 1083 = .ok (.if_icmp .eq 1132, 3) := dk_159 4 108 (dk_at dksL_law_35 13 rfl rfl)
theorem dL_law_1086 : decode cL_law 1086 = .ok (.iconst 0, 1) := dk_3 (dk_at dksL_law_35 16 rfl rfl)
theorem dL_law_1087 : decode cL_law 1087 = .ok (.ireturn, 1) := dk_172 (dk_at dksL_law_35 17 rfl rfl)
theorem dL_law_1088 : decode cL_law 1088 = .ok (.aload_n 1, 1) := dk_43 (dk_at dksL_law_35 18 rfl rfl)
theorem dL_law_1089 : decode cL_law 1089 = .ok (.invokevirtual 122, 3) := dk_182 0 122 (dk_at dksL_law_35 19 rfl rfl)
theorem dL_law_1092 : decode cL_law 1092 = .ok (.aload_n 2, 1) := dk_44 (dk_at dksL_law_35 22 rfl rfl)
theorem dL_law_1093 : decode cL_law 1093 = .ok (.invokevirtual 125, 3) := dk_182 0 125 (dk_at dksL_law_36 0 rfl rfl)
theorem dL_law_1096 : decode cL_law 1096 = .ok (.if_icmp .eq 1119, 3) := dk_159 4 95 (dk_at dksL_law_36 3 rfl rfl)
theorem dL_law_1099 : decode cL_law 1099 = .ok (.iconst 0, 1) := dk_3 (dk_at dksL_law_36 6 rfl rfl)
theorem dL_law_1100 : decode cL_law 1100 = .ok (.ireturn, 1) := dk_172 (dk_at dksL_law_36 7 rfl rfl)
theorem dL_law_1101 : decode cL_law 1101 = .ok (.aload_n 1, 1) := dk_43 (dk_at dksL_law_36 8 rfl rfl)
theorem dL_law_1102 : decode cL_law 1102 = .ok (.aload_n 0, 1) := dk_42 (dk_at dksL_law_36 9 rfl rfl)
theorem dL_law_1103 : decode cL_law 1103 = .ok (.iload_n 3, 1) := dk_29 (dk_at dksL_law_36 10 rfl rfl)
theorem dL_law_1104 : decode cL_law 1104 = .ok (.iconst 1, 1) := dk_4 (dk_at dksL_law_36 11 rfl rfl)
theorem dL_law_1105 : decode cL_law 1105 = .ok (.iadd, 1) := dk_96 (dk_at dksL_law_36 12 rfl rfl)
theorem dL_law_1106 : decode cL_law 1106 = .ok (.iaload, 1) := dk_46 (dk_at dksL_law_36 13 rfl rfl)
theorem dL_law_1107 : decode cL_law 1107 = .ok (.invokevirtual 126, 3) := dk_182 0 126 (dk_at dksL_law_36 14 rfl rfl)
theorem dL_law_1110 : decode cL_law 1110 = .ok (.aload_n 2, 1) := dk_44 (dk_at dksL_law_36 17 rfl rfl)
theorem dL_law_1111 : decode cL_law 1111 = .ok (.aload_n 0, 1) := dk_42 (dk_at dksL_law_36 18 rfl rfl)
theorem dL_law_1112 : decode cL_law 1112 = .ok (.iload_n 3, 1) := dk_29 (dk_at dksL_law_36 19 rfl rfl)
theorem dL_law_1113 : decode cL_law 1113 = .ok (.iconst 1, 1) := dk_4 (dk_at dksL_law_36 20 rfl rfl)
theorem dL_law_1114 : decode cL_law 1114 = .ok (.iadd, 1) := dk_96 (dk_at dksL_law_36 21 rfl rfl)
theorem dL_law_1115 : decode cL_law 1115 = .ok (.iaload, 1) := dk_46 (dk_at dksL_law_36 22 rfl rfl)
theorem dL_law_1116 : decode cL_law 1116 = .ok (.invokevirtual 129, 3) := dk_182 0 129 (dk_at dksL_law_37 0 rfl rfl)
theorem dL_law_1119 : decode cL_law 1119 = .ok (.if_icmp .eq 1096, 3) := dk_159 4 72 (dk_at dksL_law_37 3 rfl rfl)
theorem dL_law_1122 : decode cL_law 1122 = .ok (.iconst 0, 1) := dk_3 (dk_at dksL_law_37 6 rfl rfl)
theorem dL_law_1123 : decode cL_law 1123 = .ok (.ireturn, 1) := dk_172 (dk_at dksL_law_37 7 rfl rfl)
theorem dL_law_1124 : decode cL_law 1124 = .ok (.aload_n 1, 1) := dk_43 (dk_at dksL_law_37 8 rfl rfl)
theorem dL_law_1125 : decode cL_law 1125 = .ok (.aload_n 0, 1) := dk_42 (dk_at dksL_law_37 9 rfl rfl)
theorem dL_law_1126 : decode cL_law 1126 = .ok (.iload_n 3, 1) := dk_29 (dk_at dksL_law_37 10 rfl rfl)
theorem dL_law_1127 : decode cL_law 1127 = .ok (.iconst 1, 1) := dk_4 (dk_at dksL_law_37 11 rfl rfl)
theorem dL_law_1128 : decode cL_law 1128 = .ok (.iadd, 1) := dk_96 (dk_at dksL_law_37 12 rfl rfl)
theorem dL_law_1129 : decode cL_law 1129 = .ok (.iaload, 1) := dk_46 (dk_at dksL_law_37 13 rfl rfl)
theorem dL_law_1130 : decode cL_law 1130 = .ok (.aload_n 0, 1) := dk_42 (dk_at dksL_law_37 14 rfl rfl)
theorem dL_law_1131 : decode cL_law 1131 = .ok (.iload_n 3, 1) := dk_29 (dk_at dksL_law_37 15 rfl rfl)
theorem dL_law_1132 : decode cL_law 1132 = .ok (.iconst 2, 1) := dk_5 (dk_at dksL_law_37 16 rfl rfl)
theorem dL_law_1133 : decode cL_law 1133 = .ok (.iadd, 1) := dk_96 (dk_at dksL_law_37 17 rfl rfl)
theorem dL_law_1134 : decode cL_law 1134 = .ok (.iaload, 1) := dk_46 (dk_at dksL_law_37 18 rfl rfl)
theorem dL_law_1135 : decode cL_law 1135 = .ok (.invokevirtual 130, 3) := dk_182 0 130 (dk_at dksL_law_37 19 rfl rfl)
theorem dL_law_1138 : decode cL_law 1138 = .ok (.aload_n 2, 1) := dk_44 (dk_at dksL_law_37 22 rfl rfl)
theorem dL_law_1139 : decode cL_law 1139 = .ok (.aload_n 0, 1) := dk_42 (dk_at dksL_law_37 23 rfl rfl)
theorem dL_law_1140 : decode cL_law 1140 = .ok (.iload_n 3, 1) := dk_29 (dk_at dksL_law_38 0 rfl rfl)
theorem dL_law_1141 : decode cL_law 1141 = .ok (.iconst 1, 1) := dk_4 (dk_at dksL_law_38 1 rfl rfl)
theorem dL_law_1142 : decode cL_law 1142 = .ok (.iadd, 1) := dk_96 (dk_at dksL_law_38 2 rfl rfl)
theorem dL_law_1143 : decode cL_law 1143 = .ok (.iaload, 1) := dk_46 (dk_at dksL_law_38 3 rfl rfl)
theorem dL_law_1144 : decode cL_law 1144 = .ok (.aload_n 0, 1) := dk_42 (dk_at dksL_law_38 4 rfl rfl)
theorem dL_law_1145 : decode cL_law 1145 = .ok (.iload_n 3, 1) := dk_29 (dk_at dksL_law_38 5 rfl rfl)
theorem dL_law_1146 : decode cL_law 1146 = .ok (.iconst 2, 1) := dk_5 (dk_at dksL_law_38 6 rfl rfl)
theorem dL_law_1147 : decode cL_law 1147 = .ok (.iadd, 1) := dk_96 (dk_at dksL_law_38 7 rfl rfl)
theorem dL_law_1148 : decode cL_law 1148 = .ok (.iaload, 1) := dk_46 (dk_at dksL_law_38 8 rfl rfl)
theorem dL_law_1149 : decode cL_law 1149 = .ok (.invokevirtual 133, 3) := dk_182 0 133 (dk_at dksL_law_38 9 rfl rfl)
theorem dL_law_1152 : decode cL_law 1152 = .ok (.if_icmp .eq 1063, 3) := dk_159 4 39 (dk_at dksL_law_38 12 rfl rfl)
theorem dL_law_1155 : decode cL_law 1155 = .ok (.iconst 0, 1) := dk_3 (dk_at dksL_law_38 15 rfl rfl)
theorem dL_law_1156 : decode cL_law 1156 = .ok (.ireturn, 1) := dk_172 (dk_at dksL_law_38 16 rfl rfl)
theorem dL_law_1157 : decode cL_law 1157 = .ok (.aload_n 1, 1) := dk_43 (dk_at dksL_law_38 17 rfl rfl)
theorem dL_law_1158 : decode cL_law 1158 = .ok (.invokevirtual 134, 3) := dk_182 0 134 (dk_at dksL_law_38 18 rfl rfl)
theorem dL_law_1161 : decode cL_law 1161 = .ok (.aload_n 2, 1) := dk_44 (dk_at dksL_law_38 21 rfl rfl)
theorem dL_law_1162 : decode cL_law 1162 = .ok (.invokevirtual 137, 3) := dk_182 0 137 (dk_at dksL_law_39 0 rfl rfl)
theorem dL_law_1165 : decode cL_law 1165 = .ok (.if_icmp .eq 1050, 3) := dk_159 4 26 (dk_at dksL_law_39 3 rfl rfl)
theorem dL_law_1168 : decode cL_law 1168 = .ok (.iconst 0, 1) := dk_3 (dk_at dksL_law_39 6 rfl rfl)
theorem dL_law_1169 : decode cL_law 1169 = .ok (.ireturn, 1) := dk_172 (dk_at dksL_law_39 7 rfl rfl)
theorem dL_law_1170 : decode cL_law 1170 = .ok (.aload_n 1, 1) := dk_43 (dk_at dksL_law_39 8 rfl rfl)
theorem dL_law_1171 : decode cL_law 1171 = .ok (.aload_n 0, 1) := dk_42 (dk_at dksL_law_39 9 rfl rfl)
theorem dL_law_1172 : decode cL_law 1172 = .ok (.iload_n 3, 1) := dk_29 (dk_at dksL_law_39 10 rfl rfl)
theorem dL_law_1173 : decode cL_law 1173 = .ok (.iconst 1, 1) := dk_4 (dk_at dksL_law_39 11 rfl rfl)
theorem dL_law_1174 : decode cL_law 1174 = .ok (.iadd, 1) := dk_96 (dk_at dksL_law_39 12 rfl rfl)
theorem dL_law_1175 : decode cL_law 1175 = .ok (.iaload, 1) := dk_46 (dk_at dksL_law_39 13 rfl rfl)
theorem dL_law_1176 : decode cL_law 1176 = .ok (.invokevirtual 138, 3) := dk_182 0 138 (dk_at dksL_law_39 14 rfl rfl)
theorem dL_law_1179 : decode cL_law 1179 = .ok (.aload_n 2, 1) := dk_44 (dk_at dksL_law_39 17 rfl rfl)
theorem dL_law_1180 : decode cL_law 1180 = .ok (.aload_n 0, 1) := dk_42 (dk_at dksL_law_39 18 rfl rfl)
theorem dL_law_1181 : decode cL_law 1181 = .ok (.iload_n 3, 1) := dk_29 (dk_at dksL_law_39 19 rfl rfl)
theorem dL_law_1182 : decode cL_law 1182 = .ok (.iconst 1, 1) := dk_4 (dk_at dksL_law_39 20 rfl rfl)
theorem dL_law_1183 : decode cL_law 1183 = .ok (.iadd, 1) := dk_96 (dk_at dksL_law_39 21 rfl rfl)
theorem dL_law_1184 : decode cL_law 1184 = .ok (.iaload, 1) := dk_46 (dk_at dksL_law_39 22 rfl rfl)
theorem dL_law_1185 : decode cL_law 1185 = .ok (.invokevirtual 141, 3) := dk_182 0 141 (dk_at dksL_law_40 0 rfl rfl)
theorem dL_law_1188 : decode cL_law 1188 = .ok (.if_icmp .eq 1027, 3) := dk_159 4 3 (dk_at dksL_law_40 3 rfl rfl)
theorem dL_law_1191 : decode cL_law 1191 = .ok (.iconst 0, 1) := dk_3 (dk_at dksL_law_40 6 rfl rfl)
theorem dL_law_1192 : decode cL_law 1192 = .ok (.ireturn, 1) := dk_172 (dk_at dksL_law_40 7 rfl rfl)
theorem dL_law_1193 : decode cL_law 1193 = .ok (.aload_n 1, 1) := dk_43 (dk_at dksL_law_40 8 rfl rfl)
theorem dL_law_1194 : decode cL_law 1194 = .ok (.aload_n 0, 1) := dk_42 (dk_at dksL_law_40 9 rfl rfl)
theorem dL_law_1195 : decode cL_law 1195 = .ok (.iload_n 3, 1) := dk_29 (dk_at dksL_law_40 10 rfl rfl)
theorem dL_law_1196 : decode cL_law 1196 = .ok (.iconst 1, 1) := dk_4 (dk_at dksL_law_40 11 rfl rfl)
theorem dL_law_1197 : decode cL_law 1197 = .ok (.iadd, 1) := dk_96 (dk_at dksL_law_40 12 rfl rfl)
theorem dL_law_1198 : decode cL_law 1198 = .ok (.iaload, 1) := dk_46 (dk_at dksL_law_40 13 rfl rfl)
theorem dL_law_1199 : decode cL_law 1199 = .ok (.invokevirtual 142, 3) := dk_182 0 142 (dk_at dksL_law_40 14 rfl rfl)
theorem dL_law_1202 : decode cL_law 1202 = .ok (.aload_n 2, 1) := dk_44 (dk_at dksL_law_40 17 rfl rfl)
theorem dL_law_1203 : decode cL_law 1203 = .ok (.aload_n 0, 1) := dk_42 (dk_at dksL_law_40 18 rfl rfl)
theorem dL_law_1204 : decode cL_law 1204 = .ok (.iload_n 3, 1) := dk_29 (dk_at dksL_law_40 19 rfl rfl)
theorem dL_law_1205 : decode cL_law 1205 = .ok (.iconst 1, 1) := dk_4 (dk_at dksL_law_40 20 rfl rfl)
theorem dL_law_1206 : decode cL_law 1206 = .ok (.iadd, 1) := dk_96 (dk_at dksL_law_40 21 rfl rfl)
theorem dL_law_1207 : decode cL_law 1207 = .ok (.iaload, 1) := dk_46 (dk_at dksL_law_40 22 rfl rfl)
theorem dL_law_1208 : decode cL_law 1208 = .ok (.invokevirtual 145, 3) := dk_182 0 145 (dk_at dksL_law_41 0 rfl rfl)
theorem dL_law_1211 : decode cL_law 1211 = .ok (.if_icmp .eq 1004, 3) := dk_159 3 236 (dk_at dksL_law_41 3 rfl rfl)
theorem dL_law_1214 : decode cL_law 1214 = .ok (.iconst 0, 1) := dk_3 (dk_at dksL_law_41 6 rfl rfl)
theorem dL_law_1215 : decode cL_law 1215 = .ok (.ireturn, 1) := dk_172 (dk_at dksL_law_41 7 rfl rfl)
theorem dL_law_1216 : decode cL_law 1216 = .ok (.aload_n 1, 1) := dk_43 (dk_at dksL_law_41 8 rfl rfl)
theorem dL_law_1217 : decode cL_law 1217 = .ok (.invokevirtual 146, 3) := dk_182 0 146 (dk_at dksL_law_41 9 rfl rfl)
theorem dL_law_1220 : decode cL_law 1220 = .ok (.aload_n 2, 1) := dk_44 (dk_at dksL_law_41 12 rfl rfl)
theorem dL_law_1221 : decode cL_law 1221 = .ok (.invokevirtual 149, 3) := dk_182 0 149 (dk_at dksL_law_41 13 rfl rfl)
theorem dL_law_1224 : decode cL_law 1224 = .ok (.if_icmp .eq 991, 3) := dk_159 3 223 (dk_at dksL_law_41 16 rfl rfl)
theorem dL_law_1227 : decode cL_law 1227 = .ok (.iconst 0, 1) := dk_3 (dk_at dksL_law_41 19 rfl rfl)
theorem dL_law_1228 : decode cL_law 1228 = .ok (.ireturn, 1) := dk_172 (dk_at dksL_law_41 20 rfl rfl)
theorem dL_law_1229 : decode cL_law 1229 = .ok (.aload_n 1, 1) := dk_43 (dk_at dksL_law_41 21 rfl rfl)
theorem dL_law_1230 : decode cL_law 1230 = .ok (.invokevirtual 150, 3) := dk_182 0 150 (dk_at dksL_law_42 0 rfl rfl)
theorem dL_law_1233 : decode cL_law 1233 = .ok (.aload_n 2, 1) := dk_44 (dk_at dksL_law_42 3 rfl rfl)
theorem dL_law_1234 : decode cL_law 1234 = .ok (.invokevirtual 153, 3) := dk_182 0 153 (dk_at dksL_law_42 4 rfl rfl)
theorem dL_law_1237 : decode cL_law 1237 = .ok (.if_icmp .eq 978, 3) := dk_159 3 210 (dk_at dksL_law_42 7 rfl rfl)
theorem dL_law_1240 : decode cL_law 1240 = .ok (.iconst 0, 1) := dk_3 (dk_at dksL_law_42 10 rfl rfl)
theorem dL_law_1241 : decode cL_law 1241 = .ok (.ireturn, 1) := dk_172 (dk_at dksL_law_42 11 rfl rfl)
theorem dL_law_1242 : decode cL_law 1242 = .ok (.aload_n 1, 1) := dk_43 (dk_at dksL_law_42 12 rfl rfl)
theorem dL_law_1243 : decode cL_law 1243 = .ok (.invokevirtual 154, 3) := dk_182 0 154 (dk_at dksL_law_42 13 rfl rfl)
theorem dL_law_1246 : decode cL_law 1246 = .ok (.aload_n 2, 1) := dk_44 (dk_at dksL_law_42 16 rfl rfl)
theorem dL_law_1247 : decode cL_law 1247 = .ok (.invokevirtual 157, 3) := dk_182 0 157 (dk_at dksL_law_42 17 rfl rfl)
theorem dL_law_1250 : decode cL_law 1250 = .ok (.if_icmp .eq 965, 3) := dk_159 3 197 (dk_at dksL_law_42 20 rfl rfl)
theorem dL_law_1253 : decode cL_law 1253 = .ok (.iconst 0, 1) := dk_3 (dk_at dksL_law_42 23 rfl rfl)
theorem dL_law_1254 : decode cL_law 1254 = .ok (.ireturn, 1) := dk_172 (dk_at dksL_law_43 0 rfl rfl)
theorem dL_law_1255 : decode cL_law 1255 = .ok (.aload_n 1, 1) := dk_43 (dk_at dksL_law_43 1 rfl rfl)
theorem dL_law_1256 : decode cL_law 1256 = .ok (.aload_n 0, 1) := dk_42 (dk_at dksL_law_43 2 rfl rfl)
theorem dL_law_1257 : decode cL_law 1257 = .ok (.iload_n 3, 1) := dk_29 (dk_at dksL_law_43 3 rfl rfl)
theorem dL_law_1258 : decode cL_law 1258 = .ok (.iconst 1, 1) := dk_4 (dk_at dksL_law_43 4 rfl rfl)
theorem dL_law_1259 : decode cL_law 1259 = .ok (.iadd, 1) := dk_96 (dk_at dksL_law_43 5 rfl rfl)
theorem dL_law_1260 : decode cL_law 1260 = .ok (.iaload, 1) := dk_46 (dk_at dksL_law_43 6 rfl rfl)
theorem dL_law_1261 : decode cL_law 1261 = .ok (.invokevirtual 158, 3) := dk_182 0 158 (dk_at dksL_law_43 7 rfl rfl)
theorem dL_law_1264 : decode cL_law 1264 = .ok (.aload_n 2, 1) := dk_44 (dk_at dksL_law_43 10 rfl rfl)
theorem dL_law_1265 : decode cL_law 1265 = .ok (.aload_n 0, 1) := dk_42 (dk_at dksL_law_43 11 rfl rfl)
theorem dL_law_1266 : decode cL_law 1266 = .ok (.iload_n 3, 1) := dk_29 (dk_at dksL_law_43 12 rfl rfl)
theorem dL_law_1267 : decode cL_law 1267 = .ok (.iconst 1, 1) := dk_4 (dk_at dksL_law_43 13 rfl rfl)
theorem dL_law_1268 : decode cL_law 1268 = .ok (.iadd, 1) := dk_96 (dk_at dksL_law_43 14 rfl rfl)
theorem dL_law_1269 : decode cL_law 1269 = .ok (.iaload, 1) := dk_46 (dk_at dksL_law_43 15 rfl rfl)
theorem dL_law_1270 : decode cL_law 1270 = .ok (.invokevirtual 161, 3) := dk_182 0 161 (dk_at dksL_law_43 16 rfl rfl)
theorem dL_law_1273 : decode cL_law 1273 = .ok (.if_icmp .eq 942, 3) := dk_159 3 174 (dk_at dksL_law_43 19 rfl rfl)
theorem dL_law_1276 : decode cL_law 1276 = .ok (.iconst 0, 1) := dk_3 (dk_at dksL_law_43 22 rfl rfl)
theorem dL_law_1277 : decode cL_law 1277 = .ok (.ireturn, 1) := dk_172 (dk_at dksL_law_43 23 rfl rfl)
theorem dL_law_1278 : decode cL_law 1278 = .ok (.aload_n 1, 1) := dk_43 (dk_at dksL_law_44 0 rfl rfl)
theorem dL_law_1279 : decode cL_law 1279 = .ok (.aload_n 0, 1) := dk_42 (dk_at dksL_law_44 1 rfl rfl)
theorem dL_law_1280 : decode cL_law 1280 = .ok (.iload_n 3, 1) := dk_29 (dk_at dksL_law_44 2 rfl rfl)
theorem dL_law_1281 : decode cL_law 1281 = .ok (.iconst 1, 1) := dk_4 (dk_at dksL_law_44 3 rfl rfl)
theorem dL_law_1282 : decode cL_law 1282 = .ok (.iadd, 1) := dk_96 (dk_at dksL_law_44 4 rfl rfl)
theorem dL_law_1283 : decode cL_law 1283 = .ok (.iaload, 1) := dk_46 (dk_at dksL_law_44 5 rfl rfl)
theorem dL_law_1284 : decode cL_law 1284 = .ok (.invokevirtual 162, 3) := dk_182 0 162 (dk_at dksL_law_44 6 rfl rfl)
theorem dL_law_1287 : decode cL_law 1287 = .ok (.aload_n 2, 1) := dk_44 (dk_at dksL_law_44 9 rfl rfl)
theorem dL_law_1288 : decode cL_law 1288 = .ok (.aload_n 0, 1) := dk_42 (dk_at dksL_law_44 10 rfl rfl)
theorem dL_law_1289 : decode cL_law 1289 = .ok (.iload_n 3, 1) := dk_29 (dk_at dksL_law_44 11 rfl rfl)
theorem dL_law_1290 : decode cL_law 1290 = .ok (.iconst 1, 1) := dk_4 (dk_at dksL_law_44 12 rfl rfl)
theorem dL_law_1291 : decode cL_law 1291 = .ok (.iadd, 1) := dk_96 (dk_at dksL_law_44 13 rfl rfl)
theorem dL_law_1292 : decode cL_law 1292 = .ok (.iaload, 1) := dk_46 (dk_at dksL_law_44 14 rfl rfl)
theorem dL_law_1293 : decode cL_law 1293 = .ok (.invokevirtual 165, 3) := dk_182 0 165 (dk_at dksL_law_44 15 rfl rfl)
theorem dL_law_1296 : decode cL_law 1296 = .ok (.if_icmp .eq 919, 3) := dk_159 3 151 (dk_at dksL_law_44 18 rfl rfl)
theorem dL_law_1299 : decode cL_law 1299 = .ok (.iconst 0, 1) := dk_3 (dk_at dksL_law_44 21 rfl rfl)
theorem dL_law_1300 : decode cL_law 1300 = .ok (.ireturn, 1) := dk_172 (dk_at dksL_law_44 22 rfl rfl)
theorem dL_law_1301 : decode cL_law 1301 = .ok (.aload_n 1, 1) := dk_43 (dk_at dksL_law_44 23 rfl rfl)
theorem dL_law_1302 : decode cL_law 1302 = .ok (.aload_n 0, 1) := dk_42 (dk_at dksL_law_45 0 rfl rfl)
theorem dL_law_1303 : decode cL_law 1303 = .ok (.iload_n 3, 1) := dk_29 (dk_at dksL_law_45 1 rfl rfl)
theorem dL_law_1304 : decode cL_law 1304 = .ok (.iconst 1, 1) := dk_4 (dk_at dksL_law_45 2 rfl rfl)
theorem dL_law_1305 : decode cL_law 1305 = .ok (.iadd, 1) := dk_96 (dk_at dksL_law_45 3 rfl rfl)
theorem dL_law_1306 : decode cL_law 1306 = .ok (.iaload, 1) := dk_46 (dk_at dksL_law_45 4 rfl rfl)
theorem dL_law_1307 : decode cL_law 1307 = .ok (.invokevirtual 166, 3) := dk_182 0 166 (dk_at dksL_law_45 5 rfl rfl)
theorem dL_law_1310 : decode cL_law 1310 = .ok (.aload_n 2, 1) := dk_44 (dk_at dksL_law_45 8 rfl rfl)
theorem dL_law_1311 : decode cL_law 1311 = .ok (.aload_n 0, 1) := dk_42 (dk_at dksL_law_45 9 rfl rfl)
theorem dL_law_1312 : decode cL_law 1312 = .ok (.iload_n 3, 1) := dk_29 (dk_at dksL_law_45 10 rfl rfl)
theorem dL_law_1313 : decode cL_law 1313 = .ok (.iconst 1, 1) := dk_4 (dk_at dksL_law_45 11 rfl rfl)
theorem dL_law_1314 : decode cL_law 1314 = .ok (.iadd, 1) := dk_96 (dk_at dksL_law_45 12 rfl rfl)
theorem dL_law_1315 : decode cL_law 1315 = .ok (.iaload, 1) := dk_46 (dk_at dksL_law_45 13 rfl rfl)
theorem dL_law_1316 : decode cL_law 1316 = .ok (.invokevirtual 170, 3) := dk_182 0 170 (dk_at dksL_law_45 14 rfl rfl)
theorem dL_law_1319 : decode cL_law 1319 = .ok (.lcmp, 1) := dk_148 (dk_at dksL_law_45 17 rfl rfl)
theorem dL_law_1320 : decode cL_law 1320 = .ok (.ifCond .eq 895, 3) := dk_153 3 127 (dk_at dksL_law_45 18 rfl rfl)
theorem dL_law_1323 : decode cL_law 1323 = .ok (.iconst 0, 1) := dk_3 (dk_at dksL_law_45 21 rfl rfl)
theorem dL_law_1324 : decode cL_law 1324 = .ok (.ireturn, 1) := dk_172 (dk_at dksL_law_45 22 rfl rfl)
theorem dL_law_1325 : decode cL_law 1325 = .ok (.aload_n 1, 1) := dk_43 (dk_at dksL_law_45 23 rfl rfl)
theorem dL_law_1326 : decode cL_law 1326 = .ok (.invokevirtual 171, 3) := dk_182 0 171 (dk_at dksL_law_46 0 rfl rfl)
theorem dL_law_1329 : decode cL_law 1329 = .ok (.aload_n 2, 1) := dk_44 (dk_at dksL_law_46 3 rfl rfl)
theorem dL_law_1330 : decode cL_law 1330 = .ok (.invokevirtual 174, 3) := dk_182 0 174 (dk_at dksL_law_46 4 rfl rfl)
theorem dL_law_1333 : decode cL_law 1333 = .ok (.if_icmp .eq 882, 3) := dk_159 3 114 (dk_at dksL_law_46 7 rfl rfl)
theorem dL_law_1336 : decode cL_law 1336 = .ok (.iconst 0, 1) := dk_3 (dk_at dksL_law_46 10 rfl rfl)
theorem dL_law_1337 : decode cL_law 1337 = .ok (.ireturn, 1) := dk_172 (dk_at dksL_law_46 11 rfl rfl)
theorem dL_law_1338 : decode cL_law 1338 = .ok (.aload_n 1, 1) := dk_43 (dk_at dksL_law_46 12 rfl rfl)
theorem dL_law_1339 : decode cL_law 1339 = .ok (.aload_n 0, 1) := dk_42 (dk_at dksL_law_46 13 rfl rfl)
theorem dL_law_1340 : decode cL_law 1340 = .ok (.iload_n 3, 1) := dk_29 (dk_at dksL_law_46 14 rfl rfl)
theorem dL_law_1341 : decode cL_law 1341 = .ok (.iconst 1, 1) := dk_4 (dk_at dksL_law_46 15 rfl rfl)
theorem dL_law_1342 : decode cL_law 1342 = .ok (.iadd, 1) := dk_96 (dk_at dksL_law_46 16 rfl rfl)
theorem dL_law_1343 : decode cL_law 1343 = .ok (.iaload, 1) := dk_46 (dk_at dksL_law_46 17 rfl rfl)
theorem dL_law_1344 : decode cL_law 1344 = .ok (.aload_n 0, 1) := dk_42 (dk_at dksL_law_46 18 rfl rfl)
theorem dL_law_1345 : decode cL_law 1345 = .ok (.iload_n 3, 1) := dk_29 (dk_at dksL_law_46 19 rfl rfl)
theorem dL_law_1346 : decode cL_law 1346 = .ok (.iconst 2, 1) := dk_5 (dk_at dksL_law_46 20 rfl rfl)
theorem dL_law_1347 : decode cL_law 1347 = .ok (.iadd, 1) := dk_96 (dk_at dksL_law_46 21 rfl rfl)
theorem dL_law_1348 : decode cL_law 1348 = .ok (.iaload, 1) := dk_46 (dk_at dksL_law_46 22 rfl rfl)
theorem dL_law_1349 : decode cL_law 1349 = .ok (.invokevirtual 175, 3) := dk_182 0 175 (dk_at dksL_law_47 0 rfl rfl)
theorem dL_law_1352 : decode cL_law 1352 = .ok (.aload_n 2, 1) := dk_44 (dk_at dksL_law_47 3 rfl rfl)
theorem dL_law_1353 : decode cL_law 1353 = .ok (.aload_n 0, 1) := dk_42 (dk_at dksL_law_47 4 rfl rfl)
theorem dL_law_1354 : decode cL_law 1354 = .ok (.iload_n 3, 1) := dk_29 (dk_at dksL_law_47 5 rfl rfl)
theorem dL_law_1355 : decode cL_law 1355 = .ok (.iconst 1, 1) := dk_4 (dk_at dksL_law_47 6 rfl rfl)
theorem dL_law_1356 : decode cL_law 1356 = .ok (.iadd, 1) := dk_96 (dk_at dksL_law_47 7 rfl rfl)
theorem dL_law_1357 : decode cL_law 1357 = .ok (.iaload, 1) := dk_46 (dk_at dksL_law_47 8 rfl rfl)
theorem dL_law_1358 : decode cL_law 1358 = .ok (.aload_n 0, 1) := dk_42 (dk_at dksL_law_47 9 rfl rfl)
theorem dL_law_1359 : decode cL_law 1359 = .ok (.iload_n 3, 1) := dk_29 (dk_at dksL_law_47 10 rfl rfl)
theorem dL_law_1360 : decode cL_law 1360 = .ok (.iconst 2, 1) := dk_5 (dk_at dksL_law_47 11 rfl rfl)
theorem dL_law_1361 : decode cL_law 1361 = .ok (.iadd, 1) := dk_96 (dk_at dksL_law_47 12 rfl rfl)
theorem dL_law_1362 : decode cL_law 1362 = .ok (.iaload, 1) := dk_46 (dk_at dksL_law_47 13 rfl rfl)
theorem dL_law_1363 : decode cL_law 1363 = .ok (.invokevirtual 178, 3) := dk_182 0 178 (dk_at dksL_law_47 14 rfl rfl)
theorem dL_law_1366 : decode cL_law 1366 = .ok (.if_icmp .eq 849, 3) := dk_159 3 81 (dk_at dksL_law_47 17 rfl rfl)
theorem dL_law_1369 : decode cL_law 1369 = .ok (.iconst 0, 1) := dk_3 (dk_at dksL_law_47 20 rfl rfl)
theorem dL_law_1370 : decode cL_law 1370 = .ok (.ireturn, 1) := dk_172 (dk_at dksL_law_47 21 rfl rfl)
theorem dL_law_1371 : decode cL_law 1371 = .ok (.aload_n 1, 1) := dk_43 (dk_at dksL_law_47 22 rfl rfl)
theorem dL_law_1372 : decode cL_law 1372 = .ok (.aload_n 0, 1) := dk_42 (dk_at dksL_law_47 23 rfl rfl)
theorem dL_law_1373 : decode cL_law 1373 = .ok (.iload_n 3, 1) := dk_29 (dk_at dksL_law_48 0 rfl rfl)
theorem dL_law_1374 : decode cL_law 1374 = .ok (.iconst 1, 1) := dk_4 (dk_at dksL_law_48 1 rfl rfl)
theorem dL_law_1375 : decode cL_law 1375 = .ok (.iadd, 1) := dk_96 (dk_at dksL_law_48 2 rfl rfl)
theorem dL_law_1376 : decode cL_law 1376 = .ok (.iaload, 1) := dk_46 (dk_at dksL_law_48 3 rfl rfl)
theorem dL_law_1377 : decode cL_law 1377 = .ok (.invokevirtual 179, 3) := dk_182 0 179 (dk_at dksL_law_48 4 rfl rfl)
theorem dL_law_1380 : decode cL_law 1380 = .ok (.aload_n 2, 1) := dk_44 (dk_at dksL_law_48 7 rfl rfl)
theorem dL_law_1381 : decode cL_law 1381 = .ok (.aload_n 0, 1) := dk_42 (dk_at dksL_law_48 8 rfl rfl)
theorem dL_law_1382 : decode cL_law 1382 = .ok (.iload_n 3, 1) := dk_29 (dk_at dksL_law_48 9 rfl rfl)
theorem dL_law_1383 : decode cL_law 1383 = .ok (.iconst 1, 1) := dk_4 (dk_at dksL_law_48 10 rfl rfl)
theorem dL_law_1384 : decode cL_law 1384 = .ok (.iadd, 1) := dk_96 (dk_at dksL_law_48 11 rfl rfl)
theorem dL_law_1385 : decode cL_law 1385 = .ok (.iaload, 1) := dk_46 (dk_at dksL_law_48 12 rfl rfl)
theorem dL_law_1386 : decode cL_law 1386 = .ok (.invokevirtual 182, 3) := dk_182 0 182 (dk_at dksL_law_48 13 rfl rfl)
theorem dL_law_1389 : decode cL_law 1389 = .ok (.if_icmp .eq 826, 3) := dk_159 3 58 (dk_at dksL_law_48 16 rfl rfl)
theorem dL_law_1392 : decode cL_law 1392 = .ok (.iconst 0, 1) := dk_3 (dk_at dksL_law_48 19 rfl rfl)
theorem dL_law_1393 : decode cL_law 1393 = .ok (.ireturn, 1) := dk_172 (dk_at dksL_law_48 20 rfl rfl)
theorem dL_law_1394 : decode cL_law 1394 = .ok (.aload_n 1, 1) := dk_43 (dk_at dksL_law_48 21 rfl rfl)
theorem dL_law_1395 : decode cL_law 1395 = .ok (.invokevirtual 183, 3) := dk_182 0 183 (dk_at dksL_law_49 0 rfl rfl)
theorem dL_law_1398 : decode cL_law 1398 = .ok (.aload_n 2, 1) := dk_44 (dk_at dksL_law_49 3 rfl rfl)
theorem dL_law_1399 : decode cL_law 1399 = .ok (.invokevirtual 186, 3) := dk_182 0 186 (dk_at dksL_law_49 4 rfl rfl)
theorem dL_law_1402 : decode cL_law 1402 = .ok (.if_icmp .eq 813, 3) := dk_159 3 45 (dk_at dksL_law_49 7 rfl rfl)
theorem dL_law_1405 : decode cL_law 1405 = .ok (.iconst 0, 1) := dk_3 (dk_at dksL_law_49 10 rfl rfl)
theorem dL_law_1406 : decode cL_law 1406 = .ok (.ireturn, 1) := dk_172 (dk_at dksL_law_49 11 rfl rfl)
theorem dL_law_1407 : decode cL_law 1407 = .ok (.aload_n 1, 1) := dk_43 (dk_at dksL_law_49 12 rfl rfl)
theorem dL_law_1408 : decode cL_law 1408 = .ok (.invokevirtual 187, 3) := dk_182 0 187 (dk_at dksL_law_49 13 rfl rfl)
theorem dL_law_1411 : decode cL_law 1411 = .ok (.aload_n 2, 1) := dk_44 (dk_at dksL_law_49 16 rfl rfl)
theorem dL_law_1412 : decode cL_law 1412 = .ok (.invokevirtual 190, 3) := dk_182 0 190 (dk_at dksL_law_49 17 rfl rfl)
theorem dL_law_1415 : decode cL_law 1415 = .ok (.if_icmp .eq 800, 3) := dk_159 3 32 (dk_at dksL_law_49 20 rfl rfl)
theorem dL_law_1418 : decode cL_law 1418 = .ok (.iconst 0, 1) := dk_3 (dk_at dksL_law_49 23 rfl rfl)
theorem dL_law_1419 : decode cL_law 1419 = .ok (.ireturn, 1) := dk_172 (dk_at dksL_law_50 0 rfl rfl)
theorem dL_law_1420 : decode cL_law 1420 = .ok (.aload_n 1, 1) := dk_43 (dk_at dksL_law_50 1 rfl rfl)
theorem dL_law_1421 : decode cL_law 1421 = .ok (.aload_n 0, 1) := dk_42 (dk_at dksL_law_50 2 rfl rfl)
theorem dL_law_1422 : decode cL_law 1422 = .ok (.iload_n 3, 1) := dk_29 (dk_at dksL_law_50 3 rfl rfl)
theorem dL_law_1423 : decode cL_law 1423 = .ok (.iconst 1, 1) := dk_4 (dk_at dksL_law_50 4 rfl rfl)
theorem dL_law_1424 : decode cL_law 1424 = .ok (.iadd, 1) := dk_96 (dk_at dksL_law_50 5 rfl rfl)
theorem dL_law_1425 : decode cL_law 1425 = .ok (.iaload, 1) := dk_46 (dk_at dksL_law_50 6 rfl rfl)
theorem dL_law_1426 : decode cL_law 1426 = .ok (.invokevirtual 191, 3) := dk_182 0 191 (dk_at dksL_law_50 7 rfl rfl)
theorem dL_law_1429 : decode cL_law 1429 = .ok (.aload_n 2, 1) := dk_44 (dk_at dksL_law_50 10 rfl rfl)
theorem dL_law_1430 : decode cL_law 1430 = .ok (.aload_n 0, 1) := dk_42 (dk_at dksL_law_50 11 rfl rfl)
theorem dL_law_1431 : decode cL_law 1431 = .ok (.iload_n 3, 1) := dk_29 (dk_at dksL_law_50 12 rfl rfl)
theorem dL_law_1432 : decode cL_law 1432 = .ok (.iconst 1, 1) := dk_4 (dk_at dksL_law_50 13 rfl rfl)
theorem dL_law_1433 : decode cL_law 1433 = .ok (.iadd, 1) := dk_96 (dk_at dksL_law_50 14 rfl rfl)
theorem dL_law_1434 : decode cL_law 1434 = .ok (.iaload, 1) := dk_46 (dk_at dksL_law_50 15 rfl rfl)
theorem dL_law_1435 : decode cL_law 1435 = .ok (.invokevirtual 194, 3) := dk_182 0 194 (dk_at dksL_law_50 16 rfl rfl)
theorem dL_law_1438 : decode cL_law 1438 = .ok (.if_icmp .eq 777, 3) := dk_159 3 9 (dk_at dksL_law_50 19 rfl rfl)
theorem dL_law_1441 : decode cL_law 1441 = .ok (.iconst 0, 1) := dk_3 (dk_at dksL_law_50 22 rfl rfl)
theorem dL_law_1442 : decode cL_law 1442 = .ok (.ireturn, 1) := dk_172 (dk_at dksL_law_50 23 rfl rfl)
theorem dL_law_1443 : decode cL_law 1443 = .ok (.aload_n 1, 1) := dk_43 (dk_at dksL_law_51 0 rfl rfl)
theorem dL_law_1444 : decode cL_law 1444 = .ok (.aload_n 0, 1) := dk_42 (dk_at dksL_law_51 1 rfl rfl)
theorem dL_law_1445 : decode cL_law 1445 = .ok (.iload_n 3, 1) := dk_29 (dk_at dksL_law_51 2 rfl rfl)
theorem dL_law_1446 : decode cL_law 1446 = .ok (.iconst 1, 1) := dk_4 (dk_at dksL_law_51 3 rfl rfl)
theorem dL_law_1447 : decode cL_law 1447 = .ok (.iadd, 1) := dk_96 (dk_at dksL_law_51 4 rfl rfl)
theorem dL_law_1448 : decode cL_law 1448 = .ok (.iaload, 1) := dk_46 (dk_at dksL_law_51 5 rfl rfl)
theorem dL_law_1449 : decode cL_law 1449 = .ok (.aload_n 0, 1) := dk_42 (dk_at dksL_law_51 6 rfl rfl)
theorem dL_law_1450 : decode cL_law 1450 = .ok (.iload_n 3, 1) := dk_29 (dk_at dksL_law_51 7 rfl rfl)
theorem dL_law_1451 : decode cL_law 1451 = .ok (.iconst 2, 1) := dk_5 (dk_at dksL_law_51 8 rfl rfl)
theorem dL_law_1452 : decode cL_law 1452 = .ok (.iadd, 1) := dk_96 (dk_at dksL_law_51 9 rfl rfl)
theorem dL_law_1453 : decode cL_law 1453 = .ok (.iaload, 1) := dk_46 (dk_at dksL_law_51 10 rfl rfl)
theorem dL_law_1454 : decode cL_law 1454 = .ok (.invokevirtual 195, 3) := dk_182 0 195 (dk_at dksL_law_51 11 rfl rfl)
theorem dL_law_1457 : decode cL_law 1457 = .ok (.aload_n 2, 1) := dk_44 (dk_at dksL_law_51 14 rfl rfl)
theorem dL_law_1458 : decode cL_law 1458 = .ok (.aload_n 0, 1) := dk_42 (dk_at dksL_law_51 15 rfl rfl)
theorem dL_law_1459 : decode cL_law 1459 = .ok (.iload_n 3, 1) := dk_29 (dk_at dksL_law_51 16 rfl rfl)
theorem dL_law_1460 : decode cL_law 1460 = .ok (.iconst 1, 1) := dk_4 (dk_at dksL_law_51 17 rfl rfl)
theorem dL_law_1461 : decode cL_law 1461 = .ok (.iadd, 1) := dk_96 (dk_at dksL_law_51 18 rfl rfl)
theorem dL_law_1462 : decode cL_law 1462 = .ok (.iaload, 1) := dk_46 (dk_at dksL_law_51 19 rfl rfl)
theorem dL_law_1463 : decode cL_law 1463 = .ok (.aload_n 0, 1) := dk_42 (dk_at dksL_law_51 20 rfl rfl)
theorem dL_law_1464 : decode cL_law 1464 = .ok (.iload_n 3, 1) := dk_29 (dk_at dksL_law_51 21 rfl rfl)
theorem dL_law_1465 : decode cL_law 1465 = .ok (.iconst 2, 1) := dk_5 (dk_at dksL_law_51 22 rfl rfl)
theorem dL_law_1466 : decode cL_law 1466 = .ok (.iadd, 1) := dk_96 (dk_at dksL_law_51 23 rfl rfl)
theorem dL_law_1467 : decode cL_law 1467 = .ok (.iaload, 1) := dk_46 (dk_at dksL_law_52 0 rfl rfl)
theorem dL_law_1468 : decode cL_law 1468 = .ok (.invokevirtual 198, 3) := dk_182 0 198 (dk_at dksL_law_52 1 rfl rfl)
theorem dL_law_1471 : decode cL_law 1471 = .ok (.if_icmp .eq 744, 3) := dk_159 2 232 (dk_at dksL_law_52 4 rfl rfl)
theorem dL_law_1474 : decode cL_law 1474 = .ok (.iconst 0, 1) := dk_3 (dk_at dksL_law_52 7 rfl rfl)
theorem dL_law_1475 : decode cL_law 1475 = .ok (.ireturn, 1) := dk_172 (dk_at dksL_law_52 8 rfl rfl)
theorem dL_law_1476 : decode cL_law 1476 = .ok (.aload_n 1, 1) := dk_43 (dk_at dksL_law_52 9 rfl rfl)
theorem dL_law_1477 : decode cL_law 1477 = .ok (.aload_n 0, 1) := dk_42 (dk_at dksL_law_52 10 rfl rfl)
theorem dL_law_1478 : decode cL_law 1478 = .ok (.iload_n 3, 1) := dk_29 (dk_at dksL_law_52 11 rfl rfl)
theorem dL_law_1479 : decode cL_law 1479 = .ok (.iconst 1, 1) := dk_4 (dk_at dksL_law_52 12 rfl rfl)
theorem dL_law_1480 : decode cL_law 1480 = .ok (.iadd, 1) := dk_96 (dk_at dksL_law_52 13 rfl rfl)
theorem dL_law_1481 : decode cL_law 1481 = .ok (.iaload, 1) := dk_46 (dk_at dksL_law_52 14 rfl rfl)
theorem dL_law_1482 : decode cL_law 1482 = .ok (.aload_n 0, 1) := dk_42 (dk_at dksL_law_52 15 rfl rfl)
theorem dL_law_1483 : decode cL_law 1483 = .ok (.iload_n 3, 1) := dk_29 (dk_at dksL_law_52 16 rfl rfl)
theorem dL_law_1484 : decode cL_law 1484 = .ok (.iconst 2, 1) := dk_5 (dk_at dksL_law_52 17 rfl rfl)
theorem dL_law_1485 : decode cL_law 1485 = .ok (.iadd, 1) := dk_96 (dk_at dksL_law_52 18 rfl rfl)
theorem dL_law_1486 : decode cL_law 1486 = .ok (.iaload, 1) := dk_46 (dk_at dksL_law_52 19 rfl rfl)
theorem dL_law_1487 : decode cL_law 1487 = .ok (.invokevirtual 199, 3) := dk_182 0 199 (dk_at dksL_law_52 20 rfl rfl)
theorem dL_law_1490 : decode cL_law 1490 = .ok (.aload_n 2, 1) := dk_44 (dk_at dksL_law_52 23 rfl rfl)
theorem dL_law_1491 : decode cL_law 1491 = .ok (.aload_n 0, 1) := dk_42 (dk_at dksL_law_53 0 rfl rfl)
theorem dL_law_1492 : decode cL_law 1492 = .ok (.iload_n 3, 1) := dk_29 (dk_at dksL_law_53 1 rfl rfl)
theorem dL_law_1493 : decode cL_law 1493 = .ok (.iconst 1, 1) := dk_4 (dk_at dksL_law_53 2 rfl rfl)
theorem dL_law_1494 : decode cL_law 1494 = .ok (.iadd, 1) := dk_96 (dk_at dksL_law_53 3 rfl rfl)
theorem dL_law_1495 : decode cL_law 1495 = .ok (.iaload, 1) := dk_46 (dk_at dksL_law_53 4 rfl rfl)
theorem dL_law_1496 : decode cL_law 1496 = .ok (.aload_n 0, 1) := dk_42 (dk_at dksL_law_53 5 rfl rfl)
theorem dL_law_1497 : decode cL_law 1497 = .ok (.iload_n 3, 1) := dk_29 (dk_at dksL_law_53 6 rfl rfl)
theorem dL_law_1498 : decode cL_law 1498 = .ok (.iconst 2, 1) := dk_5 (dk_at dksL_law_53 7 rfl rfl)
theorem dL_law_1499 : decode cL_law 1499 = .ok (.iadd, 1) := dk_96 (dk_at dksL_law_53 8 rfl rfl)
theorem dL_law_1500 : decode cL_law 1500 = .ok (.iaload, 1) := dk_46 (dk_at dksL_law_53 9 rfl rfl)
theorem dL_law_1501 : decode cL_law 1501 = .ok (.invokevirtual 202, 3) := dk_182 0 202 (dk_at dksL_law_53 10 rfl rfl)
theorem dL_law_1504 : decode cL_law 1504 = .ok (.if_icmp .eq 711, 3) := dk_159 2 199 (dk_at dksL_law_53 13 rfl rfl)
theorem dL_law_1507 : decode cL_law 1507 = .ok (.iconst 0, 1) := dk_3 (dk_at dksL_law_53 16 rfl rfl)
theorem dL_law_1508 : decode cL_law 1508 = .ok (.ireturn, 1) := dk_172 (dk_at dksL_law_53 17 rfl rfl)
theorem dL_law_1509 : decode cL_law 1509 = .ok (.aload_n 1, 1) := dk_43 (dk_at dksL_law_53 18 rfl rfl)
theorem dL_law_1510 : decode cL_law 1510 = .ok (.aload_n 0, 1) := dk_42 (dk_at dksL_law_53 19 rfl rfl)
theorem dL_law_1511 : decode cL_law 1511 = .ok (.iload_n 3, 1) := dk_29 (dk_at dksL_law_53 20 rfl rfl)
theorem dL_law_1512 : decode cL_law 1512 = .ok (.iconst 1, 1) := dk_4 (dk_at dksL_law_53 21 rfl rfl)
theorem dL_law_1513 : decode cL_law 1513 = .ok (.iadd, 1) := dk_96 (dk_at dksL_law_53 22 rfl rfl)
theorem dL_law_1514 : decode cL_law 1514 = .ok (.iaload, 1) := dk_46 (dk_at dksL_law_53 23 rfl rfl)
theorem dL_law_1515 : decode cL_law 1515 = .ok (.invokevirtual 203, 3) := dk_182 0 203 (dk_at dksL_law_54 0 rfl rfl)
theorem dL_law_1518 : decode cL_law 1518 = .ok (.aload_n 2, 1) := dk_44 (dk_at dksL_law_54 3 rfl rfl)
theorem dL_law_1519 : decode cL_law 1519 = .ok (.aload_n 0, 1) := dk_42 (dk_at dksL_law_54 4 rfl rfl)
theorem dL_law_1520 : decode cL_law 1520 = .ok (.iload_n 3, 1) := dk_29 (dk_at dksL_law_54 5 rfl rfl)
theorem dL_law_1521 : decode cL_law 1521 = .ok (.iconst 1, 1) := dk_4 (dk_at dksL_law_54 6 rfl rfl)
theorem dL_law_1522 : decode cL_law 1522 = .ok (.iadd, 1) := dk_96 (dk_at dksL_law_54 7 rfl rfl)
theorem dL_law_1523 : decode cL_law 1523 = .ok (.iaload, 1) := dk_46 (dk_at dksL_law_54 8 rfl rfl)
theorem dL_law_1524 : decode cL_law 1524 = .ok (.invokevirtual 206, 3) := dk_182 0 206 (dk_at dksL_law_54 9 rfl rfl)
theorem dL_law_1527 : decode cL_law 1527 = .ok (.if_icmp .eq 688, 3) := dk_159 2 176 (dk_at dksL_law_54 12 rfl rfl)
theorem dL_law_1530 : decode cL_law 1530 = .ok (.iconst 0, 1) := dk_3 (dk_at dksL_law_54 15 rfl rfl)
theorem dL_law_1531 : decode cL_law 1531 = .ok (.ireturn, 1) := dk_172 (dk_at dksL_law_54 16 rfl rfl)
theorem dL_law_1532 : decode cL_law 1532 = .ok (.aload_n 1, 1) := dk_43 (dk_at dksL_law_54 17 rfl rfl)
theorem dL_law_1533 : decode cL_law 1533 = .ok (.aload_n 0, 1) := dk_42 (dk_at dksL_law_54 18 rfl rfl)
theorem dL_law_1534 : decode cL_law 1534 = .ok (.iload_n 3, 1) := dk_29 (dk_at dksL_law_54 19 rfl rfl)
theorem dL_law_1535 : decode cL_law 1535 = .ok (.iconst 1, 1) := dk_4 (dk_at dksL_law_54 20 rfl rfl)
theorem dL_law_1536 : decode cL_law 1536 = .ok (.iadd, 1) := dk_96 (dk_at dksL_law_54 21 rfl rfl)
theorem dL_law_1537 : decode cL_law 1537 = .ok (.iaload, 1) := dk_46 (dk_at dksL_law_54 22 rfl rfl)
theorem dL_law_1538 : decode cL_law 1538 = .ok (.aload_n 0, 1) := dk_42 (dk_at dksL_law_54 23 rfl rfl)
theorem dL_law_1539 : decode cL_law 1539 = .ok (.iload_n 3, 1) := dk_29 (dk_at dksL_law_55 0 rfl rfl)
theorem dL_law_1540 : decode cL_law 1540 = .ok (.iconst 2, 1) := dk_5 (dk_at dksL_law_55 1 rfl rfl)
theorem dL_law_1541 : decode cL_law 1541 = .ok (.iadd, 1) := dk_96 (dk_at dksL_law_55 2 rfl rfl)
theorem dL_law_1542 : decode cL_law 1542 = .ok (.iaload, 1) := dk_46 (dk_at dksL_law_55 3 rfl rfl)
theorem dL_law_1543 : decode cL_law 1543 = .ok (.invokevirtual 207, 3) := dk_182 0 207 (dk_at dksL_law_55 4 rfl rfl)
theorem dL_law_1546 : decode cL_law 1546 = .ok (.aload_n 2, 1) := dk_44 (dk_at dksL_law_55 7 rfl rfl)
theorem dL_law_1547 : decode cL_law 1547 = .ok (.aload_n 0, 1) := dk_42 (dk_at dksL_law_55 8 rfl rfl)
theorem dL_law_1548 : decode cL_law 1548 = .ok (.iload_n 3, 1) := dk_29 (dk_at dksL_law_55 9 rfl rfl)
theorem dL_law_1549 : decode cL_law 1549 = .ok (.iconst 1, 1) := dk_4 (dk_at dksL_law_55 10 rfl rfl)
theorem dL_law_1550 : decode cL_law 1550 = .ok (.iadd, 1) := dk_96 (dk_at dksL_law_55 11 rfl rfl)
theorem dL_law_1551 : decode cL_law 1551 = .ok (.iaload, 1) := dk_46 (dk_at dksL_law_55 12 rfl rfl)
theorem dL_law_1552 : decode cL_law 1552 = .ok (.aload_n 0, 1) := dk_42 (dk_at dksL_law_55 13 rfl rfl)
theorem dL_law_1553 : decode cL_law 1553 = .ok (.iload_n 3, 1) := dk_29 (dk_at dksL_law_55 14 rfl rfl)
theorem dL_law_1554 : decode cL_law 1554 = .ok (.iconst 2, 1) := dk_5 (dk_at dksL_law_55 15 rfl rfl)
theorem dL_law_1555 : decode cL_law 1555 = .ok (.iadd, 1) := dk_96 (dk_at dksL_law_55 16 rfl rfl)
theorem dL_law_1556 : decode cL_law 1556 = .ok (.iaload, 1) := dk_46 (dk_at dksL_law_55 17 rfl rfl)
theorem dL_law_1557 : decode cL_law 1557 = .ok (.invokevirtual 210, 3) := dk_182 0 210 (dk_at dksL_law_55 18 rfl rfl)
theorem dL_law_1560 : decode cL_law 1560 = .ok (.if_icmp .eq 655, 3) := dk_159 2 143 (dk_at dksL_law_55 21 rfl rfl)
theorem dL_law_1563 : decode cL_law 1563 = .ok (.iconst 0, 1) := dk_3 (dk_at dksL_law_56 0 rfl rfl)
theorem dL_law_1564 : decode cL_law 1564 = .ok (.ireturn, 1) := dk_172 (dk_at dksL_law_56 1 rfl rfl)
theorem dL_law_1565 : decode cL_law 1565 = .ok (.aload_n 1, 1) := dk_43 (dk_at dksL_law_56 2 rfl rfl)
theorem dL_law_1566 : decode cL_law 1566 = .ok (.aload_n 0, 1) := dk_42 (dk_at dksL_law_56 3 rfl rfl)
theorem dL_law_1567 : decode cL_law 1567 = .ok (.iload_n 3, 1) := dk_29 (dk_at dksL_law_56 4 rfl rfl)
theorem dL_law_1568 : decode cL_law 1568 = .ok (.iconst 1, 1) := dk_4 (dk_at dksL_law_56 5 rfl rfl)
theorem dL_law_1569 : decode cL_law 1569 = .ok (.iadd, 1) := dk_96 (dk_at dksL_law_56 6 rfl rfl)
theorem dL_law_1570 : decode cL_law 1570 = .ok (.iaload, 1) := dk_46 (dk_at dksL_law_56 7 rfl rfl)
theorem dL_law_1571 : decode cL_law 1571 = .ok (.invokevirtual 211, 3) := dk_182 0 211 (dk_at dksL_law_56 8 rfl rfl)
theorem dL_law_1574 : decode cL_law 1574 = .ok (.aload_n 2, 1) := dk_44 (dk_at dksL_law_56 11 rfl rfl)
theorem dL_law_1575 : decode cL_law 1575 = .ok (.aload_n 0, 1) := dk_42 (dk_at dksL_law_56 12 rfl rfl)
theorem dL_law_1576 : decode cL_law 1576 = .ok (.iload_n 3, 1) := dk_29 (dk_at dksL_law_56 13 rfl rfl)
theorem dL_law_1577 : decode cL_law 1577 = .ok (.iconst 1, 1) := dk_4 (dk_at dksL_law_56 14 rfl rfl)
theorem dL_law_1578 : decode cL_law 1578 = .ok (.iadd, 1) := dk_96 (dk_at dksL_law_56 15 rfl rfl)
theorem dL_law_1579 : decode cL_law 1579 = .ok (.iaload, 1) := dk_46 (dk_at dksL_law_56 16 rfl rfl)
theorem dL_law_1580 : decode cL_law 1580 = .ok (.invokevirtual 214, 3) := dk_182 0 214 (dk_at dksL_law_56 17 rfl rfl)
theorem dL_law_1583 : decode cL_law 1583 = .ok (.if_icmp .eq 632, 3) := dk_159 2 120 (dk_at dksL_law_56 20 rfl rfl)
theorem dL_law_1586 : decode cL_law 1586 = .ok (.iconst 0, 1) := dk_3 (dk_at dksL_law_56 23 rfl rfl)
theorem dL_law_1587 : decode cL_law 1587 = .ok (.ireturn, 1) := dk_172 (dk_at dksL_law_57 0 rfl rfl)
theorem dL_law_1588 : decode cL_law 1588 = .ok (.aload_n 1, 1) := dk_43 (dk_at dksL_law_57 1 rfl rfl)
theorem dL_law_1589 : decode cL_law 1589 = .ok (.invokevirtual 215, 3) := dk_182 0 215 (dk_at dksL_law_57 2 rfl rfl)
theorem dL_law_1592 : decode cL_law 1592 = .ok (.aload_n 2, 1) := dk_44 (dk_at dksL_law_57 5 rfl rfl)
theorem dL_law_1593 : decode cL_law 1593 = .ok (.invokevirtual 218, 3) := dk_182 0 218 (dk_at dksL_law_57 6 rfl rfl)
theorem dL_law_1596 : decode cL_law 1596 = .ok (.if_icmp .eq 619, 3) := dk_159 2 107 (dk_at dksL_law_57 9 rfl rfl)
theorem dL_law_1599 : decode cL_law 1599 = .ok (.iconst 0, 1) := dk_3 (dk_at dksL_law_57 12 rfl rfl)
theorem dL_law_1600 : decode cL_law 1600 = .ok (.ireturn, 1) := dk_172 (dk_at dksL_law_57 13 rfl rfl)
theorem dL_law_1601 : decode cL_law 1601 = .ok (.aload_n 1, 1) := dk_43 (dk_at dksL_law_57 14 rfl rfl)
theorem dL_law_1602 : decode cL_law 1602 = .ok (.aload_n 0, 1) := dk_42 (dk_at dksL_law_57 15 rfl rfl)
theorem dL_law_1603 : decode cL_law 1603 = .ok (.iload_n 3, 1) := dk_29 (dk_at dksL_law_57 16 rfl rfl)
theorem dL_law_1604 : decode cL_law 1604 = .ok (.iconst 1, 1) := dk_4 (dk_at dksL_law_57 17 rfl rfl)
theorem dL_law_1605 : decode cL_law 1605 = .ok (.iadd, 1) := dk_96 (dk_at dksL_law_57 18 rfl rfl)
theorem dL_law_1606 : decode cL_law 1606 = .ok (.iaload, 1) := dk_46 (dk_at dksL_law_57 19 rfl rfl)
theorem dL_law_1607 : decode cL_law 1607 = .ok (.invokevirtual 219, 3) := dk_182 0 219 (dk_at dksL_law_57 20 rfl rfl)
theorem dL_law_1610 : decode cL_law 1610 = .ok (.aload_n 2, 1) := dk_44 (dk_at dksL_law_57 23 rfl rfl)
theorem dL_law_1611 : decode cL_law 1611 = .ok (.aload_n 0, 1) := dk_42 (dk_at dksL_law_58 0 rfl rfl)
theorem dL_law_1612 : decode cL_law 1612 = .ok (.iload_n 3, 1) := dk_29 (dk_at dksL_law_58 1 rfl rfl)
theorem dL_law_1613 : decode cL_law 1613 = .ok (.iconst 1, 1) := dk_4 (dk_at dksL_law_58 2 rfl rfl)
theorem dL_law_1614 : decode cL_law 1614 = .ok (.iadd, 1) := dk_96 (dk_at dksL_law_58 3 rfl rfl)
theorem dL_law_1615 : decode cL_law 1615 = .ok (.iaload, 1) := dk_46 (dk_at dksL_law_58 4 rfl rfl)
theorem dL_law_1616 : decode cL_law 1616 = .ok (.invokevirtual 222, 3) := dk_182 0 222 (dk_at dksL_law_58 5 rfl rfl)
theorem dL_law_1619 : decode cL_law 1619 = .ok (.if_icmp .eq 596, 3) := dk_159 2 84 (dk_at dksL_law_58 8 rfl rfl)
theorem dL_law_1622 : decode cL_law 1622 = .ok (.iconst 0, 1) := dk_3 (dk_at dksL_law_58 11 rfl rfl)
theorem dL_law_1623 : decode cL_law 1623 = .ok (.ireturn, 1) := dk_172 (dk_at dksL_law_58 12 rfl rfl)
theorem dL_law_1624 : decode cL_law 1624 = .ok (.aload_n 1, 1) := dk_43 (dk_at dksL_law_58 13 rfl rfl)
theorem dL_law_1625 : decode cL_law 1625 = .ok (.aload_n 0, 1) := dk_42 (dk_at dksL_law_58 14 rfl rfl)
theorem dL_law_1626 : decode cL_law 1626 = .ok (.iload_n 3, 1) := dk_29 (dk_at dksL_law_58 15 rfl rfl)
theorem dL_law_1627 : decode cL_law 1627 = .ok (.iconst 1, 1) := dk_4 (dk_at dksL_law_58 16 rfl rfl)
theorem dL_law_1628 : decode cL_law 1628 = .ok (.iadd, 1) := dk_96 (dk_at dksL_law_58 17 rfl rfl)
theorem dL_law_1629 : decode cL_law 1629 = .ok (.iaload, 1) := dk_46 (dk_at dksL_law_58 18 rfl rfl)
theorem dL_law_1630 : decode cL_law 1630 = .ok (.aload_n 0, 1) := dk_42 (dk_at dksL_law_58 19 rfl rfl)
theorem dL_law_1631 : decode cL_law 1631 = .ok (.iload_n 3, 1) := dk_29 (dk_at dksL_law_58 20 rfl rfl)
theorem dL_law_1632 : decode cL_law 1632 = .ok (.iconst 2, 1) := dk_5 (dk_at dksL_law_58 21 rfl rfl)
theorem dL_law_1633 : decode cL_law 1633 = .ok (.iadd, 1) := dk_96 (dk_at dksL_law_58 22 rfl rfl)
theorem dL_law_1634 : decode cL_law 1634 = .ok (.iaload, 1) := dk_46 (dk_at dksL_law_58 23 rfl rfl)
theorem dL_law_1635 : decode cL_law 1635 = .ok (.invokevirtual 223, 3) := dk_182 0 223 (dk_at dksL_law_59 0 rfl rfl)
theorem dL_law_1638 : decode cL_law 1638 = .ok (.aload_n 2, 1) := dk_44 (dk_at dksL_law_59 3 rfl rfl)
theorem dL_law_1639 : decode cL_law 1639 = .ok (.aload_n 0, 1) := dk_42 (dk_at dksL_law_59 4 rfl rfl)
theorem dL_law_1640 : decode cL_law 1640 = .ok (.iload_n 3, 1) := dk_29 (dk_at dksL_law_59 5 rfl rfl)
theorem dL_law_1641 : decode cL_law 1641 = .ok (.iconst 1, 1) := dk_4 (dk_at dksL_law_59 6 rfl rfl)
theorem dL_law_1642 : decode cL_law 1642 = .ok (.iadd, 1) := dk_96 (dk_at dksL_law_59 7 rfl rfl)
theorem dL_law_1643 : decode cL_law 1643 = .ok (.iaload, 1) := dk_46 (dk_at dksL_law_59 8 rfl rfl)
theorem dL_law_1644 : decode cL_law 1644 = .ok (.aload_n 0, 1) := dk_42 (dk_at dksL_law_59 9 rfl rfl)
theorem dL_law_1645 : decode cL_law 1645 = .ok (.iload_n 3, 1) := dk_29 (dk_at dksL_law_59 10 rfl rfl)
theorem dL_law_1646 : decode cL_law 1646 = .ok (.iconst 2, 1) := dk_5 (dk_at dksL_law_59 11 rfl rfl)
theorem dL_law_1647 : decode cL_law 1647 = .ok (.iadd, 1) := dk_96 (dk_at dksL_law_59 12 rfl rfl)
theorem dL_law_1648 : decode cL_law 1648 = .ok (.iaload, 1) := dk_46 (dk_at dksL_law_59 13 rfl rfl)
theorem dL_law_1649 : decode cL_law 1649 = .ok (.invokevirtual 226, 3) := dk_182 0 226 (dk_at dksL_law_59 14 rfl rfl)
theorem dL_law_1652 : decode cL_law 1652 = .ok (.if_icmp .eq 563, 3) := dk_159 2 51 (dk_at dksL_law_59 17 rfl rfl)
theorem dL_law_1655 : decode cL_law 1655 = .ok (.iconst 0, 1) := dk_3 (dk_at dksL_law_59 20 rfl rfl)
theorem dL_law_1656 : decode cL_law 1656 = .ok (.ireturn, 1) := dk_172 (dk_at dksL_law_59 21 rfl rfl)
theorem dL_law_1657 : decode cL_law 1657 = .ok (.aload_n 1, 1) := dk_43 (dk_at dksL_law_59 22 rfl rfl)
theorem dL_law_1658 : decode cL_law 1658 = .ok (.aload_n 0, 1) := dk_42 (dk_at dksL_law_59 23 rfl rfl)
theorem dL_law_1659 : decode cL_law 1659 = .ok (.iload_n 3, 1) := dk_29 (dk_at dksL_law_60 0 rfl rfl)
theorem dL_law_1660 : decode cL_law 1660 = .ok (.iconst 1, 1) := dk_4 (dk_at dksL_law_60 1 rfl rfl)
theorem dL_law_1661 : decode cL_law 1661 = .ok (.iadd, 1) := dk_96 (dk_at dksL_law_60 2 rfl rfl)
theorem dL_law_1662 : decode cL_law 1662 = .ok (.iaload, 1) := dk_46 (dk_at dksL_law_60 3 rfl rfl)
theorem dL_law_1663 : decode cL_law 1663 = .ok (.invokevirtual 227, 3) := dk_182 0 227 (dk_at dksL_law_60 4 rfl rfl)
theorem dL_law_1666 : decode cL_law 1666 = .ok (.aload_n 2, 1) := dk_44 (dk_at dksL_law_60 7 rfl rfl)
theorem dL_law_1667 : decode cL_law 1667 = .ok (.aload_n 0, 1) := dk_42 (dk_at dksL_law_60 8 rfl rfl)
theorem dL_law_1668 : decode cL_law 1668 = .ok (.iload_n 3, 1) := dk_29 (dk_at dksL_law_60 9 rfl rfl)
theorem dL_law_1669 : decode cL_law 1669 = .ok (.iconst 1, 1) := dk_4 (dk_at dksL_law_60 10 rfl rfl)
theorem dL_law_1670 : decode cL_law 1670 = .ok (.iadd, 1) := dk_96 (dk_at dksL_law_60 11 rfl rfl)
theorem dL_law_1671 : decode cL_law 1671 = .ok (.iaload, 1) := dk_46 (dk_at dksL_law_60 12 rfl rfl)
theorem dL_law_1672 : decode cL_law 1672 = .ok (.invokevirtual 230, 3) := dk_182 0 230 (dk_at dksL_law_60 13 rfl rfl)
theorem dL_law_1675 : decode cL_law 1675 = .ok (.if_icmp .eq 540, 3) := dk_159 2 28 (dk_at dksL_law_60 16 rfl rfl)
theorem dL_law_1678 : decode cL_law 1678 = .ok (.iconst 0, 1) := dk_3 (dk_at dksL_law_60 19 rfl rfl)
theorem dL_law_1679 : decode cL_law 1679 = .ok (.ireturn, 1) := dk_172 (dk_at dksL_law_60 20 rfl rfl)
theorem dL_law_1680 : decode cL_law 1680 = .ok (.aload_n 1, 1) := dk_43 (dk_at dksL_law_60 21 rfl rfl)
theorem dL_law_1681 : decode cL_law 1681 = .ok (.aload_n 0, 1) := dk_42 (dk_at dksL_law_60 22 rfl rfl)
theorem dL_law_1682 : decode cL_law 1682 = .ok (.iload_n 3, 1) := dk_29 (dk_at dksL_law_60 23 rfl rfl)
theorem dL_law_1683 : decode cL_law 1683 = .ok (.iconst 1, 1) := dk_4 (dk_at dksL_law_61 0 rfl rfl)
theorem dL_law_1684 : decode cL_law 1684 = .ok (.iadd, 1) := dk_96 (dk_at dksL_law_61 1 rfl rfl)
theorem dL_law_1685 : decode cL_law 1685 = .ok (.iaload, 1) := dk_46 (dk_at dksL_law_61 2 rfl rfl)
theorem dL_law_1686 : decode cL_law 1686 = .ok (.aload_n 0, 1) := dk_42 (dk_at dksL_law_61 3 rfl rfl)
theorem dL_law_1687 : decode cL_law 1687 = .ok (.iload_n 3, 1) := dk_29 (dk_at dksL_law_61 4 rfl rfl)
theorem dL_law_1688 : decode cL_law 1688 = .ok (.iconst 2, 1) := dk_5 (dk_at dksL_law_61 5 rfl rfl)
theorem dL_law_1689 : decode cL_law 1689 = .ok (.iadd, 1) := dk_96 (dk_at dksL_law_61 6 rfl rfl)
theorem dL_law_1690 : decode cL_law 1690 = .ok (.iaload, 1) := dk_46 (dk_at dksL_law_61 7 rfl rfl)
theorem dL_law_1691 : decode cL_law 1691 = .ok (.invokevirtual 231, 3) := dk_182 0 231 (dk_at dksL_law_61 8 rfl rfl)
theorem dL_law_1694 : decode cL_law 1694 = .ok (.aload_n 2, 1) := dk_44 (dk_at dksL_law_61 11 rfl rfl)
theorem dL_law_1695 : decode cL_law 1695 = .ok (.aload_n 0, 1) := dk_42 (dk_at dksL_law_61 12 rfl rfl)
theorem dL_law_1696 : decode cL_law 1696 = .ok (.iload_n 3, 1) := dk_29 (dk_at dksL_law_61 13 rfl rfl)
theorem dL_law_1697 : decode cL_law 1697 = .ok (.iconst 1, 1) := dk_4 (dk_at dksL_law_61 14 rfl rfl)
theorem dL_law_1698 : decode cL_law 1698 = .ok (.iadd, 1) := dk_96 (dk_at dksL_law_61 15 rfl rfl)
theorem dL_law_1699 : decode cL_law 1699 = .ok (.iaload, 1) := dk_46 (dk_at dksL_law_61 16 rfl rfl)
theorem dL_law_1700 : decode cL_law 1700 = .ok (.aload_n 0, 1) := dk_42 (dk_at dksL_law_61 17 rfl rfl)
theorem dL_law_1701 : decode cL_law 1701 = .ok (.iload_n 3, 1) := dk_29 (dk_at dksL_law_61 18 rfl rfl)
theorem dL_law_1702 : decode cL_law 1702 = .ok (.iconst 2, 1) := dk_5 (dk_at dksL_law_61 19 rfl rfl)
theorem dL_law_1703 : decode cL_law 1703 = .ok (.iadd, 1) := dk_96 (dk_at dksL_law_61 20 rfl rfl)
theorem dL_law_1704 : decode cL_law 1704 = .ok (.iaload, 1) := dk_46 (dk_at dksL_law_61 21 rfl rfl)
theorem dL_law_1705 : decode cL_law 1705 = .ok (.invokevirtual 234, 3) := dk_182 0 234 (dk_at dksL_law_62 0 rfl rfl)
theorem dL_law_1708 : decode cL_law 1708 = .ok (.if_icmp .eq 507, 3) := dk_159 1 251 (dk_at dksL_law_62 3 rfl rfl)
theorem dL_law_1711 : decode cL_law 1711 = .ok (.iconst 0, 1) := dk_3 (dk_at dksL_law_62 6 rfl rfl)
theorem dL_law_1712 : decode cL_law 1712 = .ok (.ireturn, 1) := dk_172 (dk_at dksL_law_62 7 rfl rfl)
theorem dL_law_1713 : decode cL_law 1713 = .ok (.aload_n 1, 1) := dk_43 (dk_at dksL_law_62 8 rfl rfl)
theorem dL_law_1714 : decode cL_law 1714 = .ok (.aload_n 0, 1) := dk_42 (dk_at dksL_law_62 9 rfl rfl)
theorem dL_law_1715 : decode cL_law 1715 = .ok (.iload_n 3, 1) := dk_29 (dk_at dksL_law_62 10 rfl rfl)
theorem dL_law_1716 : decode cL_law 1716 = .ok (.iconst 1, 1) := dk_4 (dk_at dksL_law_62 11 rfl rfl)
theorem dL_law_1717 : decode cL_law 1717 = .ok (.iadd, 1) := dk_96 (dk_at dksL_law_62 12 rfl rfl)
theorem dL_law_1718 : decode cL_law 1718 = .ok (.iaload, 1) := dk_46 (dk_at dksL_law_62 13 rfl rfl)
theorem dL_law_1719 : decode cL_law 1719 = .ok (.invokevirtual 235, 3) := dk_182 0 235 (dk_at dksL_law_62 14 rfl rfl)
theorem dL_law_1722 : decode cL_law 1722 = .ok (.aload_n 2, 1) := dk_44 (dk_at dksL_law_62 17 rfl rfl)
theorem dL_law_1723 : decode cL_law 1723 = .ok (.aload_n 0, 1) := dk_42 (dk_at dksL_law_62 18 rfl rfl)
theorem dL_law_1724 : decode cL_law 1724 = .ok (.iload_n 3, 1) := dk_29 (dk_at dksL_law_62 19 rfl rfl)
theorem dL_law_1725 : decode cL_law 1725 = .ok (.iconst 1, 1) := dk_4 (dk_at dksL_law_62 20 rfl rfl)
theorem dL_law_1726 : decode cL_law 1726 = .ok (.iadd, 1) := dk_96 (dk_at dksL_law_62 21 rfl rfl)
theorem dL_law_1727 : decode cL_law 1727 = .ok (.iaload, 1) := dk_46 (dk_at dksL_law_62 22 rfl rfl)
theorem dL_law_1728 : decode cL_law 1728 = .ok (.invokevirtual 238, 3) := dk_182 0 238 (dk_at dksL_law_63 0 rfl rfl)
theorem dL_law_1731 : decode cL_law 1731 = .ok (.if_icmp .eq 484, 3) := dk_159 1 228 (dk_at dksL_law_63 3 rfl rfl)
theorem dL_law_1734 : decode cL_law 1734 = .ok (.iconst 0, 1) := dk_3 (dk_at dksL_law_63 6 rfl rfl)
theorem dL_law_1735 : decode cL_law 1735 = .ok (.ireturn, 1) := dk_172 (dk_at dksL_law_63 7 rfl rfl)
theorem dL_law_1736 : decode cL_law 1736 = .ok (.aload_n 1, 1) := dk_43 (dk_at dksL_law_63 8 rfl rfl)
theorem dL_law_1737 : decode cL_law 1737 = .ok (.aload_n 0, 1) := dk_42 (dk_at dksL_law_63 9 rfl rfl)
theorem dL_law_1738 : decode cL_law 1738 = .ok (.iload_n 3, 1) := dk_29 (dk_at dksL_law_63 10 rfl rfl)
theorem dL_law_1739 : decode cL_law 1739 = .ok (.iconst 1, 1) := dk_4 (dk_at dksL_law_63 11 rfl rfl)
theorem dL_law_1740 : decode cL_law 1740 = .ok (.iadd, 1) := dk_96 (dk_at dksL_law_63 12 rfl rfl)
theorem dL_law_1741 : decode cL_law 1741 = .ok (.iaload, 1) := dk_46 (dk_at dksL_law_63 13 rfl rfl)
theorem dL_law_1742 : decode cL_law 1742 = .ok (.invokevirtual 239, 3) := dk_182 0 239 (dk_at dksL_law_63 14 rfl rfl)
theorem dL_law_1745 : decode cL_law 1745 = .ok (.aload_n 2, 1) := dk_44 (dk_at dksL_law_63 17 rfl rfl)
theorem dL_law_1746 : decode cL_law 1746 = .ok (.aload_n 0, 1) := dk_42 (dk_at dksL_law_63 18 rfl rfl)
theorem dL_law_1747 : decode cL_law 1747 = .ok (.iload_n 3, 1) := dk_29 (dk_at dksL_law_63 19 rfl rfl)
theorem dL_law_1748 : decode cL_law 1748 = .ok (.iconst 1, 1) := dk_4 (dk_at dksL_law_63 20 rfl rfl)
theorem dL_law_1749 : decode cL_law 1749 = .ok (.iadd, 1) := dk_96 (dk_at dksL_law_63 21 rfl rfl)
theorem dL_law_1750 : decode cL_law 1750 = .ok (.iaload, 1) := dk_46 (dk_at dksL_law_63 22 rfl rfl)
theorem dL_law_1751 : decode cL_law 1751 = .ok (.invokevirtual 242, 3) := dk_182 0 242 (dk_at dksL_law_64 0 rfl rfl)
theorem dL_law_1754 : decode cL_law 1754 = .ok (.if_icmp .eq 461, 3) := dk_159 1 205 (dk_at dksL_law_64 3 rfl rfl)
theorem dL_law_1757 : decode cL_law 1757 = .ok (.iconst 0, 1) := dk_3 (dk_at dksL_law_64 6 rfl rfl)
theorem dL_law_1758 : decode cL_law 1758 = .ok (.ireturn, 1) := dk_172 (dk_at dksL_law_64 7 rfl rfl)
theorem dL_law_1759 : decode cL_law 1759 = .ok (.aload_n 1, 1) := dk_43 (dk_at dksL_law_64 8 rfl rfl)
theorem dL_law_1760 : decode cL_law 1760 = .ok (.aload_n 0, 1) := dk_42 (dk_at dksL_law_64 9 rfl rfl)
theorem dL_law_1761 : decode cL_law 1761 = .ok (.iload_n 3, 1) := dk_29 (dk_at dksL_law_64 10 rfl rfl)
theorem dL_law_1762 : decode cL_law 1762 = .ok (.iconst 1, 1) := dk_4 (dk_at dksL_law_64 11 rfl rfl)
theorem dL_law_1763 : decode cL_law 1763 = .ok (.iadd, 1) := dk_96 (dk_at dksL_law_64 12 rfl rfl)
theorem dL_law_1764 : decode cL_law 1764 = .ok (.iaload, 1) := dk_46 (dk_at dksL_law_64 13 rfl rfl)
theorem dL_law_1765 : decode cL_law 1765 = .ok (.aload_n 0, 1) := dk_42 (dk_at dksL_law_64 14 rfl rfl)
theorem dL_law_1766 : decode cL_law 1766 = .ok (.iload_n 3, 1) := dk_29 (dk_at dksL_law_64 15 rfl rfl)
theorem dL_law_1767 : decode cL_law 1767 = .ok (.iconst 2, 1) := dk_5 (dk_at dksL_law_64 16 rfl rfl)
theorem dL_law_1768 : decode cL_law 1768 = .ok (.iadd, 1) := dk_96 (dk_at dksL_law_64 17 rfl rfl)
theorem dL_law_1769 : decode cL_law 1769 = .ok (.iaload, 1) := dk_46 (dk_at dksL_law_64 18 rfl rfl)
theorem dL_law_1770 : decode cL_law 1770 = .ok (.invokevirtual 243, 3) := dk_182 0 243 (dk_at dksL_law_64 19 rfl rfl)
theorem dL_law_1773 : decode cL_law 1773 = .ok (.aload_n 2, 1) := dk_44 (dk_at dksL_law_64 22 rfl rfl)
theorem dL_law_1774 : decode cL_law 1774 = .ok (.aload_n 0, 1) := dk_42 (dk_at dksL_law_64 23 rfl rfl)
theorem dL_law_1775 : decode cL_law 1775 = .ok (.iload_n 3, 1) := dk_29 (dk_at dksL_law_65 0 rfl rfl)
theorem dL_law_1776 : decode cL_law 1776 = .ok (.iconst 1, 1) := dk_4 (dk_at dksL_law_65 1 rfl rfl)
theorem dL_law_1777 : decode cL_law 1777 = .ok (.iadd, 1) := dk_96 (dk_at dksL_law_65 2 rfl rfl)
theorem dL_law_1778 : decode cL_law 1778 = .ok (.iaload, 1) := dk_46 (dk_at dksL_law_65 3 rfl rfl)
theorem dL_law_1779 : decode cL_law 1779 = .ok (.aload_n 0, 1) := dk_42 (dk_at dksL_law_65 4 rfl rfl)
theorem dL_law_1780 : decode cL_law 1780 = .ok (.iload_n 3, 1) := dk_29 (dk_at dksL_law_65 5 rfl rfl)
theorem dL_law_1781 : decode cL_law 1781 = .ok (.iconst 2, 1) := dk_5 (dk_at dksL_law_65 6 rfl rfl)
theorem dL_law_1782 : decode cL_law 1782 = .ok (.iadd, 1) := dk_96 (dk_at dksL_law_65 7 rfl rfl)
theorem dL_law_1783 : decode cL_law 1783 = .ok (.iaload, 1) := dk_46 (dk_at dksL_law_65 8 rfl rfl)
theorem dL_law_1784 : decode cL_law 1784 = .ok (.invokevirtual 246, 3) := dk_182 0 246 (dk_at dksL_law_65 9 rfl rfl)
theorem dL_law_1787 : decode cL_law 1787 = .ok (.if_icmp .eq 428, 3) := dk_159 1 172 (dk_at dksL_law_65 12 rfl rfl)
theorem dL_law_1790 : decode cL_law 1790 = .ok (.iconst 0, 1) := dk_3 (dk_at dksL_law_65 15 rfl rfl)
theorem dL_law_1791 : decode cL_law 1791 = .ok (.ireturn, 1) := dk_172 (dk_at dksL_law_65 16 rfl rfl)
theorem dL_law_1792 : decode cL_law 1792 = .ok (.aload_n 1, 1) := dk_43 (dk_at dksL_law_65 17 rfl rfl)
theorem dL_law_1793 : decode cL_law 1793 = .ok (.invokevirtual 247, 3) := dk_182 0 247 (dk_at dksL_law_65 18 rfl rfl)
theorem dL_law_1796 : decode cL_law 1796 = .ok (.aload_n 2, 1) := dk_44 (dk_at dksL_law_65 21 rfl rfl)
theorem dL_law_1797 : decode cL_law 1797 = .ok (.invokevirtual 250, 3) := dk_182 0 250 (dk_at dksL_law_66 0 rfl rfl)
theorem dL_law_1800 : decode cL_law 1800 = .ok (.if_icmp .eq 415, 3) := dk_159 1 159 (dk_at dksL_law_66 3 rfl rfl)
theorem dL_law_1803 : decode cL_law 1803 = .ok (.iconst 0, 1) := dk_3 (dk_at dksL_law_66 6 rfl rfl)
theorem dL_law_1804 : decode cL_law 1804 = .ok (.ireturn, 1) := dk_172 (dk_at dksL_law_66 7 rfl rfl)
theorem dL_law_1805 : decode cL_law 1805 = .ok (.aload_n 1, 1) := dk_43 (dk_at dksL_law_66 8 rfl rfl)
theorem dL_law_1806 : decode cL_law 1806 = .ok (.aload_n 0, 1) := dk_42 (dk_at dksL_law_66 9 rfl rfl)
theorem dL_law_1807 : decode cL_law 1807 = .ok (.iload_n 3, 1) := dk_29 (dk_at dksL_law_66 10 rfl rfl)
theorem dL_law_1808 : decode cL_law 1808 = .ok (.iconst 1, 1) := dk_4 (dk_at dksL_law_66 11 rfl rfl)
theorem dL_law_1809 : decode cL_law 1809 = .ok (.iadd, 1) := dk_96 (dk_at dksL_law_66 12 rfl rfl)
theorem dL_law_1810 : decode cL_law 1810 = .ok (.iaload, 1) := dk_46 (dk_at dksL_law_66 13 rfl rfl)
theorem dL_law_1811 : decode cL_law 1811 = .ok (.invokevirtual 251, 3) := dk_182 0 251 (dk_at dksL_law_66 14 rfl rfl)
theorem dL_law_1814 : decode cL_law 1814 = .ok (.aload_n 2, 1) := dk_44 (dk_at dksL_law_66 17 rfl rfl)
theorem dL_law_1815 : decode cL_law 1815 = .ok (.aload_n 0, 1) := dk_42 (dk_at dksL_law_66 18 rfl rfl)
theorem dL_law_1816 : decode cL_law 1816 = .ok (.iload_n 3, 1) := dk_29 (dk_at dksL_law_66 19 rfl rfl)
theorem dL_law_1817 : decode cL_law 1817 = .ok (.iconst 1, 1) := dk_4 (dk_at dksL_law_66 20 rfl rfl)
theorem dL_law_1818 : decode cL_law 1818 = .ok (.iadd, 1) := dk_96 (dk_at dksL_law_66 21 rfl rfl)
theorem dL_law_1819 : decode cL_law 1819 = .ok (.iaload, 1) := dk_46 (dk_at dksL_law_66 22 rfl rfl)
theorem dL_law_1820 : decode cL_law 1820 = .ok (.invokevirtual 254, 3) := dk_182 0 254 (dk_at dksL_law_67 0 rfl rfl)
theorem dL_law_1823 : decode cL_law 1823 = .ok (.if_icmp .eq 392, 3) := dk_159 1 136 (dk_at dksL_law_67 3 rfl rfl)
theorem dL_law_1826 : decode cL_law 1826 = .ok (.iconst 0, 1) := dk_3 (dk_at dksL_law_67 6 rfl rfl)
theorem dL_law_1827 : decode cL_law 1827 = .ok (.ireturn, 1) := dk_172 (dk_at dksL_law_67 7 rfl rfl)
theorem dL_law_1828 : decode cL_law 1828 = .ok (.aload_n 1, 1) := dk_43 (dk_at dksL_law_67 8 rfl rfl)
theorem dL_law_1829 : decode cL_law 1829 = .ok (.aload_n 0, 1) := dk_42 (dk_at dksL_law_67 9 rfl rfl)
theorem dL_law_1830 : decode cL_law 1830 = .ok (.iload_n 3, 1) := dk_29 (dk_at dksL_law_67 10 rfl rfl)
theorem dL_law_1831 : decode cL_law 1831 = .ok (.iconst 1, 1) := dk_4 (dk_at dksL_law_67 11 rfl rfl)
theorem dL_law_1832 : decode cL_law 1832 = .ok (.iadd, 1) := dk_96 (dk_at dksL_law_67 12 rfl rfl)
theorem dL_law_1833 : decode cL_law 1833 = .ok (.iaload, 1) := dk_46 (dk_at dksL_law_67 13 rfl rfl)
theorem dL_law_1834 : decode cL_law 1834 = .ok (.aload_n 0, 1) := dk_42 (dk_at dksL_law_67 14 rfl rfl)
theorem dL_law_1835 : decode cL_law 1835 = .ok (.iload_n 3, 1) := dk_29 (dk_at dksL_law_67 15 rfl rfl)
theorem dL_law_1836 : decode cL_law 1836 = .ok (.iconst 2, 1) := dk_5 (dk_at dksL_law_67 16 rfl rfl)
theorem dL_law_1837 : decode cL_law 1837 = .ok (.iadd, 1) := dk_96 (dk_at dksL_law_67 17 rfl rfl)
theorem dL_law_1838 : decode cL_law 1838 = .ok (.iaload, 1) := dk_46 (dk_at dksL_law_67 18 rfl rfl)
theorem dL_law_1839 : decode cL_law 1839 = .ok (.aload_n 0, 1) := dk_42 (dk_at dksL_law_67 19 rfl rfl)
theorem dL_law_1840 : decode cL_law 1840 = .ok (.iload_n 3, 1) := dk_29 (dk_at dksL_law_67 20 rfl rfl)
theorem dL_law_1841 : decode cL_law 1841 = .ok (.iconst 3, 1) := dk_6 (dk_at dksL_law_67 21 rfl rfl)
theorem dL_law_1842 : decode cL_law 1842 = .ok (.iadd, 1) := dk_96 (dk_at dksL_law_67 22 rfl rfl)
theorem dL_law_1843 : decode cL_law 1843 = .ok (.iaload, 1) := dk_46 (dk_at dksL_law_67 23 rfl rfl)
theorem dL_law_1844 : decode cL_law 1844 = .ok (.invokevirtual 255, 3) := dk_182 0 255 (dk_at dksL_law_68 0 rfl rfl)
theorem dL_law_1847 : decode cL_law 1847 = .ok (.aload_n 2, 1) := dk_44 (dk_at dksL_law_68 3 rfl rfl)
theorem dL_law_1848 : decode cL_law 1848 = .ok (.aload_n 0, 1) := dk_42 (dk_at dksL_law_68 4 rfl rfl)
theorem dL_law_1849 : decode cL_law 1849 = .ok (.iload_n 3, 1) := dk_29 (dk_at dksL_law_68 5 rfl rfl)
theorem dL_law_1850 : decode cL_law 1850 = .ok (.iconst 1, 1) := dk_4 (dk_at dksL_law_68 6 rfl rfl)
theorem dL_law_1851 : decode cL_law 1851 = .ok (.iadd, 1) := dk_96 (dk_at dksL_law_68 7 rfl rfl)
theorem dL_law_1852 : decode cL_law 1852 = .ok (.iaload, 1) := dk_46 (dk_at dksL_law_68 8 rfl rfl)
theorem dL_law_1853 : decode cL_law 1853 = .ok (.aload_n 0, 1) := dk_42 (dk_at dksL_law_68 9 rfl rfl)
theorem dL_law_1854 : decode cL_law 1854 = .ok (.iload_n 3, 1) := dk_29 (dk_at dksL_law_68 10 rfl rfl)
theorem dL_law_1855 : decode cL_law 1855 = .ok (.iconst 2, 1) := dk_5 (dk_at dksL_law_68 11 rfl rfl)
theorem dL_law_1856 : decode cL_law 1856 = .ok (.iadd, 1) := dk_96 (dk_at dksL_law_68 12 rfl rfl)
theorem dL_law_1857 : decode cL_law 1857 = .ok (.iaload, 1) := dk_46 (dk_at dksL_law_68 13 rfl rfl)
theorem dL_law_1858 : decode cL_law 1858 = .ok (.aload_n 0, 1) := dk_42 (dk_at dksL_law_68 14 rfl rfl)
theorem dL_law_1859 : decode cL_law 1859 = .ok (.iload_n 3, 1) := dk_29 (dk_at dksL_law_68 15 rfl rfl)
theorem dL_law_1860 : decode cL_law 1860 = .ok (.iconst 3, 1) := dk_6 (dk_at dksL_law_68 16 rfl rfl)
theorem dL_law_1861 : decode cL_law 1861 = .ok (.iadd, 1) := dk_96 (dk_at dksL_law_68 17 rfl rfl)
theorem dL_law_1862 : decode cL_law 1862 = .ok (.iaload, 1) := dk_46 (dk_at dksL_law_68 18 rfl rfl)
theorem dL_law_1863 : decode cL_law 1863 = .ok (.invokevirtual 258, 3) := dk_182 1 2 (dk_at dksL_law_68 19 rfl rfl)
theorem dL_law_1866 : decode cL_law 1866 = .ok (.if_icmp .eq 349, 3) := dk_159 1 93 (dk_at dksL_law_69 0 rfl rfl)
theorem dL_law_1869 : decode cL_law 1869 = .ok (.iconst 0, 1) := dk_3 (dk_at dksL_law_69 3 rfl rfl)
theorem dL_law_1870 : decode cL_law 1870 = .ok (.ireturn, 1) := dk_172 (dk_at dksL_law_69 4 rfl rfl)
theorem dL_law_1871 : decode cL_law 1871 = .ok (.aload_n 1, 1) := dk_43 (dk_at dksL_law_69 5 rfl rfl)
theorem dL_law_1872 : decode cL_law 1872 = .ok (.aload_n 0, 1) := dk_42 (dk_at dksL_law_69 6 rfl rfl)
theorem dL_law_1873 : decode cL_law 1873 = .ok (.iload_n 3, 1) := dk_29 (dk_at dksL_law_69 7 rfl rfl)
theorem dL_law_1874 : decode cL_law 1874 = .ok (.iconst 1, 1) := dk_4 (dk_at dksL_law_69 8 rfl rfl)
theorem dL_law_1875 : decode cL_law 1875 = .ok (.iadd, 1) := dk_96 (dk_at dksL_law_69 9 rfl rfl)
theorem dL_law_1876 : decode cL_law 1876 = .ok (.iaload, 1) := dk_46 (dk_at dksL_law_69 10 rfl rfl)
theorem dL_law_1877 : decode cL_law 1877 = .ok (.aload_n 0, 1) := dk_42 (dk_at dksL_law_69 11 rfl rfl)
theorem dL_law_1878 : decode cL_law 1878 = .ok (.iload_n 3, 1) := dk_29 (dk_at dksL_law_69 12 rfl rfl)
theorem dL_law_1879 : decode cL_law 1879 = .ok (.iconst 2, 1) := dk_5 (dk_at dksL_law_69 13 rfl rfl)
theorem dL_law_1880 : decode cL_law 1880 = .ok (.iadd, 1) := dk_96 (dk_at dksL_law_69 14 rfl rfl)
theorem dL_law_1881 : decode cL_law 1881 = .ok (.iaload, 1) := dk_46 (dk_at dksL_law_69 15 rfl rfl)
theorem dL_law_1882 : decode cL_law 1882 = .ok (.invokevirtual 259, 3) := dk_182 1 3 (dk_at dksL_law_69 16 rfl rfl)
theorem dL_law_1885 : decode cL_law 1885 = .ok (.aload_n 2, 1) := dk_44 (dk_at dksL_law_69 19 rfl rfl)
theorem dL_law_1886 : decode cL_law 1886 = .ok (.aload_n 0, 1) := dk_42 (dk_at dksL_law_69 20 rfl rfl)
theorem dL_law_1887 : decode cL_law 1887 = .ok (.iload_n 3, 1) := dk_29 (dk_at dksL_law_69 21 rfl rfl)
theorem dL_law_1888 : decode cL_law 1888 = .ok (.iconst 1, 1) := dk_4 (dk_at dksL_law_69 22 rfl rfl)
theorem dL_law_1889 : decode cL_law 1889 = .ok (.iadd, 1) := dk_96 (dk_at dksL_law_69 23 rfl rfl)
theorem dL_law_1890 : decode cL_law 1890 = .ok (.iaload, 1) := dk_46 (dk_at dksL_law_70 0 rfl rfl)
theorem dL_law_1891 : decode cL_law 1891 = .ok (.aload_n 0, 1) := dk_42 (dk_at dksL_law_70 1 rfl rfl)
theorem dL_law_1892 : decode cL_law 1892 = .ok (.iload_n 3, 1) := dk_29 (dk_at dksL_law_70 2 rfl rfl)
theorem dL_law_1893 : decode cL_law 1893 = .ok (.iconst 2, 1) := dk_5 (dk_at dksL_law_70 3 rfl rfl)
theorem dL_law_1894 : decode cL_law 1894 = .ok (.iadd, 1) := dk_96 (dk_at dksL_law_70 4 rfl rfl)
theorem dL_law_1895 : decode cL_law 1895 = .ok (.iaload, 1) := dk_46 (dk_at dksL_law_70 5 rfl rfl)
theorem dL_law_1896 : decode cL_law 1896 = .ok (.invokevirtual 262, 3) := dk_182 1 6 (dk_at dksL_law_70 6 rfl rfl)
theorem dL_law_1899 : decode cL_law 1899 = .ok (.if_icmp .eq 316, 3) := dk_159 1 60 (dk_at dksL_law_70 9 rfl rfl)
theorem dL_law_1902 : decode cL_law 1902 = .ok (.iconst 0, 1) := dk_3 (dk_at dksL_law_70 12 rfl rfl)
theorem dL_law_1903 : decode cL_law 1903 = .ok (.ireturn, 1) := dk_172 (dk_at dksL_law_70 13 rfl rfl)
theorem dL_law_1904 : decode cL_law 1904 = .ok (.aload_n 1, 1) := dk_43 (dk_at dksL_law_70 14 rfl rfl)
theorem dL_law_1905 : decode cL_law 1905 = .ok (.aload_n 0, 1) := dk_42 (dk_at dksL_law_70 15 rfl rfl)
theorem dL_law_1906 : decode cL_law 1906 = .ok (.iload_n 3, 1) := dk_29 (dk_at dksL_law_70 16 rfl rfl)
theorem dL_law_1907 : decode cL_law 1907 = .ok (.iconst 1, 1) := dk_4 (dk_at dksL_law_70 17 rfl rfl)
theorem dL_law_1908 : decode cL_law 1908 = .ok (.iadd, 1) := dk_96 (dk_at dksL_law_70 18 rfl rfl)
theorem dL_law_1909 : decode cL_law 1909 = .ok (.iaload, 1) := dk_46 (dk_at dksL_law_70 19 rfl rfl)
theorem dL_law_1910 : decode cL_law 1910 = .ok (.aload_n 0, 1) := dk_42 (dk_at dksL_law_70 20 rfl rfl)
theorem dL_law_1911 : decode cL_law 1911 = .ok (.iload_n 3, 1) := dk_29 (dk_at dksL_law_70 21 rfl rfl)
theorem dL_law_1912 : decode cL_law 1912 = .ok (.iconst 2, 1) := dk_5 (dk_at dksL_law_70 22 rfl rfl)
theorem dL_law_1913 : decode cL_law 1913 = .ok (.iadd, 1) := dk_96 (dk_at dksL_law_70 23 rfl rfl)
theorem dL_law_1914 : decode cL_law 1914 = .ok (.iaload, 1) := dk_46 (dk_at dksL_law_71 0 rfl rfl)
theorem dL_law_1915 : decode cL_law 1915 = .ok (.aload_n 0, 1) := dk_42 (dk_at dksL_law_71 1 rfl rfl)
theorem dL_law_1916 : decode cL_law 1916 = .ok (.iload_n 3, 1) := dk_29 (dk_at dksL_law_71 2 rfl rfl)
theorem dL_law_1917 : decode cL_law 1917 = .ok (.iconst 3, 1) := dk_6 (dk_at dksL_law_71 3 rfl rfl)
theorem dL_law_1918 : decode cL_law 1918 = .ok (.iadd, 1) := dk_96 (dk_at dksL_law_71 4 rfl rfl)
theorem dL_law_1919 : decode cL_law 1919 = .ok (.iaload, 1) := dk_46 (dk_at dksL_law_71 5 rfl rfl)
theorem dL_law_1920 : decode cL_law 1920 = .ok (.aload_n 0, 1) := dk_42 (dk_at dksL_law_71 6 rfl rfl)
theorem dL_law_1921 : decode cL_law 1921 = .ok (.iload_n 3, 1) := dk_29 (dk_at dksL_law_71 7 rfl rfl)
theorem dL_law_1922 : decode cL_law 1922 = .ok (.iconst 4, 1) := dk_7 (dk_at dksL_law_71 8 rfl rfl)
theorem dL_law_1923 : decode cL_law 1923 = .ok (.iadd, 1) := dk_96 (dk_at dksL_law_71 9 rfl rfl)
theorem dL_law_1924 : decode cL_law 1924 = .ok (.iaload, 1) := dk_46 (dk_at dksL_law_71 10 rfl rfl)
theorem dL_law_1925 : decode cL_law 1925 = .ok (.aload_n 0, 1) := dk_42 (dk_at dksL_law_71 11 rfl rfl)
theorem dL_law_1926 : decode cL_law 1926 = .ok (.iload_n 3, 1) := dk_29 (dk_at dksL_law_71 12 rfl rfl)
theorem dL_law_1927 : decode cL_law 1927 = .ok (.iconst 5, 1) := dk_8 (dk_at dksL_law_71 13 rfl rfl)
theorem dL_law_1928 : decode cL_law 1928 = .ok (.iadd, 1) := dk_96 (dk_at dksL_law_71 14 rfl rfl)
theorem dL_law_1929 : decode cL_law 1929 = .ok (.iaload, 1) := dk_46 (dk_at dksL_law_71 15 rfl rfl)
theorem dL_law_1930 : decode cL_law 1930 = .ok (.invokevirtual 263, 3) := dk_182 1 7 (dk_at dksL_law_71 16 rfl rfl)
theorem dL_law_1933 : decode cL_law 1933 = .ok (.aload_n 2, 1) := dk_44 (dk_at dksL_law_71 19 rfl rfl)
theorem dL_law_1934 : decode cL_law 1934 = .ok (.aload_n 0, 1) := dk_42 (dk_at dksL_law_71 20 rfl rfl)
theorem dL_law_1935 : decode cL_law 1935 = .ok (.iload_n 3, 1) := dk_29 (dk_at dksL_law_71 21 rfl rfl)
theorem dL_law_1936 : decode cL_law 1936 = .ok (.iconst 1, 1) := dk_4 (dk_at dksL_law_71 22 rfl rfl)
theorem dL_law_1937 : decode cL_law 1937 = .ok (.iadd, 1) := dk_96 (dk_at dksL_law_71 23 rfl rfl)
theorem dL_law_1938 : decode cL_law 1938 = .ok (.iaload, 1) := dk_46 (dk_at dksL_law_72 0 rfl rfl)
theorem dL_law_1939 : decode cL_law 1939 = .ok (.aload_n 0, 1) := dk_42 (dk_at dksL_law_72 1 rfl rfl)
theorem dL_law_1940 : decode cL_law 1940 = .ok (.iload_n 3, 1) := dk_29 (dk_at dksL_law_72 2 rfl rfl)
theorem dL_law_1941 : decode cL_law 1941 = .ok (.iconst 2, 1) := dk_5 (dk_at dksL_law_72 3 rfl rfl)
theorem dL_law_1942 : decode cL_law 1942 = .ok (.iadd, 1) := dk_96 (dk_at dksL_law_72 4 rfl rfl)
theorem dL_law_1943 : decode cL_law 1943 = .ok (.iaload, 1) := dk_46 (dk_at dksL_law_72 5 rfl rfl)
theorem dL_law_1944 : decode cL_law 1944 = .ok (.aload_n 0, 1) := dk_42 (dk_at dksL_law_72 6 rfl rfl)
theorem dL_law_1945 : decode cL_law 1945 = .ok (.iload_n 3, 1) := dk_29 (dk_at dksL_law_72 7 rfl rfl)
theorem dL_law_1946 : decode cL_law 1946 = .ok (.iconst 3, 1) := dk_6 (dk_at dksL_law_72 8 rfl rfl)
theorem dL_law_1947 : decode cL_law 1947 = .ok (.iadd, 1) := dk_96 (dk_at dksL_law_72 9 rfl rfl)
theorem dL_law_1948 : decode cL_law 1948 = .ok (.iaload, 1) := dk_46 (dk_at dksL_law_72 10 rfl rfl)
theorem dL_law_1949 : decode cL_law 1949 = .ok (.aload_n 0, 1) := dk_42 (dk_at dksL_law_72 11 rfl rfl)
theorem dL_law_1950 : decode cL_law 1950 = .ok (.iload_n 3, 1) := dk_29 (dk_at dksL_law_72 12 rfl rfl)
theorem dL_law_1951 : decode cL_law 1951 = .ok (.iconst 4, 1) := dk_7 (dk_at dksL_law_72 13 rfl rfl)
theorem dL_law_1952 : decode cL_law 1952 = .ok (.iadd, 1) := dk_96 (dk_at dksL_law_72 14 rfl rfl)
theorem dL_law_1953 : decode cL_law 1953 = .ok (.iaload, 1) := dk_46 (dk_at dksL_law_72 15 rfl rfl)
theorem dL_law_1954 : decode cL_law 1954 = .ok (.aload_n 0, 1) := dk_42 (dk_at dksL_law_72 16 rfl rfl)
theorem dL_law_1955 : decode cL_law 1955 = .ok (.iload_n 3, 1) := dk_29 (dk_at dksL_law_72 17 rfl rfl)
theorem dL_law_1956 : decode cL_law 1956 = .ok (.iconst 5, 1) := dk_8 (dk_at dksL_law_72 18 rfl rfl)
theorem dL_law_1957 : decode cL_law 1957 = .ok (.iadd, 1) := dk_96 (dk_at dksL_law_72 19 rfl rfl)
theorem dL_law_1958 : decode cL_law 1958 = .ok (.iaload, 1) := dk_46 (dk_at dksL_law_72 20 rfl rfl)
theorem dL_law_1959 : decode cL_law 1959 = .ok (.invokevirtual 266, 3) := dk_182 1 10 (dk_at dksL_law_72 21 rfl rfl)
theorem dL_law_1962 : decode cL_law 1962 = .ok (.if_icmp .eq 253, 3) := dk_159 0 253 (dk_at dksL_law_73 0 rfl rfl)
theorem dL_law_1965 : decode cL_law 1965 = .ok (.iconst 0, 1) := dk_3 (dk_at dksL_law_73 3 rfl rfl)
theorem dL_law_1966 : decode cL_law 1966 = .ok (.ireturn, 1) := dk_172 (dk_at dksL_law_73 4 rfl rfl)
theorem dL_law_1967 : decode cL_law 1967 = .ok (.aload_n 1, 1) := dk_43 (dk_at dksL_law_73 5 rfl rfl)
theorem dL_law_1968 : decode cL_law 1968 = .ok (.aload_n 0, 1) := dk_42 (dk_at dksL_law_73 6 rfl rfl)
theorem dL_law_1969 : decode cL_law 1969 = .ok (.iload_n 3, 1) := dk_29 (dk_at dksL_law_73 7 rfl rfl)
theorem dL_law_1970 : decode cL_law 1970 = .ok (.iconst 1, 1) := dk_4 (dk_at dksL_law_73 8 rfl rfl)
theorem dL_law_1971 : decode cL_law 1971 = .ok (.iadd, 1) := dk_96 (dk_at dksL_law_73 9 rfl rfl)
theorem dL_law_1972 : decode cL_law 1972 = .ok (.iaload, 1) := dk_46 (dk_at dksL_law_73 10 rfl rfl)
theorem dL_law_1973 : decode cL_law 1973 = .ok (.invokevirtual 267, 3) := dk_182 1 11 (dk_at dksL_law_73 11 rfl rfl)
theorem dL_law_1976 : decode cL_law 1976 = .ok (.aload_n 2, 1) := dk_44 (dk_at dksL_law_73 14 rfl rfl)
theorem dL_law_1977 : decode cL_law 1977 = .ok (.aload_n 0, 1) := dk_42 (dk_at dksL_law_73 15 rfl rfl)
theorem dL_law_1978 : decode cL_law 1978 = .ok (.iload_n 3, 1) := dk_29 (dk_at dksL_law_73 16 rfl rfl)
theorem dL_law_1979 : decode cL_law 1979 = .ok (.iconst 1, 1) := dk_4 (dk_at dksL_law_73 17 rfl rfl)
theorem dL_law_1980 : decode cL_law 1980 = .ok (.iadd, 1) := dk_96 (dk_at dksL_law_73 18 rfl rfl)
theorem dL_law_1981 : decode cL_law 1981 = .ok (.iaload, 1) := dk_46 (dk_at dksL_law_73 19 rfl rfl)
theorem dL_law_1982 : decode cL_law 1982 = .ok (.invokevirtual 270, 3) := dk_182 1 14 (dk_at dksL_law_73 20 rfl rfl)
theorem dL_law_1985 : decode cL_law 1985 = .ok (.if_icmp .eq 230, 3) := dk_159 0 230 (dk_at dksL_law_74 0 rfl rfl)
theorem dL_law_1988 : decode cL_law 1988 = .ok (.iconst 0, 1) := dk_3 (dk_at dksL_law_74 3 rfl rfl)
theorem dL_law_1989 : decode cL_law 1989 = .ok (.ireturn, 1) := dk_172 (dk_at dksL_law_74 4 rfl rfl)
theorem dL_law_1990 : decode cL_law 1990 = .ok (.aload_n 1, 1) := dk_43 (dk_at dksL_law_74 5 rfl rfl)
theorem dL_law_1991 : decode cL_law 1991 = .ok (.aload_n 0, 1) := dk_42 (dk_at dksL_law_74 6 rfl rfl)
theorem dL_law_1992 : decode cL_law 1992 = .ok (.iload_n 3, 1) := dk_29 (dk_at dksL_law_74 7 rfl rfl)
theorem dL_law_1993 : decode cL_law 1993 = .ok (.iconst 1, 1) := dk_4 (dk_at dksL_law_74 8 rfl rfl)
theorem dL_law_1994 : decode cL_law 1994 = .ok (.iadd, 1) := dk_96 (dk_at dksL_law_74 9 rfl rfl)
theorem dL_law_1995 : decode cL_law 1995 = .ok (.iaload, 1) := dk_46 (dk_at dksL_law_74 10 rfl rfl)
theorem dL_law_1996 : decode cL_law 1996 = .ok (.invokevirtual 271, 3) := dk_182 1 15 (dk_at dksL_law_74 11 rfl rfl)
theorem dL_law_1999 : decode cL_law 1999 = .ok (.aload_n 2, 1) := dk_44 (dk_at dksL_law_74 14 rfl rfl)
theorem dL_law_2000 : decode cL_law 2000 = .ok (.aload_n 0, 1) := dk_42 (dk_at dksL_law_74 15 rfl rfl)
theorem dL_law_2001 : decode cL_law 2001 = .ok (.iload_n 3, 1) := dk_29 (dk_at dksL_law_74 16 rfl rfl)
theorem dL_law_2002 : decode cL_law 2002 = .ok (.iconst 1, 1) := dk_4 (dk_at dksL_law_74 17 rfl rfl)
theorem dL_law_2003 : decode cL_law 2003 = .ok (.iadd, 1) := dk_96 (dk_at dksL_law_74 18 rfl rfl)
theorem dL_law_2004 : decode cL_law 2004 = .ok (.iaload, 1) := dk_46 (dk_at dksL_law_74 19 rfl rfl)
theorem dL_law_2005 : decode cL_law 2005 = .ok (.invokevirtual 274, 3) := dk_182 1 18 (dk_at dksL_law_74 20 rfl rfl)
theorem dL_law_2008 : decode cL_law 2008 = .ok (.if_icmp .eq 207, 3) := dk_159 0 207 (dk_at dksL_law_75 0 rfl rfl)
theorem dL_law_2011 : decode cL_law 2011 = .ok (.iconst 0, 1) := dk_3 (dk_at dksL_law_75 3 rfl rfl)
theorem dL_law_2012 : decode cL_law 2012 = .ok (.ireturn, 1) := dk_172 (dk_at dksL_law_75 4 rfl rfl)
theorem dL_law_2013 : decode cL_law 2013 = .ok (.aload_n 1, 1) := dk_43 (dk_at dksL_law_75 5 rfl rfl)
theorem dL_law_2014 : decode cL_law 2014 = .ok (.aload_n 0, 1) := dk_42 (dk_at dksL_law_75 6 rfl rfl)
theorem dL_law_2015 : decode cL_law 2015 = .ok (.iload_n 3, 1) := dk_29 (dk_at dksL_law_75 7 rfl rfl)
theorem dL_law_2016 : decode cL_law 2016 = .ok (.iconst 1, 1) := dk_4 (dk_at dksL_law_75 8 rfl rfl)
theorem dL_law_2017 : decode cL_law 2017 = .ok (.iadd, 1) := dk_96 (dk_at dksL_law_75 9 rfl rfl)
theorem dL_law_2018 : decode cL_law 2018 = .ok (.iaload, 1) := dk_46 (dk_at dksL_law_75 10 rfl rfl)
theorem dL_law_2019 : decode cL_law 2019 = .ok (.invokevirtual 275, 3) := dk_182 1 19 (dk_at dksL_law_75 11 rfl rfl)
theorem dL_law_2022 : decode cL_law 2022 = .ok (.aload_n 2, 1) := dk_44 (dk_at dksL_law_75 14 rfl rfl)
theorem dL_law_2023 : decode cL_law 2023 = .ok (.aload_n 0, 1) := dk_42 (dk_at dksL_law_75 15 rfl rfl)
theorem dL_law_2024 : decode cL_law 2024 = .ok (.iload_n 3, 1) := dk_29 (dk_at dksL_law_75 16 rfl rfl)
theorem dL_law_2025 : decode cL_law 2025 = .ok (.iconst 1, 1) := dk_4 (dk_at dksL_law_75 17 rfl rfl)
theorem dL_law_2026 : decode cL_law 2026 = .ok (.iadd, 1) := dk_96 (dk_at dksL_law_75 18 rfl rfl)
theorem dL_law_2027 : decode cL_law 2027 = .ok (.iaload, 1) := dk_46 (dk_at dksL_law_75 19 rfl rfl)
theorem dL_law_2028 : decode cL_law 2028 = .ok (.invokevirtual 278, 3) := dk_182 1 22 (dk_at dksL_law_75 20 rfl rfl)
theorem dL_law_2031 : decode cL_law 2031 = .ok (.if_icmp .eq 184, 3) := dk_159 0 184 (dk_at dksL_law_76 0 rfl rfl)
theorem dL_law_2034 : decode cL_law 2034 = .ok (.iconst 0, 1) := dk_3 (dk_at dksL_law_76 3 rfl rfl)
theorem dL_law_2035 : decode cL_law 2035 = .ok (.ireturn, 1) := dk_172 (dk_at dksL_law_76 4 rfl rfl)
theorem dL_law_2036 : decode cL_law 2036 = .ok (.aload_n 1, 1) := dk_43 (dk_at dksL_law_76 5 rfl rfl)
theorem dL_law_2037 : decode cL_law 2037 = .ok (.aload_n 0, 1) := dk_42 (dk_at dksL_law_76 6 rfl rfl)
theorem dL_law_2038 : decode cL_law 2038 = .ok (.iload_n 3, 1) := dk_29 (dk_at dksL_law_76 7 rfl rfl)
theorem dL_law_2039 : decode cL_law 2039 = .ok (.iconst 1, 1) := dk_4 (dk_at dksL_law_76 8 rfl rfl)
theorem dL_law_2040 : decode cL_law 2040 = .ok (.iadd, 1) := dk_96 (dk_at dksL_law_76 9 rfl rfl)
theorem dL_law_2041 : decode cL_law 2041 = .ok (.iaload, 1) := dk_46 (dk_at dksL_law_76 10 rfl rfl)
theorem dL_law_2042 : decode cL_law 2042 = .ok (.aload_n 0, 1) := dk_42 (dk_at dksL_law_76 11 rfl rfl)
theorem dL_law_2043 : decode cL_law 2043 = .ok (.iload_n 3, 1) := dk_29 (dk_at dksL_law_76 12 rfl rfl)
theorem dL_law_2044 : decode cL_law 2044 = .ok (.iconst 2, 1) := dk_5 (dk_at dksL_law_76 13 rfl rfl)
theorem dL_law_2045 : decode cL_law 2045 = .ok (.iadd, 1) := dk_96 (dk_at dksL_law_76 14 rfl rfl)
theorem dL_law_2046 : decode cL_law 2046 = .ok (.iaload, 1) := dk_46 (dk_at dksL_law_76 15 rfl rfl)
theorem dL_law_2047 : decode cL_law 2047 = .ok (.aload_n 0, 1) := dk_42 (dk_at dksL_law_76 16 rfl rfl)
theorem dL_law_2048 : decode cL_law 2048 = .ok (.iload_n 3, 1) := dk_29 (dk_at dksL_law_76 17 rfl rfl)
theorem dL_law_2049 : decode cL_law 2049 = .ok (.iconst 3, 1) := dk_6 (dk_at dksL_law_76 18 rfl rfl)
theorem dL_law_2050 : decode cL_law 2050 = .ok (.iadd, 1) := dk_96 (dk_at dksL_law_76 19 rfl rfl)
theorem dL_law_2051 : decode cL_law 2051 = .ok (.iaload, 1) := dk_46 (dk_at dksL_law_76 20 rfl rfl)
theorem dL_law_2052 : decode cL_law 2052 = .ok (.invokevirtual 279, 3) := dk_182 1 23 (dk_at dksL_law_76 21 rfl rfl)
theorem dL_law_2055 : decode cL_law 2055 = .ok (.aload_n 2, 1) := dk_44 (dk_at dksL_law_77 0 rfl rfl)
theorem dL_law_2056 : decode cL_law 2056 = .ok (.aload_n 0, 1) := dk_42 (dk_at dksL_law_77 1 rfl rfl)
theorem dL_law_2057 : decode cL_law 2057 = .ok (.iload_n 3, 1) := dk_29 (dk_at dksL_law_77 2 rfl rfl)
theorem dL_law_2058 : decode cL_law 2058 = .ok (.iconst 1, 1) := dk_4 (dk_at dksL_law_77 3 rfl rfl)
theorem dL_law_2059 : decode cL_law 2059 = .ok (.iadd, 1) := dk_96 (dk_at dksL_law_77 4 rfl rfl)
theorem dL_law_2060 : decode cL_law 2060 = .ok (.iaload, 1) := dk_46 (dk_at dksL_law_77 5 rfl rfl)
theorem dL_law_2061 : decode cL_law 2061 = .ok (.aload_n 0, 1) := dk_42 (dk_at dksL_law_77 6 rfl rfl)
theorem dL_law_2062 : decode cL_law 2062 = .ok (.iload_n 3, 1) := dk_29 (dk_at dksL_law_77 7 rfl rfl)
theorem dL_law_2063 : decode cL_law 2063 = .ok (.iconst 2, 1) := dk_5 (dk_at dksL_law_77 8 rfl rfl)
theorem dL_law_2064 : decode cL_law 2064 = .ok (.iadd, 1) := dk_96 (dk_at dksL_law_77 9 rfl rfl)
theorem dL_law_2065 : decode cL_law 2065 = .ok (.iaload, 1) := dk_46 (dk_at dksL_law_77 10 rfl rfl)
theorem dL_law_2066 : decode cL_law 2066 = .ok (.aload_n 0, 1) := dk_42 (dk_at dksL_law_77 11 rfl rfl)
theorem dL_law_2067 : decode cL_law 2067 = .ok (.iload_n 3, 1) := dk_29 (dk_at dksL_law_77 12 rfl rfl)
theorem dL_law_2068 : decode cL_law 2068 = .ok (.iconst 3, 1) := dk_6 (dk_at dksL_law_77 13 rfl rfl)
theorem dL_law_2069 : decode cL_law 2069 = .ok (.iadd, 1) := dk_96 (dk_at dksL_law_77 14 rfl rfl)
theorem dL_law_2070 : decode cL_law 2070 = .ok (.iaload, 1) := dk_46 (dk_at dksL_law_77 15 rfl rfl)
theorem dL_law_2071 : decode cL_law 2071 = .ok (.invokevirtual 282, 3) := dk_182 1 26 (dk_at dksL_law_77 16 rfl rfl)
theorem dL_law_2074 : decode cL_law 2074 = .ok (.if_icmp .eq 141, 3) := dk_159 0 141 (dk_at dksL_law_77 19 rfl rfl)
theorem dL_law_2077 : decode cL_law 2077 = .ok (.iconst 0, 1) := dk_3 (dk_at dksL_law_77 22 rfl rfl)
theorem dL_law_2078 : decode cL_law 2078 = .ok (.ireturn, 1) := dk_172 (dk_at dksL_law_77 23 rfl rfl)
theorem dL_law_2079 : decode cL_law 2079 = .ok (.aload_n 1, 1) := dk_43 (dk_at dksL_law_78 0 rfl rfl)
theorem dL_law_2080 : decode cL_law 2080 = .ok (.aload_n 0, 1) := dk_42 (dk_at dksL_law_78 1 rfl rfl)
theorem dL_law_2081 : decode cL_law 2081 = .ok (.iload_n 3, 1) := dk_29 (dk_at dksL_law_78 2 rfl rfl)
theorem dL_law_2082 : decode cL_law 2082 = .ok (.iconst 1, 1) := dk_4 (dk_at dksL_law_78 3 rfl rfl)
theorem dL_law_2083 : decode cL_law 2083 = .ok (.iadd, 1) := dk_96 (dk_at dksL_law_78 4 rfl rfl)
theorem dL_law_2084 : decode cL_law 2084 = .ok (.iaload, 1) := dk_46 (dk_at dksL_law_78 5 rfl rfl)
theorem dL_law_2085 : decode cL_law 2085 = .ok (.aload_n 0, 1) := dk_42 (dk_at dksL_law_78 6 rfl rfl)
theorem dL_law_2086 : decode cL_law 2086 = .ok (.iload_n 3, 1) := dk_29 (dk_at dksL_law_78 7 rfl rfl)
theorem dL_law_2087 : decode cL_law 2087 = .ok (.iconst 2, 1) := dk_5 (dk_at dksL_law_78 8 rfl rfl)
theorem dL_law_2088 : decode cL_law 2088 = .ok (.iadd, 1) := dk_96 (dk_at dksL_law_78 9 rfl rfl)
theorem dL_law_2089 : decode cL_law 2089 = .ok (.iaload, 1) := dk_46 (dk_at dksL_law_78 10 rfl rfl)
theorem dL_law_2090 : decode cL_law 2090 = .ok (.aload_n 0, 1) := dk_42 (dk_at dksL_law_78 11 rfl rfl)
theorem dL_law_2091 : decode cL_law 2091 = .ok (.iload_n 3, 1) := dk_29 (dk_at dksL_law_78 12 rfl rfl)
theorem dL_law_2092 : decode cL_law 2092 = .ok (.iconst 3, 1) := dk_6 (dk_at dksL_law_78 13 rfl rfl)
theorem dL_law_2093 : decode cL_law 2093 = .ok (.iadd, 1) := dk_96 (dk_at dksL_law_78 14 rfl rfl)
theorem dL_law_2094 : decode cL_law 2094 = .ok (.iaload, 1) := dk_46 (dk_at dksL_law_78 15 rfl rfl)
theorem dL_law_2095 : decode cL_law 2095 = .ok (.i2l, 1) := dk_133 (dk_at dksL_law_78 16 rfl rfl)
theorem dL_law_2096 : decode cL_law 2096 = .ok (.bipush 32, 2) := dk_16 32 (dk_at dksL_law_78 17 rfl rfl)
theorem dL_law_2098 : decode cL_law 2098 = .ok (.lshl, 1) := dk_121 (dk_at dksL_law_78 19 rfl rfl)
theorem dL_law_2099 : decode cL_law 2099 = .ok (.aload_n 0, 1) := dk_42 (dk_at dksL_law_78 20 rfl rfl)
theorem dL_law_2100 : decode cL_law 2100 = .ok (.iload_n 3, 1) := dk_29 (dk_at dksL_law_78 21 rfl rfl)
theorem dL_law_2101 : decode cL_law 2101 = .ok (.iconst 4, 1) := dk_7 (dk_at dksL_law_78 22 rfl rfl)
theorem dL_law_2102 : decode cL_law 2102 = .ok (.iadd, 1) := dk_96 (dk_at dksL_law_78 23 rfl rfl)
theorem dL_law_2103 : decode cL_law 2103 = .ok (.iaload, 1) := dk_46 (dk_at dksL_law_79 0 rfl rfl)
theorem dL_law_2104 : decode cL_law 2104 = .ok (.i2l, 1) := dk_133 (dk_at dksL_law_79 1 rfl rfl)
theorem dL_law_2105 : decode cL_law 2105 = .ok (.ldc2_w 283, 3) := dk_20 1 27 (dk_at dksL_law_79 2 rfl rfl)
theorem dL_law_2108 : decode cL_law 2108 = .ok (.land, 1) := dk_127 (dk_at dksL_law_79 5 rfl rfl)
theorem dL_law_2109 : decode cL_law 2109 = .ok (.lor, 1) := dk_129 (dk_at dksL_law_79 6 rfl rfl)
theorem dL_law_2110 : decode cL_law 2110 = .ok (.invokevirtual 285, 3) := dk_182 1 29 (dk_at dksL_law_79 7 rfl rfl)
theorem dL_law_2113 : decode cL_law 2113 = .ok (.aload_n 2, 1) := dk_44 (dk_at dksL_law_79 10 rfl rfl)
theorem dL_law_2114 : decode cL_law 2114 = .ok (.aload_n 0, 1) := dk_42 (dk_at dksL_law_79 11 rfl rfl)
theorem dL_law_2115 : decode cL_law 2115 = .ok (.iload_n 3, 1) := dk_29 (dk_at dksL_law_79 12 rfl rfl)
theorem dL_law_2116 : decode cL_law 2116 = .ok (.iconst 1, 1) := dk_4 (dk_at dksL_law_79 13 rfl rfl)
theorem dL_law_2117 : decode cL_law 2117 = .ok (.iadd, 1) := dk_96 (dk_at dksL_law_79 14 rfl rfl)
theorem dL_law_2118 : decode cL_law 2118 = .ok (.iaload, 1) := dk_46 (dk_at dksL_law_79 15 rfl rfl)
theorem dL_law_2119 : decode cL_law 2119 = .ok (.aload_n 0, 1) := dk_42 (dk_at dksL_law_79 16 rfl rfl)
theorem dL_law_2120 : decode cL_law 2120 = .ok (.iload_n 3, 1) := dk_29 (dk_at dksL_law_79 17 rfl rfl)
theorem dL_law_2121 : decode cL_law 2121 = .ok (.iconst 2, 1) := dk_5 (dk_at dksL_law_79 18 rfl rfl)
theorem dL_law_2122 : decode cL_law 2122 = .ok (.iadd, 1) := dk_96 (dk_at dksL_law_79 19 rfl rfl)
theorem dL_law_2123 : decode cL_law 2123 = .ok (.iaload, 1) := dk_46 (dk_at dksL_law_79 20 rfl rfl)
theorem dL_law_2124 : decode cL_law 2124 = .ok (.aload_n 0, 1) := dk_42 (dk_at dksL_law_79 21 rfl rfl)
theorem dL_law_2125 : decode cL_law 2125 = .ok (.iload_n 3, 1) := dk_29 (dk_at dksL_law_79 22 rfl rfl)
theorem dL_law_2126 : decode cL_law 2126 = .ok (.iconst 3, 1) := dk_6 (dk_at dksL_law_79 23 rfl rfl)
theorem dL_law_2127 : decode cL_law 2127 = .ok (.iadd, 1) := dk_96 (dk_at dksL_law_80 0 rfl rfl)
theorem dL_law_2128 : decode cL_law 2128 = .ok (.iaload, 1) := dk_46 (dk_at dksL_law_80 1 rfl rfl)
theorem dL_law_2129 : decode cL_law 2129 = .ok (.i2l, 1) := dk_133 (dk_at dksL_law_80 2 rfl rfl)
theorem dL_law_2130 : decode cL_law 2130 = .ok (.bipush 32, 2) := dk_16 32 (dk_at dksL_law_80 3 rfl rfl)
theorem dL_law_2132 : decode cL_law 2132 = .ok (.lshl, 1) := dk_121 (dk_at dksL_law_80 5 rfl rfl)
theorem dL_law_2133 : decode cL_law 2133 = .ok (.aload_n 0, 1) := dk_42 (dk_at dksL_law_80 6 rfl rfl)
theorem dL_law_2134 : decode cL_law 2134 = .ok (.iload_n 3, 1) := dk_29 (dk_at dksL_law_80 7 rfl rfl)
theorem dL_law_2135 : decode cL_law 2135 = .ok (.iconst 4, 1) := dk_7 (dk_at dksL_law_80 8 rfl rfl)
theorem dL_law_2136 : decode cL_law 2136 = .ok (.iadd, 1) := dk_96 (dk_at dksL_law_80 9 rfl rfl)
theorem dL_law_2137 : decode cL_law 2137 = .ok (.iaload, 1) := dk_46 (dk_at dksL_law_80 10 rfl rfl)
theorem dL_law_2138 : decode cL_law 2138 = .ok (.i2l, 1) := dk_133 (dk_at dksL_law_80 11 rfl rfl)
theorem dL_law_2139 : decode cL_law 2139 = .ok (.ldc2_w 283, 3) := dk_20 1 27 (dk_at dksL_law_80 12 rfl rfl)
theorem dL_law_2142 : decode cL_law 2142 = .ok (.land, 1) := dk_127 (dk_at dksL_law_80 15 rfl rfl)
theorem dL_law_2143 : decode cL_law 2143 = .ok (.lor, 1) := dk_129 (dk_at dksL_law_80 16 rfl rfl)
theorem dL_law_2144 : decode cL_law 2144 = .ok (.invokevirtual 289, 3) := dk_182 1 33 (dk_at dksL_law_80 17 rfl rfl)
theorem dL_law_2147 : decode cL_law 2147 = .ok (.if_icmp .eq 68, 3) := dk_159 0 68 (dk_at dksL_law_80 20 rfl rfl)
theorem dL_law_2150 : decode cL_law 2150 = .ok (.iconst 0, 1) := dk_3 (dk_at dksL_law_80 23 rfl rfl)
theorem dL_law_2151 : decode cL_law 2151 = .ok (.ireturn, 1) := dk_172 (dk_at dksL_law_81 0 rfl rfl)
theorem dL_law_2152 : decode cL_law 2152 = .ok (.aload_n 1, 1) := dk_43 (dk_at dksL_law_81 1 rfl rfl)
theorem dL_law_2153 : decode cL_law 2153 = .ok (.aload_n 0, 1) := dk_42 (dk_at dksL_law_81 2 rfl rfl)
theorem dL_law_2154 : decode cL_law 2154 = .ok (.iload_n 3, 1) := dk_29 (dk_at dksL_law_81 3 rfl rfl)
theorem dL_law_2155 : decode cL_law 2155 = .ok (.iconst 1, 1) := dk_4 (dk_at dksL_law_81 4 rfl rfl)
theorem dL_law_2156 : decode cL_law 2156 = .ok (.iadd, 1) := dk_96 (dk_at dksL_law_81 5 rfl rfl)
theorem dL_law_2157 : decode cL_law 2157 = .ok (.iaload, 1) := dk_46 (dk_at dksL_law_81 6 rfl rfl)
theorem dL_law_2158 : decode cL_law 2158 = .ok (.aload_n 0, 1) := dk_42 (dk_at dksL_law_81 7 rfl rfl)
theorem dL_law_2159 : decode cL_law 2159 = .ok (.iload_n 3, 1) := dk_29 (dk_at dksL_law_81 8 rfl rfl)
theorem dL_law_2160 : decode cL_law 2160 = .ok (.iconst 2, 1) := dk_5 (dk_at dksL_law_81 9 rfl rfl)
theorem dL_law_2161 : decode cL_law 2161 = .ok (.iadd, 1) := dk_96 (dk_at dksL_law_81 10 rfl rfl)
theorem dL_law_2162 : decode cL_law 2162 = .ok (.iaload, 1) := dk_46 (dk_at dksL_law_81 11 rfl rfl)
theorem dL_law_2163 : decode cL_law 2163 = .ok (.aload_n 0, 1) := dk_42 (dk_at dksL_law_81 12 rfl rfl)
theorem dL_law_2164 : decode cL_law 2164 = .ok (.iload_n 3, 1) := dk_29 (dk_at dksL_law_81 13 rfl rfl)
theorem dL_law_2165 : decode cL_law 2165 = .ok (.iconst 3, 1) := dk_6 (dk_at dksL_law_81 14 rfl rfl)
theorem dL_law_2166 : decode cL_law 2166 = .ok (.iadd, 1) := dk_96 (dk_at dksL_law_81 15 rfl rfl)
theorem dL_law_2167 : decode cL_law 2167 = .ok (.iaload, 1) := dk_46 (dk_at dksL_law_81 16 rfl rfl)
theorem dL_law_2168 : decode cL_law 2168 = .ok (.aload_n 0, 1) := dk_42 (dk_at dksL_law_81 17 rfl rfl)
theorem dL_law_2169 : decode cL_law 2169 = .ok (.iload_n 3, 1) := dk_29 (dk_at dksL_law_81 18 rfl rfl)
theorem dL_law_2170 : decode cL_law 2170 = .ok (.iconst 4, 1) := dk_7 (dk_at dksL_law_81 19 rfl rfl)
theorem dL_law_2171 : decode cL_law 2171 = .ok (.iadd, 1) := dk_96 (dk_at dksL_law_81 20 rfl rfl)
theorem dL_law_2172 : decode cL_law 2172 = .ok (.iaload, 1) := dk_46 (dk_at dksL_law_81 21 rfl rfl)
theorem dL_law_2173 : decode cL_law 2173 = .ok (.aload_n 0, 1) := dk_42 (dk_at dksL_law_81 22 rfl rfl)
theorem dL_law_2174 : decode cL_law 2174 = .ok (.iload_n 3, 1) := dk_29 (dk_at dksL_law_81 23 rfl rfl)
theorem dL_law_2175 : decode cL_law 2175 = .ok (.iconst 5, 1) := dk_8 (dk_at dksL_law_82 0 rfl rfl)
theorem dL_law_2176 : decode cL_law 2176 = .ok (.iadd, 1) := dk_96 (dk_at dksL_law_82 1 rfl rfl)
theorem dL_law_2177 : decode cL_law 2177 = .ok (.iaload, 1) := dk_46 (dk_at dksL_law_82 2 rfl rfl)
theorem dL_law_2178 : decode cL_law 2178 = .ok (.invokevirtual 290, 3) := dk_182 1 34 (dk_at dksL_law_82 3 rfl rfl)
theorem dL_law_2181 : decode cL_law 2181 = .ok (.aload_n 2, 1) := dk_44 (dk_at dksL_law_82 6 rfl rfl)
theorem dL_law_2182 : decode cL_law 2182 = .ok (.aload_n 0, 1) := dk_42 (dk_at dksL_law_82 7 rfl rfl)
theorem dL_law_2183 : decode cL_law 2183 = .ok (.iload_n 3, 1) := dk_29 (dk_at dksL_law_82 8 rfl rfl)
theorem dL_law_2184 : decode cL_law 2184 = .ok (.iconst 1, 1) := dk_4 (dk_at dksL_law_82 9 rfl rfl)
theorem dL_law_2185 : decode cL_law 2185 = .ok (.iadd, 1) := dk_96 (dk_at dksL_law_82 10 rfl rfl)
theorem dL_law_2186 : decode cL_law 2186 = .ok (.iaload, 1) := dk_46 (dk_at dksL_law_82 11 rfl rfl)
theorem dL_law_2187 : decode cL_law 2187 = .ok (.aload_n 0, 1) := dk_42 (dk_at dksL_law_82 12 rfl rfl)
theorem dL_law_2188 : decode cL_law 2188 = .ok (.iload_n 3, 1) := dk_29 (dk_at dksL_law_82 13 rfl rfl)
theorem dL_law_2189 : decode cL_law 2189 = .ok (.iconst 2, 1) := dk_5 (dk_at dksL_law_82 14 rfl rfl)
theorem dL_law_2190 : decode cL_law 2190 = .ok (.iadd, 1) := dk_96 (dk_at dksL_law_82 15 rfl rfl)
theorem dL_law_2191 : decode cL_law 2191 = .ok (.iaload, 1) := dk_46 (dk_at dksL_law_82 16 rfl rfl)
theorem dL_law_2192 : decode cL_law 2192 = .ok (.aload_n 0, 1) := dk_42 (dk_at dksL_law_82 17 rfl rfl)
theorem dL_law_2193 : decode cL_law 2193 = .ok (.iload_n 3, 1) := dk_29 (dk_at dksL_law_82 18 rfl rfl)
theorem dL_law_2194 : decode cL_law 2194 = .ok (.iconst 3, 1) := dk_6 (dk_at dksL_law_82 19 rfl rfl)
theorem dL_law_2195 : decode cL_law 2195 = .ok (.iadd, 1) := dk_96 (dk_at dksL_law_82 20 rfl rfl)
theorem dL_law_2196 : decode cL_law 2196 = .ok (.iaload, 1) := dk_46 (dk_at dksL_law_82 21 rfl rfl)
theorem dL_law_2197 : decode cL_law 2197 = .ok (.aload_n 0, 1) := dk_42 (dk_at dksL_law_82 22 rfl rfl)
theorem dL_law_2198 : decode cL_law 2198 = .ok (.iload_n 3, 1) := dk_29 (dk_at dksL_law_82 23 rfl rfl)
theorem dL_law_2199 : decode cL_law 2199 = .ok (.iconst 4, 1) := dk_7 (dk_at dksL_law_83 0 rfl rfl)
theorem dL_law_2200 : decode cL_law 2200 = .ok (.iadd, 1) := dk_96 (dk_at dksL_law_83 1 rfl rfl)
theorem dL_law_2201 : decode cL_law 2201 = .ok (.iaload, 1) := dk_46 (dk_at dksL_law_83 2 rfl rfl)
theorem dL_law_2202 : decode cL_law 2202 = .ok (.aload_n 0, 1) := dk_42 (dk_at dksL_law_83 3 rfl rfl)
theorem dL_law_2203 : decode cL_law 2203 = .ok (.iload_n 3, 1) := dk_29 (dk_at dksL_law_83 4 rfl rfl)
theorem dL_law_2204 : decode cL_law 2204 = .ok (.iconst 5, 1) := dk_8 (dk_at dksL_law_83 5 rfl rfl)
theorem dL_law_2205 : decode cL_law 2205 = .ok (.iadd, 1) := dk_96 (dk_at dksL_law_83 6 rfl rfl)
theorem dL_law_2206 : decode cL_law 2206 = .ok (.iaload, 1) := dk_46 (dk_at dksL_law_83 7 rfl rfl)
theorem dL_law_2207 : decode cL_law 2207 = .ok (.invokevirtual 293, 3) := dk_182 1 37 (dk_at dksL_law_83 8 rfl rfl)
theorem dL_law_2210 : decode cL_law 2210 = .ok (.if_icmp .eq 5, 3) := dk_159 0 5 (dk_at dksL_law_83 11 rfl rfl)
theorem dL_law_2213 : decode cL_law 2213 = .ok (.iconst 0, 1) := dk_3 (dk_at dksL_law_83 14 rfl rfl)
theorem dL_law_2214 : decode cL_law 2214 = .ok (.ireturn, 1) := dk_172 (dk_at dksL_law_83 15 rfl rfl)
theorem dL_law_2215 : decode cL_law 2215 = .ok (.iinc 3 6, 3) := dk_132 3 6 (dk_at dksL_law_83 16 rfl rfl)
theorem dL_law_2218 : decode cL_law 2218 = .ok (.goto (-2200), 3) := dk_167 247 104 (dk_at dksL_law_83 19 rfl rfl)
theorem dL_law_2221 : decode cL_law 2221 = .ok (.iconst 1, 1) := dk_4 (dk_at dksL_law_83 22 rfl rfl)
theorem dL_law_2222 : decode cL_law 2222 = .ok (.ireturn, 1) := dk_172 (dk_at dksL_law_83 23 rfl rfl)
theorem q149 : (Jvm.Cond.initialized "HiddenCubeLaw") ∈ lw_all := lw_g (lw_at lw_m1 0 rfl) rfl
theorem q175 : (Jvm.Cond.classLink "HiddenCubeLaw" (7 : Nat) "HiddenCube") ∈ lw_all := lw_g (lw_at lw_m1 26 rfl) rfl
theorem q177 : (Jvm.Cond.methodLink "HiddenCubeLaw" (9 : Nat) ({ cls := "HiddenCube", name := "<init>", desc := "()V" } : Jvm.MethodName)) ∈ lw_all := lw_g (lw_at lw_m1 28 rfl) rfl
theorem q417 : (Jvm.Cond.methodLink "HiddenCubeLaw" (13 : Nat) ({ cls := "HiddenCube", name := "feed", desc := "(IIIII)I" } : Jvm.MethodName)) ∈ lw_all := lw_g (lw_at lw_m2 28 rfl) rfl
theorem q425 : (Jvm.Cond.methodLink "HiddenCubeLaw" (18 : Nat) ({ cls := "HiddenCube", name := "end", desc := "(I)I" } : Jvm.MethodName)) ∈ lw_all := lw_g (lw_at lw_m2 36 rfl) rfl
theorem q432 : (Jvm.Cond.methodLink "HiddenCubeLaw" (23 : Nat) ({ cls := "HiddenCube", name := "town", desc := "()I" } : Jvm.MethodName)) ∈ lw_all := lw_g (lw_at lw_m2 43 rfl) rfl
theorem q707 : (Jvm.Cond.methodLink "HiddenCubeLaw" (28 : Nat) ({ cls := "HiddenCube", name := "fault", desc := "(I)I" } : Jvm.MethodName)) ∈ lw_all := lw_g (lw_at lw_m3 78 rfl) rfl
theorem q711 : (Jvm.Cond.methodLink "HiddenCubeLaw" (32 : Nat) ({ cls := "HiddenCube", name := "letter", desc := "(II)I" } : Jvm.MethodName)) ∈ lw_all := lw_g (lw_at lw_m3 82 rfl) rfl
theorem q719 : (Jvm.Cond.methodLink "HiddenCubeLaw" (37 : Nat) ({ cls := "HiddenCube", name := "open", desc := "(II)I" } : Jvm.MethodName)) ∈ lw_all := lw_g (lw_at lw_m3 90 rfl) rfl
theorem q729 : (Jvm.Cond.methodLink "HiddenCubeLaw" (41 : Nat) ({ cls := "HiddenCube", name := "step", desc := "(II)I" } : Jvm.MethodName)) ∈ lw_all := lw_g (lw_at lw_m3 100 rfl) rfl
theorem q733 : (Jvm.Cond.methodLink "HiddenCubeLaw" (45 : Nat) ({ cls := "HiddenCube", name := "shut", desc := "(III)I" } : Jvm.MethodName)) ∈ lw_all := lw_g (lw_at lw_m3 104 rfl) rfl
theorem q741 : (Jvm.Cond.methodLink "HiddenCubeLaw" (50 : Nat) ({ cls := "HiddenCube", name := "ways", desc := "(I)I" } : Jvm.MethodName)) ∈ lw_all := lw_g (lw_at lw_m3 112 rfl) rfl
theorem q755 : (Jvm.Cond.methodLink "HiddenCubeLaw" (54 : Nat) ({ cls := "HiddenCube", name := "opposite", desc := "(I)I" } : Jvm.MethodName)) ∈ lw_all := lw_g (lw_at lw_m3 126 rfl) rfl
theorem q759 : (Jvm.Cond.methodLink "HiddenCubeLaw" (58 : Nat) ({ cls := "HiddenCube", name := "apart", desc := "(II)I" } : Jvm.MethodName)) ∈ lw_all := lw_g (lw_at lw_m3 130 rfl) rfl
theorem q763 : (Jvm.Cond.methodLink "HiddenCubeLaw" (62 : Nat) ({ cls := "HiddenCube", name := "streets", desc := "(I)I" } : Jvm.MethodName)) ∈ lw_all := lw_g (lw_at lw_m3 134 rfl) rfl
theorem q768 : (Jvm.Cond.methodLink "HiddenCubeLaw" (66 : Nat) ({ cls := "HiddenCube", name := "far", desc := "(II)I" } : Jvm.MethodName)) ∈ lw_all := lw_g (lw_at lw_m3 139 rfl) rfl
theorem q793 : (Jvm.Cond.methodLink "HiddenCubeLaw" (70 : Nat) ({ cls := "HiddenCube", name := "many", desc := "(II)I" } : Jvm.MethodName)) ∈ lw_all := lw_g (lw_at lw_m3 164 rfl) rfl
theorem q798 : (Jvm.Cond.methodLink "HiddenCubeLaw" (74 : Nat) ({ cls := "HiddenCube", name := "goes", desc := "(III)I" } : Jvm.MethodName)) ∈ lw_all := lw_g (lw_at lw_m3 169 rfl) rfl
theorem q806 : (Jvm.Cond.methodLink "HiddenCubeLaw" (78 : Nat) ({ cls := "HiddenCube", name := "led", desc := "(III)I" } : Jvm.MethodName)) ∈ lw_all := lw_g (lw_at lw_m3 177 rfl) rfl
theorem q819 : (Jvm.Cond.methodLink "HiddenCubeLaw" (82 : Nat) ({ cls := "HiddenCube", name := "farthest", desc := "(II)I" } : Jvm.MethodName)) ∈ lw_all := lw_g (lw_at lw_m3 190 rfl) rfl
theorem q823 : (Jvm.Cond.methodLink "HiddenCubeLaw" (86 : Nat) ({ cls := "HiddenCube", name := "width", desc := "()I" } : Jvm.MethodName)) ∈ lw_all := lw_g (lw_at lw_m3 194 rfl) rfl
theorem q835 : (Jvm.Cond.methodLink "HiddenCubeLaw" (90 : Nat) ({ cls := "HiddenCube", name := "within", desc := "(II)I" } : Jvm.MethodName)) ∈ lw_all := lw_g (lw_at lw_m3 206 rfl) rfl
theorem q839 : (Jvm.Cond.methodLink "HiddenCubeLaw" (94 : Nat) ({ cls := "HiddenCube", name := "apartWays", desc := "(III)I" } : Jvm.MethodName)) ∈ lw_all := lw_g (lw_at lw_m3 210 rfl) rfl
theorem q891 : (Jvm.Cond.methodLink "HiddenCubeLaw" (98 : Nat) ({ cls := "HiddenCube", name := "side", desc := "(II)I" } : Jvm.MethodName)) ∈ lw_all := lw_g (lw_at lw_m4 22 rfl) rfl
theorem q895 : (Jvm.Cond.methodLink "HiddenCubeLaw" (102 : Nat) ({ cls := "HiddenCube", name := "parts", desc := "()I" } : Jvm.MethodName)) ∈ lw_all := lw_g (lw_at lw_m4 26 rfl) rfl
theorem q903 : (Jvm.Cond.methodLink "HiddenCubeLaw" (106 : Nat) ({ cls := "HiddenCube", name := "part", desc := "(I)I" } : Jvm.MethodName)) ∈ lw_all := lw_g (lw_at lw_m4 34 rfl) rfl
theorem q907 : (Jvm.Cond.methodLink "HiddenCubeLaw" (110 : Nat) ({ cls := "HiddenCube", name := "bridges", desc := "()I" } : Jvm.MethodName)) ∈ lw_all := lw_g (lw_at lw_m4 38 rfl) rfl
theorem q915 : (Jvm.Cond.methodLink "HiddenCubeLaw" (114 : Nat) ({ cls := "HiddenCube", name := "bridge", desc := "(II)I" } : Jvm.MethodName)) ∈ lw_all := lw_g (lw_at lw_m4 46 rfl) rfl
theorem q919 : (Jvm.Cond.methodLink "HiddenCubeLaw" (118 : Nat) ({ cls := "HiddenCube", name := "joins", desc := "()I" } : Jvm.MethodName)) ∈ lw_all := lw_g (lw_at lw_m4 50 rfl) rfl
theorem q923 : (Jvm.Cond.methodLink "HiddenCubeLaw" (122 : Nat) ({ cls := "HiddenCube", name := "fours", desc := "()I" } : Jvm.MethodName)) ∈ lw_all := lw_g (lw_at lw_m4 54 rfl) rfl
theorem q935 : (Jvm.Cond.methodLink "HiddenCubeLaw" (126 : Nat) ({ cls := "HiddenCube", name := "walls", desc := "(I)I" } : Jvm.MethodName)) ∈ lw_all := lw_g (lw_at lw_m4 66 rfl) rfl
theorem q940 : (Jvm.Cond.methodLink "HiddenCubeLaw" (130 : Nat) ({ cls := "HiddenCube", name := "wall", desc := "(II)I" } : Jvm.MethodName)) ∈ lw_all := lw_g (lw_at lw_m4 71 rfl) rfl
theorem q944 : (Jvm.Cond.methodLink "HiddenCubeLaw" (134 : Nat) ({ cls := "HiddenCube", name := "rounds", desc := "()I" } : Jvm.MethodName)) ∈ lw_all := lw_g (lw_at lw_m4 75 rfl) rfl
theorem q971 : (Jvm.Cond.methodLink "HiddenCubeLaw" (138 : Nat) ({ cls := "HiddenCube", name := "round", desc := "(I)I" } : Jvm.MethodName)) ∈ lw_all := lw_g (lw_at lw_m4 102 rfl) rfl
theorem q975 : (Jvm.Cond.methodLink "HiddenCubeLaw" (142 : Nat) ({ cls := "HiddenCube", name := "by", desc := "(I)I" } : Jvm.MethodName)) ∈ lw_all := lw_g (lw_at lw_m4 106 rfl) rfl
theorem q983 : (Jvm.Cond.methodLink "HiddenCubeLaw" (146 : Nat) ({ cls := "HiddenCube", name := "even", desc := "()I" } : Jvm.MethodName)) ∈ lw_all := lw_g (lw_at lw_m4 114 rfl) rfl
theorem q987 : (Jvm.Cond.methodLink "HiddenCubeLaw" (154 : Nat) ({ cls := "HiddenCube", name := "turnings", desc := "()I" } : Jvm.MethodName)) ∈ lw_all := lw_g (lw_at lw_m4 118 rfl) rfl
theorem q1011 : (Jvm.Cond.methodLink "HiddenCubeLaw" (158 : Nat) ({ cls := "HiddenCube", name := "orbit", desc := "(I)I" } : Jvm.MethodName)) ∈ lw_all := lw_g (lw_at lw_m4 142 rfl) rfl
theorem q1016 : (Jvm.Cond.methodLink "HiddenCubeLaw" (162 : Nat) ({ cls := "HiddenCube", name := "still", desc := "(I)I" } : Jvm.MethodName)) ∈ lw_all := lw_g (lw_at lw_m4 147 rfl) rfl
theorem q1020 : (Jvm.Cond.methodLink "HiddenCubeLaw" (166 : Nat) ({ cls := "HiddenCube", name := "colours", desc := "(I)J" } : Jvm.MethodName)) ∈ lw_all := lw_g (lw_at lw_m4 151 rfl) rfl
theorem q1030 : (Jvm.Cond.methodLink "HiddenCubeLaw" (150 : Nat) ({ cls := "HiddenCube", name := "unlike", desc := "()I" } : Jvm.MethodName)) ∈ lw_all := lw_g (lw_at lw_m4 161 rfl) rfl
theorem q1042 : (Jvm.Cond.methodLink "HiddenCubeLaw" (171 : Nat) ({ cls := "HiddenCube", name := "bare", desc := "()I" } : Jvm.MethodName)) ∈ lw_all := lw_g (lw_at lw_m4 173 rfl) rfl
theorem q1054 : (Jvm.Cond.methodLink "HiddenCubeLaw" (175 : Nat) ({ cls := "HiddenCube", name := "warden", desc := "(II)I" } : Jvm.MethodName)) ∈ lw_all := lw_g (lw_at lw_m4 185 rfl) rfl
theorem q1058 : (Jvm.Cond.methodLink "HiddenCubeLaw" (179 : Nat) ({ cls := "HiddenCube", name := "fewest", desc := "(I)I" } : Jvm.MethodName)) ∈ lw_all := lw_g (lw_at lw_m4 189 rfl) rfl
theorem q1078 : (Jvm.Cond.methodLink "HiddenCubeLaw" (183 : Nat) ({ cls := "HiddenCube", name := "perfect", desc := "()I" } : Jvm.MethodName)) ∈ lw_all := lw_g (lw_at lw_m4 209 rfl) rfl
theorem q1082 : (Jvm.Cond.methodLink "HiddenCubeLaw" (187 : Nat) ({ cls := "HiddenCube", name := "more", desc := "()I" } : Jvm.MethodName)) ∈ lw_all := lw_g (lw_at lw_m4 213 rfl) rfl
theorem q1086 : (Jvm.Cond.methodLink "HiddenCubeLaw" (191 : Nat) ({ cls := "HiddenCube", name := "code", desc := "(I)I" } : Jvm.MethodName)) ∈ lw_all := lw_g (lw_at lw_m4 217 rfl) rfl
theorem q1140 : (Jvm.Cond.methodLink "HiddenCubeLaw" (195 : Nat) ({ cls := "HiddenCube", name := "heard", desc := "(II)I" } : Jvm.MethodName)) ∈ lw_all := lw_g (lw_at lw_m5 31 rfl) rfl
theorem q1144 : (Jvm.Cond.methodLink "HiddenCubeLaw" (199 : Nat) ({ cls := "HiddenCube", name := "told", desc := "(II)I" } : Jvm.MethodName)) ∈ lw_all := lw_g (lw_at lw_m5 35 rfl) rfl
theorem q1148 : (Jvm.Cond.methodLink "HiddenCubeLaw" (203 : Nat) ({ cls := "HiddenCube", name := "biggest", desc := "(I)I" } : Jvm.MethodName)) ∈ lw_all := lw_g (lw_at lw_m5 39 rfl) rfl
theorem q1152 : (Jvm.Cond.methodLink "HiddenCubeLaw" (207 : Nat) ({ cls := "HiddenCube", name := "shadow", desc := "(II)I" } : Jvm.MethodName)) ∈ lw_all := lw_g (lw_at lw_m5 43 rfl) rfl
theorem q1156 : (Jvm.Cond.methodLink "HiddenCubeLaw" (211 : Nat) ({ cls := "HiddenCube", name := "crossings", desc := "(I)I" } : Jvm.MethodName)) ∈ lw_all := lw_g (lw_at lw_m5 47 rfl) rfl
theorem q1168 : (Jvm.Cond.methodLink "HiddenCubeLaw" (215 : Nat) ({ cls := "HiddenCube", name := "drawing", desc := "()I" } : Jvm.MethodName)) ∈ lw_all := lw_g (lw_at lw_m5 59 rfl) rfl
theorem q1180 : (Jvm.Cond.methodLink "HiddenCubeLaw" (219 : Nat) ({ cls := "HiddenCube", name := "person", desc := "(I)I" } : Jvm.MethodName)) ∈ lw_all := lw_g (lw_at lw_m5 71 rfl) rfl
theorem q1188 : (Jvm.Cond.methodLink "HiddenCubeLaw" (223 : Nat) ({ cls := "HiddenCube", name := "moves", desc := "(II)I" } : Jvm.MethodName)) ∈ lw_all := lw_g (lw_at lw_m5 79 rfl) rfl
theorem q1192 : (Jvm.Cond.methodLink "HiddenCubeLaw" (227 : Nat) ({ cls := "HiddenCube", name := "met", desc := "(I)I" } : Jvm.MethodName)) ∈ lw_all := lw_g (lw_at lw_m5 83 rfl) rfl
theorem q1208 : (Jvm.Cond.methodLink "HiddenCubeLaw" (231 : Nat) ({ cls := "HiddenCube", name := "sure", desc := "(II)I" } : Jvm.MethodName)) ∈ lw_all := lw_g (lw_at lw_m5 99 rfl) rfl
theorem q1212 : (Jvm.Cond.methodLink "HiddenCubeLaw" (235 : Nat) ({ cls := "HiddenCube", name := "comes", desc := "(I)I" } : Jvm.MethodName)) ∈ lw_all := lw_g (lw_at lw_m5 103 rfl) rfl
theorem q1232 : (Jvm.Cond.methodLink "HiddenCubeLaw" (239 : Nat) ({ cls := "HiddenCube", name := "post", desc := "(I)I" } : Jvm.MethodName)) ∈ lw_all := lw_g (lw_at lw_m5 123 rfl) rfl
theorem q1236 : (Jvm.Cond.methodLink "HiddenCubeLaw" (243 : Nat) ({ cls := "HiddenCube", name := "at", desc := "(II)I" } : Jvm.MethodName)) ∈ lw_all := lw_g (lw_at lw_m5 127 rfl) rfl
theorem q1240 : (Jvm.Cond.methodLink "HiddenCubeLaw" (247 : Nat) ({ cls := "HiddenCube", name := "clash", desc := "()I" } : Jvm.MethodName)) ∈ lw_all := lw_g (lw_at lw_m5 131 rfl) rfl
theorem q1244 : (Jvm.Cond.methodLink "HiddenCubeLaw" (251 : Nat) ({ cls := "HiddenCube", name := "law", desc := "(I)I" } : Jvm.MethodName)) ∈ lw_all := lw_g (lw_at lw_m5 135 rfl) rfl
theorem q1252 : (Jvm.Cond.methodLink "HiddenCubeLaw" (255 : Nat) ({ cls := "HiddenCube", name := "flood", desc := "(III)I" } : Jvm.MethodName)) ∈ lw_all := lw_g (lw_at lw_m5 143 rfl) rfl
theorem q1272 : (Jvm.Cond.methodLink "HiddenCubeLaw" (259 : Nat) ({ cls := "HiddenCube", name := "day", desc := "(II)I" } : Jvm.MethodName)) ∈ lw_all := lw_g (lw_at lw_m5 163 rfl) rfl
theorem q1276 : (Jvm.Cond.methodLink "HiddenCubeLaw" (263 : Nat) ({ cls := "HiddenCube", name := "chance", desc := "(IIIII)I" } : Jvm.MethodName)) ∈ lw_all := lw_g (lw_at lw_m5 167 rfl) rfl
theorem q1282 : (Jvm.Cond.methodLink "HiddenCubeLaw" (267 : Nat) ({ cls := "HiddenCube", name := "count", desc := "(I)I" } : Jvm.MethodName)) ∈ lw_all := lw_g (lw_at lw_m5 173 rfl) rfl
theorem q1290 : (Jvm.Cond.methodLink "HiddenCubeLaw" (271 : Nat) ({ cls := "HiddenCube", name := "keep", desc := "(I)I" } : Jvm.MethodName)) ∈ lw_all := lw_g (lw_at lw_m5 181 rfl) rfl
theorem q1302 : (Jvm.Cond.methodLink "HiddenCubeLaw" (275 : Nat) ({ cls := "HiddenCube", name := "back", desc := "(I)I" } : Jvm.MethodName)) ∈ lw_all := lw_g (lw_at lw_m5 193 rfl) rfl
theorem q1306 : (Jvm.Cond.methodLink "HiddenCubeLaw" (279 : Nat) ({ cls := "HiddenCube", name := "row", desc := "(III)I" } : Jvm.MethodName)) ∈ lw_all := lw_g (lw_at lw_m5 197 rfl) rfl
theorem q1343 : (Jvm.Cond.methodLink "HiddenCubeLaw" (285 : Nat) ({ cls := "HiddenCube", name := "write", desc := "(IIJ)I" } : Jvm.MethodName)) ∈ lw_all := lw_g (lw_at lw_m5 234 rfl) rfl
theorem q1370 : (Jvm.Cond.methodLink "HiddenCubeLaw" (290 : Nat) ({ cls := "HiddenCube", name := "paste", desc := "(IIIII)I" } : Jvm.MethodName)) ∈ lw_all := lw_g (lw_at lw_m6 21 rfl) rfl
theorem q1389 : (Jvm.Cond.classLink "HiddenCubeLaw" (10 : Nat) "HiddenCubeModel") ∈ lw_all := lw_g (lw_at lw_m6 40 rfl) rfl
theorem q1391 : (Jvm.Cond.methodLink "HiddenCubeLaw" (12 : Nat) ({ cls := "HiddenCubeModel", name := "<init>", desc := "()V" } : Jvm.MethodName)) ∈ lw_all := lw_g (lw_at lw_m6 42 rfl) rfl
theorem q1570 : (Jvm.Cond.methodLink "HiddenCubeLaw" (282 : Nat) ({ cls := "HiddenCubeModel", name := "row", desc := "(III)I" } : Jvm.MethodName)) ∈ lw_all := lw_g (lw_at lw_m6 221 rfl) rfl
theorem q1581 : (Jvm.Cond.methodLink "HiddenCubeLaw" (289 : Nat) ({ cls := "HiddenCubeModel", name := "write", desc := "(IIJ)I" } : Jvm.MethodName)) ∈ lw_all := lw_g (lw_at lw_m6 232 rfl) rfl
theorem q1588 : (Jvm.Cond.methodLink "HiddenCubeLaw" (293 : Nat) ({ cls := "HiddenCubeModel", name := "paste", desc := "(IIIII)I" } : Jvm.MethodName)) ∈ lw_all := lw_g (lw_at lw_m6 239 rfl) rfl
theorem q1592 : (Jvm.Cond.methodLink "HiddenCubeLaw" (17 : Nat) ({ cls := "HiddenCubeModel", name := "feed", desc := "(IIIII)I" } : Jvm.MethodName)) ∈ lw_all := lw_g (lw_at lw_m7 3 rfl) rfl
theorem q1600 : (Jvm.Cond.methodLink "HiddenCubeLaw" (22 : Nat) ({ cls := "HiddenCubeModel", name := "end", desc := "(I)I" } : Jvm.MethodName)) ∈ lw_all := lw_g (lw_at lw_m7 11 rfl) rfl
theorem q1604 : (Jvm.Cond.methodLink "HiddenCubeLaw" (31 : Nat) ({ cls := "HiddenCubeModel", name := "fault", desc := "(I)I" } : Jvm.MethodName)) ∈ lw_all := lw_g (lw_at lw_m7 15 rfl) rfl
theorem q1608 : (Jvm.Cond.methodLink "HiddenCubeLaw" (27 : Nat) ({ cls := "HiddenCubeModel", name := "town", desc := "()I" } : Jvm.MethodName)) ∈ lw_all := lw_g (lw_at lw_m7 19 rfl) rfl
theorem q1709 : (Jvm.Cond.methodLink "HiddenCubeLaw" (36 : Nat) ({ cls := "HiddenCubeModel", name := "letter", desc := "(II)I" } : Jvm.MethodName)) ∈ lw_all := lw_g (lw_at lw_m7 120 rfl) rfl
theorem q1717 : (Jvm.Cond.methodLink "HiddenCubeLaw" (40 : Nat) ({ cls := "HiddenCubeModel", name := "open", desc := "(II)I" } : Jvm.MethodName)) ∈ lw_all := lw_g (lw_at lw_m7 128 rfl) rfl
theorem q1740 : (Jvm.Cond.methodLink "HiddenCubeLaw" (44 : Nat) ({ cls := "HiddenCubeModel", name := "step", desc := "(II)I" } : Jvm.MethodName)) ∈ lw_all := lw_g (lw_at lw_m7 151 rfl) rfl
theorem q1744 : (Jvm.Cond.methodLink "HiddenCubeLaw" (49 : Nat) ({ cls := "HiddenCubeModel", name := "shut", desc := "(III)I" } : Jvm.MethodName)) ∈ lw_all := lw_g (lw_at lw_m7 155 rfl) rfl
theorem q1752 : (Jvm.Cond.methodLink "HiddenCubeLaw" (53 : Nat) ({ cls := "HiddenCubeModel", name := "ways", desc := "(I)I" } : Jvm.MethodName)) ∈ lw_all := lw_g (lw_at lw_m7 163 rfl) rfl
theorem q1759 : (Jvm.Cond.methodLink "HiddenCubeLaw" (57 : Nat) ({ cls := "HiddenCubeModel", name := "opposite", desc := "(I)I" } : Jvm.MethodName)) ∈ lw_all := lw_g (lw_at lw_m7 170 rfl) rfl
theorem q1763 : (Jvm.Cond.methodLink "HiddenCubeLaw" (61 : Nat) ({ cls := "HiddenCubeModel", name := "apart", desc := "(II)I" } : Jvm.MethodName)) ∈ lw_all := lw_g (lw_at lw_m7 174 rfl) rfl
theorem q1767 : (Jvm.Cond.methodLink "HiddenCubeLaw" (65 : Nat) ({ cls := "HiddenCubeModel", name := "streets", desc := "(I)I" } : Jvm.MethodName)) ∈ lw_all := lw_g (lw_at lw_m7 178 rfl) rfl
theorem q1775 : (Jvm.Cond.methodLink "HiddenCubeLaw" (69 : Nat) ({ cls := "HiddenCubeModel", name := "far", desc := "(II)I" } : Jvm.MethodName)) ∈ lw_all := lw_g (lw_at lw_m7 186 rfl) rfl
theorem q1783 : (Jvm.Cond.methodLink "HiddenCubeLaw" (73 : Nat) ({ cls := "HiddenCubeModel", name := "many", desc := "(II)I" } : Jvm.MethodName)) ∈ lw_all := lw_g (lw_at lw_m7 194 rfl) rfl
theorem q1787 : (Jvm.Cond.methodLink "HiddenCubeLaw" (77 : Nat) ({ cls := "HiddenCubeModel", name := "goes", desc := "(III)I" } : Jvm.MethodName)) ∈ lw_all := lw_g (lw_at lw_m7 198 rfl) rfl
theorem q1799 : (Jvm.Cond.methodLink "HiddenCubeLaw" (81 : Nat) ({ cls := "HiddenCubeModel", name := "led", desc := "(III)I" } : Jvm.MethodName)) ∈ lw_all := lw_g (lw_at lw_m7 210 rfl) rfl
theorem q1807 : (Jvm.Cond.methodLink "HiddenCubeLaw" (85 : Nat) ({ cls := "HiddenCubeModel", name := "farthest", desc := "(II)I" } : Jvm.MethodName)) ∈ lw_all := lw_g (lw_at lw_m7 218 rfl) rfl
theorem q1811 : (Jvm.Cond.methodLink "HiddenCubeLaw" (89 : Nat) ({ cls := "HiddenCubeModel", name := "width", desc := "()I" } : Jvm.MethodName)) ∈ lw_all := lw_g (lw_at lw_m7 222 rfl) rfl
theorem q1815 : (Jvm.Cond.methodLink "HiddenCubeLaw" (93 : Nat) ({ cls := "HiddenCubeModel", name := "within", desc := "(II)I" } : Jvm.MethodName)) ∈ lw_all := lw_g (lw_at lw_m7 226 rfl) rfl
theorem q1819 : (Jvm.Cond.methodLink "HiddenCubeLaw" (97 : Nat) ({ cls := "HiddenCubeModel", name := "apartWays", desc := "(III)I" } : Jvm.MethodName)) ∈ lw_all := lw_g (lw_at lw_m7 230 rfl) rfl
theorem q1847 : (Jvm.Cond.methodLink "HiddenCubeLaw" (101 : Nat) ({ cls := "HiddenCubeModel", name := "side", desc := "(II)I" } : Jvm.MethodName)) ∈ lw_all := lw_g (lw_at lw_m8 18 rfl) rfl
theorem q1851 : (Jvm.Cond.methodLink "HiddenCubeLaw" (105 : Nat) ({ cls := "HiddenCubeModel", name := "parts", desc := "()I" } : Jvm.MethodName)) ∈ lw_all := lw_g (lw_at lw_m8 22 rfl) rfl
theorem q1859 : (Jvm.Cond.methodLink "HiddenCubeLaw" (109 : Nat) ({ cls := "HiddenCubeModel", name := "part", desc := "(I)I" } : Jvm.MethodName)) ∈ lw_all := lw_g (lw_at lw_m8 30 rfl) rfl
theorem q1863 : (Jvm.Cond.methodLink "HiddenCubeLaw" (113 : Nat) ({ cls := "HiddenCubeModel", name := "bridges", desc := "()I" } : Jvm.MethodName)) ∈ lw_all := lw_g (lw_at lw_m8 34 rfl) rfl
theorem q1871 : (Jvm.Cond.methodLink "HiddenCubeLaw" (117 : Nat) ({ cls := "HiddenCubeModel", name := "bridge", desc := "(II)I" } : Jvm.MethodName)) ∈ lw_all := lw_g (lw_at lw_m8 42 rfl) rfl
theorem q1875 : (Jvm.Cond.methodLink "HiddenCubeLaw" (121 : Nat) ({ cls := "HiddenCubeModel", name := "joins", desc := "()I" } : Jvm.MethodName)) ∈ lw_all := lw_g (lw_at lw_m8 46 rfl) rfl
theorem q1879 : (Jvm.Cond.methodLink "HiddenCubeLaw" (125 : Nat) ({ cls := "HiddenCubeModel", name := "fours", desc := "()I" } : Jvm.MethodName)) ∈ lw_all := lw_g (lw_at lw_m8 50 rfl) rfl
theorem q1891 : (Jvm.Cond.methodLink "HiddenCubeLaw" (129 : Nat) ({ cls := "HiddenCubeModel", name := "walls", desc := "(I)I" } : Jvm.MethodName)) ∈ lw_all := lw_g (lw_at lw_m8 62 rfl) rfl
theorem q1896 : (Jvm.Cond.methodLink "HiddenCubeLaw" (133 : Nat) ({ cls := "HiddenCubeModel", name := "wall", desc := "(II)I" } : Jvm.MethodName)) ∈ lw_all := lw_g (lw_at lw_m8 67 rfl) rfl
theorem q1900 : (Jvm.Cond.methodLink "HiddenCubeLaw" (157 : Nat) ({ cls := "HiddenCubeModel", name := "turnings", desc := "()I" } : Jvm.MethodName)) ∈ lw_all := lw_g (lw_at lw_m8 71 rfl) rfl
theorem q1920 : (Jvm.Cond.methodLink "HiddenCubeLaw" (161 : Nat) ({ cls := "HiddenCubeModel", name := "orbit", desc := "(I)I" } : Jvm.MethodName)) ∈ lw_all := lw_g (lw_at lw_m8 91 rfl) rfl
theorem q1924 : (Jvm.Cond.methodLink "HiddenCubeLaw" (165 : Nat) ({ cls := "HiddenCubeModel", name := "still", desc := "(I)I" } : Jvm.MethodName)) ∈ lw_all := lw_g (lw_at lw_m8 95 rfl) rfl
theorem q1928 : (Jvm.Cond.methodLink "HiddenCubeLaw" (170 : Nat) ({ cls := "HiddenCubeModel", name := "colours", desc := "(I)J" } : Jvm.MethodName)) ∈ lw_all := lw_g (lw_at lw_m8 99 rfl) rfl
theorem q1937 : (Jvm.Cond.methodLink "HiddenCubeLaw" (137 : Nat) ({ cls := "HiddenCubeModel", name := "rounds", desc := "()I" } : Jvm.MethodName)) ∈ lw_all := lw_g (lw_at lw_m8 108 rfl) rfl
theorem q1957 : (Jvm.Cond.methodLink "HiddenCubeLaw" (141 : Nat) ({ cls := "HiddenCubeModel", name := "round", desc := "(I)I" } : Jvm.MethodName)) ∈ lw_all := lw_g (lw_at lw_m8 128 rfl) rfl
theorem q1961 : (Jvm.Cond.methodLink "HiddenCubeLaw" (145 : Nat) ({ cls := "HiddenCubeModel", name := "by", desc := "(I)I" } : Jvm.MethodName)) ∈ lw_all := lw_g (lw_at lw_m8 132 rfl) rfl
theorem q1965 : (Jvm.Cond.methodLink "HiddenCubeLaw" (149 : Nat) ({ cls := "HiddenCubeModel", name := "even", desc := "()I" } : Jvm.MethodName)) ∈ lw_all := lw_g (lw_at lw_m8 136 rfl) rfl
theorem q1973 : (Jvm.Cond.methodLink "HiddenCubeLaw" (153 : Nat) ({ cls := "HiddenCubeModel", name := "unlike", desc := "()I" } : Jvm.MethodName)) ∈ lw_all := lw_g (lw_at lw_m8 144 rfl) rfl
theorem q1977 : (Jvm.Cond.methodLink "HiddenCubeLaw" (174 : Nat) ({ cls := "HiddenCubeModel", name := "bare", desc := "()I" } : Jvm.MethodName)) ∈ lw_all := lw_g (lw_at lw_m8 148 rfl) rfl
theorem q1989 : (Jvm.Cond.methodLink "HiddenCubeLaw" (178 : Nat) ({ cls := "HiddenCubeModel", name := "warden", desc := "(II)I" } : Jvm.MethodName)) ∈ lw_all := lw_g (lw_at lw_m8 160 rfl) rfl
theorem q1993 : (Jvm.Cond.methodLink "HiddenCubeLaw" (182 : Nat) ({ cls := "HiddenCubeModel", name := "fewest", desc := "(I)I" } : Jvm.MethodName)) ∈ lw_all := lw_g (lw_at lw_m8 164 rfl) rfl
theorem q2006 : (Jvm.Cond.methodLink "HiddenCubeLaw" (186 : Nat) ({ cls := "HiddenCubeModel", name := "perfect", desc := "()I" } : Jvm.MethodName)) ∈ lw_all := lw_g (lw_at lw_m8 177 rfl) rfl
theorem q2010 : (Jvm.Cond.methodLink "HiddenCubeLaw" (190 : Nat) ({ cls := "HiddenCubeModel", name := "more", desc := "()I" } : Jvm.MethodName)) ∈ lw_all := lw_g (lw_at lw_m8 181 rfl) rfl
theorem q2014 : (Jvm.Cond.methodLink "HiddenCubeLaw" (194 : Nat) ({ cls := "HiddenCubeModel", name := "code", desc := "(I)I" } : Jvm.MethodName)) ∈ lw_all := lw_g (lw_at lw_m8 185 rfl) rfl
theorem q2026 : (Jvm.Cond.methodLink "HiddenCubeLaw" (198 : Nat) ({ cls := "HiddenCubeModel", name := "heard", desc := "(II)I" } : Jvm.MethodName)) ∈ lw_all := lw_g (lw_at lw_m8 197 rfl) rfl
theorem q2034 : (Jvm.Cond.methodLink "HiddenCubeLaw" (202 : Nat) ({ cls := "HiddenCubeModel", name := "told", desc := "(II)I" } : Jvm.MethodName)) ∈ lw_all := lw_g (lw_at lw_m8 205 rfl) rfl
theorem q2038 : (Jvm.Cond.methodLink "HiddenCubeLaw" (206 : Nat) ({ cls := "HiddenCubeModel", name := "biggest", desc := "(I)I" } : Jvm.MethodName)) ∈ lw_all := lw_g (lw_at lw_m8 209 rfl) rfl
theorem q2046 : (Jvm.Cond.methodLink "HiddenCubeLaw" (210 : Nat) ({ cls := "HiddenCubeModel", name := "shadow", desc := "(II)I" } : Jvm.MethodName)) ∈ lw_all := lw_g (lw_at lw_m8 217 rfl) rfl
theorem q2050 : (Jvm.Cond.methodLink "HiddenCubeLaw" (214 : Nat) ({ cls := "HiddenCubeModel", name := "crossings", desc := "(I)I" } : Jvm.MethodName)) ∈ lw_all := lw_g (lw_at lw_m8 221 rfl) rfl
theorem q2058 : (Jvm.Cond.methodLink "HiddenCubeLaw" (218 : Nat) ({ cls := "HiddenCubeModel", name := "drawing", desc := "()I" } : Jvm.MethodName)) ∈ lw_all := lw_g (lw_at lw_m8 229 rfl) rfl
theorem q2066 : (Jvm.Cond.methodLink "HiddenCubeLaw" (222 : Nat) ({ cls := "HiddenCubeModel", name := "person", desc := "(I)I" } : Jvm.MethodName)) ∈ lw_all := lw_g (lw_at lw_m8 237 rfl) rfl
theorem q2074 : (Jvm.Cond.methodLink "HiddenCubeLaw" (226 : Nat) ({ cls := "HiddenCubeModel", name := "moves", desc := "(II)I" } : Jvm.MethodName)) ∈ lw_all := lw_g (lw_at lw_m9 5 rfl) rfl
theorem q2078 : (Jvm.Cond.methodLink "HiddenCubeLaw" (230 : Nat) ({ cls := "HiddenCubeModel", name := "met", desc := "(I)I" } : Jvm.MethodName)) ∈ lw_all := lw_g (lw_at lw_m9 9 rfl) rfl
theorem q2094 : (Jvm.Cond.methodLink "HiddenCubeLaw" (234 : Nat) ({ cls := "HiddenCubeModel", name := "sure", desc := "(II)I" } : Jvm.MethodName)) ∈ lw_all := lw_g (lw_at lw_m9 25 rfl) rfl
theorem q2098 : (Jvm.Cond.methodLink "HiddenCubeLaw" (238 : Nat) ({ cls := "HiddenCubeModel", name := "comes", desc := "(I)I" } : Jvm.MethodName)) ∈ lw_all := lw_g (lw_at lw_m9 29 rfl) rfl
theorem q2110 : (Jvm.Cond.methodLink "HiddenCubeLaw" (242 : Nat) ({ cls := "HiddenCubeModel", name := "post", desc := "(I)I" } : Jvm.MethodName)) ∈ lw_all := lw_g (lw_at lw_m9 41 rfl) rfl
theorem q2114 : (Jvm.Cond.methodLink "HiddenCubeLaw" (246 : Nat) ({ cls := "HiddenCubeModel", name := "at", desc := "(II)I" } : Jvm.MethodName)) ∈ lw_all := lw_g (lw_at lw_m9 45 rfl) rfl
theorem q2119 : (Jvm.Cond.methodLink "HiddenCubeLaw" (250 : Nat) ({ cls := "HiddenCubeModel", name := "clash", desc := "()I" } : Jvm.MethodName)) ∈ lw_all := lw_g (lw_at lw_m9 50 rfl) rfl
theorem q2123 : (Jvm.Cond.methodLink "HiddenCubeLaw" (254 : Nat) ({ cls := "HiddenCubeModel", name := "law", desc := "(I)I" } : Jvm.MethodName)) ∈ lw_all := lw_g (lw_at lw_m9 54 rfl) rfl
theorem q2127 : (Jvm.Cond.methodLink "HiddenCubeLaw" (258 : Nat) ({ cls := "HiddenCubeModel", name := "flood", desc := "(III)I" } : Jvm.MethodName)) ∈ lw_all := lw_g (lw_at lw_m9 58 rfl) rfl
theorem q2147 : (Jvm.Cond.methodLink "HiddenCubeLaw" (262 : Nat) ({ cls := "HiddenCubeModel", name := "day", desc := "(II)I" } : Jvm.MethodName)) ∈ lw_all := lw_g (lw_at lw_m9 78 rfl) rfl
theorem q2152 : (Jvm.Cond.methodLink "HiddenCubeLaw" (266 : Nat) ({ cls := "HiddenCubeModel", name := "chance", desc := "(IIIII)I" } : Jvm.MethodName)) ∈ lw_all := lw_g (lw_at lw_m9 83 rfl) rfl
theorem q2158 : (Jvm.Cond.methodLink "HiddenCubeLaw" (270 : Nat) ({ cls := "HiddenCubeModel", name := "count", desc := "(I)I" } : Jvm.MethodName)) ∈ lw_all := lw_g (lw_at lw_m9 89 rfl) rfl
theorem q2162 : (Jvm.Cond.methodLink "HiddenCubeLaw" (274 : Nat) ({ cls := "HiddenCubeModel", name := "keep", desc := "(I)I" } : Jvm.MethodName)) ∈ lw_all := lw_g (lw_at lw_m9 93 rfl) rfl
theorem q2166 : (Jvm.Cond.methodLink "HiddenCubeLaw" (278 : Nat) ({ cls := "HiddenCubeModel", name := "back", desc := "(I)I" } : Jvm.MethodName)) ∈ lw_all := lw_g (lw_at lw_m9 97 rfl) rfl
theorem q2170 : (Jvm.Cond.constantLong "HiddenCubeLaw" (283 : Nat) (4294967295 : Int64)) ∈ lw_all := lw_g (lw_at lw_m9 101 rfl) rfl
