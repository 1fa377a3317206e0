/-! the law's own entry -/
set_option maxRecDepth 100000
abbrev cL_law : ByteArray := code
def dkwL_law_70 : List UInt8 := [172]
abbrev dktL_law_70 : List UInt8 := dkwL_law_70 ++ []
def dkwL_law_69 : List UInt8 := [172, 167, 0, 16, 43, 182, 0, 202, 44, 182, 0, 206, 159, 0, 5, 3, 172, 132, 5, 5, 167, 249, 95, 4]
abbrev dktL_law_69 : List UInt8 := dkwL_law_69 ++ dktL_law_70
def dkwL_law_68 : List UInt8 := [153, 0, 25, 25, 4, 3, 49, 25, 4, 3, 49, 151, 153, 0, 11, 24, 7, 24, 7, 151, 154, 0, 5, 3]
abbrev dktL_law_68 : List UInt8 := dkwL_law_68 ++ dktL_law_69
def dkwL_law_67 : List UInt8 := [182, 0, 111, 21, 6, 159, 0, 5, 3, 172, 21, 6, 154, 0, 35, 25, 4, 3, 49, 24, 7, 151]
abbrev dktL_law_67 : List UInt8 := dkwL_law_67 ++ dktL_law_68
def dkwL_law_66 : List UInt8 := [182, 0, 197, 159, 0, 83, 3, 172, 43, 25, 4, 184, 0, 198, 54, 6, 44, 182, 0, 201, 57, 7, 44]
abbrev dktL_law_66 : List UInt8 := dkwL_law_66 ++ dktL_law_67
def dkwL_law_65 : List UInt8 := [24, 6, 151, 153, 0, 11, 24, 8, 24, 8, 151, 154, 0, 5, 3, 172, 167, 0, 94, 43, 182, 0, 194, 44]
abbrev dktL_law_65 : List UInt8 := dkwL_law_65 ++ dktL_law_66
def dkwL_law_64 : List UInt8 := [182, 0, 189, 141, 57, 6, 44, 182, 0, 193, 141, 57, 8, 24, 6, 24, 8, 151, 153, 0, 21, 24, 6]
abbrev dktL_law_64 : List UInt8 := dkwL_law_64 ++ dktL_law_65
def dkwL_law_63 : List UInt8 := [153, 0, 5, 3, 172, 167, 0, 151, 43, 182, 0, 184, 44, 182, 0, 188, 148, 153, 0, 139, 3, 172, 43]
abbrev dktL_law_63 : List UInt8 := dkwL_law_63 ++ dktL_law_64
def dkwL_law_62 : List UInt8 := [182, 0, 111, 21, 6, 159, 0, 5, 3, 172, 21, 6, 154, 0, 15, 45, 3, 47, 21, 7, 133, 148]
abbrev dktL_law_62 : List UInt8 := dkwL_law_62 ++ dktL_law_63
def dkwL_law_61 : List UInt8 := [184, 0, 181, 54, 6, 44, 42, 21, 5, 4, 96, 46, 42, 21, 5, 5, 96, 46, 182, 0, 183, 54, 7, 44]
abbrev dktL_law_61 : List UInt8 := dkwL_law_61 ++ dktL_law_62
def dkwL_law_60 : List UInt8 := [153, 0, 5, 3, 172, 167, 0, 219, 43, 42, 21, 5, 4, 96, 46, 42, 21, 5, 5, 96, 46, 45]
abbrev dktL_law_60 : List UInt8 := dkwL_law_60 ++ dktL_law_61
def dkwL_law_59 : List UInt8 := [159, 0, 5, 3, 172, 21, 6, 154, 0, 22, 45, 3, 47, 21, 7, 153, 0, 7, 10, 167, 0, 4, 9, 148]
abbrev dktL_law_59 : List UInt8 := dkwL_law_59 ++ dktL_law_60
def dkwL_law_58 : List UInt8 := [21, 5, 4, 96, 46, 42, 21, 5, 5, 96, 46, 182, 0, 180, 54, 7, 44, 182, 0, 111, 21, 6]
abbrev dktL_law_58 : List UInt8 := dkwL_law_58 ++ dktL_law_59
def dkwL_law_57 : List UInt8 := [167, 1, 38, 43, 42, 21, 5, 4, 96, 46, 42, 21, 5, 5, 96, 46, 45, 184, 0, 178, 54, 6, 44, 42]
abbrev dktL_law_57 : List UInt8 := dkwL_law_57 ++ dktL_law_58
def dkwL_law_56 : List UInt8 := [159, 0, 5, 3, 172, 21, 6, 154, 0, 15, 45, 3, 47, 21, 7, 133, 148, 153, 0, 5, 3, 172]
abbrev dktL_law_56 : List UInt8 := dkwL_law_56 ++ dktL_law_57
def dkwL_law_55 : List UInt8 := [21, 5, 4, 96, 46, 42, 21, 5, 5, 96, 46, 182, 0, 177, 54, 7, 44, 182, 0, 111, 21, 6]
abbrev dktL_law_55 : List UInt8 := dkwL_law_55 ++ dktL_law_56
def dkwL_law_54 : List UInt8 := [167, 1, 106, 43, 42, 21, 5, 4, 96, 46, 42, 21, 5, 5, 96, 46, 45, 184, 0, 175, 54, 6, 44, 42]
abbrev dktL_law_54 : List UInt8 := dkwL_law_54 ++ dktL_law_55
def dkwL_law_53 : List UInt8 := [159, 0, 5, 3, 172, 21, 6, 154, 0, 15, 45, 3, 47, 21, 7, 133, 148, 153, 0, 5, 3, 172]
abbrev dktL_law_53 : List UInt8 := dkwL_law_53 ++ dktL_law_54
def dkwL_law_52 : List UInt8 := [167, 1, 150, 43, 45, 184, 0, 172, 54, 6, 44, 182, 0, 174, 54, 7, 44, 182, 0, 111, 21, 6]
abbrev dktL_law_52 : List UInt8 := dkwL_law_52 ++ dktL_law_53
def dkwL_law_51 : List UInt8 := [159, 0, 5, 3, 172, 21, 6, 154, 0, 15, 45, 3, 47, 21, 7, 133, 148, 153, 0, 5, 3, 172]
abbrev dktL_law_51 : List UInt8 := dkwL_law_51 ++ dktL_law_52
def dkwL_law_50 : List UInt8 := [21, 5, 4, 96, 46, 42, 21, 5, 5, 96, 46, 182, 0, 171, 54, 7, 44, 182, 0, 111, 21, 6]
abbrev dktL_law_50 : List UInt8 := dkwL_law_50 ++ dktL_law_51
def dkwL_law_49 : List UInt8 := [167, 1, 218, 43, 42, 21, 5, 4, 96, 46, 42, 21, 5, 5, 96, 46, 45, 184, 0, 169, 54, 6, 44, 42]
abbrev dktL_law_49 : List UInt8 := dkwL_law_49 ++ dktL_law_50
def dkwL_law_48 : List UInt8 := [21, 6, 159, 0, 5, 3, 172, 21, 6, 154, 0, 15, 45, 3, 47, 21, 7, 133, 148, 153, 0, 5, 3, 172]
abbrev dktL_law_48 : List UInt8 := dkwL_law_48 ++ dktL_law_49
def dkwL_law_47 : List UInt8 := [46, 45, 184, 0, 166, 54, 6, 44, 42, 21, 5, 4, 96, 46, 182, 0, 168, 54, 7, 44, 182, 0, 111]
abbrev dktL_law_47 : List UInt8 := dkwL_law_47 ++ dktL_law_48
def dkwL_law_46 : List UInt8 := [154, 0, 15, 45, 3, 47, 21, 7, 133, 148, 153, 0, 5, 3, 172, 167, 2, 18, 43, 42, 21, 5, 4, 96]
abbrev dktL_law_46 : List UInt8 := dkwL_law_46 ++ dktL_law_47
def dkwL_law_45 : List UInt8 := [21, 5, 4, 96, 46, 182, 0, 165, 54, 7, 44, 182, 0, 111, 21, 6, 159, 0, 5, 3, 172, 21, 6]
abbrev dktL_law_45 : List UInt8 := dkwL_law_45 ++ dktL_law_46
def dkwL_law_44 : List UInt8 := [153, 0, 5, 3, 172, 167, 2, 74, 43, 42, 21, 5, 4, 96, 46, 45, 184, 0, 163, 54, 6, 44, 42]
abbrev dktL_law_44 : List UInt8 := dkwL_law_44 ++ dktL_law_45
def dkwL_law_43 : List UInt8 := [182, 0, 111, 21, 6, 159, 0, 5, 3, 172, 21, 6, 154, 0, 15, 45, 3, 47, 21, 7, 133, 148]
abbrev dktL_law_43 : List UInt8 := dkwL_law_43 ++ dktL_law_44
def dkwL_law_42 : List UInt8 := [21, 5, 4, 96, 46, 45, 184, 0, 160, 54, 6, 44, 42, 21, 5, 4, 96, 46, 182, 0, 162, 54, 7, 44]
abbrev dktL_law_42 : List UInt8 := dkwL_law_42 ++ dktL_law_43
def dkwL_law_41 : List UInt8 := [172, 21, 6, 154, 0, 15, 45, 3, 47, 21, 7, 133, 148, 153, 0, 5, 3, 172, 167, 2, 130, 43, 42]
abbrev dktL_law_41 : List UInt8 := dkwL_law_41 ++ dktL_law_42
def dkwL_law_40 : List UInt8 := [54, 6, 44, 42, 21, 5, 4, 96, 46, 182, 0, 159, 54, 7, 44, 182, 0, 111, 21, 6, 159, 0, 5, 3]
abbrev dktL_law_40 : List UInt8 := dkwL_law_40 ++ dktL_law_41
def dkwL_law_39 : List UInt8 := [21, 7, 133, 148, 153, 0, 5, 3, 172, 167, 2, 186, 43, 42, 21, 5, 4, 96, 46, 45, 184, 0, 157]
abbrev dktL_law_39 : List UInt8 := dkwL_law_39 ++ dktL_law_40
def dkwL_law_38 : List UInt8 := [182, 0, 156, 54, 7, 44, 182, 0, 111, 21, 6, 159, 0, 5, 3, 172, 21, 6, 154, 0, 15, 45, 3, 47]
abbrev dktL_law_38 : List UInt8 := dkwL_law_38 ++ dktL_law_39
def dkwL_law_37 : List UInt8 := [167, 2, 242, 43, 42, 21, 5, 4, 96, 46, 45, 184, 0, 154, 54, 6, 44, 42, 21, 5, 4, 96, 46]
abbrev dktL_law_37 : List UInt8 := dkwL_law_37 ++ dktL_law_38
def dkwL_law_36 : List UInt8 := [159, 0, 5, 3, 172, 21, 6, 154, 0, 15, 45, 3, 47, 21, 7, 133, 148, 153, 0, 5, 3, 172]
abbrev dktL_law_36 : List UInt8 := dkwL_law_36 ++ dktL_law_37
def dkwL_law_35 : List UInt8 := [184, 0, 151, 54, 6, 44, 42, 21, 5, 4, 96, 46, 182, 0, 153, 54, 7, 44, 182, 0, 111, 21, 6]
abbrev dktL_law_35 : List UInt8 := dkwL_law_35 ++ dktL_law_36
def dkwL_law_34 : List UInt8 := [3, 47, 21, 7, 133, 148, 153, 0, 5, 3, 172, 167, 3, 42, 43, 42, 21, 5, 4, 96, 46, 45]
abbrev dktL_law_34 : List UInt8 := dkwL_law_34 ++ dktL_law_35
def dkwL_law_33 : List UInt8 := [96, 46, 182, 0, 150, 54, 7, 44, 182, 0, 111, 21, 6, 159, 0, 5, 3, 172, 21, 6, 154, 0, 15, 45]
abbrev dktL_law_33 : List UInt8 := dkwL_law_33 ++ dktL_law_34
def dkwL_law_32 : List UInt8 := [46, 42, 21, 5, 5, 96, 46, 45, 184, 0, 148, 54, 6, 44, 42, 21, 5, 4, 96, 46, 42, 21, 5, 5]
abbrev dktL_law_32 : List UInt8 := dkwL_law_32 ++ dktL_law_33
def dkwL_law_31 : List UInt8 := [154, 0, 15, 45, 3, 47, 21, 7, 133, 148, 153, 0, 5, 3, 172, 167, 3, 110, 43, 42, 21, 5, 4, 96]
abbrev dktL_law_31 : List UInt8 := dkwL_law_31 ++ dktL_law_32
def dkwL_law_30 : List UInt8 := [21, 5, 4, 96, 46, 182, 0, 147, 54, 7, 44, 182, 0, 111, 21, 6, 159, 0, 5, 3, 172, 21, 6]
abbrev dktL_law_30 : List UInt8 := dkwL_law_30 ++ dktL_law_31
def dkwL_law_29 : List UInt8 := [153, 0, 5, 3, 172, 167, 3, 166, 43, 42, 21, 5, 4, 96, 46, 45, 184, 0, 145, 54, 6, 44, 42]
abbrev dktL_law_29 : List UInt8 := dkwL_law_29 ++ dktL_law_30
def dkwL_law_28 : List UInt8 := [182, 0, 111, 21, 6, 159, 0, 5, 3, 172, 21, 6, 154, 0, 15, 45, 3, 47, 21, 7, 133, 148]
abbrev dktL_law_28 : List UInt8 := dkwL_law_28 ++ dktL_law_29
def dkwL_law_27 : List UInt8 := [21, 5, 4, 96, 46, 45, 184, 0, 142, 54, 6, 44, 42, 21, 5, 4, 96, 46, 182, 0, 144, 54, 7, 44]
abbrev dktL_law_27 : List UInt8 := dkwL_law_27 ++ dktL_law_28
def dkwL_law_26 : List UInt8 := [172, 21, 6, 154, 0, 15, 45, 3, 47, 21, 7, 133, 148, 153, 0, 5, 3, 172, 167, 3, 222, 43, 42]
abbrev dktL_law_26 : List UInt8 := dkwL_law_26 ++ dktL_law_27
def dkwL_law_25 : List UInt8 := [54, 6, 44, 42, 21, 5, 4, 96, 46, 182, 0, 141, 54, 7, 44, 182, 0, 111, 21, 6, 159, 0, 5, 3]
abbrev dktL_law_25 : List UInt8 := dkwL_law_25 ++ dktL_law_26
def dkwL_law_24 : List UInt8 := [167, 0, 4, 9, 148, 153, 0, 5, 3, 172, 167, 4, 22, 43, 42, 21, 5, 4, 96, 46, 45, 184, 0, 139]
abbrev dktL_law_24 : List UInt8 := dkwL_law_24 ++ dktL_law_25
def dkwL_law_23 : List UInt8 := [182, 0, 111, 21, 6, 159, 0, 5, 3, 172, 21, 6, 154, 0, 22, 45, 3, 47, 21, 7, 153, 0, 7, 10]
abbrev dktL_law_23 : List UInt8 := dkwL_law_23 ++ dktL_law_24
def dkwL_law_22 : List UInt8 := [21, 5, 4, 96, 46, 45, 184, 0, 136, 54, 6, 44, 42, 21, 5, 4, 96, 46, 182, 0, 138, 54, 7, 44]
abbrev dktL_law_22 : List UInt8 := dkwL_law_22 ++ dktL_law_23
def dkwL_law_21 : List UInt8 := [172, 21, 6, 154, 0, 15, 45, 3, 47, 21, 7, 133, 148, 153, 0, 5, 3, 172, 167, 4, 85, 43, 42]
abbrev dktL_law_21 : List UInt8 := dkwL_law_21 ++ dktL_law_22
def dkwL_law_20 : List UInt8 := [54, 6, 44, 42, 21, 5, 4, 96, 46, 182, 0, 135, 54, 7, 44, 182, 0, 111, 21, 6, 159, 0, 5, 3]
abbrev dktL_law_20 : List UInt8 := dkwL_law_20 ++ dktL_law_21
def dkwL_law_19 : List UInt8 := [21, 7, 133, 148, 153, 0, 5, 3, 172, 167, 4, 141, 43, 42, 21, 5, 4, 96, 46, 45, 184, 0, 132]
abbrev dktL_law_19 : List UInt8 := dkwL_law_19 ++ dktL_law_20
def dkwL_law_18 : List UInt8 := [182, 0, 131, 54, 7, 44, 182, 0, 111, 21, 6, 159, 0, 5, 3, 172, 21, 6, 154, 0, 15, 45, 3, 47]
abbrev dktL_law_18 : List UInt8 := dkwL_law_18 ++ dktL_law_19
def dkwL_law_17 : List UInt8 := [21, 5, 5, 96, 46, 45, 184, 0, 129, 54, 6, 44, 42, 21, 5, 4, 96, 46, 42, 21, 5, 5, 96, 46]
abbrev dktL_law_17 : List UInt8 := dkwL_law_17 ++ dktL_law_18
def dkwL_law_16 : List UInt8 := [45, 3, 47, 21, 7, 133, 148, 153, 0, 5, 3, 172, 167, 4, 209, 43, 42, 21, 5, 4, 96, 46, 42]
abbrev dktL_law_16 : List UInt8 := dkwL_law_16 ++ dktL_law_17
def dkwL_law_15 : List UInt8 := [54, 6, 44, 182, 0, 128, 54, 7, 44, 182, 0, 111, 21, 6, 159, 0, 5, 3, 172, 21, 6, 154, 0, 15]
abbrev dktL_law_15 : List UInt8 := dkwL_law_15 ++ dktL_law_16
def dkwL_law_14 : List UInt8 := [154, 0, 15, 45, 3, 47, 21, 7, 133, 148, 153, 0, 5, 3, 172, 167, 4, 253, 43, 45, 184, 0, 126]
abbrev dktL_law_14 : List UInt8 := dkwL_law_14 ++ dktL_law_15
def dkwL_law_13 : List UInt8 := [5, 96, 46, 146, 182, 0, 125, 54, 7, 44, 182, 0, 111, 21, 6, 159, 0, 5, 3, 172, 21, 6]
abbrev dktL_law_13 : List UInt8 := dkwL_law_13 ++ dktL_law_14
def dkwL_law_12 : List UInt8 := [46, 42, 21, 5, 5, 96, 46, 146, 45, 184, 0, 122, 54, 6, 44, 42, 21, 5, 4, 96, 46, 42, 21, 5]
abbrev dktL_law_12 : List UInt8 := dkwL_law_12 ++ dktL_law_13
def dkwL_law_11 : List UInt8 := [154, 0, 15, 45, 3, 47, 21, 7, 133, 148, 153, 0, 5, 3, 172, 167, 5, 67, 43, 42, 21, 5, 4, 96]
abbrev dktL_law_11 : List UInt8 := dkwL_law_11 ++ dktL_law_12
def dkwL_law_10 : List UInt8 := [21, 5, 5, 96, 46, 182, 0, 121, 54, 7, 44, 182, 0, 111, 21, 6, 159, 0, 5, 3, 172, 21, 6]
abbrev dktL_law_10 : List UInt8 := dkwL_law_10 ++ dktL_law_11
def dkwL_law_9 : List UInt8 := [4, 96, 46, 42, 21, 5, 5, 96, 46, 45, 184, 0, 118, 54, 6, 44, 42, 21, 5, 4, 96, 46, 42]
abbrev dktL_law_9 : List UInt8 := dkwL_law_9 ++ dktL_law_10
def dkwL_law_8 : List UInt8 := [21, 6, 154, 0, 15, 45, 3, 47, 21, 7, 133, 148, 153, 0, 5, 3, 172, 167, 5, 135, 43, 42, 21, 5]
abbrev dktL_law_8 : List UInt8 := dkwL_law_8 ++ dktL_law_9
def dkwL_law_7 : List UInt8 := [146, 42, 21, 5, 7, 96, 46, 182, 0, 117, 54, 7, 44, 182, 0, 111, 21, 6, 159, 0, 5, 3, 172]
abbrev dktL_law_7 : List UInt8 := dkwL_law_7 ++ dktL_law_8
def dkwL_law_6 : List UInt8 := [184, 0, 114, 54, 6, 44, 42, 21, 5, 4, 96, 46, 42, 21, 5, 5, 96, 46, 42, 21, 5, 6, 96, 46]
abbrev dktL_law_6 : List UInt8 := dkwL_law_6 ++ dktL_law_7
def dkwL_law_5 : List UInt8 := [4, 96, 46, 42, 21, 5, 5, 96, 46, 42, 21, 5, 6, 96, 46, 146, 42, 21, 5, 7, 96, 46, 45]
abbrev dktL_law_5 : List UInt8 := dkwL_law_5 ++ dktL_law_6
def dkwL_law_4 : List UInt8 := [21, 6, 154, 0, 15, 45, 3, 47, 21, 7, 133, 148, 153, 0, 5, 3, 172, 167, 5, 229, 43, 42, 21, 5]
abbrev dktL_law_4 : List UInt8 := dkwL_law_4 ++ dktL_law_5
def dkwL_law_3 : List UInt8 := [43, 45, 184, 0, 105, 54, 6, 44, 182, 0, 110, 54, 7, 44, 182, 0, 111, 21, 6, 159, 0, 5, 3, 172]
abbrev dktL_law_3 : List UInt8 := dkwL_law_3 ++ dktL_law_4
def dkwL_law_2 : List UInt8 := [170, 0, 0, 0, 0, 0, 6, 142, 0, 0, 0, 0, 0, 0, 0, 27, 0, 0, 0, 128, 0, 0, 0, 172, 0, 0, 1, 10, 0, 0, 1, 78, 0, 0, 1, 148, 0, 0, 1, 192, 0, 0, 2, 4, 0, 0, 2, 60, 0, 0, 2, 123, 0, 0, 2, 179, 0, 0, 2, 235, 0, 0, 3, 35, 0, 0, 3, 103, 0, 0, 3, 159, 0, 0, 3, 215, 0, 0, 4, 15, 0, 0, 4, 71, 0, 0, 4, 127, 0, 0, 4, 183, 0, 0, 4, 251, 0, 0, 5, 39, 0, 0, 5, 107, 0, 0, 5, 182, 0, 0, 5, 250, 0, 0, 6, 8, 0, 0, 6, 51, 0, 0, 6, 64, 0, 0, 6, 129]
abbrev dktL_law_2 : List UInt8 := dkwL_law_2 ++ dktL_law_3
def dkwL_law_1 : List UInt8 := [58, 4, 3, 54, 5, 21, 5, 42, 190, 8, 100, 163, 6, 158, 42, 21, 5, 46, 16, 31, 126]
abbrev dktL_law_1 : List UInt8 := dkwL_law_1 ++ dktL_law_2
def dkwL_law_0 : List UInt8 := [187, 0, 8, 89, 183, 0, 101, 76, 187, 0, 102, 89, 183, 0, 104, 77, 4, 188, 11, 78, 4, 188, 7]
abbrev dktL_law_0 : List UInt8 := dkwL_law_0 ++ dktL_law_1
theorem dksL_law_0 : cL_law.data.toList.drop 0 = dktL_law_0 := by decide +kernel
theorem dksL_law_1 : cL_law.data.toList.drop 23 = dktL_law_1 := dk_seg dksL_law_0 23 rfl rfl
theorem dksL_law_2 : cL_law.data.toList.drop 44 = dktL_law_2 := dk_seg dksL_law_1 21 rfl rfl
theorem dksL_law_3 : cL_law.data.toList.drop 172 = dktL_law_3 := dk_seg dksL_law_2 128 rfl rfl
theorem dksL_law_4 : cL_law.data.toList.drop 196 = dktL_law_4 := dk_seg dksL_law_3 24 rfl rfl
theorem dksL_law_5 : cL_law.data.toList.drop 220 = dktL_law_5 := dk_seg dksL_law_4 24 rfl rfl
theorem dksL_law_6 : cL_law.data.toList.drop 243 = dktL_law_6 := dk_seg dksL_law_5 23 rfl rfl
theorem dksL_law_7 : cL_law.data.toList.drop 267 = dktL_law_7 := dk_seg dksL_law_6 24 rfl rfl
theorem dksL_law_8 : cL_law.data.toList.drop 290 = dktL_law_8 := dk_seg dksL_law_7 23 rfl rfl
theorem dksL_law_9 : cL_law.data.toList.drop 314 = dktL_law_9 := dk_seg dksL_law_8 24 rfl rfl
theorem dksL_law_10 : cL_law.data.toList.drop 337 = dktL_law_10 := dk_seg dksL_law_9 23 rfl rfl
theorem dksL_law_11 : cL_law.data.toList.drop 360 = dktL_law_11 := dk_seg dksL_law_10 23 rfl rfl
theorem dksL_law_12 : cL_law.data.toList.drop 384 = dktL_law_12 := dk_seg dksL_law_11 24 rfl rfl
theorem dksL_law_13 : cL_law.data.toList.drop 408 = dktL_law_13 := dk_seg dksL_law_12 24 rfl rfl
theorem dksL_law_14 : cL_law.data.toList.drop 430 = dktL_law_14 := dk_seg dksL_law_13 22 rfl rfl
theorem dksL_law_15 : cL_law.data.toList.drop 453 = dktL_law_15 := dk_seg dksL_law_14 23 rfl rfl
theorem dksL_law_16 : cL_law.data.toList.drop 477 = dktL_law_16 := dk_seg dksL_law_15 24 rfl rfl
theorem dksL_law_17 : cL_law.data.toList.drop 500 = dktL_law_17 := dk_seg dksL_law_16 23 rfl rfl
theorem dksL_law_18 : cL_law.data.toList.drop 524 = dktL_law_18 := dk_seg dksL_law_17 24 rfl rfl
theorem dksL_law_19 : cL_law.data.toList.drop 548 = dktL_law_19 := dk_seg dksL_law_18 24 rfl rfl
theorem dksL_law_20 : cL_law.data.toList.drop 571 = dktL_law_20 := dk_seg dksL_law_19 23 rfl rfl
theorem dksL_law_21 : cL_law.data.toList.drop 595 = dktL_law_21 := dk_seg dksL_law_20 24 rfl rfl
theorem dksL_law_22 : cL_law.data.toList.drop 618 = dktL_law_22 := dk_seg dksL_law_21 23 rfl rfl
theorem dksL_law_23 : cL_law.data.toList.drop 642 = dktL_law_23 := dk_seg dksL_law_22 24 rfl rfl
theorem dksL_law_24 : cL_law.data.toList.drop 666 = dktL_law_24 := dk_seg dksL_law_23 24 rfl rfl
theorem dksL_law_25 : cL_law.data.toList.drop 690 = dktL_law_25 := dk_seg dksL_law_24 24 rfl rfl
theorem dksL_law_26 : cL_law.data.toList.drop 714 = dktL_law_26 := dk_seg dksL_law_25 24 rfl rfl
theorem dksL_law_27 : cL_law.data.toList.drop 737 = dktL_law_27 := dk_seg dksL_law_26 23 rfl rfl
theorem dksL_law_28 : cL_law.data.toList.drop 761 = dktL_law_28 := dk_seg dksL_law_27 24 rfl rfl
theorem dksL_law_29 : cL_law.data.toList.drop 783 = dktL_law_29 := dk_seg dksL_law_28 22 rfl rfl
theorem dksL_law_30 : cL_law.data.toList.drop 806 = dktL_law_30 := dk_seg dksL_law_29 23 rfl rfl
theorem dksL_law_31 : cL_law.data.toList.drop 829 = dktL_law_31 := dk_seg dksL_law_30 23 rfl rfl
theorem dksL_law_32 : cL_law.data.toList.drop 853 = dktL_law_32 := dk_seg dksL_law_31 24 rfl rfl
theorem dksL_law_33 : cL_law.data.toList.drop 877 = dktL_law_33 := dk_seg dksL_law_32 24 rfl rfl
theorem dksL_law_34 : cL_law.data.toList.drop 901 = dktL_law_34 := dk_seg dksL_law_33 24 rfl rfl
theorem dksL_law_35 : cL_law.data.toList.drop 923 = dktL_law_35 := dk_seg dksL_law_34 22 rfl rfl
theorem dksL_law_36 : cL_law.data.toList.drop 946 = dktL_law_36 := dk_seg dksL_law_35 23 rfl rfl
theorem dksL_law_37 : cL_law.data.toList.drop 968 = dktL_law_37 := dk_seg dksL_law_36 22 rfl rfl
theorem dksL_law_38 : cL_law.data.toList.drop 991 = dktL_law_38 := dk_seg dksL_law_37 23 rfl rfl
theorem dksL_law_39 : cL_law.data.toList.drop 1015 = dktL_law_39 := dk_seg dksL_law_38 24 rfl rfl
theorem dksL_law_40 : cL_law.data.toList.drop 1038 = dktL_law_40 := dk_seg dksL_law_39 23 rfl rfl
theorem dksL_law_41 : cL_law.data.toList.drop 1062 = dktL_law_41 := dk_seg dksL_law_40 24 rfl rfl
theorem dksL_law_42 : cL_law.data.toList.drop 1085 = dktL_law_42 := dk_seg dksL_law_41 23 rfl rfl
theorem dksL_law_43 : cL_law.data.toList.drop 1109 = dktL_law_43 := dk_seg dksL_law_42 24 rfl rfl
theorem dksL_law_44 : cL_law.data.toList.drop 1131 = dktL_law_44 := dk_seg dksL_law_43 22 rfl rfl
theorem dksL_law_45 : cL_law.data.toList.drop 1154 = dktL_law_45 := dk_seg dksL_law_44 23 rfl rfl
theorem dksL_law_46 : cL_law.data.toList.drop 1177 = dktL_law_46 := dk_seg dksL_law_45 23 rfl rfl
theorem dksL_law_47 : cL_law.data.toList.drop 1201 = dktL_law_47 := dk_seg dksL_law_46 24 rfl rfl
theorem dksL_law_48 : cL_law.data.toList.drop 1224 = dktL_law_48 := dk_seg dksL_law_47 23 rfl rfl
theorem dksL_law_49 : cL_law.data.toList.drop 1248 = dktL_law_49 := dk_seg dksL_law_48 24 rfl rfl
theorem dksL_law_50 : cL_law.data.toList.drop 1272 = dktL_law_50 := dk_seg dksL_law_49 24 rfl rfl
theorem dksL_law_51 : cL_law.data.toList.drop 1294 = dktL_law_51 := dk_seg dksL_law_50 22 rfl rfl
theorem dksL_law_52 : cL_law.data.toList.drop 1316 = dktL_law_52 := dk_seg dksL_law_51 22 rfl rfl
theorem dksL_law_53 : cL_law.data.toList.drop 1338 = dktL_law_53 := dk_seg dksL_law_52 22 rfl rfl
theorem dksL_law_54 : cL_law.data.toList.drop 1360 = dktL_law_54 := dk_seg dksL_law_53 22 rfl rfl
theorem dksL_law_55 : cL_law.data.toList.drop 1384 = dktL_law_55 := dk_seg dksL_law_54 24 rfl rfl
theorem dksL_law_56 : cL_law.data.toList.drop 1406 = dktL_law_56 := dk_seg dksL_law_55 22 rfl rfl
theorem dksL_law_57 : cL_law.data.toList.drop 1428 = dktL_law_57 := dk_seg dksL_law_56 22 rfl rfl
theorem dksL_law_58 : cL_law.data.toList.drop 1452 = dktL_law_58 := dk_seg dksL_law_57 24 rfl rfl
theorem dksL_law_59 : cL_law.data.toList.drop 1474 = dktL_law_59 := dk_seg dksL_law_58 22 rfl rfl
theorem dksL_law_60 : cL_law.data.toList.drop 1498 = dktL_law_60 := dk_seg dksL_law_59 24 rfl rfl
theorem dksL_law_61 : cL_law.data.toList.drop 1520 = dktL_law_61 := dk_seg dksL_law_60 22 rfl rfl
theorem dksL_law_62 : cL_law.data.toList.drop 1544 = dktL_law_62 := dk_seg dksL_law_61 24 rfl rfl
theorem dksL_law_63 : cL_law.data.toList.drop 1566 = dktL_law_63 := dk_seg dksL_law_62 22 rfl rfl
theorem dksL_law_64 : cL_law.data.toList.drop 1589 = dktL_law_64 := dk_seg dksL_law_63 23 rfl rfl
theorem dksL_law_65 : cL_law.data.toList.drop 1612 = dktL_law_65 := dk_seg dksL_law_64 23 rfl rfl
theorem dksL_law_66 : cL_law.data.toList.drop 1636 = dktL_law_66 := dk_seg dksL_law_65 24 rfl rfl
theorem dksL_law_67 : cL_law.data.toList.drop 1659 = dktL_law_67 := dk_seg dksL_law_66 23 rfl rfl
theorem dksL_law_68 : cL_law.data.toList.drop 1681 = dktL_law_68 := dk_seg dksL_law_67 22 rfl rfl
theorem dksL_law_69 : cL_law.data.toList.drop 1705 = dktL_law_69 := dk_seg dksL_law_68 24 rfl rfl
theorem dksL_law_70 : cL_law.data.toList.drop 1729 = dktL_law_70 := dk_seg dksL_law_69 24 rfl rfl
theorem dL_law_0 : decode cL_law 0 = .ok (.new 8, 3) := dk_187 0 8 (dk_at dksL_law_0 0 rfl rfl)
theorem dL_law_3 : decode cL_law 3 = .ok (.dup, 1) := dk_89 (dk_at dksL_law_0 3 rfl rfl)
theorem dL_law_4 : decode cL_law 4 = .ok (.invokespecial 101, 3) := dk_183 0 101 (dk_at dksL_law_0 4 rfl rfl)
theorem dL_law_7 : decode cL_law 7 = .ok (.astore_n 1, 1) := dk_76 (dk_at dksL_law_0 7 rfl rfl)
theorem dL_law_8 : decode cL_law 8 = .ok (.new 102, 3) := dk_187 0 102 (dk_at dksL_law_0 8 rfl rfl)
theorem dL_law_11 : decode cL_law 11 = .ok (.dup, 1) := dk_89 (dk_at dksL_law_0 11 rfl rfl)
theorem dL_law_12 : decode cL_law 12 = .ok (.invokespecial 104, 3) := dk_183 0 104 (dk_at dksL_law_0 12 rfl rfl)
theorem dL_law_15 : decode cL_law 15 = .ok (.astore_n 2, 1) := dk_77 (dk_at dksL_law_0 15 rfl rfl)
theorem dL_law_16 : decode cL_law 16 = .ok (.iconst 1, 1) := dk_4 (dk_at dksL_law_0 16 rfl rfl)
theorem dL_law_17 : decode cL_law 17 = .ok (.newarray .long, 2) := dk_188_11 (dk_at dksL_law_0 17 rfl rfl)
theorem dL_law_19 : decode cL_law 19 = .ok (.astore_n 3, 1) := dk_78 (dk_at dksL_law_0 19 rfl rfl)
theorem dL_law_20 : decode cL_law 20 = .ok (.iconst 1, 1) := dk_4 (dk_at dksL_law_0 20 rfl rfl)
theorem dL_law_21 : decode cL_law 21 = .ok (.newarray .double, 2) := dk_188_7 (dk_at dksL_law_0 21 rfl rfl)
theorem dL_law_23 : decode cL_law 23 = .ok (.astore 4, 2) := dk_58 4 (dk_at dksL_law_1 0 rfl rfl)
theorem dL_law_25 : decode cL_law 25 = .ok (.iconst 0, 1) := dk_3 (dk_at dksL_law_1 2 rfl rfl)
theorem dL_law_26 : decode cL_law 26 = .ok (.istore 5, 2) := dk_54 5 (dk_at dksL_law_1 3 rfl rfl)
theorem dL_law_28 : decode cL_law 28 = .ok (.iload 5, 2) := dk_21 5 (dk_at dksL_law_1 5 rfl rfl)
theorem dL_law_30 : decode cL_law 30 = .ok (.aload_n 0, 1) := dk_42 (dk_at dksL_law_1 7 rfl rfl)
theorem dL_law_31 : decode cL_law 31 = .ok (.arraylength, 1) := dk_190 (dk_at dksL_law_1 8 rfl rfl)
theorem dL_law_32 : decode cL_law 32 = .ok (.iconst 5, 1) := dk_8 (dk_at dksL_law_1 9 rfl rfl)
theorem dL_law_33 : decode cL_law 33 = .ok (.isub, 1) := dk_100 (dk_at dksL_law_1 10 rfl rfl)
theorem dL_law_34 : decode cL_law 34 = .ok (.if_icmp .gt 1694, 3) := dk_163 6 158 (dk_at dksL_law_1 11 rfl rfl)
theorem dL_law_37 : decode cL_law 37 = .ok (.aload_n 0, 1) := dk_42 (dk_at dksL_law_1 14 rfl rfl)
theorem dL_law_38 : decode cL_law 38 = .ok (.iload 5, 2) := dk_21 5 (dk_at dksL_law_1 15 rfl rfl)
theorem dL_law_40 : decode cL_law 40 = .ok (.iaload, 1) := dk_46 (dk_at dksL_law_1 17 rfl rfl)
theorem dL_law_41 : decode cL_law 41 = .ok (.bipush 31, 2) := dk_16 31 (dk_at dksL_law_1 18 rfl rfl)
theorem dL_law_43 : decode cL_law 43 = .ok (.iand, 1) := dk_126 (dk_at dksL_law_1 20 rfl rfl)
theorem dL_law_44 : decode cL_law 44 = .ok (.tableswitch 1678 0 27 #[128, 172, 266, 334, 404, 448, 516, 572, 635, 691, 747, 803, 871, 927, 983, 1039, 1095, 1151, 1207, 1275, 1319, 1387, 1462, 1530, 1544, 1587, 1600, 1665], 128) := by decide +kernel
theorem dL_law_172 : decode cL_law 172 = .ok (.aload_n 1, 1) := dk_43 (dk_at dksL_law_3 0 rfl rfl)
theorem dL_law_173 : decode cL_law 173 = .ok (.aload_n 3, 1) := dk_45 (dk_at dksL_law_3 1 rfl rfl)
theorem dL_law_174 : decode cL_law 174 = .ok (.invokestatic 105, 3) := dk_184 0 105 (dk_at dksL_law_3 2 rfl rfl)
theorem dL_law_177 : decode cL_law 177 = .ok (.istore 6, 2) := dk_54 6 (dk_at dksL_law_3 5 rfl rfl)
theorem dL_law_179 : decode cL_law 179 = .ok (.aload_n 2, 1) := dk_44 (dk_at dksL_law_3 7 rfl rfl)
theorem dL_law_180 : decode cL_law 180 = .ok (.invokevirtual 110, 3) := dk_182 0 110 (dk_at dksL_law_3 8 rfl rfl)
theorem dL_law_183 : decode cL_law 183 = .ok (.istore 7, 2) := dk_54 7 (dk_at dksL_law_3 11 rfl rfl)
theorem dL_law_185 : decode cL_law 185 = .ok (.aload_n 2, 1) := dk_44 (dk_at dksL_law_3 13 rfl rfl)
theorem dL_law_186 : decode cL_law 186 = .ok (.invokevirtual 111, 3) := dk_182 0 111 (dk_at dksL_law_3 14 rfl rfl)
theorem dL_law_189 : decode cL_law 189 = .ok (.iload 6, 2) := dk_21 6 (dk_at dksL_law_3 17 rfl rfl)
theorem dL_law_191 : decode cL_law 191 = .ok (.if_icmp .eq 5, 3) := dk_159 0 5 (dk_at dksL_law_3 19 rfl rfl)
theorem dL_law_194 : decode cL_law 194 = .ok (.iconst 0, 1) := dk_3 (dk_at dksL_law_3 22 rfl rfl)
theorem dL_law_195 : decode cL_law 195 = .ok (.ireturn, 1) := dk_172 (dk_at dksL_law_3 23 rfl rfl)
theorem dL_law_196 : decode cL_law 196 = .ok (.iload 6, 2) := dk_21 6 (dk_at dksL_law_4 0 rfl rfl)
theorem dL_law_198 : decode cL_law 198 = .ok (.ifCond .ne 15, 3) := dk_154 0 15 (dk_at dksL_law_4 2 rfl rfl)
theorem dL_law_201 : decode cL_law 201 = .ok (.aload_n 3, 1) := dk_45 (dk_at dksL_law_4 5 rfl rfl)
theorem dL_law_202 : decode cL_law 202 = .ok (.iconst 0, 1) := dk_3 (dk_at dksL_law_4 6 rfl rfl)
theorem dL_law_203 : decode cL_law 203 = .ok (.laload, 1) := dk_47 (dk_at dksL_law_4 7 rfl rfl)
theorem dL_law_204 : decode cL_law 204 = .ok (.iload 7, 2) := dk_21 7 (dk_at dksL_law_4 8 rfl rfl)
theorem dL_law_206 : decode cL_law 206 = .ok (.i2l, 1) := dk_133 (dk_at dksL_law_4 10 rfl rfl)
theorem dL_law_207 : decode cL_law 207 = .ok (.lcmp, 1) := dk_148 (dk_at dksL_law_4 11 rfl rfl)
theorem dL_law_208 : decode cL_law 208 = .ok (.ifCond .eq 5, 3) := dk_153 0 5 (dk_at dksL_law_4 12 rfl rfl)
theorem dL_law_211 : decode cL_law 211 = .ok (.iconst 0, 1) := dk_3 (dk_at dksL_law_4 15 rfl rfl)
theorem dL_law_212 : decode cL_law 212 = .ok (.ireturn, 1) := dk_172 (dk_at dksL_law_4 16 rfl rfl)
theorem dL_law_213 : decode cL_law 213 = .ok (.goto 1509, 3) := dk_167 5 229 (dk_at dksL_law_4 17 rfl rfl)
theorem dL_law_216 : decode cL_law 216 = .ok (.aload_n 1, 1) := dk_43 (dk_at dksL_law_4 20 rfl rfl)
theorem dL_law_217 : decode cL_law 217 = .ok (.aload_n 0, 1) := dk_42 (dk_at dksL_law_4 21 rfl rfl)
theorem dL_law_218 : decode cL_law 218 = .ok (.iload 5, 2) := dk_21 5 (dk_at dksL_law_4 22 rfl rfl)
theorem dL_law_220 : decode cL_law 220 = .ok (.iconst 1, 1) := dk_4 (dk_at dksL_law_5 0 rfl rfl)
theorem dL_law_221 : decode cL_law 221 = .ok (.iadd, 1) := dk_96 (dk_at dksL_law_5 1 rfl rfl)
theorem dL_law_222 : decode cL_law 222 = .ok (.iaload, 1) := dk_46 (dk_at dksL_law_5 2 rfl rfl)
theorem dL_law_223 : decode cL_law 223 = .ok (.aload_n 0, 1) := dk_42 (dk_at dksL_law_5 3 rfl rfl)
theorem dL_law_224 : decode cL_law 224 = .ok (.iload 5, 2) := dk_21 5 (dk_at dksL_law_5 4 rfl rfl)
theorem dL_law_226 : decode cL_law 226 = .ok (.iconst 2, 1) := dk_5 (dk_at dksL_law_5 6 rfl rfl)
theorem dL_law_227 : decode cL_law 227 = .ok (.iadd, 1) := dk_96 (dk_at dksL_law_5 7 rfl rfl)
theorem dL_law_228 : decode cL_law 228 = .ok (.iaload, 1) := dk_46 (dk_at dksL_law_5 8 rfl rfl)
theorem dL_law_229 : decode cL_law 229 = .ok (.aload_n 0, 1) := dk_42 (dk_at dksL_law_5 9 rfl rfl)
theorem dL_law_230 : decode cL_law 230 = .ok (.iload 5, 2) := dk_21 5 (dk_at dksL_law_5 10 rfl rfl)
theorem dL_law_232 : decode cL_law 232 = .ok (.iconst 3, 1) := dk_6 (dk_at dksL_law_5 12 rfl rfl)
theorem dL_law_233 : decode cL_law 233 = .ok (.iadd, 1) := dk_96 (dk_at dksL_law_5 13 rfl rfl)
theorem dL_law_234 : decode cL_law 234 = .ok (.iaload, 1) := dk_46 (dk_at dksL_law_5 14 rfl rfl)
theorem dL_law_235 : decode cL_law 235 = .ok (.i2c, 1) := dk_146 (dk_at dksL_law_5 15 rfl rfl)
theorem dL_law_236 : decode cL_law 236 = .ok (.aload_n 0, 1) := dk_42 (dk_at dksL_law_5 16 rfl rfl)
theorem dL_law_237 : decode cL_law 237 = .ok (.iload 5, 2) := dk_21 5 (dk_at dksL_law_5 17 rfl rfl)
theorem dL_law_239 : decode cL_law 239 = .ok (.iconst 4, 1) := dk_7 (dk_at dksL_law_5 19 rfl rfl)
theorem dL_law_240 : decode cL_law 240 = .ok (.iadd, 1) := dk_96 (dk_at dksL_law_5 20 rfl rfl)
theorem dL_law_241 : decode cL_law 241 = .ok (.iaload, 1) := dk_46 (dk_at dksL_law_5 21 rfl rfl)
theorem dL_law_242 : decode cL_law 242 = .ok (.aload_n 3, 1) := dk_45 (dk_at dksL_law_5 22 rfl rfl)
theorem dL_law_243 : decode cL_law 243 = .ok (.invokestatic 114, 3) := dk_184 0 114 (dk_at dksL_law_6 0 rfl rfl)
theorem dL_law_246 : decode cL_law 246 = .ok (.istore 6, 2) := dk_54 6 (dk_at dksL_law_6 3 rfl rfl)
theorem dL_law_248 : decode cL_law 248 = .ok (.aload_n 2, 1) := dk_44 (dk_at dksL_law_6 5 rfl rfl)
theorem dL_law_249 : decode cL_law 249 = .ok (.aload_n 0, 1) := dk_42 (dk_at dksL_law_6 6 rfl rfl)
theorem dL_law_250 : decode cL_law 250 = .ok (.iload 5, 2) := dk_21 5 (dk_at dksL_law_6 7 rfl rfl)
theorem dL_law_252 : decode cL_law 252 = .ok (.iconst 1, 1) := dk_4 (dk_at dksL_law_6 9 rfl rfl)
theorem dL_law_253 : decode cL_law 253 = .ok (.iadd, 1) := dk_96 (dk_at dksL_law_6 10 rfl rfl)
theorem dL_law_254 : decode cL_law 254 = .ok (.iaload, 1) := dk_46 (dk_at dksL_law_6 11 rfl rfl)
theorem dL_law_255 : decode cL_law 255 = .ok (.aload_n 0, 1) := dk_42 (dk_at dksL_law_6 12 rfl rfl)
theorem dL_law_256 : decode cL_law 256 = .ok (.iload 5, 2) := dk_21 5 (dk_at dksL_law_6 13 rfl rfl)
theorem dL_law_258 : decode cL_law 258 = .ok (.iconst 2, 1) := dk_5 (dk_at dksL_law_6 15 rfl rfl)
theorem dL_law_259 : decode cL_law 259 = .ok (.iadd, 1) := dk_96 (dk_at dksL_law_6 16 rfl rfl)
theorem dL_law_260 : decode cL_law 260 = .ok (.iaload, 1) := dk_46 (dk_at dksL_law_6 17 rfl rfl)
theorem dL_law_261 : decode cL_law 261 = .ok (.aload_n 0, 1) := dk_42 (dk_at dksL_law_6 18 rfl rfl)
theorem dL_law_262 : decode cL_law 262 = .ok (.iload 5, 2) := dk_21 5 (dk_at dksL_law_6 19 rfl rfl)
theorem dL_law_264 : decode cL_law 264 = .ok (.iconst 3, 1) := dk_6 (dk_at dksL_law_6 21 rfl rfl)
theorem dL_law_265 : decode cL_law 265 = .ok (.iadd, 1) := dk_96 (dk_at dksL_law_6 22 rfl rfl)
theorem dL_law_266 : decode cL_law 266 = .ok (.iaload, 1) := dk_46 (dk_at dksL_law_6 23 rfl rfl)
theorem dL_law_267 : decode cL_law 267 = .ok (.i2c, 1) := dk_146 (dk_at dksL_law_7 0 rfl rfl)
theorem dL_law_268 : decode cL_law 268 = .ok (.aload_n 0, 1) := dk_42 (dk_at dksL_law_7 1 rfl rfl)
theorem dL_law_269 : decode cL_law 269 = .ok (.iload 5, 2) := dk_21 5 (dk_at dksL_law_7 2 rfl rfl)
theorem dL_law_271 : decode cL_law 271 = .ok (.iconst 4, 1) := dk_7 (dk_at dksL_law_7 4 rfl rfl)
theorem dL_law_272 : decode cL_law 272 = .ok (.iadd, 1) := dk_96 (dk_at dksL_law_7 5 rfl rfl)
theorem dL_law_273 : decode cL_law 273 = .ok (.iaload, 1) := dk_46 (dk_at dksL_law_7 6 rfl rfl)
theorem dL_law_274 : decode cL_law 274 = .ok (.invokevirtual 117, 3) := dk_182 0 117 (dk_at dksL_law_7 7 rfl rfl)
theorem dL_law_277 : decode cL_law 277 = .ok (.istore 7, 2) := dk_54 7 (dk_at dksL_law_7 10 rfl rfl)
theorem dL_law_279 : decode cL_law 279 = .ok (.aload_n 2, 1) := dk_44 (dk_at dksL_law_7 12 rfl rfl)
theorem dL_law_280 : decode cL_law 280 = .ok (.invokevirtual 111, 3) := dk_182 0 111 (dk_at dksL_law_7 13 rfl rfl)
theorem dL_law_283 : decode cL_law 283 = .ok (.iload 6, 2) := dk_21 6 (dk_at dksL_law_7 16 rfl rfl)
theorem dL_law_285 : decode cL_law 285 = .ok (.if_icmp .eq 5, 3) := dk_159 0 5 (dk_at dksL_law_7 18 rfl rfl)
theorem dL_law_288 : decode cL_law 288 = .ok (.iconst 0, 1) := dk_3 (dk_at dksL_law_7 21 rfl rfl)
theorem dL_law_289 : decode cL_law 289 = .ok (.ireturn, 1) := dk_172 (dk_at dksL_law_7 22 rfl rfl)
theorem dL_law_290 : decode cL_law 290 = .ok (.iload 6, 2) := dk_21 6 (dk_at dksL_law_8 0 rfl rfl)
theorem dL_law_292 : decode cL_law 292 = .ok (.ifCond .ne 15, 3) := dk_154 0 15 (dk_at dksL_law_8 2 rfl rfl)
theorem dL_law_295 : decode cL_law 295 = .ok (.aload_n 3, 1) := dk_45 (dk_at dksL_law_8 5 rfl rfl)
theorem dL_law_296 : decode cL_law 296 = .ok (.iconst 0, 1) := dk_3 (dk_at dksL_law_8 6 rfl rfl)
theorem dL_law_297 : decode cL_law 297 = .ok (.laload, 1) := dk_47 (dk_at dksL_law_8 7 rfl rfl)
theorem dL_law_298 : decode cL_law 298 = .ok (.iload 7, 2) := dk_21 7 (dk_at dksL_law_8 8 rfl rfl)
theorem dL_law_300 : decode cL_law 300 = .ok (.i2l, 1) := dk_133 (dk_at dksL_law_8 10 rfl rfl)
theorem dL_law_301 : decode cL_law 301 = .ok (.lcmp, 1) := dk_148 (dk_at dksL_law_8 11 rfl rfl)
theorem dL_law_302 : decode cL_law 302 = .ok (.ifCond .eq 5, 3) := dk_153 0 5 (dk_at dksL_law_8 12 rfl rfl)
theorem dL_law_305 : decode cL_law 305 = .ok (.iconst 0, 1) := dk_3 (dk_at dksL_law_8 15 rfl rfl)
theorem dL_law_306 : decode cL_law 306 = .ok (.ireturn, 1) := dk_172 (dk_at dksL_law_8 16 rfl rfl)
theorem dL_law_307 : decode cL_law 307 = .ok (.goto 1415, 3) := dk_167 5 135 (dk_at dksL_law_8 17 rfl rfl)
theorem dL_law_310 : decode cL_law 310 = .ok (.aload_n 1, 1) := dk_43 (dk_at dksL_law_8 20 rfl rfl)
theorem dL_law_311 : decode cL_law 311 = .ok (.aload_n 0, 1) := dk_42 (dk_at dksL_law_8 21 rfl rfl)
theorem dL_law_312 : decode cL_law 312 = .ok (.iload 5, 2) := dk_21 5 (dk_at dksL_law_8 22 rfl rfl)
theorem dL_law_314 : decode cL_law 314 = .ok (.iconst 1, 1) := dk_4 (dk_at dksL_law_9 0 rfl rfl)
theorem dL_law_315 : decode cL_law 315 = .ok (.iadd, 1) := dk_96 (dk_at dksL_law_9 1 rfl rfl)
theorem dL_law_316 : decode cL_law 316 = .ok (.iaload, 1) := dk_46 (dk_at dksL_law_9 2 rfl rfl)
theorem dL_law_317 : decode cL_law 317 = .ok (.aload_n 0, 1) := dk_42 (dk_at dksL_law_9 3 rfl rfl)
theorem dL_law_318 : decode cL_law 318 = .ok (.iload 5, 2) := dk_21 5 (dk_at dksL_law_9 4 rfl rfl)
theorem dL_law_320 : decode cL_law 320 = .ok (.iconst 2, 1) := dk_5 (dk_at dksL_law_9 6 rfl rfl)
theorem dL_law_321 : decode cL_law 321 = .ok (.iadd, 1) := dk_96 (dk_at dksL_law_9 7 rfl rfl)
theorem dL_law_322 : decode cL_law 322 = .ok (.iaload, 1) := dk_46 (dk_at dksL_law_9 8 rfl rfl)
theorem dL_law_323 : decode cL_law 323 = .ok (.aload_n 3, 1) := dk_45 (dk_at dksL_law_9 9 rfl rfl)
theorem dL_law_324 : decode cL_law 324 = .ok (.invokestatic 118, 3) := dk_184 0 118 (dk_at dksL_law_9 10 rfl rfl)
theorem dL_law_327 : decode cL_law 327 = .ok (.istore 6, 2) := dk_54 6 (dk_at dksL_law_9 13 rfl rfl)
theorem dL_law_329 : decode cL_law 329 = .ok (.aload_n 2, 1) := dk_44 (dk_at dksL_law_9 15 rfl rfl)
theorem dL_law_330 : decode cL_law 330 = .ok (.aload_n 0, 1) := dk_42 (dk_at dksL_law_9 16 rfl rfl)
theorem dL_law_331 : decode cL_law 331 = .ok (.iload 5, 2) := dk_21 5 (dk_at dksL_law_9 17 rfl rfl)
theorem dL_law_333 : decode cL_law 333 = .ok (.iconst 1, 1) := dk_4 (dk_at dksL_law_9 19 rfl rfl)
theorem dL_law_334 : decode cL_law 334 = .ok (.iadd, 1) := dk_96 (dk_at dksL_law_9 20 rfl rfl)
theorem dL_law_335 : decode cL_law 335 = .ok (.iaload, 1) := dk_46 (dk_at dksL_law_9 21 rfl rfl)
theorem dL_law_336 : decode cL_law 336 = .ok (.aload_n 0, 1) := dk_42 (dk_at dksL_law_9 22 rfl rfl)
theorem dL_law_337 : decode cL_law 337 = .ok (.iload 5, 2) := dk_21 5 (dk_at dksL_law_10 0 rfl rfl)
theorem dL_law_339 : decode cL_law 339 = .ok (.iconst 2, 1) := dk_5 (dk_at dksL_law_10 2 rfl rfl)
theorem dL_law_340 : decode cL_law 340 = .ok (.iadd, 1) := dk_96 (dk_at dksL_law_10 3 rfl rfl)
theorem dL_law_341 : decode cL_law 341 = .ok (.iaload, 1) := dk_46 (dk_at dksL_law_10 4 rfl rfl)
theorem dL_law_342 : decode cL_law 342 = .ok (.invokevirtual 121, 3) := dk_182 0 121 (dk_at dksL_law_10 5 rfl rfl)
theorem dL_law_345 : decode cL_law 345 = .ok (.istore 7, 2) := dk_54 7 (dk_at dksL_law_10 8 rfl rfl)
theorem dL_law_347 : decode cL_law 347 = .ok (.aload_n 2, 1) := dk_44 (dk_at dksL_law_10 10 rfl rfl)
theorem dL_law_348 : decode cL_law 348 = .ok (.invokevirtual 111, 3) := dk_182 0 111 (dk_at dksL_law_10 11 rfl rfl)
theorem dL_law_351 : decode cL_law 351 = .ok (.iload 6, 2) := dk_21 6 (dk_at dksL_law_10 14 rfl rfl)
theorem dL_law_353 : decode cL_law 353 = .ok (.if_icmp .eq 5, 3) := dk_159 0 5 (dk_at dksL_law_10 16 rfl rfl)
theorem dL_law_356 : decode cL_law 356 = .ok (.iconst 0, 1) := dk_3 (dk_at dksL_law_10 19 rfl rfl)
theorem dL_law_357 : decode cL_law 357 = .ok (.ireturn, 1) := dk_172 (dk_at dksL_law_10 20 rfl rfl)
theorem dL_law_358 : decode cL_law 358 = .ok (.iload 6, 2) := dk_21 6 (dk_at dksL_law_10 21 rfl rfl)
theorem dL_law_360 : decode cL_law 360 = .ok (.ifCond .ne 15, 3) := dk_154 0 15 (dk_at dksL_law_11 0 rfl rfl)
theorem dL_law_363 : decode cL_law 363 = .ok (.aload_n 3, 1) := dk_45 (dk_at dksL_law_11 3 rfl rfl)
theorem dL_law_364 : decode cL_law 364 = .ok (.iconst 0, 1) := dk_3 (dk_at dksL_law_11 4 rfl rfl)
theorem dL_law_365 : decode cL_law 365 = .ok (.laload, 1) := dk_47 (dk_at dksL_law_11 5 rfl rfl)
theorem dL_law_366 : decode cL_law 366 = .ok (.iload 7, 2) := dk_21 7 (dk_at dksL_law_11 6 rfl rfl)
theorem dL_law_368 : decode cL_law 368 = .ok (.i2l, 1) := dk_133 (dk_at dksL_law_11 8 rfl rfl)
theorem dL_law_369 : decode cL_law 369 = .ok (.lcmp, 1) := dk_148 (dk_at dksL_law_11 9 rfl rfl)
theorem dL_law_370 : decode cL_law 370 = .ok (.ifCond .eq 5, 3) := dk_153 0 5 (dk_at dksL_law_11 10 rfl rfl)
theorem dL_law_373 : decode cL_law 373 = .ok (.iconst 0, 1) := dk_3 (dk_at dksL_law_11 13 rfl rfl)
theorem dL_law_374 : decode cL_law 374 = .ok (.ireturn, 1) := dk_172 (dk_at dksL_law_11 14 rfl rfl)
theorem dL_law_375 : decode cL_law 375 = .ok (.goto 1347, 3) := dk_167 5 67 (dk_at dksL_law_11 15 rfl rfl)
theorem dL_law_378 : decode cL_law 378 = .ok (.aload_n 1, 1) := dk_43 (dk_at dksL_law_11 18 rfl rfl)
theorem dL_law_379 : decode cL_law 379 = .ok (.aload_n 0, 1) := dk_42 (dk_at dksL_law_11 19 rfl rfl)
theorem dL_law_380 : decode cL_law 380 = .ok (.iload 5, 2) := dk_21 5 (dk_at dksL_law_11 20 rfl rfl)
theorem dL_law_382 : decode cL_law 382 = .ok (.iconst 1, 1) := dk_4 (dk_at dksL_law_11 22 rfl rfl)
theorem dL_law_383 : decode cL_law 383 = .ok (.iadd, 1) := dk_96 (dk_at dksL_law_11 23 rfl rfl)
theorem dL_law_384 : decode cL_law 384 = .ok (.iaload, 1) := dk_46 (dk_at dksL_law_12 0 rfl rfl)
theorem dL_law_385 : decode cL_law 385 = .ok (.aload_n 0, 1) := dk_42 (dk_at dksL_law_12 1 rfl rfl)
theorem dL_law_386 : decode cL_law 386 = .ok (.iload 5, 2) := dk_21 5 (dk_at dksL_law_12 2 rfl rfl)
theorem dL_law_388 : decode cL_law 388 = .ok (.iconst 2, 1) := dk_5 (dk_at dksL_law_12 4 rfl rfl)
theorem dL_law_389 : decode cL_law 389 = .ok (.iadd, 1) := dk_96 (dk_at dksL_law_12 5 rfl rfl)
theorem dL_law_390 : decode cL_law 390 = .ok (.iaload, 1) := dk_46 (dk_at dksL_law_12 6 rfl rfl)
theorem dL_law_391 : decode cL_law 391 = .ok (.i2c, 1) := dk_146 (dk_at dksL_law_12 7 rfl rfl)
theorem dL_law_392 : decode cL_law 392 = .ok (.aload_n 3, 1) := dk_45 (dk_at dksL_law_12 8 rfl rfl)
theorem dL_law_393 : decode cL_law 393 = .ok (.invokestatic 122, 3) := dk_184 0 122 (dk_at dksL_law_12 9 rfl rfl)
theorem dL_law_396 : decode cL_law 396 = .ok (.istore 6, 2) := dk_54 6 (dk_at dksL_law_12 12 rfl rfl)
theorem dL_law_398 : decode cL_law 398 = .ok (.aload_n 2, 1) := dk_44 (dk_at dksL_law_12 14 rfl rfl)
theorem dL_law_399 : decode cL_law 399 = .ok (.aload_n 0, 1) := dk_42 (dk_at dksL_law_12 15 rfl rfl)
theorem dL_law_400 : decode cL_law 400 = .ok (.iload 5, 2) := dk_21 5 (dk_at dksL_law_12 16 rfl rfl)
theorem dL_law_402 : decode cL_law 402 = .ok (.iconst 1, 1) := dk_4 (dk_at dksL_law_12 18 rfl rfl)
theorem dL_law_403 : decode cL_law 403 = .ok (.iadd, 1) := dk_96 (dk_at dksL_law_12 19 rfl rfl)
theorem dL_law_404 : decode cL_law 404 = .ok (.iaload, 1) := dk_46 (dk_at dksL_law_12 20 rfl rfl)
theorem dL_law_405 : decode cL_law 405 = .ok (.aload_n 0, 1) := dk_42 (dk_at dksL_law_12 21 rfl rfl)
theorem dL_law_406 : decode cL_law 406 = .ok (.iload 5, 2) := dk_21 5 (dk_at dksL_law_12 22 rfl rfl)
theorem dL_law_408 : decode cL_law 408 = .ok (.iconst 2, 1) := dk_5 (dk_at dksL_law_13 0 rfl rfl)
theorem dL_law_409 : decode cL_law 409 = .ok (.iadd, 1) := dk_96 (dk_at dksL_law_13 1 rfl rfl)
theorem dL_law_410 : decode cL_law 410 = .ok (.iaload, 1) := dk_46 (dk_at dksL_law_13 2 rfl rfl)
theorem dL_law_411 : decode cL_law 411 = .ok (.i2c, 1) := dk_146 (dk_at dksL_law_13 3 rfl rfl)
theorem dL_law_412 : decode cL_law 412 = .ok (.invokevirtual 125, 3) := dk_182 0 125 (dk_at dksL_law_13 4 rfl rfl)
theorem dL_law_415 : decode cL_law 415 = .ok (.istore 7, 2) := dk_54 7 (dk_at dksL_law_13 7 rfl rfl)
theorem dL_law_417 : decode cL_law 417 = .ok (.aload_n 2, 1) := dk_44 (dk_at dksL_law_13 9 rfl rfl)
theorem dL_law_418 : decode cL_law 418 = .ok (.invokevirtual 111, 3) := dk_182 0 111 (dk_at dksL_law_13 10 rfl rfl)
theorem dL_law_421 : decode cL_law 421 = .ok (.iload 6, 2) := dk_21 6 (dk_at dksL_law_13 13 rfl rfl)
theorem dL_law_423 : decode cL_law 423 = .ok (.if_icmp .eq 5, 3) := dk_159 0 5 (dk_at dksL_law_13 15 rfl rfl)
theorem dL_law_426 : decode cL_law 426 = .ok (.iconst 0, 1) := dk_3 (dk_at dksL_law_13 18 rfl rfl)
theorem dL_law_427 : decode cL_law 427 = .ok (.ireturn, 1) := dk_172 (dk_at dksL_law_13 19 rfl rfl)
theorem dL_law_428 : decode cL_law 428 = .ok (.iload 6, 2) := dk_21 6 (dk_at dksL_law_13 20 rfl rfl)
theorem dL_law_430 : decode cL_law 430 = .ok (.ifCond .ne 15, 3) := dk_154 0 15 (dk_at dksL_law_14 0 rfl rfl)
theorem dL_law_433 : decode cL_law 433 = .ok (.aload_n 3, 1) := dk_45 (dk_at dksL_law_14 3 rfl rfl)
theorem dL_law_434 : decode cL_law 434 = .ok (.iconst 0, 1) := dk_3 (dk_at dksL_law_14 4 rfl rfl)
theorem dL_law_435 : decode cL_law 435 = .ok (.laload, 1) := dk_47 (dk_at dksL_law_14 5 rfl rfl)
theorem dL_law_436 : decode cL_law 436 = .ok (.iload 7, 2) := dk_21 7 (dk_at dksL_law_14 6 rfl rfl)
theorem dL_law_438 : decode cL_law 438 = .ok (.i2l, 1) := dk_133 (dk_at dksL_law_14 8 rfl rfl)
theorem dL_law_439 : decode cL_law 439 = .ok (.lcmp, 1) := dk_148 (dk_at dksL_law_14 9 rfl rfl)
theorem dL_law_440 : decode cL_law 440 = .ok (.ifCond .eq 5, 3) := dk_153 0 5 (dk_at dksL_law_14 10 rfl rfl)
theorem dL_law_443 : decode cL_law 443 = .ok (.iconst 0, 1) := dk_3 (dk_at dksL_law_14 13 rfl rfl)
theorem dL_law_444 : decode cL_law 444 = .ok (.ireturn, 1) := dk_172 (dk_at dksL_law_14 14 rfl rfl)
theorem dL_law_445 : decode cL_law 445 = .ok (.goto 1277, 3) := dk_167 4 253 (dk_at dksL_law_14 15 rfl rfl)
theorem dL_law_448 : decode cL_law 448 = .ok (.aload_n 1, 1) := dk_43 (dk_at dksL_law_14 18 rfl rfl)
theorem dL_law_449 : decode cL_law 449 = .ok (.aload_n 3, 1) := dk_45 (dk_at dksL_law_14 19 rfl rfl)
theorem dL_law_450 : decode cL_law 450 = .ok (.invokestatic 126, 3) := dk_184 0 126 (dk_at dksL_law_14 20 rfl rfl)
theorem dL_law_453 : decode cL_law 453 = .ok (.istore 6, 2) := dk_54 6 (dk_at dksL_law_15 0 rfl rfl)
theorem dL_law_455 : decode cL_law 455 = .ok (.aload_n 2, 1) := dk_44 (dk_at dksL_law_15 2 rfl rfl)
theorem dL_law_456 : decode cL_law 456 = .ok (.invokevirtual 128, 3) := dk_182 0 128 (dk_at dksL_law_15 3 rfl rfl)
theorem dL_law_459 : decode cL_law 459 = .ok (.istore 7, 2) := dk_54 7 (dk_at dksL_law_15 6 rfl rfl)
theorem dL_law_461 : decode cL_law 461 = .ok (.aload_n 2, 1) := dk_44 (dk_at dksL_law_15 8 rfl rfl)
theorem dL_law_462 : decode cL_law 462 = .ok (.invokevirtual 111, 3) := dk_182 0 111 (dk_at dksL_law_15 9 rfl rfl)
theorem dL_law_465 : decode cL_law 465 = .ok (.iload 6, 2) := dk_21 6 (dk_at dksL_law_15 12 rfl rfl)
theorem dL_law_467 : decode cL_law 467 = .ok (.if_icmp .eq 5, 3) := dk_159 0 5 (dk_at dksL_law_15 14 rfl rfl)
theorem dL_law_470 : decode cL_law 470 = .ok (.iconst 0, 1) := dk_3 (dk_at dksL_law_15 17 rfl rfl)
theorem dL_law_471 : decode cL_law 471 = .ok (.ireturn, 1) := dk_172 (dk_at dksL_law_15 18 rfl rfl)
theorem dL_law_472 : decode cL_law 472 = .ok (.iload 6, 2) := dk_21 6 (dk_at dksL_law_15 19 rfl rfl)
theorem dL_law_474 : decode cL_law 474 = .ok (.ifCond .ne 15, 3) := dk_154 0 15 (dk_at dksL_law_15 21 rfl rfl)
theorem dL_law_477 : decode cL_law 477 = .ok (.aload_n 3, 1) := dk_45 (dk_at dksL_law_16 0 rfl rfl)
theorem dL_law_478 : decode cL_law 478 = .ok (.iconst 0, 1) := dk_3 (dk_at dksL_law_16 1 rfl rfl)
theorem dL_law_479 : decode cL_law 479 = .ok (.laload, 1) := dk_47 (dk_at dksL_law_16 2 rfl rfl)
theorem dL_law_480 : decode cL_law 480 = .ok (.iload 7, 2) := dk_21 7 (dk_at dksL_law_16 3 rfl rfl)
theorem dL_law_482 : decode cL_law 482 = .ok (.i2l, 1) := dk_133 (dk_at dksL_law_16 5 rfl rfl)
theorem dL_law_483 : decode cL_law 483 = .ok (.lcmp, 1) := dk_148 (dk_at dksL_law_16 6 rfl rfl)
theorem dL_law_484 : decode cL_law 484 = .ok (.ifCond .eq 5, 3) := dk_153 0 5 (dk_at dksL_law_16 7 rfl rfl)
theorem dL_law_487 : decode cL_law 487 = .ok (.iconst 0, 1) := dk_3 (dk_at dksL_law_16 10 rfl rfl)
theorem dL_law_488 : decode cL_law 488 = .ok (.ireturn, 1) := dk_172 (dk_at dksL_law_16 11 rfl rfl)
theorem dL_law_489 : decode cL_law 489 = .ok (.goto 1233, 3) := dk_167 4 209 (dk_at dksL_law_16 12 rfl rfl)
theorem dL_law_492 : decode cL_law 492 = .ok (.aload_n 1, 1) := dk_43 (dk_at dksL_law_16 15 rfl rfl)
theorem dL_law_493 : decode cL_law 493 = .ok (.aload_n 0, 1) := dk_42 (dk_at dksL_law_16 16 rfl rfl)
theorem dL_law_494 : decode cL_law 494 = .ok (.iload 5, 2) := dk_21 5 (dk_at dksL_law_16 17 rfl rfl)
theorem dL_law_496 : decode cL_law 496 = .ok (.iconst 1, 1) := dk_4 (dk_at dksL_law_16 19 rfl rfl)
theorem dL_law_497 : decode cL_law 497 = .ok (.iadd, 1) := dk_96 (dk_at dksL_law_16 20 rfl rfl)
theorem dL_law_498 : decode cL_law 498 = .ok (.iaload, 1) := dk_46 (dk_at dksL_law_16 21 rfl rfl)
theorem dL_law_499 : decode cL_law 499 = .ok (.aload_n 0, 1) := dk_42 (dk_at dksL_law_16 22 rfl rfl)
theorem dL_law_500 : decode cL_law 500 = .ok (.iload 5, 2) := dk_21 5 (dk_at dksL_law_17 0 rfl rfl)
theorem dL_law_502 : decode cL_law 502 = .ok (.iconst 2, 1) := dk_5 (dk_at dksL_law_17 2 rfl rfl)
theorem dL_law_503 : decode cL_law 503 = .ok (.iadd, 1) := dk_96 (dk_at dksL_law_17 3 rfl rfl)
theorem dL_law_504 : decode cL_law 504 = .ok (.iaload, 1) := dk_46 (dk_at dksL_law_17 4 rfl rfl)
theorem dL_law_505 : decode cL_law 505 = .ok (.aload_n 3, 1) := dk_45 (dk_at dksL_law_17 5 rfl rfl)
theorem dL_law_506 : decode cL_law 506 = .ok (.invokestatic 129, 3) := dk_184 0 129 (dk_at dksL_law_17 6 rfl rfl)
theorem dL_law_509 : decode cL_law 509 = .ok (.istore 6, 2) := dk_54 6 (dk_at dksL_law_17 9 rfl rfl)
theorem dL_law_511 : decode cL_law 511 = .ok (.aload_n 2, 1) := dk_44 (dk_at dksL_law_17 11 rfl rfl)
theorem dL_law_512 : decode cL_law 512 = .ok (.aload_n 0, 1) := dk_42 (dk_at dksL_law_17 12 rfl rfl)
theorem dL_law_513 : decode cL_law 513 = .ok (.iload 5, 2) := dk_21 5 (dk_at dksL_law_17 13 rfl rfl)
theorem dL_law_515 : decode cL_law 515 = .ok (.iconst 1, 1) := dk_4 (dk_at dksL_law_17 15 rfl rfl)
theorem dL_law_516 : decode cL_law 516 = .ok (.iadd, 1) := dk_96 (dk_at dksL_law_17 16 rfl rfl)
theorem dL_law_517 : decode cL_law 517 = .ok (.iaload, 1) := dk_46 (dk_at dksL_law_17 17 rfl rfl)
theorem dL_law_518 : decode cL_law 518 = .ok (.aload_n 0, 1) := dk_42 (dk_at dksL_law_17 18 rfl rfl)
theorem dL_law_519 : decode cL_law 519 = .ok (.iload 5, 2) := dk_21 5 (dk_at dksL_law_17 19 rfl rfl)
theorem dL_law_521 : decode cL_law 521 = .ok (.iconst 2, 1) := dk_5 (dk_at dksL_law_17 21 rfl rfl)
theorem dL_law_522 : decode cL_law 522 = .ok (.iadd, 1) := dk_96 (dk_at dksL_law_17 22 rfl rfl)
theorem dL_law_523 : decode cL_law 523 = .ok (.iaload, 1) := dk_46 (dk_at dksL_law_17 23 rfl rfl)
theorem dL_law_524 : decode cL_law 524 = .ok (.invokevirtual 131, 3) := dk_182 0 131 (dk_at dksL_law_18 0 rfl rfl)
theorem dL_law_527 : decode cL_law 527 = .ok (.istore 7, 2) := dk_54 7 (dk_at dksL_law_18 3 rfl rfl)
theorem dL_law_529 : decode cL_law 529 = .ok (.aload_n 2, 1) := dk_44 (dk_at dksL_law_18 5 rfl rfl)
theorem dL_law_530 : decode cL_law 530 = .ok (.invokevirtual 111, 3) := dk_182 0 111 (dk_at dksL_law_18 6 rfl rfl)
theorem dL_law_533 : decode cL_law 533 = .ok (.iload 6, 2) := dk_21 6 (dk_at dksL_law_18 9 rfl rfl)
theorem dL_law_535 : decode cL_law 535 = .ok (.if_icmp .eq 5, 3) := dk_159 0 5 (dk_at dksL_law_18 11 rfl rfl)
theorem dL_law_538 : decode cL_law 538 = .ok (.iconst 0, 1) := dk_3 (dk_at dksL_law_18 14 rfl rfl)
theorem dL_law_539 : decode cL_law 539 = .ok (.ireturn, 1) := dk_172 (dk_at dksL_law_18 15 rfl rfl)
theorem dL_law_540 : decode cL_law 540 = .ok (.iload 6, 2) := dk_21 6 (dk_at dksL_law_18 16 rfl rfl)
theorem dL_law_542 : decode cL_law 542 = .ok (.ifCond .ne 15, 3) := dk_154 0 15 (dk_at dksL_law_18 18 rfl rfl)
theorem dL_law_545 : decode cL_law 545 = .ok (.aload_n 3, 1) := dk_45 (dk_at dksL_law_18 21 rfl rfl)
theorem dL_law_546 : decode cL_law 546 = .ok (.iconst 0, 1) := dk_3 (dk_at dksL_law_18 22 rfl rfl)
theorem dL_law_547 : decode cL_law 547 = .ok (.laload, 1) := dk_47 (dk_at dksL_law_18 23 rfl rfl)
theorem dL_law_548 : decode cL_law 548 = .ok (.iload 7, 2) := dk_21 7 (dk_at dksL_law_19 0 rfl rfl)
theorem dL_law_550 : decode cL_law 550 = .ok (.i2l, 1) := dk_133 (dk_at dksL_law_19 2 rfl rfl)
theorem dL_law_551 : decode cL_law 551 = .ok (.lcmp, 1) := dk_148 (dk_at dksL_law_19 3 rfl rfl)
theorem dL_law_552 : decode cL_law 552 = .ok (.ifCond .eq 5, 3) := dk_153 0 5 (dk_at dksL_law_19 4 rfl rfl)
theorem dL_law_555 : decode cL_law 555 = .ok (.iconst 0, 1) := dk_3 (dk_at dksL_law_19 7 rfl rfl)
theorem dL_law_556 : decode cL_law 556 = .ok (.ireturn, 1) := dk_172 (dk_at dksL_law_19 8 rfl rfl)
theorem dL_law_557 : decode cL_law 557 = .ok (.goto 1165, 3) := dk_167 4 141 (dk_at dksL_law_19 9 rfl rfl)
theorem dL_law_560 : decode cL_law 560 = .ok (.aload_n 1, 1) := dk_43 (dk_at dksL_law_19 12 rfl rfl)
theorem dL_law_561 : decode cL_law 561 = .ok (.aload_n 0, 1) := dk_42 (dk_at dksL_law_19 13 rfl rfl)
theorem dL_law_562 : decode cL_law 562 = .ok (.iload 5, 2) := dk_21 5 (dk_at dksL_law_19 14 rfl rfl)
theorem dL_law_564 : decode cL_law 564 = .ok (.iconst 1, 1) := dk_4 (dk_at dksL_law_19 16 rfl rfl)
theorem dL_law_565 : decode cL_law 565 = .ok (.iadd, 1) := dk_96 (dk_at dksL_law_19 17 rfl rfl)
theorem dL_law_566 : decode cL_law 566 = .ok (.iaload, 1) := dk_46 (dk_at dksL_law_19 18 rfl rfl)
theorem dL_law_567 : decode cL_law 567 = .ok (.aload_n 3, 1) := dk_45 (dk_at dksL_law_19 19 rfl rfl)
theorem dL_law_568 : decode cL_law 568 = .ok (.invokestatic 132, 3) := dk_184 0 132 (dk_at dksL_law_19 20 rfl rfl)
theorem dL_law_571 : decode cL_law 571 = .ok (.istore 6, 2) := dk_54 6 (dk_at dksL_law_20 0 rfl rfl)
theorem dL_law_573 : decode cL_law 573 = .ok (.aload_n 2, 1) := dk_44 (dk_at dksL_law_20 2 rfl rfl)
theorem dL_law_574 : decode cL_law 574 = .ok (.aload_n 0, 1) := dk_42 (dk_at dksL_law_20 3 rfl rfl)
theorem dL_law_575 : decode cL_law 575 = .ok (.iload 5, 2) := dk_21 5 (dk_at dksL_law_20 4 rfl rfl)
theorem dL_law_577 : decode cL_law 577 = .ok (.iconst 1, 1) := dk_4 (dk_at dksL_law_20 6 rfl rfl)
theorem dL_law_578 : decode cL_law 578 = .ok (.iadd, 1) := dk_96 (dk_at dksL_law_20 7 rfl rfl)
theorem dL_law_579 : decode cL_law 579 = .ok (.iaload, 1) := dk_46 (dk_at dksL_law_20 8 rfl rfl)
theorem dL_law_580 : decode cL_law 580 = .ok (.invokevirtual 135, 3) := dk_182 0 135 (dk_at dksL_law_20 9 rfl rfl)
theorem dL_law_583 : decode cL_law 583 = .ok (.istore 7, 2) := dk_54 7 (dk_at dksL_law_20 12 rfl rfl)
theorem dL_law_585 : decode cL_law 585 = .ok (.aload_n 2, 1) := dk_44 (dk_at dksL_law_20 14 rfl rfl)
theorem dL_law_586 : decode cL_law 586 = .ok (.invokevirtual 111, 3) := dk_182 0 111 (dk_at dksL_law_20 15 rfl rfl)
theorem dL_law_589 : decode cL_law 589 = .ok (.iload 6, 2) := dk_21 6 (dk_at dksL_law_20 18 rfl rfl)
theorem dL_law_591 : decode cL_law 591 = .ok (.if_icmp .eq 5, 3) := dk_159 0 5 (dk_at dksL_law_20 20 rfl rfl)
theorem dL_law_594 : decode cL_law 594 = .ok (.iconst 0, 1) := dk_3 (dk_at dksL_law_20 23 rfl rfl)
theorem dL_law_595 : decode cL_law 595 = .ok (.ireturn, 1) := dk_172 (dk_at dksL_law_21 0 rfl rfl)
theorem dL_law_596 : decode cL_law 596 = .ok (.iload 6, 2) := dk_21 6 (dk_at dksL_law_21 1 rfl rfl)
theorem dL_law_598 : decode cL_law 598 = .ok (.ifCond .ne 15, 3) := dk_154 0 15 (dk_at dksL_law_21 3 rfl rfl)
theorem dL_law_601 : decode cL_law 601 = .ok (.aload_n 3, 1) := dk_45 (dk_at dksL_law_21 6 rfl rfl)
theorem dL_law_602 : decode cL_law 602 = .ok (.iconst 0, 1) := dk_3 (dk_at dksL_law_21 7 rfl rfl)
theorem dL_law_603 : decode cL_law 603 = .ok (.laload, 1) := dk_47 (dk_at dksL_law_21 8 rfl rfl)
theorem dL_law_604 : decode cL_law 604 = .ok (.iload 7, 2) := dk_21 7 (dk_at dksL_law_21 9 rfl rfl)
theorem dL_law_606 : decode cL_law 606 = .ok (.i2l, 1) := dk_133 (dk_at dksL_law_21 11 rfl rfl)
theorem dL_law_607 : decode cL_law 607 = .ok (.lcmp, 1) := dk_148 (dk_at dksL_law_21 12 rfl rfl)
theorem dL_law_608 : decode cL_law 608 = .ok (.ifCond .eq 5, 3) := dk_153 0 5 (dk_at dksL_law_21 13 rfl rfl)
theorem dL_law_611 : decode cL_law 611 = .ok (.iconst 0, 1) := dk_3 (dk_at dksL_law_21 16 rfl rfl)
theorem dL_law_612 : decode cL_law 612 = .ok (.ireturn, 1) := dk_172 (dk_at dksL_law_21 17 rfl rfl)
theorem dL_law_613 : decode cL_law 613 = .ok (.goto 1109, 3) := dk_167 4 85 (dk_at dksL_law_21 18 rfl rfl)
theorem dL_law_616 : decode cL_law 616 = .ok (.aload_n 1, 1) := dk_43 (dk_at dksL_law_21 21 rfl rfl)
theorem dL_law_617 : decode cL_law 617 = .ok (.aload_n 0, 1) := dk_42 (dk_at dksL_law_21 22 rfl rfl)
theorem dL_law_618 : decode cL_law 618 = .ok (.iload 5, 2) := dk_21 5 (dk_at dksL_law_22 0 rfl rfl)
theorem dL_law_620 : decode cL_law 620 = .ok (.iconst 1, 1) := dk_4 (dk_at dksL_law_22 2 rfl rfl)
theorem dL_law_621 : decode cL_law 621 = .ok (.iadd, 1) := dk_96 (dk_at dksL_law_22 3 rfl rfl)
theorem dL_law_622 : decode cL_law 622 = .ok (.iaload, 1) := dk_46 (dk_at dksL_law_22 4 rfl rfl)
theorem dL_law_623 : decode cL_law 623 = .ok (.aload_n 3, 1) := dk_45 (dk_at dksL_law_22 5 rfl rfl)
theorem dL_law_624 : decode cL_law 624 = .ok (.invokestatic 136, 3) := dk_184 0 136 (dk_at dksL_law_22 6 rfl rfl)
theorem dL_law_627 : decode cL_law 627 = .ok (.istore 6, 2) := dk_54 6 (dk_at dksL_law_22 9 rfl rfl)
theorem dL_law_629 : decode cL_law 629 = .ok (.aload_n 2, 1) := dk_44 (dk_at dksL_law_22 11 rfl rfl)
theorem dL_law_630 : decode cL_law 630 = .ok (.aload_n 0, 1) := dk_42 (dk_at dksL_law_22 12 rfl rfl)
theorem dL_law_631 : decode cL_law 631 = .ok (.iload 5, 2) := dk_21 5 (dk_at dksL_law_22 13 rfl rfl)
theorem dL_law_633 : decode cL_law 633 = .ok (.iconst 1, 1) := dk_4 (dk_at dksL_law_22 15 rfl rfl)
theorem dL_law_634 : decode cL_law 634 = .ok (.iadd, 1) := dk_96 (dk_at dksL_law_22 16 rfl rfl)
theorem dL_law_635 : decode cL_law 635 = .ok (.iaload, 1) := dk_46 (dk_at dksL_law_22 17 rfl rfl)
theorem dL_law_636 : decode cL_law 636 = .ok (.invokevirtual 138, 3) := dk_182 0 138 (dk_at dksL_law_22 18 rfl rfl)
theorem dL_law_639 : decode cL_law 639 = .ok (.istore 7, 2) := dk_54 7 (dk_at dksL_law_22 21 rfl rfl)
theorem dL_law_641 : decode cL_law 641 = .ok (.aload_n 2, 1) := dk_44 (dk_at dksL_law_22 23 rfl rfl)
theorem dL_law_642 : decode cL_law 642 = .ok (.invokevirtual 111, 3) := dk_182 0 111 (dk_at dksL_law_23 0 rfl rfl)
theorem dL_law_645 : decode cL_law 645 = .ok (.iload 6, 2) := dk_21 6 (dk_at dksL_law_23 3 rfl rfl)
theorem dL_law_647 : decode cL_law 647 = .ok (.if_icmp .eq 5, 3) := dk_159 0 5 (dk_at dksL_law_23 5 rfl rfl)
theorem dL_law_650 : decode cL_law 650 = .ok (.iconst 0, 1) := dk_3 (dk_at dksL_law_23 8 rfl rfl)
theorem dL_law_651 : decode cL_law 651 = .ok (.ireturn, 1) := dk_172 (dk_at dksL_law_23 9 rfl rfl)
theorem dL_law_652 : decode cL_law 652 = .ok (.iload 6, 2) := dk_21 6 (dk_at dksL_law_23 10 rfl rfl)
theorem dL_law_654 : decode cL_law 654 = .ok (.ifCond .ne 22, 3) := dk_154 0 22 (dk_at dksL_law_23 12 rfl rfl)
theorem dL_law_657 : decode cL_law 657 = .ok (.aload_n 3, 1) := dk_45 (dk_at dksL_law_23 15 rfl rfl)
theorem dL_law_658 : decode cL_law 658 = .ok (.iconst 0, 1) := dk_3 (dk_at dksL_law_23 16 rfl rfl)
theorem dL_law_659 : decode cL_law 659 = .ok (.laload, 1) := dk_47 (dk_at dksL_law_23 17 rfl rfl)
theorem dL_law_660 : decode cL_law 660 = .ok (.iload 7, 2) := dk_21 7 (dk_at dksL_law_23 18 rfl rfl)
theorem dL_law_662 : decode cL_law 662 = .ok (.ifCond .eq 7, 3) := dk_153 0 7 (dk_at dksL_law_23 20 rfl rfl)
theorem dL_law_665 : decode cL_law 665 = .ok (.lconst 1, 1) := dk_10 (dk_at dksL_law_23 23 rfl rfl)
theorem dL_law_666 : decode cL_law 666 = .ok (.goto 4, 3) := dk_167 0 4 (dk_at dksL_law_24 0 rfl rfl)
theorem dL_law_669 : decode cL_law 669 = .ok (.lconst 0, 1) := dk_9 (dk_at dksL_law_24 3 rfl rfl)
theorem dL_law_670 : decode cL_law 670 = .ok (.lcmp, 1) := dk_148 (dk_at dksL_law_24 4 rfl rfl)
theorem dL_law_671 : decode cL_law 671 = .ok (.ifCond .eq 5, 3) := dk_153 0 5 (dk_at dksL_law_24 5 rfl rfl)
theorem dL_law_674 : decode cL_law 674 = .ok (.iconst 0, 1) := dk_3 (dk_at dksL_law_24 8 rfl rfl)
theorem dL_law_675 : decode cL_law 675 = .ok (.ireturn, 1) := dk_172 (dk_at dksL_law_24 9 rfl rfl)
theorem dL_law_676 : decode cL_law 676 = .ok (.goto 1046, 3) := dk_167 4 22 (dk_at dksL_law_24 10 rfl rfl)
theorem dL_law_679 : decode cL_law 679 = .ok (.aload_n 1, 1) := dk_43 (dk_at dksL_law_24 13 rfl rfl)
theorem dL_law_680 : decode cL_law 680 = .ok (.aload_n 0, 1) := dk_42 (dk_at dksL_law_24 14 rfl rfl)
theorem dL_law_681 : decode cL_law 681 = .ok (.iload 5, 2) := dk_21 5 (dk_at dksL_law_24 15 rfl rfl)
theorem dL_law_683 : decode cL_law 683 = .ok (.iconst 1, 1) := dk_4 (dk_at dksL_law_24 17 rfl rfl)
theorem dL_law_684 : decode cL_law 684 = .ok (.iadd, 1) := dk_96 (dk_at dksL_law_24 18 rfl rfl)
theorem dL_law_685 : decode cL_law 685 = .ok (.iaload, 1) := dk_46 (dk_at dksL_law_24 19 rfl rfl)
theorem dL_law_686 : decode cL_law 686 = .ok (.aload_n 3, 1) := dk_45 (dk_at dksL_law_24 20 rfl rfl)
theorem dL_law_687 : decode cL_law 687 = .ok (.invokestatic 139, 3) := dk_184 0 139 (dk_at dksL_law_24 21 rfl rfl)
theorem dL_law_690 : decode cL_law 690 = .ok (.istore 6, 2) := dk_54 6 (dk_at dksL_law_25 0 rfl rfl)
theorem dL_law_692 : decode cL_law 692 = .ok (.aload_n 2, 1) := dk_44 (dk_at dksL_law_25 2 rfl rfl)
theorem dL_law_693 : decode cL_law 693 = .ok (.aload_n 0, 1) := dk_42 (dk_at dksL_law_25 3 rfl rfl)
theorem dL_law_694 : decode cL_law 694 = .ok (.iload 5, 2) := dk_21 5 (dk_at dksL_law_25 4 rfl rfl)
theorem dL_law_696 : decode cL_law 696 = .ok (.iconst 1, 1) := dk_4 (dk_at dksL_law_25 6 rfl rfl)
theorem dL_law_697 : decode cL_law 697 = .ok (.iadd, 1) := dk_96 (dk_at dksL_law_25 7 rfl rfl)
theorem dL_law_698 : decode cL_law 698 = .ok (.iaload, 1) := dk_46 (dk_at dksL_law_25 8 rfl rfl)
theorem dL_law_699 : decode cL_law 699 = .ok (.invokevirtual 141, 3) := dk_182 0 141 (dk_at dksL_law_25 9 rfl rfl)
theorem dL_law_702 : decode cL_law 702 = .ok (.istore 7, 2) := dk_54 7 (dk_at dksL_law_25 12 rfl rfl)
theorem dL_law_704 : decode cL_law 704 = .ok (.aload_n 2, 1) := dk_44 (dk_at dksL_law_25 14 rfl rfl)
theorem dL_law_705 : decode cL_law 705 = .ok (.invokevirtual 111, 3) := dk_182 0 111 (dk_at dksL_law_25 15 rfl rfl)
theorem dL_law_708 : decode cL_law 708 = .ok (.iload 6, 2) := dk_21 6 (dk_at dksL_law_25 18 rfl rfl)
theorem dL_law_710 : decode cL_law 710 = .ok (.if_icmp .eq 5, 3) := dk_159 0 5 (dk_at dksL_law_25 20 rfl rfl)
theorem dL_law_713 : decode cL_law 713 = .ok (.iconst 0, 1) := dk_3 (dk_at dksL_law_25 23 rfl rfl)
theorem dL_law_714 : decode cL_law 714 = .ok (.ireturn, 1) := dk_172 (dk_at dksL_law_26 0 rfl rfl)
theorem dL_law_715 : decode cL_law 715 = .ok (.iload 6, 2) := dk_21 6 (dk_at dksL_law_26 1 rfl rfl)
theorem dL_law_717 : decode cL_law 717 = .ok (.ifCond .ne 15, 3) := dk_154 0 15 (dk_at dksL_law_26 3 rfl rfl)
theorem dL_law_720 : decode cL_law 720 = .ok (.aload_n 3, 1) := dk_45 (dk_at dksL_law_26 6 rfl rfl)
theorem dL_law_721 : decode cL_law 721 = .ok (.iconst 0, 1) := dk_3 (dk_at dksL_law_26 7 rfl rfl)
theorem dL_law_722 : decode cL_law 722 = .ok (.laload, 1) := dk_47 (dk_at dksL_law_26 8 rfl rfl)
theorem dL_law_723 : decode cL_law 723 = .ok (.iload 7, 2) := dk_21 7 (dk_at dksL_law_26 9 rfl rfl)
theorem dL_law_725 : decode cL_law 725 = .ok (.i2l, 1) := dk_133 (dk_at dksL_law_26 11 rfl rfl)
theorem dL_law_726 : decode cL_law 726 = .ok (.lcmp, 1) := dk_148 (dk_at dksL_law_26 12 rfl rfl)
theorem dL_law_727 : decode cL_law 727 = .ok (.ifCond .eq 5, 3) := dk_153 0 5 (dk_at dksL_law_26 13 rfl rfl)
theorem dL_law_730 : decode cL_law 730 = .ok (.iconst 0, 1) := dk_3 (dk_at dksL_law_26 16 rfl rfl)
theorem dL_law_731 : decode cL_law 731 = .ok (.ireturn, 1) := dk_172 (dk_at dksL_law_26 17 rfl rfl)
theorem dL_law_732 : decode cL_law 732 = .ok (.goto 990, 3) := dk_167 3 222 (dk_at dksL_law_26 18 rfl rfl)
theorem dL_law_735 : decode cL_law 735 = .ok (.aload_n 1, 1) := dk_43 (dk_at dksL_law_26 21 rfl rfl)
theorem dL_law_736 : decode cL_law 736 = .ok (.aload_n 0, 1) := dk_42 (dk_at dksL_law_26 22 rfl rfl)
theorem dL_law_737 : decode cL_law 737 = .ok (.iload 5, 2) := dk_21 5 (dk_at dksL_law_27 0 rfl rfl)
theorem dL_law_739 : decode cL_law 739 = .ok (.iconst 1, 1) := dk_4 (dk_at dksL_law_27 2 rfl rfl)
theorem dL_law_740 : decode cL_law 740 = .ok (.iadd, 1) := dk_96 (dk_at dksL_law_27 3 rfl rfl)
theorem dL_law_741 : decode cL_law 741 = .ok (.iaload, 1) := dk_46 (dk_at dksL_law_27 4 rfl rfl)
theorem dL_law_742 : decode cL_law 742 = .ok (.aload_n 3, 1) := dk_45 (dk_at dksL_law_27 5 rfl rfl)
theorem dL_law_743 : decode cL_law 743 = .ok (.invokestatic 142, 3) := dk_184 0 142 (dk_at dksL_law_27 6 rfl rfl)
theorem dL_law_746 : decode cL_law 746 = .ok (.istore 6, 2) := dk_54 6 (dk_at dksL_law_27 9 rfl rfl)
theorem dL_law_748 : decode cL_law 748 = .ok (.aload_n 2, 1) := dk_44 (dk_at dksL_law_27 11 rfl rfl)
theorem dL_law_749 : decode cL_law 749 = .ok (.aload_n 0, 1) := dk_42 (dk_at dksL_law_27 12 rfl rfl)
theorem dL_law_750 : decode cL_law 750 = .ok (.iload 5, 2) := dk_21 5 (dk_at dksL_law_27 13 rfl rfl)
theorem dL_law_752 : decode cL_law 752 = .ok (.iconst 1, 1) := dk_4 (dk_at dksL_law_27 15 rfl rfl)
theorem dL_law_753 : decode cL_law 753 = .ok (.iadd, 1) := dk_96 (dk_at dksL_law_27 16 rfl rfl)
theorem dL_law_754 : decode cL_law 754 = .ok (.iaload, 1) := dk_46 (dk_at dksL_law_27 17 rfl rfl)
theorem dL_law_755 : decode cL_law 755 = .ok (.invokevirtual 144, 3) := dk_182 0 144 (dk_at dksL_law_27 18 rfl rfl)
theorem dL_law_758 : decode cL_law 758 = .ok (.istore 7, 2) := dk_54 7 (dk_at dksL_law_27 21 rfl rfl)
theorem dL_law_760 : decode cL_law 760 = .ok (.aload_n 2, 1) := dk_44 (dk_at dksL_law_27 23 rfl rfl)
theorem dL_law_761 : decode cL_law 761 = .ok (.invokevirtual 111, 3) := dk_182 0 111 (dk_at dksL_law_28 0 rfl rfl)
theorem dL_law_764 : decode cL_law 764 = .ok (.iload 6, 2) := dk_21 6 (dk_at dksL_law_28 3 rfl rfl)
theorem dL_law_766 : decode cL_law 766 = .ok (.if_icmp .eq 5, 3) := dk_159 0 5 (dk_at dksL_law_28 5 rfl rfl)
theorem dL_law_769 : decode cL_law 769 = .ok (.iconst 0, 1) := dk_3 (dk_at dksL_law_28 8 rfl rfl)
theorem dL_law_770 : decode cL_law 770 = .ok (.ireturn, 1) := dk_172 (dk_at dksL_law_28 9 rfl rfl)
theorem dL_law_771 : decode cL_law 771 = .ok (.iload 6, 2) := dk_21 6 (dk_at dksL_law_28 10 rfl rfl)
theorem dL_law_773 : decode cL_law 773 = .ok (.ifCond .ne 15, 3) := dk_154 0 15 (dk_at dksL_law_28 12 rfl rfl)
theorem dL_law_776 : decode cL_law 776 = .ok (.aload_n 3, 1) := dk_45 (dk_at dksL_law_28 15 rfl rfl)
theorem dL_law_777 : decode cL_law 777 = .ok (.iconst 0, 1) := dk_3 (dk_at dksL_law_28 16 rfl rfl)
theorem dL_law_778 : decode cL_law 778 = .ok (.laload, 1) := dk_47 (dk_at dksL_law_28 17 rfl rfl)
theorem dL_law_779 : decode cL_law 779 = .ok (.iload 7, 2) := dk_21 7 (dk_at dksL_law_28 18 rfl rfl)
theorem dL_law_781 : decode cL_law 781 = .ok (.i2l, 1) := dk_133 (dk_at dksL_law_28 20 rfl rfl)
theorem dL_law_782 : decode cL_law 782 = .ok (.lcmp, 1) := dk_148 (dk_at dksL_law_28 21 rfl rfl)
theorem dL_law_783 : decode cL_law 783 = .ok (.ifCond .eq 5, 3) := dk_153 0 5 (dk_at dksL_law_29 0 rfl rfl)
theorem dL_law_786 : decode cL_law 786 = .ok (.iconst 0, 1) := dk_3 (dk_at dksL_law_29 3 rfl rfl)
theorem dL_law_787 : decode cL_law 787 = .ok (.ireturn, 1) := dk_172 (dk_at dksL_law_29 4 rfl rfl)
theorem dL_law_788 : decode cL_law 788 = .ok (.goto 934, 3) := dk_167 3 166 (dk_at dksL_law_29 5 rfl rfl)
theorem dL_law_791 : decode cL_law 791 = .ok (.aload_n 1, 1) := dk_43 (dk_at dksL_law_29 8 rfl rfl)
theorem dL_law_792 : decode cL_law 792 = .ok (.aload_n 0, 1) := dk_42 (dk_at dksL_law_29 9 rfl rfl)
theorem dL_law_793 : decode cL_law 793 = .ok (.iload 5, 2) := dk_21 5 (dk_at dksL_law_29 10 rfl rfl)
theorem dL_law_795 : decode cL_law 795 = .ok (.iconst 1, 1) := dk_4 (dk_at dksL_law_29 12 rfl rfl)
theorem dL_law_796 : decode cL_law 796 = .ok (.iadd, 1) := dk_96 (dk_at dksL_law_29 13 rfl rfl)
theorem dL_law_797 : decode cL_law 797 = .ok (.iaload, 1) := dk_46 (dk_at dksL_law_29 14 rfl rfl)
theorem dL_law_798 : decode cL_law 798 = .ok (.aload_n 3, 1) := dk_45 (dk_at dksL_law_29 15 rfl rfl)
theorem dL_law_799 : decode cL_law 799 = .ok (.invokestatic 145, 3) := dk_184 0 145 (dk_at dksL_law_29 16 rfl rfl)
theorem dL_law_802 : decode cL_law 802 = .ok (.istore 6, 2) := dk_54 6 (dk_at dksL_law_29 19 rfl rfl)
theorem dL_law_804 : decode cL_law 804 = .ok (.aload_n 2, 1) := dk_44 (dk_at dksL_law_29 21 rfl rfl)
theorem dL_law_805 : decode cL_law 805 = .ok (.aload_n 0, 1) := dk_42 (dk_at dksL_law_29 22 rfl rfl)
theorem dL_law_806 : decode cL_law 806 = .ok (.iload 5, 2) := dk_21 5 (dk_at dksL_law_30 0 rfl rfl)
theorem dL_law_808 : decode cL_law 808 = .ok (.iconst 1, 1) := dk_4 (dk_at dksL_law_30 2 rfl rfl)
theorem dL_law_809 : decode cL_law 809 = .ok (.iadd, 1) := dk_96 (dk_at dksL_law_30 3 rfl rfl)
theorem dL_law_810 : decode cL_law 810 = .ok (.iaload, 1) := dk_46 (dk_at dksL_law_30 4 rfl rfl)
theorem dL_law_811 : decode cL_law 811 = .ok (.invokevirtual 147, 3) := dk_182 0 147 (dk_at dksL_law_30 5 rfl rfl)
theorem dL_law_814 : decode cL_law 814 = .ok (.istore 7, 2) := dk_54 7 (dk_at dksL_law_30 8 rfl rfl)
theorem dL_law_816 : decode cL_law 816 = .ok (.aload_n 2, 1) := dk_44 (dk_at dksL_law_30 10 rfl rfl)
theorem dL_law_817 : decode cL_law 817 = .ok (.invokevirtual 111, 3) := dk_182 0 111 (dk_at dksL_law_30 11 rfl rfl)
theorem dL_law_820 : decode cL_law 820 = .ok (.iload 6, 2) := dk_21 6 (dk_at dksL_law_30 14 rfl rfl)
theorem dL_law_822 : decode cL_law 822 = .ok (.if_icmp .eq 5, 3) := dk_159 0 5 (dk_at dksL_law_30 16 rfl rfl)
theorem dL_law_825 : decode cL_law 825 = .ok (.iconst 0, 1) := dk_3 (dk_at dksL_law_30 19 rfl rfl)
theorem dL_law_826 : decode cL_law 826 = .ok (.ireturn, 1) := dk_172 (dk_at dksL_law_30 20 rfl rfl)
theorem dL_law_827 : decode cL_law 827 = .ok (.iload 6, 2) := dk_21 6 (dk_at dksL_law_30 21 rfl rfl)
theorem dL_law_829 : decode cL_law 829 = .ok (.ifCond .ne 15, 3) := dk_154 0 15 (dk_at dksL_law_31 0 rfl rfl)
theorem dL_law_832 : decode cL_law 832 = .ok (.aload_n 3, 1) := dk_45 (dk_at dksL_law_31 3 rfl rfl)
theorem dL_law_833 : decode cL_law 833 = .ok (.iconst 0, 1) := dk_3 (dk_at dksL_law_31 4 rfl rfl)
theorem dL_law_834 : decode cL_law 834 = .ok (.laload, 1) := dk_47 (dk_at dksL_law_31 5 rfl rfl)
theorem dL_law_835 : decode cL_law 835 = .ok (.iload 7, 2) := dk_21 7 (dk_at dksL_law_31 6 rfl rfl)
theorem dL_law_837 : decode cL_law 837 = .ok (.i2l, 1) := dk_133 (dk_at dksL_law_31 8 rfl rfl)
theorem dL_law_838 : decode cL_law 838 = .ok (.lcmp, 1) := dk_148 (dk_at dksL_law_31 9 rfl rfl)
theorem dL_law_839 : decode cL_law 839 = .ok (.ifCond .eq 5, 3) := dk_153 0 5 (dk_at dksL_law_31 10 rfl rfl)
theorem dL_law_842 : decode cL_law 842 = .ok (.iconst 0, 1) := dk_3 (dk_at dksL_law_31 13 rfl rfl)
theorem dL_law_843 : decode cL_law 843 = .ok (.ireturn, 1) := dk_172 (dk_at dksL_law_31 14 rfl rfl)
theorem dL_law_844 : decode cL_law 844 = .ok (.goto 878, 3) := dk_167 3 110 (dk_at dksL_law_31 15 rfl rfl)
theorem dL_law_847 : decode cL_law 847 = .ok (.aload_n 1, 1) := dk_43 (dk_at dksL_law_31 18 rfl rfl)
theorem dL_law_848 : decode cL_law 848 = .ok (.aload_n 0, 1) := dk_42 (dk_at dksL_law_31 19 rfl rfl)
theorem dL_law_849 : decode cL_law 849 = .ok (.iload 5, 2) := dk_21 5 (dk_at dksL_law_31 20 rfl rfl)
theorem dL_law_851 : decode cL_law 851 = .ok (.iconst 1, 1) := dk_4 (dk_at dksL_law_31 22 rfl rfl)
theorem dL_law_852 : decode cL_law 852 = .ok (.iadd, 1) := dk_96 (dk_at dksL_law_31 23 rfl rfl)
theorem dL_law_853 : decode cL_law 853 = .ok (.iaload, 1) := dk_46 (dk_at dksL_law_32 0 rfl rfl)
theorem dL_law_854 : decode cL_law 854 = .ok (.aload_n 0, 1) := dk_42 (dk_at dksL_law_32 1 rfl rfl)
theorem dL_law_855 : decode cL_law 855 = .ok (.iload 5, 2) := dk_21 5 (dk_at dksL_law_32 2 rfl rfl)
theorem dL_law_857 : decode cL_law 857 = .ok (.iconst 2, 1) := dk_5 (dk_at dksL_law_32 4 rfl rfl)
theorem dL_law_858 : decode cL_law 858 = .ok (.iadd, 1) := dk_96 (dk_at dksL_law_32 5 rfl rfl)
theorem dL_law_859 : decode cL_law 859 = .ok (.iaload, 1) := dk_46 (dk_at dksL_law_32 6 rfl rfl)
theorem dL_law_860 : decode cL_law 860 = .ok (.aload_n 3, 1) := dk_45 (dk_at dksL_law_32 7 rfl rfl)
theorem dL_law_861 : decode cL_law 861 = .ok (.invokestatic 148, 3) := dk_184 0 148 (dk_at dksL_law_32 8 rfl rfl)
theorem dL_law_864 : decode cL_law 864 = .ok (.istore 6, 2) := dk_54 6 (dk_at dksL_law_32 11 rfl rfl)
theorem dL_law_866 : decode cL_law 866 = .ok (.aload_n 2, 1) := dk_44 (dk_at dksL_law_32 13 rfl rfl)
theorem dL_law_867 : decode cL_law 867 = .ok (.aload_n 0, 1) := dk_42 (dk_at dksL_law_32 14 rfl rfl)
theorem dL_law_868 : decode cL_law 868 = .ok (.iload 5, 2) := dk_21 5 (dk_at dksL_law_32 15 rfl rfl)
theorem dL_law_870 : decode cL_law 870 = .ok (.iconst 1, 1) := dk_4 (dk_at dksL_law_32 17 rfl rfl)
theorem dL_law_871 : decode cL_law 871 = .ok (.iadd, 1) := dk_96 (dk_at dksL_law_32 18 rfl rfl)
theorem dL_law_872 : decode cL_law 872 = .ok (.iaload, 1) := dk_46 (dk_at dksL_law_32 19 rfl rfl)
theorem dL_law_873 : decode cL_law 873 = .ok (.aload_n 0, 1) := dk_42 (dk_at dksL_law_32 20 rfl rfl)
theorem dL_law_874 : decode cL_law 874 = .ok (.iload 5, 2) := dk_21 5 (dk_at dksL_law_32 21 rfl rfl)
theorem dL_law_876 : decode cL_law 876 = .ok (.iconst 2, 1) := dk_5 (dk_at dksL_law_32 23 rfl rfl)
theorem dL_law_877 : decode cL_law 877 = .ok (.iadd, 1) := dk_96 (dk_at dksL_law_33 0 rfl rfl)
theorem dL_law_878 : decode cL_law 878 = .ok (.iaload, 1) := dk_46 (dk_at dksL_law_33 1 rfl rfl)
theorem dL_law_879 : decode cL_law 879 = .ok (.invokevirtual 150, 3) := dk_182 0 150 (dk_at dksL_law_33 2 rfl rfl)
theorem dL_law_882 : decode cL_law 882 = .ok (.istore 7, 2) := dk_54 7 (dk_at dksL_law_33 5 rfl rfl)
theorem dL_law_884 : decode cL_law 884 = .ok (.aload_n 2, 1) := dk_44 (dk_at dksL_law_33 7 rfl rfl)
theorem dL_law_885 : decode cL_law 885 = .ok (.invokevirtual 111, 3) := dk_182 0 111 (dk_at dksL_law_33 8 rfl rfl)
theorem dL_law_888 : decode cL_law 888 = .ok (.iload 6, 2) := dk_21 6 (dk_at dksL_law_33 11 rfl rfl)
theorem dL_law_890 : decode cL_law 890 = .ok (.if_icmp .eq 5, 3) := dk_159 0 5 (dk_at dksL_law_33 13 rfl rfl)
theorem dL_law_893 : decode cL_law 893 = .ok (.iconst 0, 1) := dk_3 (dk_at dksL_law_33 16 rfl rfl)
theorem dL_law_894 : decode cL_law 894 = .ok (.ireturn, 1) := dk_172 (dk_at dksL_law_33 17 rfl rfl)
theorem dL_law_895 : decode cL_law 895 = .ok (.iload 6, 2) := dk_21 6 (dk_at dksL_law_33 18 rfl rfl)
theorem dL_law_897 : decode cL_law 897 = .ok (.ifCond .ne 15, 3) := dk_154 0 15 (dk_at dksL_law_33 20 rfl rfl)
theorem dL_law_900 : decode cL_law 900 = .ok (.aload_n 3, 1) := dk_45 (dk_at dksL_law_33 23 rfl rfl)
theorem dL_law_901 : decode cL_law 901 = .ok (.iconst 0, 1) := dk_3 (dk_at dksL_law_34 0 rfl rfl)
theorem dL_law_902 : decode cL_law 902 = .ok (.laload, 1) := dk_47 (dk_at dksL_law_34 1 rfl rfl)
theorem dL_law_903 : decode cL_law 903 = .ok (.iload 7, 2) := dk_21 7 (dk_at dksL_law_34 2 rfl rfl)
theorem dL_law_905 : decode cL_law 905 = .ok (.i2l, 1) := dk_133 (dk_at dksL_law_34 4 rfl rfl)
theorem dL_law_906 : decode cL_law 906 = .ok (.lcmp, 1) := dk_148 (dk_at dksL_law_34 5 rfl rfl)
theorem dL_law_907 : decode cL_law 907 = .ok (.ifCond .eq 5, 3) := dk_153 0 5 (dk_at dksL_law_34 6 rfl rfl)
theorem dL_law_910 : decode cL_law 910 = .ok (.iconst 0, 1) := dk_3 (dk_at dksL_law_34 9 rfl rfl)
theorem dL_law_911 : decode cL_law 911 = .ok (.ireturn, 1) := dk_172 (dk_at dksL_law_34 10 rfl rfl)
theorem dL_law_912 : decode cL_law 912 = .ok (.goto 810, 3) := dk_167 3 42 (dk_at dksL_law_34 11 rfl rfl)
theorem dL_law_915 : decode cL_law 915 = .ok (.aload_n 1, 1) := dk_43 (dk_at dksL_law_34 14 rfl rfl)
theorem dL_law_916 : decode cL_law 916 = .ok (.aload_n 0, 1) := dk_42 (dk_at dksL_law_34 15 rfl rfl)
theorem dL_law_917 : decode cL_law 917 = .ok (.iload 5, 2) := dk_21 5 (dk_at dksL_law_34 16 rfl rfl)
theorem dL_law_919 : decode cL_law 919 = .ok (.iconst 1, 1) := dk_4 (dk_at dksL_law_34 18 rfl rfl)
theorem dL_law_920 : decode cL_law 920 = .ok (.iadd, 1) := dk_96 (dk_at dksL_law_34 19 rfl rfl)
theorem dL_law_921 : decode cL_law 921 = .ok (.iaload, 1) := dk_46 (dk_at dksL_law_34 20 rfl rfl)
theorem dL_law_922 : decode cL_law 922 = .ok (.aload_n 3, 1) := dk_45 (dk_at dksL_law_34 21 rfl rfl)
theorem dL_law_923 : decode cL_law 923 = .ok (.invokestatic 151, 3) := dk_184 0 151 (dk_at dksL_law_35 0 rfl rfl)
theorem dL_law_926 : decode cL_law 926 = .ok (.istore 6, 2) := dk_54 6 (dk_at dksL_law_35 3 rfl rfl)
theorem dL_law_928 : decode cL_law 928 = .ok (.aload_n 2, 1) := dk_44 (dk_at dksL_law_35 5 rfl rfl)
theorem dL_law_929 : decode cL_law 929 = .ok (.aload_n 0, 1) := dk_42 (dk_at dksL_law_35 6 rfl rfl)
theorem dL_law_930 : decode cL_law 930 = .ok (.iload 5, 2) := dk_21 5 (dk_at dksL_law_35 7 rfl rfl)
theorem dL_law_932 : decode cL_law 932 = .ok (.iconst 1, 1) := dk_4 (dk_at dksL_law_35 9 rfl rfl)
theorem dL_law_933 : decode cL_law 933 = .ok (.iadd, 1) := dk_96 (dk_at dksL_law_35 10 rfl rfl)
theorem dL_law_934 : decode cL_law 934 = .ok (.iaload, 1) := dk_46 (dk_at dksL_law_35 11 rfl rfl)
theorem dL_law_935 : decode cL_law 935 = .ok (.invokevirtual 153, 3) := dk_182 0 153 (dk_at dksL_law_35 12 rfl rfl)
theorem dL_law_938 : decode cL_law 938 = .ok (.istore 7, 2) := dk_54 7 (dk_at dksL_law_35 15 rfl rfl)
theorem dL_law_940 : decode cL_law 940 = .ok (.aload_n 2, 1) := dk_44 (dk_at dksL_law_35 17 rfl rfl)
theorem dL_law_941 : decode cL_law 941 = .ok (.invokevirtual 111, 3) := dk_182 0 111 (dk_at dksL_law_35 18 rfl rfl)
theorem dL_law_944 : decode cL_law 944 = .ok (.iload 6, 2) := dk_21 6 (dk_at dksL_law_35 21 rfl rfl)
theorem dL_law_946 : decode cL_law 946 = .ok (.if_icmp .eq 5, 3) := dk_159 0 5 (dk_at dksL_law_36 0 rfl rfl)
theorem dL_law_949 : decode cL_law 949 = .ok (.iconst 0, 1) := dk_3 (dk_at dksL_law_36 3 rfl rfl)
theorem dL_law_950 : decode cL_law 950 = .ok (.ireturn, 1) := dk_172 (dk_at dksL_law_36 4 rfl rfl)
theorem dL_law_951 : decode cL_law 951 = .ok (.iload 6, 2) := dk_21 6 (dk_at dksL_law_36 5 rfl rfl)
theorem dL_law_953 : decode cL_law 953 = .ok (.ifCond .ne 15, 3) := dk_154 0 15 (dk_at dksL_law_36 7 rfl rfl)
theorem dL_law_956 : decode cL_law 956 = .ok (.aload_n 3, 1) := dk_45 (dk_at dksL_law_36 10 rfl rfl)
theorem dL_law_957 : decode cL_law 957 = .ok (.iconst 0, 1) := dk_3 (dk_at dksL_law_36 11 rfl rfl)
theorem dL_law_958 : decode cL_law 958 = .ok (.laload, 1) := dk_47 (dk_at dksL_law_36 12 rfl rfl)
theorem dL_law_959 : decode cL_law 959 = .ok (.iload 7, 2) := dk_21 7 (dk_at dksL_law_36 13 rfl rfl)
theorem dL_law_961 : decode cL_law 961 = .ok (.i2l, 1) := dk_133 (dk_at dksL_law_36 15 rfl rfl)
theorem dL_law_962 : decode cL_law 962 = .ok (.lcmp, 1) := dk_148 (dk_at dksL_law_36 16 rfl rfl)
theorem dL_law_963 : decode cL_law 963 = .ok (.ifCond .eq 5, 3) := dk_153 0 5 (dk_at dksL_law_36 17 rfl rfl)
theorem dL_law_966 : decode cL_law 966 = .ok (.iconst 0, 1) := dk_3 (dk_at dksL_law_36 20 rfl rfl)
theorem dL_law_967 : decode cL_law 967 = .ok (.ireturn, 1) := dk_172 (dk_at dksL_law_36 21 rfl rfl)
theorem dL_law_968 : decode cL_law 968 = .ok (.goto 754, 3) := dk_167 2 242 (dk_at dksL_law_37 0 rfl rfl)
theorem dL_law_971 : decode cL_law 971 = .ok (.aload_n 1, 1) := dk_43 (dk_at dksL_law_37 3 rfl rfl)
theorem dL_law_972 : decode cL_law 972 = .ok (.aload_n 0, 1) := dk_42 (dk_at dksL_law_37 4 rfl rfl)
theorem dL_law_973 : decode cL_law 973 = .ok (.iload 5, 2) := dk_21 5 (dk_at dksL_law_37 5 rfl rfl)
theorem dL_law_975 : decode cL_law 975 = .ok (.iconst 1, 1) := dk_4 (dk_at dksL_law_37 7 rfl rfl)
theorem dL_law_976 : decode cL_law 976 = .ok (.iadd, 1) := dk_96 (dk_at dksL_law_37 8 rfl rfl)
theorem dL_law_977 : decode cL_law 977 = .ok (.iaload, 1) := dk_46 (dk_at dksL_law_37 9 rfl rfl)
theorem dL_law_978 : decode cL_law 978 = .ok (.aload_n 3, 1) := dk_45 (dk_at dksL_law_37 10 rfl rfl)
theorem dL_law_979 : decode cL_law 979 = .ok (.invokestatic 154, 3) := dk_184 0 154 (dk_at dksL_law_37 11 rfl rfl)
theorem dL_law_982 : decode cL_law 982 = .ok (.istore 6, 2) := dk_54 6 (dk_at dksL_law_37 14 rfl rfl)
theorem dL_law_984 : decode cL_law 984 = .ok (.aload_n 2, 1) := dk_44 (dk_at dksL_law_37 16 rfl rfl)
theorem dL_law_985 : decode cL_law 985 = .ok (.aload_n 0, 1) := dk_42 (dk_at dksL_law_37 17 rfl rfl)
theorem dL_law_986 : decode cL_law 986 = .ok (.iload 5, 2) := dk_21 5 (dk_at dksL_law_37 18 rfl rfl)
theorem dL_law_988 : decode cL_law 988 = .ok (.iconst 1, 1) := dk_4 (dk_at dksL_law_37 20 rfl rfl)
theorem dL_law_989 : decode cL_law 989 = .ok (.iadd, 1) := dk_96 (dk_at dksL_law_37 21 rfl rfl)
theorem dL_law_990 : decode cL_law 990 = .ok (.iaload, 1) := dk_46 (dk_at dksL_law_37 22 rfl rfl)
theorem dL_law_991 : decode cL_law 991 = .ok (.invokevirtual 156, 3) := dk_182 0 156 (dk_at dksL_law_38 0 rfl rfl)
theorem dL_law_994 : decode cL_law 994 = .ok (.istore 7, 2) := dk_54 7 (dk_at dksL_law_38 3 rfl rfl)
theorem dL_law_996 : decode cL_law 996 = .ok (.aload_n 2, 1) := dk_44 (dk_at dksL_law_38 5 rfl rfl)
theorem dL_law_997 : decode cL_law 997 = .ok (.invokevirtual 111, 3) := dk_182 0 111 (dk_at dksL_law_38 6 rfl rfl)
theorem dL_law_1000 : decode cL_law 1000 = .ok (.iload 6, 2) := dk_21 6 (dk_at dksL_law_38 9 rfl rfl)
theorem dL_law_1002 : decode cL_law 1002 = .ok (.if_icmp .eq 5, 3) := dk_159 0 5 (dk_at dksL_law_38 11 rfl rfl)
theorem dL_law_1005 : decode cL_law 1005 = .ok (.iconst 0, 1) := dk_3 (dk_at dksL_law_38 14 rfl rfl)
theorem dL_law_1006 : decode cL_law 1006 = .ok (.ireturn, 1) := dk_172 (dk_at dksL_law_38 15 rfl rfl)
theorem dL_law_1007 : decode cL_law 1007 = .ok (.iload 6, 2) := dk_21 6 (dk_at dksL_law_38 16 rfl rfl)
theorem dL_law_1009 : decode cL_law 1009 = .ok (.ifCond .ne 15, 3) := dk_154 0 15 (dk_at dksL_law_38 18 rfl rfl)
theorem dL_law_1012 : decode cL_law 1012 = .ok (.aload_n 3, 1) := dk_45 (dk_at dksL_law_38 21 rfl rfl)
theorem dL_law_1013 : decode cL_law 1013 = .ok (.iconst 0, 1) := dk_3 (dk_at dksL_law_38 22 rfl rfl)
theorem dL_law_1014 : decode cL_law 1014 = .ok (.laload, 1) := dk_47 (dk_at dksL_law_38 23 rfl rfl)
theorem dL_law_1015 : decode cL_law 1015 = .ok (.iload 7, 2) := dk_21 7 (dk_at dksL_law_39 0 rfl rfl)
theorem dL_law_1017 : decode cL_law 1017 = .ok (.i2l, 1) := dk_133 (dk_at dksL_law_39 2 rfl rfl)
theorem dL_law_1018 : decode cL_law 1018 = .ok (.lcmp, 1) := dk_148 (dk_at dksL_law_39 3 rfl rfl)
theorem dL_law_1019 : decode cL_law 1019 = .ok (.ifCond .eq 5, 3) := dk_153 0 5 (dk_at dksL_law_39 4 rfl rfl)
theorem dL_law_1022 : decode cL_law 1022 = .ok (.iconst 0, 1) := dk_3 (dk_at dksL_law_39 7 rfl rfl)
theorem dL_law_1023 : decode cL_law 1023 = .ok (.ireturn, 1) := dk_172 (dk_at dksL_law_39 8 rfl rfl)
theorem dL_law_1024 : decode cL_law 1024 = .ok (.goto 698, 3) := dk_167 2 186 (dk_at dksL_law_39 9 rfl rfl)
theorem dL_law_1027 : decode cL_law 1027 = .ok (.aload_n 1, 1) := dk_43 (dk_at dksL_law_39 12 rfl rfl)
theorem dL_law_1028 : decode cL_law 1028 = .ok (.aload_n 0, 1) := dk_42 (dk_at dksL_law_39 13 rfl rfl)
theorem dL_law_1029 : decode cL_law 1029 = .ok (.iload 5, 2) := dk_21 5 (dk_at dksL_law_39 14 rfl rfl)
theorem dL_law_1031 : decode cL_law 1031 = .ok (.iconst 1, 1) := dk_4 (dk_at dksL_law_39 16 rfl rfl)
theorem dL_law_1032 : decode cL_law 1032 = .ok (.iadd, 1) := dk_96 (dk_at dksL_law_39 17 rfl rfl)
theorem dL_law_1033 : decode cL_law 1033 = .ok (.iaload, 1) := dk_46 (dk_at dksL_law_39 18 rfl rfl)
theorem dL_law_1034 : decode cL_law 1034 = .ok (.aload_n 3, 1) := dk_45 (dk_at dksL_law_39 19 rfl rfl)
theorem dL_law_1035 : decode cL_law 1035 = .ok (.invokestatic 157, 3) := dk_184 0 157 (dk_at dksL_law_39 20 rfl rfl)
theorem dL_law_1038 : decode cL_law 1038 = .ok (.istore 6, 2) := dk_54 6 (dk_at dksL_law_40 0 rfl rfl)
theorem dL_law_1040 : decode cL_law 1040 = .ok (.aload_n 2, 1) := dk_44 (dk_at dksL_law_40 2 rfl rfl)
theorem dL_law_1041 : decode cL_law 1041 = .ok (.aload_n 0, 1) := dk_42 (dk_at dksL_law_40 3 rfl rfl)
theorem dL_law_1042 : decode cL_law 1042 = .ok (.iload 5, 2) := dk_21 5 (dk_at dksL_law_40 4 rfl rfl)
theorem dL_law_1044 : decode cL_law 1044 = .ok (.iconst 1, 1) := dk_4 (dk_at dksL_law_40 6 rfl rfl)
theorem dL_law_1045 : decode cL_law 1045 = .ok (.iadd, 1) := dk_96 (dk_at dksL_law_40 7 rfl rfl)
theorem dL_law_1046 : decode cL_law 1046 = .ok (.iaload, 1) := dk_46 (dk_at dksL_law_40 8 rfl rfl)
theorem dL_law_1047 : decode cL_law 1047 = .ok (.invokevirtual 159, 3) := dk_182 0 159 (dk_at dksL_law_40 9 rfl rfl)
theorem dL_law_1050 : decode cL_law 1050 = .ok (.istore 7, 2) := dk_54 7 (dk_at dksL_law_40 12 rfl rfl)
theorem dL_law_1052 : decode cL_law 1052 = .ok (.aload_n 2, 1) := dk_44 (dk_at dksL_law_40 14 rfl rfl)
theorem dL_law_1053 : decode cL_law 1053 = .ok (.invokevirtual 111, 3) := dk_182 0 111 (dk_at dksL_law_40 15 rfl rfl)
theorem dL_law_1056 : decode cL_law 1056 = .ok (.iload 6, 2) := dk_21 6 (dk_at dksL_law_40 18 rfl rfl)
theorem dL_law_1058 : decode cL_law 1058 = .ok (.if_icmp .eq 5, 3) := dk_159 0 5 (dk_at dksL_law_40 20 rfl rfl)
theorem dL_law_1061 : decode cL_law 1061 = .ok (.iconst 0, 1) := dk_3 (dk_at dksL_law_40 23 rfl rfl)
theorem dL_law_1062 : decode cL_law 1062 = .ok (.ireturn, 1) := dk_172 (dk_at dksL_law_41 0 rfl rfl)
theorem dL_law_1063 : decode cL_law 1063 = .ok (.iload 6, 2) := dk_21 6 (dk_at dksL_law_41 1 rfl rfl)
theorem dL_law_1065 : decode cL_law 1065 = .ok (.ifCond .ne 15, 3) := dk_154 0 15 (dk_at dksL_law_41 3 rfl rfl)
theorem dL_law_1068 : decode cL_law 1068 = .ok (.aload_n 3, 1) := dk_45 (dk_at dksL_law_41 6 rfl rfl)
theorem dL_law_1069 : decode cL_law 1069 = .ok (.iconst 0, 1) := dk_3 (dk_at dksL_law_41 7 rfl rfl)
theorem dL_law_1070 : decode cL_law 1070 = .ok (.laload, 1) := dk_47 (dk_at dksL_law_41 8 rfl rfl)
theorem dL_law_1071 : decode cL_law 1071 = .ok (.iload 7, 2) := dk_21 7 (dk_at dksL_law_41 9 rfl rfl)
theorem dL_law_1073 : decode cL_law 1073 = .ok (.i2l, 1) := dk_133 (dk_at dksL_law_41 11 rfl rfl)
theorem dL_law_1074 : decode cL_law 1074 = .ok (.lcmp, 1) := dk_148 (dk_at dksL_law_41 12 rfl rfl)
theorem dL_law_1075 : decode cL_law 1075 = .ok (.ifCond .eq 5, 3) := dk_153 0 5 (dk_at dksL_law_41 13 rfl rfl)
theorem dL_law_1078 : decode cL_law 1078 = .ok (.iconst 0, 1) := dk_3 (dk_at dksL_law_41 16 rfl rfl)
theorem dL_law_1079 : decode cL_law 1079 = .ok (.ireturn, 1) := dk_172 (dk_at dksL_law_41 17 rfl rfl)
theorem dL_law_1080 : decode cL_law 1080 = .ok (.goto 642, 3) := dk_167 2 130 (dk_at dksL_law_41 18 rfl rfl)
theorem dL_law_1083 : decode cL_law 1083 = .ok (.aload_n 1, 1) := dk_43 (dk_at dksL_law_41 21 rfl rfl)
theorem dL_law_1084 : decode cL_law 1084 = .ok (.aload_n 0, 1) := dk_42 (dk_at dksL_law_41 22 rfl rfl)
theorem dL_law_1085 : decode cL_law 1085 = .ok (.iload 5, 2) := dk_21 5 (dk_at dksL_law_42 0 rfl rfl)
theorem dL_law_1087 : decode cL_law 1087 = .ok (.iconst 1, 1) := dk_4 (dk_at dksL_law_42 2 rfl rfl)
theorem dL_law_1088 : decode cL_law 1088 = .ok (.iadd, 1) := dk_96 (dk_at dksL_law_42 3 rfl rfl)
theorem dL_law_1089 : decode cL_law 1089 = .ok (.iaload, 1) := dk_46 (dk_at dksL_law_42 4 rfl rfl)
theorem dL_law_1090 : decode cL_law 1090 = .ok (.aload_n 3, 1) := dk_45 (dk_at dksL_law_42 5 rfl rfl)
theorem dL_law_1091 : decode cL_law 1091 = .ok (.invokestatic 160, 3) := dk_184 0 160 (dk_at dksL_law_42 6 rfl rfl)
theorem dL_law_1094 : decode cL_law 1094 = .ok (.istore 6, 2) := dk_54 6 (dk_at dksL_law_42 9 rfl rfl)
theorem dL_law_1096 : decode cL_law 1096 = .ok (.aload_n 2, 1) := dk_44 (dk_at dksL_law_42 11 rfl rfl)
theorem dL_law_1097 : decode cL_law 1097 = .ok (.aload_n 0, 1) := dk_42 (dk_at dksL_law_42 12 rfl rfl)
theorem dL_law_1098 : decode cL_law 1098 = .ok (.iload 5, 2) := dk_21 5 (dk_at dksL_law_42 13 rfl rfl)
theorem dL_law_1100 : decode cL_law 1100 = .ok (.iconst 1, 1) := dk_4 (dk_at dksL_law_42 15 rfl rfl)
theorem dL_law_1101 : decode cL_law 1101 = .ok (.iadd, 1) := dk_96 (dk_at dksL_law_42 16 rfl rfl)
theorem dL_law_1102 : decode cL_law 1102 = .ok (.iaload, 1) := dk_46 (dk_at dksL_law_42 17 rfl rfl)
theorem dL_law_1103 : decode cL_law 1103 = .ok (.invokevirtual 162, 3) := dk_182 0 162 (dk_at dksL_law_42 18 rfl rfl)
theorem dL_law_1106 : decode cL_law 1106 = .ok (.istore 7, 2) := dk_54 7 (dk_at dksL_law_42 21 rfl rfl)
theorem dL_law_1108 : decode cL_law 1108 = .ok (.aload_n 2, 1) := dk_44 (dk_at dksL_law_42 23 rfl rfl)
theorem dL_law_1109 : decode cL_law 1109 = .ok (.invokevirtual 111, 3) := dk_182 0 111 (dk_at dksL_law_43 0 rfl rfl)
theorem dL_law_1112 : decode cL_law 1112 = .ok (.iload 6, 2) := dk_21 6 (dk_at dksL_law_43 3 rfl rfl)
theorem dL_law_1114 : decode cL_law 1114 = .ok (.if_icmp .eq 5, 3) := dk_159 0 5 (dk_at dksL_law_43 5 rfl rfl)
theorem dL_law_1117 : decode cL_law 1117 = .ok (.iconst 0, 1) := dk_3 (dk_at dksL_law_43 8 rfl rfl)
theorem dL_law_1118 : decode cL_law 1118 = .ok (.ireturn, 1) := dk_172 (dk_at dksL_law_43 9 rfl rfl)
theorem dL_law_1119 : decode cL_law 1119 = .ok (.iload 6, 2) := dk_21 6 (dk_at dksL_law_43 10 rfl rfl)
theorem dL_law_1121 : decode cL_law 1121 = .ok (.ifCond .ne 15, 3) := dk_154 0 15 (dk_at dksL_law_43 12 rfl rfl)
theorem dL_law_1124 : decode cL_law 1124 = .ok (.aload_n 3, 1) := dk_45 (dk_at dksL_law_43 15 rfl rfl)
theorem dL_law_1125 : decode cL_law 1125 = .ok (.iconst 0, 1) := dk_3 (dk_at dksL_law_43 16 rfl rfl)
theorem dL_law_1126 : decode cL_law 1126 = .ok (.laload, 1) := dk_47 (dk_at dksL_law_43 17 rfl rfl)
theorem dL_law_1127 : decode cL_law 1127 = .ok (.iload 7, 2) := dk_21 7 (dk_at dksL_law_43 18 rfl rfl)
theorem dL_law_1129 : decode cL_law 1129 = .ok (.i2l, 1) := dk_133 (dk_at dksL_law_43 20 rfl rfl)
theorem dL_law_1130 : decode cL_law 1130 = .ok (.lcmp, 1) := dk_148 (dk_at dksL_law_43 21 rfl rfl)
theorem dL_law_1131 : decode cL_law 1131 = .ok (.ifCond .eq 5, 3) := dk_153 0 5 (dk_at dksL_law_44 0 rfl rfl)
theorem dL_law_1134 : decode cL_law 1134 = .ok (.iconst 0, 1) := dk_3 (dk_at dksL_law_44 3 rfl rfl)
theorem dL_law_1135 : decode cL_law 1135 = .ok (.ireturn, 1) := dk_172 (dk_at dksL_law_44 4 rfl rfl)
theorem dL_law_1136 : decode cL_law 1136 = .ok (.goto 586, 3) := dk_167 2 74 (dk_at dksL_law_44 5 rfl rfl)
theorem dL_law_1139 : decode cL_law 1139 = .ok (.aload_n 1, 1) := dk_43 (dk_at dksL_law_44 8 rfl rfl)
theorem dL_law_1140 : decode cL_law 1140 = .ok (.aload_n 0, 1) := dk_42 (dk_at dksL_law_44 9 rfl rfl)
theorem dL_law_1141 : decode cL_law 1141 = .ok (.iload 5, 2) := dk_21 5 (dk_at dksL_law_44 10 rfl rfl)
theorem dL_law_1143 : decode cL_law 1143 = .ok (.iconst 1, 1) := dk_4 (dk_at dksL_law_44 12 rfl rfl)
theorem dL_law_1144 : decode cL_law 1144 = .ok (.iadd, 1) := dk_96 (dk_at dksL_law_44 13 rfl rfl)
theorem dL_law_1145 : decode cL_law 1145 = .ok (.iaload, 1) := dk_46 (dk_at dksL_law_44 14 rfl rfl)
theorem dL_law_1146 : decode cL_law 1146 = .ok (.aload_n 3, 1) := dk_45 (dk_at dksL_law_44 15 rfl rfl)
theorem dL_law_1147 : decode cL_law 1147 = .ok (.invokestatic 163, 3) := dk_184 0 163 (dk_at dksL_law_44 16 rfl rfl)
theorem dL_law_1150 : decode cL_law 1150 = .ok (.istore 6, 2) := dk_54 6 (dk_at dksL_law_44 19 rfl rfl)
theorem dL_law_1152 : decode cL_law 1152 = .ok (.aload_n 2, 1) := dk_44 (dk_at dksL_law_44 21 rfl rfl)
theorem dL_law_1153 : decode cL_law 1153 = .ok (.aload_n 0, 1) := dk_42 (dk_at dksL_law_44 22 rfl rfl)
theorem dL_law_1154 : decode cL_law 1154 = .ok (.iload 5, 2) := dk_21 5 (dk_at dksL_law_45 0 rfl rfl)
theorem dL_law_1156 : decode cL_law 1156 = .ok (.iconst 1, 1) := dk_4 (dk_at dksL_law_45 2 rfl rfl)
theorem dL_law_1157 : decode cL_law 1157 = .ok (.iadd, 1) := dk_96 (dk_at dksL_law_45 3 rfl rfl)
theorem dL_law_1158 : decode cL_law 1158 = .ok (.iaload, 1) := dk_46 (dk_at dksL_law_45 4 rfl rfl)
theorem dL_law_1159 : decode cL_law 1159 = .ok (.invokevirtual 165, 3) := dk_182 0 165 (dk_at dksL_law_45 5 rfl rfl)
theorem dL_law_1162 : decode cL_law 1162 = .ok (.istore 7, 2) := dk_54 7 (dk_at dksL_law_45 8 rfl rfl)
theorem dL_law_1164 : decode cL_law 1164 = .ok (.aload_n 2, 1) := dk_44 (dk_at dksL_law_45 10 rfl rfl)
theorem dL_law_1165 : decode cL_law 1165 = .ok (.invokevirtual 111, 3) := dk_182 0 111 (dk_at dksL_law_45 11 rfl rfl)
theorem dL_law_1168 : decode cL_law 1168 = .ok (.iload 6, 2) := dk_21 6 (dk_at dksL_law_45 14 rfl rfl)
theorem dL_law_1170 : decode cL_law 1170 = .ok (.if_icmp .eq 5, 3) := dk_159 0 5 (dk_at dksL_law_45 16 rfl rfl)
theorem dL_law_1173 : decode cL_law 1173 = .ok (.iconst 0, 1) := dk_3 (dk_at dksL_law_45 19 rfl rfl)
theorem dL_law_1174 : decode cL_law 1174 = .ok (.ireturn, 1) := dk_172 (dk_at dksL_law_45 20 rfl rfl)
theorem dL_law_1175 : decode cL_law 1175 = .ok (.iload 6, 2) := dk_21 6 (dk_at dksL_law_45 21 rfl rfl)
theorem dL_law_1177 : decode cL_law 1177 = .ok (.ifCond .ne 15, 3) := dk_154 0 15 (dk_at dksL_law_46 0 rfl rfl)
theorem dL_law_1180 : decode cL_law 1180 = .ok (.aload_n 3, 1) := dk_45 (dk_at dksL_law_46 3 rfl rfl)
theorem dL_law_1181 : decode cL_law 1181 = .ok (.iconst 0, 1) := dk_3 (dk_at dksL_law_46 4 rfl rfl)
theorem dL_law_1182 : decode cL_law 1182 = .ok (.laload, 1) := dk_47 (dk_at dksL_law_46 5 rfl rfl)
theorem dL_law_1183 : decode cL_law 1183 = .ok (.iload 7, 2) := dk_21 7 (dk_at dksL_law_46 6 rfl rfl)
theorem dL_law_1185 : decode cL_law 1185 = .ok (.i2l, 1) := dk_133 (dk_at dksL_law_46 8 rfl rfl)
theorem dL_law_1186 : decode cL_law 1186 = .ok (.lcmp, 1) := dk_148 (dk_at dksL_law_46 9 rfl rfl)
theorem dL_law_1187 : decode cL_law 1187 = .ok (.ifCond .eq 5, 3) := dk_153 0 5 (dk_at dksL_law_46 10 rfl rfl)
theorem dL_law_1190 : decode cL_law 1190 = .ok (.iconst 0, 1) := dk_3 (dk_at dksL_law_46 13 rfl rfl)
theorem dL_law_1191 : decode cL_law 1191 = .ok (.ireturn, 1) := dk_172 (dk_at dksL_law_46 14 rfl rfl)
theorem dL_law_1192 : decode cL_law 1192 = .ok (.goto 530, 3) := dk_167 2 18 (dk_at dksL_law_46 15 rfl rfl)
theorem dL_law_1195 : decode cL_law 1195 = .ok (.aload_n 1, 1) := dk_43 (dk_at dksL_law_46 18 rfl rfl)
theorem dL_law_1196 : decode cL_law 1196 = .ok (.aload_n 0, 1) := dk_42 (dk_at dksL_law_46 19 rfl rfl)
theorem dL_law_1197 : decode cL_law 1197 = .ok (.iload 5, 2) := dk_21 5 (dk_at dksL_law_46 20 rfl rfl)
theorem dL_law_1199 : decode cL_law 1199 = .ok (.iconst 1, 1) := dk_4 (dk_at dksL_law_46 22 rfl rfl)
theorem dL_law_1200 : decode cL_law 1200 = .ok (.iadd, 1) := dk_96 (dk_at dksL_law_46 23 rfl rfl)
theorem dL_law_1201 : decode cL_law 1201 = .ok (.iaload, 1) := dk_46 (dk_at dksL_law_47 0 rfl rfl)
theorem dL_law_1202 : decode cL_law 1202 = .ok (.aload_n 3, 1) := dk_45 (dk_at dksL_law_47 1 rfl rfl)
theorem dL_law_1203 : decode cL_law 1203 = .ok (.invokestatic 166, 3) := dk_184 0 166 (dk_at dksL_law_47 2 rfl rfl)
theorem dL_law_1206 : decode cL_law 1206 = .ok (.istore 6, 2) := dk_54 6 (dk_at dksL_law_47 5 rfl rfl)
theorem dL_law_1208 : decode cL_law 1208 = .ok (.aload_n 2, 1) := dk_44 (dk_at dksL_law_47 7 rfl rfl)
theorem dL_law_1209 : decode cL_law 1209 = .ok (.aload_n 0, 1) := dk_42 (dk_at dksL_law_47 8 rfl rfl)
theorem dL_law_1210 : decode cL_law 1210 = .ok (.iload 5, 2) := dk_21 5 (dk_at dksL_law_47 9 rfl rfl)
theorem dL_law_1212 : decode cL_law 1212 = .ok (.iconst 1, 1) := dk_4 (dk_at dksL_law_47 11 rfl rfl)
theorem dL_law_1213 : decode cL_law 1213 = .ok (.iadd, 1) := dk_96 (dk_at dksL_law_47 12 rfl rfl)
theorem dL_law_1214 : decode cL_law 1214 = .ok (.iaload, 1) := dk_46 (dk_at dksL_law_47 13 rfl rfl)
theorem dL_law_1215 : decode cL_law 1215 = .ok (.invokevirtual 168, 3) := dk_182 0 168 (dk_at dksL_law_47 14 rfl rfl)
theorem dL_law_1218 : decode cL_law 1218 = .ok (.istore 7, 2) := dk_54 7 (dk_at dksL_law_47 17 rfl rfl)
theorem dL_law_1220 : decode cL_law 1220 = .ok (.aload_n 2, 1) := dk_44 (dk_at dksL_law_47 19 rfl rfl)
theorem dL_law_1221 : decode cL_law 1221 = .ok (.invokevirtual 111, 3) := dk_182 0 111 (dk_at dksL_law_47 20 rfl rfl)
theorem dL_law_1224 : decode cL_law 1224 = .ok (.iload 6, 2) := dk_21 6 (dk_at dksL_law_48 0 rfl rfl)
theorem dL_law_1226 : decode cL_law 1226 = .ok (.if_icmp .eq 5, 3) := dk_159 0 5 (dk_at dksL_law_48 2 rfl rfl)
theorem dL_law_1229 : decode cL_law 1229 = .ok (.iconst 0, 1) := dk_3 (dk_at dksL_law_48 5 rfl rfl)
theorem dL_law_1230 : decode cL_law 1230 = .ok (.ireturn, 1) := dk_172 (dk_at dksL_law_48 6 rfl rfl)
theorem dL_law_1231 : decode cL_law 1231 = .ok (.iload 6, 2) := dk_21 6 (dk_at dksL_law_48 7 rfl rfl)
theorem dL_law_1233 : decode cL_law 1233 = .ok (.ifCond .ne 15, 3) := dk_154 0 15 (dk_at dksL_law_48 9 rfl rfl)
theorem dL_law_1236 : decode cL_law 1236 = .ok (.aload_n 3, 1) := dk_45 (dk_at dksL_law_48 12 rfl rfl)
theorem dL_law_1237 : decode cL_law 1237 = .ok (.iconst 0, 1) := dk_3 (dk_at dksL_law_48 13 rfl rfl)
theorem dL_law_1238 : decode cL_law 1238 = .ok (.laload, 1) := dk_47 (dk_at dksL_law_48 14 rfl rfl)
theorem dL_law_1239 : decode cL_law 1239 = .ok (.iload 7, 2) := dk_21 7 (dk_at dksL_law_48 15 rfl rfl)
theorem dL_law_1241 : decode cL_law 1241 = .ok (.i2l, 1) := dk_133 (dk_at dksL_law_48 17 rfl rfl)
theorem dL_law_1242 : decode cL_law 1242 = .ok (.lcmp, 1) := dk_148 (dk_at dksL_law_48 18 rfl rfl)
theorem dL_law_1243 : decode cL_law 1243 = .ok (.ifCond .eq 5, 3) := dk_153 0 5 (dk_at dksL_law_48 19 rfl rfl)
theorem dL_law_1246 : decode cL_law 1246 = .ok (.iconst 0, 1) := dk_3 (dk_at dksL_law_48 22 rfl rfl)
theorem dL_law_1247 : decode cL_law 1247 = .ok (.ireturn, 1) := dk_172 (dk_at dksL_law_48 23 rfl rfl)
theorem dL_law_1248 : decode cL_law 1248 = .ok (.goto 474, 3) := dk_167 1 218 (dk_at dksL_law_49 0 rfl rfl)
theorem dL_law_1251 : decode cL_law 1251 = .ok (.aload_n 1, 1) := dk_43 (dk_at dksL_law_49 3 rfl rfl)
theorem dL_law_1252 : decode cL_law 1252 = .ok (.aload_n 0, 1) := dk_42 (dk_at dksL_law_49 4 rfl rfl)
theorem dL_law_1253 : decode cL_law 1253 = .ok (.iload 5, 2) := dk_21 5 (dk_at dksL_law_49 5 rfl rfl)
theorem dL_law_1255 : decode cL_law 1255 = .ok (.iconst 1, 1) := dk_4 (dk_at dksL_law_49 7 rfl rfl)
theorem dL_law_1256 : decode cL_law 1256 = .ok (.iadd, 1) := dk_96 (dk_at dksL_law_49 8 rfl rfl)
theorem dL_law_1257 : decode cL_law 1257 = .ok (.iaload, 1) := dk_46 (dk_at dksL_law_49 9 rfl rfl)
theorem dL_law_1258 : decode cL_law 1258 = .ok (.aload_n 0, 1) := dk_42 (dk_at dksL_law_49 10 rfl rfl)
theorem dL_law_1259 : decode cL_law 1259 = .ok (.iload 5, 2) := dk_21 5 (dk_at dksL_law_49 11 rfl rfl)
theorem dL_law_1261 : decode cL_law 1261 = .ok (.iconst 2, 1) := dk_5 (dk_at dksL_law_49 13 rfl rfl)
theorem dL_law_1262 : decode cL_law 1262 = .ok (.iadd, 1) := dk_96 (dk_at dksL_law_49 14 rfl rfl)
theorem dL_law_1263 : decode cL_law 1263 = .ok (.iaload, 1) := dk_46 (dk_at dksL_law_49 15 rfl rfl)
theorem dL_law_1264 : decode cL_law 1264 = .ok (.aload_n 3, 1) := dk_45 (dk_at dksL_law_49 16 rfl rfl)
theorem dL_law_1265 : decode cL_law 1265 = .ok (.invokestatic 169, 3) := dk_184 0 169 (dk_at dksL_law_49 17 rfl rfl)
theorem dL_law_1268 : decode cL_law 1268 = .ok (.istore 6, 2) := dk_54 6 (dk_at dksL_law_49 20 rfl rfl)
theorem dL_law_1270 : decode cL_law 1270 = .ok (.aload_n 2, 1) := dk_44 (dk_at dksL_law_49 22 rfl rfl)
theorem dL_law_1271 : decode cL_law 1271 = .ok (.aload_n 0, 1) := dk_42 (dk_at dksL_law_49 23 rfl rfl)
theorem dL_law_1272 : decode cL_law 1272 = .ok (.iload 5, 2) := dk_21 5 (dk_at dksL_law_50 0 rfl rfl)
theorem dL_law_1274 : decode cL_law 1274 = .ok (.iconst 1, 1) := dk_4 (dk_at dksL_law_50 2 rfl rfl)
theorem dL_law_1275 : decode cL_law 1275 = .ok (.iadd, 1) := dk_96 (dk_at dksL_law_50 3 rfl rfl)
theorem dL_law_1276 : decode cL_law 1276 = .ok (.iaload, 1) := dk_46 (dk_at dksL_law_50 4 rfl rfl)
theorem dL_law_1277 : decode cL_law 1277 = .ok (.aload_n 0, 1) := dk_42 (dk_at dksL_law_50 5 rfl rfl)
theorem dL_law_1278 : decode cL_law 1278 = .ok (.iload 5, 2) := dk_21 5 (dk_at dksL_law_50 6 rfl rfl)
theorem dL_law_1280 : decode cL_law 1280 = .ok (.iconst 2, 1) := dk_5 (dk_at dksL_law_50 8 rfl rfl)
theorem dL_law_1281 : decode cL_law 1281 = .ok (.iadd, 1) := dk_96 (dk_at dksL_law_50 9 rfl rfl)
theorem dL_law_1282 : decode cL_law 1282 = .ok (.iaload, 1) := dk_46 (dk_at dksL_law_50 10 rfl rfl)
theorem dL_law_1283 : decode cL_law 1283 = .ok (.invokevirtual 171, 3) := dk_182 0 171 (dk_at dksL_law_50 11 rfl rfl)
theorem dL_law_1286 : decode cL_law 1286 = .ok (.istore 7, 2) := dk_54 7 (dk_at dksL_law_50 14 rfl rfl)
theorem dL_law_1288 : decode cL_law 1288 = .ok (.aload_n 2, 1) := dk_44 (dk_at dksL_law_50 16 rfl rfl)
theorem dL_law_1289 : decode cL_law 1289 = .ok (.invokevirtual 111, 3) := dk_182 0 111 (dk_at dksL_law_50 17 rfl rfl)
theorem dL_law_1292 : decode cL_law 1292 = .ok (.iload 6, 2) := dk_21 6 (dk_at dksL_law_50 20 rfl rfl)
theorem dL_law_1294 : decode cL_law 1294 = .ok (.if_icmp .eq 5, 3) := dk_159 0 5 (dk_at dksL_law_51 0 rfl rfl)
theorem dL_law_1297 : decode cL_law 1297 = .ok (.iconst 0, 1) := dk_3 (dk_at dksL_law_51 3 rfl rfl)
theorem dL_law_1298 : decode cL_law 1298 = .ok (.ireturn, 1) := dk_172 (dk_at dksL_law_51 4 rfl rfl)
theorem dL_law_1299 : decode cL_law 1299 = .ok (.iload 6, 2) := dk_21 6 (dk_at dksL_law_51 5 rfl rfl)
theorem dL_law_1301 : decode cL_law 1301 = .ok (.ifCond .ne 15, 3) := dk_154 0 15 (dk_at dksL_law_51 7 rfl rfl)
theorem dL_law_1304 : decode cL_law 1304 = .ok (.aload_n 3, 1) := dk_45 (dk_at dksL_law_51 10 rfl rfl)
theorem dL_law_1305 : decode cL_law 1305 = .ok (.iconst 0, 1) := dk_3 (dk_at dksL_law_51 11 rfl rfl)
theorem dL_law_1306 : decode cL_law 1306 = .ok (.laload, 1) := dk_47 (dk_at dksL_law_51 12 rfl rfl)
theorem dL_law_1307 : decode cL_law 1307 = .ok (.iload 7, 2) := dk_21 7 (dk_at dksL_law_51 13 rfl rfl)
theorem dL_law_1309 : decode cL_law 1309 = .ok (.i2l, 1) := dk_133 (dk_at dksL_law_51 15 rfl rfl)
theorem dL_law_1310 : decode cL_law 1310 = .ok (.lcmp, 1) := dk_148 (dk_at dksL_law_51 16 rfl rfl)
theorem dL_law_1311 : decode cL_law 1311 = .ok (.ifCond .eq 5, 3) := dk_153 0 5 (dk_at dksL_law_51 17 rfl rfl)
theorem dL_law_1314 : decode cL_law 1314 = .ok (.iconst 0, 1) := dk_3 (dk_at dksL_law_51 20 rfl rfl)
theorem dL_law_1315 : decode cL_law 1315 = .ok (.ireturn, 1) := dk_172 (dk_at dksL_law_51 21 rfl rfl)
theorem dL_law_1316 : decode cL_law 1316 = .ok (.goto 406, 3) := dk_167 1 150 (dk_at dksL_law_52 0 rfl rfl)
theorem dL_law_1319 : decode cL_law 1319 = .ok (.aload_n 1, 1) := dk_43 (dk_at dksL_law_52 3 rfl rfl)
theorem dL_law_1320 : decode cL_law 1320 = .ok (.aload_n 3, 1) := dk_45 (dk_at dksL_law_52 4 rfl rfl)
theorem dL_law_1321 : decode cL_law 1321 = .ok (.invokestatic 172, 3) := dk_184 0 172 (dk_at dksL_law_52 5 rfl rfl)
theorem dL_law_1324 : decode cL_law 1324 = .ok (.istore 6, 2) := dk_54 6 (dk_at dksL_law_52 8 rfl rfl)
theorem dL_law_1326 : decode cL_law 1326 = .ok (.aload_n 2, 1) := dk_44 (dk_at dksL_law_52 10 rfl rfl)
theorem dL_law_1327 : decode cL_law 1327 = .ok (.invokevirtual 174, 3) := dk_182 0 174 (dk_at dksL_law_52 11 rfl rfl)
theorem dL_law_1330 : decode cL_law 1330 = .ok (.istore 7, 2) := dk_54 7 (dk_at dksL_law_52 14 rfl rfl)
theorem dL_law_1332 : decode cL_law 1332 = .ok (.aload_n 2, 1) := dk_44 (dk_at dksL_law_52 16 rfl rfl)
theorem dL_law_1333 : decode cL_law 1333 = .ok (.invokevirtual 111, 3) := dk_182 0 111 (dk_at dksL_law_52 17 rfl rfl)
theorem dL_law_1336 : decode cL_law 1336 = .ok (.iload 6, 2) := dk_21 6 (dk_at dksL_law_52 20 rfl rfl)
theorem dL_law_1338 : decode cL_law 1338 = .ok (.if_icmp .eq 5, 3) := dk_159 0 5 (dk_at dksL_law_53 0 rfl rfl)
theorem dL_law_1341 : decode cL_law 1341 = .ok (.iconst 0, 1) := dk_3 (dk_at dksL_law_53 3 rfl rfl)
theorem dL_law_1342 : decode cL_law 1342 = .ok (.ireturn, 1) := dk_172 (dk_at dksL_law_53 4 rfl rfl)
theorem dL_law_1343 : decode cL_law 1343 = .ok (.iload 6, 2) := dk_21 6 (dk_at dksL_law_53 5 rfl rfl)
theorem dL_law_1345 : decode cL_law 1345 = .ok (.ifCond .ne 15, 3) := dk_154 0 15 (dk_at dksL_law_53 7 rfl rfl)
theorem dL_law_1348 : decode cL_law 1348 = .ok (.aload_n 3, 1) := dk_45 (dk_at dksL_law_53 10 rfl rfl)
theorem dL_law_1349 : decode cL_law 1349 = .ok (.iconst 0, 1) := dk_3 (dk_at dksL_law_53 11 rfl rfl)
theorem dL_law_1350 : decode cL_law 1350 = .ok (.laload, 1) := dk_47 (dk_at dksL_law_53 12 rfl rfl)
theorem dL_law_1351 : decode cL_law 1351 = .ok (.iload 7, 2) := dk_21 7 (dk_at dksL_law_53 13 rfl rfl)
theorem dL_law_1353 : decode cL_law 1353 = .ok (.i2l, 1) := dk_133 (dk_at dksL_law_53 15 rfl rfl)
theorem dL_law_1354 : decode cL_law 1354 = .ok (.lcmp, 1) := dk_148 (dk_at dksL_law_53 16 rfl rfl)
theorem dL_law_1355 : decode cL_law 1355 = .ok (.ifCond .eq 5, 3) := dk_153 0 5 (dk_at dksL_law_53 17 rfl rfl)
theorem dL_law_1358 : decode cL_law 1358 = .ok (.iconst 0, 1) := dk_3 (dk_at dksL_law_53 20 rfl rfl)
theorem dL_law_1359 : decode cL_law 1359 = .ok (.ireturn, 1) := dk_172 (dk_at dksL_law_53 21 rfl rfl)
theorem dL_law_1360 : decode cL_law 1360 = .ok (.goto 362, 3) := dk_167 1 106 (dk_at dksL_law_54 0 rfl rfl)
theorem dL_law_1363 : decode cL_law 1363 = .ok (.aload_n 1, 1) := dk_43 (dk_at dksL_law_54 3 rfl rfl)
theorem dL_law_1364 : decode cL_law 1364 = .ok (.aload_n 0, 1) := dk_42 (dk_at dksL_law_54 4 rfl rfl)
theorem dL_law_1365 : decode cL_law 1365 = .ok (.iload 5, 2) := dk_21 5 (dk_at dksL_law_54 5 rfl rfl)
theorem dL_law_1367 : decode cL_law 1367 = .ok (.iconst 1, 1) := dk_4 (dk_at dksL_law_54 7 rfl rfl)
theorem dL_law_1368 : decode cL_law 1368 = .ok (.iadd, 1) := dk_96 (dk_at dksL_law_54 8 rfl rfl)
theorem dL_law_1369 : decode cL_law 1369 = .ok (.iaload, 1) := dk_46 (dk_at dksL_law_54 9 rfl rfl)
theorem dL_law_1370 : decode cL_law 1370 = .ok (.aload_n 0, 1) := dk_42 (dk_at dksL_law_54 10 rfl rfl)
theorem dL_law_1371 : decode cL_law 1371 = .ok (.iload 5, 2) := dk_21 5 (dk_at dksL_law_54 11 rfl rfl)
theorem dL_law_1373 : decode cL_law 1373 = .ok (.iconst 2, 1) := dk_5 (dk_at dksL_law_54 13 rfl rfl)
theorem dL_law_1374 : decode cL_law 1374 = .ok (.iadd, 1) := dk_96 (dk_at dksL_law_54 14 rfl rfl)
theorem dL_law_1375 : decode cL_law 1375 = .ok (.iaload, 1) := dk_46 (dk_at dksL_law_54 15 rfl rfl)
theorem dL_law_1376 : decode cL_law 1376 = .ok (.aload_n 3, 1) := dk_45 (dk_at dksL_law_54 16 rfl rfl)
theorem dL_law_1377 : decode cL_law 1377 = .ok (.invokestatic 175, 3) := dk_184 0 175 (dk_at dksL_law_54 17 rfl rfl)
theorem dL_law_1380 : decode cL_law 1380 = .ok (.istore 6, 2) := dk_54 6 (dk_at dksL_law_54 20 rfl rfl)
theorem dL_law_1382 : decode cL_law 1382 = .ok (.aload_n 2, 1) := dk_44 (dk_at dksL_law_54 22 rfl rfl)
theorem dL_law_1383 : decode cL_law 1383 = .ok (.aload_n 0, 1) := dk_42 (dk_at dksL_law_54 23 rfl rfl)
theorem dL_law_1384 : decode cL_law 1384 = .ok (.iload 5, 2) := dk_21 5 (dk_at dksL_law_55 0 rfl rfl)
theorem dL_law_1386 : decode cL_law 1386 = .ok (.iconst 1, 1) := dk_4 (dk_at dksL_law_55 2 rfl rfl)
theorem dL_law_1387 : decode cL_law 1387 = .ok (.iadd, 1) := dk_96 (dk_at dksL_law_55 3 rfl rfl)
theorem dL_law_1388 : decode cL_law 1388 = .ok (.iaload, 1) := dk_46 (dk_at dksL_law_55 4 rfl rfl)
theorem dL_law_1389 : decode cL_law 1389 = .ok (.aload_n 0, 1) := dk_42 (dk_at dksL_law_55 5 rfl rfl)
theorem dL_law_1390 : decode cL_law 1390 = .ok (.iload 5, 2) := dk_21 5 (dk_at dksL_law_55 6 rfl rfl)
theorem dL_law_1392 : decode cL_law 1392 = .ok (.iconst 2, 1) := dk_5 (dk_at dksL_law_55 8 rfl rfl)
theorem dL_law_1393 : decode cL_law 1393 = .ok (.iadd, 1) := dk_96 (dk_at dksL_law_55 9 rfl rfl)
theorem dL_law_1394 : decode cL_law 1394 = .ok (.iaload, 1) := dk_46 (dk_at dksL_law_55 10 rfl rfl)
theorem dL_law_1395 : decode cL_law 1395 = .ok (.invokevirtual 177, 3) := dk_182 0 177 (dk_at dksL_law_55 11 rfl rfl)
theorem dL_law_1398 : decode cL_law 1398 = .ok (.istore 7, 2) := dk_54 7 (dk_at dksL_law_55 14 rfl rfl)
theorem dL_law_1400 : decode cL_law 1400 = .ok (.aload_n 2, 1) := dk_44 (dk_at dksL_law_55 16 rfl rfl)
theorem dL_law_1401 : decode cL_law 1401 = .ok (.invokevirtual 111, 3) := dk_182 0 111 (dk_at dksL_law_55 17 rfl rfl)
theorem dL_law_1404 : decode cL_law 1404 = .ok (.iload 6, 2) := dk_21 6 (dk_at dksL_law_55 20 rfl rfl)
theorem dL_law_1406 : decode cL_law 1406 = .ok (.if_icmp .eq 5, 3) := dk_159 0 5 (dk_at dksL_law_56 0 rfl rfl)
theorem dL_law_1409 : decode cL_law 1409 = .ok (.iconst 0, 1) := dk_3 (dk_at dksL_law_56 3 rfl rfl)
theorem dL_law_1410 : decode cL_law 1410 = .ok (.ireturn, 1) := dk_172 (dk_at dksL_law_56 4 rfl rfl)
theorem dL_law_1411 : decode cL_law 1411 = .ok (.iload 6, 2) := dk_21 6 (dk_at dksL_law_56 5 rfl rfl)
theorem dL_law_1413 : decode cL_law 1413 = .ok (.ifCond .ne 15, 3) := dk_154 0 15 (dk_at dksL_law_56 7 rfl rfl)
theorem dL_law_1416 : decode cL_law 1416 = .ok (.aload_n 3, 1) := dk_45 (dk_at dksL_law_56 10 rfl rfl)
theorem dL_law_1417 : decode cL_law 1417 = .ok (.iconst 0, 1) := dk_3 (dk_at dksL_law_56 11 rfl rfl)
theorem dL_law_1418 : decode cL_law 1418 = .ok (.laload, 1) := dk_47 (dk_at dksL_law_56 12 rfl rfl)
theorem dL_law_1419 : decode cL_law 1419 = .ok (.iload 7, 2) := dk_21 7 (dk_at dksL_law_56 13 rfl rfl)
theorem dL_law_1421 : decode cL_law 1421 = .ok (.i2l, 1) := dk_133 (dk_at dksL_law_56 15 rfl rfl)
theorem dL_law_1422 : decode cL_law 1422 = .ok (.lcmp, 1) := dk_148 (dk_at dksL_law_56 16 rfl rfl)
theorem dL_law_1423 : decode cL_law 1423 = .ok (.ifCond .eq 5, 3) := dk_153 0 5 (dk_at dksL_law_56 17 rfl rfl)
theorem dL_law_1426 : decode cL_law 1426 = .ok (.iconst 0, 1) := dk_3 (dk_at dksL_law_56 20 rfl rfl)
theorem dL_law_1427 : decode cL_law 1427 = .ok (.ireturn, 1) := dk_172 (dk_at dksL_law_56 21 rfl rfl)
theorem dL_law_1428 : decode cL_law 1428 = .ok (.goto 294, 3) := dk_167 1 38 (dk_at dksL_law_57 0 rfl rfl)
theorem dL_law_1431 : decode cL_law 1431 = .ok (.aload_n 1, 1) := dk_43 (dk_at dksL_law_57 3 rfl rfl)
theorem dL_law_1432 : decode cL_law 1432 = .ok (.aload_n 0, 1) := dk_42 (dk_at dksL_law_57 4 rfl rfl)
theorem dL_law_1433 : decode cL_law 1433 = .ok (.iload 5, 2) := dk_21 5 (dk_at dksL_law_57 5 rfl rfl)
theorem dL_law_1435 : decode cL_law 1435 = .ok (.iconst 1, 1) := dk_4 (dk_at dksL_law_57 7 rfl rfl)
theorem dL_law_1436 : decode cL_law 1436 = .ok (.iadd, 1) := dk_96 (dk_at dksL_law_57 8 rfl rfl)
theorem dL_law_1437 : decode cL_law 1437 = .ok (.iaload, 1) := dk_46 (dk_at dksL_law_57 9 rfl rfl)
theorem dL_law_1438 : decode cL_law 1438 = .ok (.aload_n 0, 1) := dk_42 (dk_at dksL_law_57 10 rfl rfl)
theorem dL_law_1439 : decode cL_law 1439 = .ok (.iload 5, 2) := dk_21 5 (dk_at dksL_law_57 11 rfl rfl)
theorem dL_law_1441 : decode cL_law 1441 = .ok (.iconst 2, 1) := dk_5 (dk_at dksL_law_57 13 rfl rfl)
theorem dL_law_1442 : decode cL_law 1442 = .ok (.iadd, 1) := dk_96 (dk_at dksL_law_57 14 rfl rfl)
theorem dL_law_1443 : decode cL_law 1443 = .ok (.iaload, 1) := dk_46 (dk_at dksL_law_57 15 rfl rfl)
theorem dL_law_1444 : decode cL_law 1444 = .ok (.aload_n 3, 1) := dk_45 (dk_at dksL_law_57 16 rfl rfl)
theorem dL_law_1445 : decode cL_law 1445 = .ok (.invokestatic 178, 3) := dk_184 0 178 (dk_at dksL_law_57 17 rfl rfl)
theorem dL_law_1448 : decode cL_law 1448 = .ok (.istore 6, 2) := dk_54 6 (dk_at dksL_law_57 20 rfl rfl)
theorem dL_law_1450 : decode cL_law 1450 = .ok (.aload_n 2, 1) := dk_44 (dk_at dksL_law_57 22 rfl rfl)
theorem dL_law_1451 : decode cL_law 1451 = .ok (.aload_n 0, 1) := dk_42 (dk_at dksL_law_57 23 rfl rfl)
theorem dL_law_1452 : decode cL_law 1452 = .ok (.iload 5, 2) := dk_21 5 (dk_at dksL_law_58 0 rfl rfl)
theorem dL_law_1454 : decode cL_law 1454 = .ok (.iconst 1, 1) := dk_4 (dk_at dksL_law_58 2 rfl rfl)
theorem dL_law_1455 : decode cL_law 1455 = .ok (.iadd, 1) := dk_96 (dk_at dksL_law_58 3 rfl rfl)
theorem dL_law_1456 : decode cL_law 1456 = .ok (.iaload, 1) := dk_46 (dk_at dksL_law_58 4 rfl rfl)
theorem dL_law_1457 : decode cL_law 1457 = .ok (.aload_n 0, 1) := dk_42 (dk_at dksL_law_58 5 rfl rfl)
theorem dL_law_1458 : decode cL_law 1458 = .ok (.iload 5, 2) := dk_21 5 (dk_at dksL_law_58 6 rfl rfl)
theorem dL_law_1460 : decode cL_law 1460 = .ok (.iconst 2, 1) := dk_5 (dk_at dksL_law_58 8 rfl rfl)
theorem dL_law_1461 : decode cL_law 1461 = .ok (.iadd, 1) := dk_96 (dk_at dksL_law_58 9 rfl rfl)
theorem dL_law_1462 : decode cL_law 1462 = .ok (.iaload, 1) := dk_46 (dk_at dksL_law_58 10 rfl rfl)
theorem dL_law_1463 : decode cL_law 1463 = .ok (.invokevirtual 180, 3) := dk_182 0 180 (dk_at dksL_law_58 11 rfl rfl)
theorem dL_law_1466 : decode cL_law 1466 = .ok (.istore 7, 2) := dk_54 7 (dk_at dksL_law_58 14 rfl rfl)
theorem dL_law_1468 : decode cL_law 1468 = .ok (.aload_n 2, 1) := dk_44 (dk_at dksL_law_58 16 rfl rfl)
theorem dL_law_1469 : decode cL_law 1469 = .ok (.invokevirtual 111, 3) := dk_182 0 111 (dk_at dksL_law_58 17 rfl rfl)
theorem dL_law_1472 : decode cL_law 1472 = .ok (.iload 6, 2) := dk_21 6 (dk_at dksL_law_58 20 rfl rfl)
theorem dL_law_1474 : decode cL_law 1474 = .ok (.if_icmp .eq 5, 3) := dk_159 0 5 (dk_at dksL_law_59 0 rfl rfl)
theorem dL_law_1477 : decode cL_law 1477 = .ok (.iconst 0, 1) := dk_3 (dk_at dksL_law_59 3 rfl rfl)
theorem dL_law_1478 : decode cL_law 1478 = .ok (.ireturn, 1) := dk_172 (dk_at dksL_law_59 4 rfl rfl)
theorem dL_law_1479 : decode cL_law 1479 = .ok (.iload 6, 2) := dk_21 6 (dk_at dksL_law_59 5 rfl rfl)
theorem dL_law_1481 : decode cL_law 1481 = .ok (.ifCond .ne 22, 3) := dk_154 0 22 (dk_at dksL_law_59 7 rfl rfl)
theorem dL_law_1484 : decode cL_law 1484 = .ok (.aload_n 3, 1) := dk_45 (dk_at dksL_law_59 10 rfl rfl)
theorem dL_law_1485 : decode cL_law 1485 = .ok (.iconst 0, 1) := dk_3 (dk_at dksL_law_59 11 rfl rfl)
theorem dL_law_1486 : decode cL_law 1486 = .ok (.laload, 1) := dk_47 (dk_at dksL_law_59 12 rfl rfl)
theorem dL_law_1487 : decode cL_law 1487 = .ok (.iload 7, 2) := dk_21 7 (dk_at dksL_law_59 13 rfl rfl)
theorem dL_law_1489 : decode cL_law 1489 = .ok (.ifCond .eq 7, 3) := dk_153 0 7 (dk_at dksL_law_59 15 rfl rfl)
theorem dL_law_1492 : decode cL_law 1492 = .ok (.lconst 1, 1) := dk_10 (dk_at dksL_law_59 18 rfl rfl)
theorem dL_law_1493 : decode cL_law 1493 = .ok (.goto 4, 3) := dk_167 0 4 (dk_at dksL_law_59 19 rfl rfl)
theorem dL_law_1496 : decode cL_law 1496 = .ok (.lconst 0, 1) := dk_9 (dk_at dksL_law_59 22 rfl rfl)
theorem dL_law_1497 : decode cL_law 1497 = .ok (.lcmp, 1) := dk_148 (dk_at dksL_law_59 23 rfl rfl)
theorem dL_law_1498 : decode cL_law 1498 = .ok (.ifCond .eq 5, 3) := dk_153 0 5 (dk_at dksL_law_60 0 rfl rfl)
theorem dL_law_1501 : decode cL_law 1501 = .ok (.iconst 0, 1) := dk_3 (dk_at dksL_law_60 3 rfl rfl)
theorem dL_law_1502 : decode cL_law 1502 = .ok (.ireturn, 1) := dk_172 (dk_at dksL_law_60 4 rfl rfl)
theorem dL_law_1503 : decode cL_law 1503 = .ok (.goto 219, 3) := dk_167 0 219 (dk_at dksL_law_60 5 rfl rfl)
theorem dL_law_1506 : decode cL_law 1506 = .ok (.aload_n 1, 1) := dk_43 (dk_at dksL_law_60 8 rfl rfl)
theorem dL_law_1507 : decode cL_law 1507 = .ok (.aload_n 0, 1) := dk_42 (dk_at dksL_law_60 9 rfl rfl)
theorem dL_law_1508 : decode cL_law 1508 = .ok (.iload 5, 2) := dk_21 5 (dk_at dksL_law_60 10 rfl rfl)
theorem dL_law_1510 : decode cL_law 1510 = .ok (.iconst 1, 1) := dk_4 (dk_at dksL_law_60 12 rfl rfl)
theorem dL_law_1511 : decode cL_law 1511 = .ok (.iadd, 1) := dk_96 (dk_at dksL_law_60 13 rfl rfl)
theorem dL_law_1512 : decode cL_law 1512 = .ok (.iaload, 1) := dk_46 (dk_at dksL_law_60 14 rfl rfl)
theorem dL_law_1513 : decode cL_law 1513 = .ok (.aload_n 0, 1) := dk_42 (dk_at dksL_law_60 15 rfl rfl)
theorem dL_law_1514 : decode cL_law 1514 = .ok (.iload 5, 2) := dk_21 5 (dk_at dksL_law_60 16 rfl rfl)
theorem dL_law_1516 : decode cL_law 1516 = .ok (.iconst 2, 1) := dk_5 (dk_at dksL_law_60 18 rfl rfl)
theorem dL_law_1517 : decode cL_law 1517 = .ok (.iadd, 1) := dk_96 (dk_at dksL_law_60 19 rfl rfl)
theorem dL_law_1518 : decode cL_law 1518 = .ok (.iaload, 1) := dk_46 (dk_at dksL_law_60 20 rfl rfl)
theorem dL_law_1519 : decode cL_law 1519 = .ok (.aload_n 3, 1) := dk_45 (dk_at dksL_law_60 21 rfl rfl)
theorem dL_law_1520 : decode cL_law 1520 = .ok (.invokestatic 181, 3) := dk_184 0 181 (dk_at dksL_law_61 0 rfl rfl)
theorem dL_law_1523 : decode cL_law 1523 = .ok (.istore 6, 2) := dk_54 6 (dk_at dksL_law_61 3 rfl rfl)
theorem dL_law_1525 : decode cL_law 1525 = .ok (.aload_n 2, 1) := dk_44 (dk_at dksL_law_61 5 rfl rfl)
theorem dL_law_1526 : decode cL_law 1526 = .ok (.aload_n 0, 1) := dk_42 (dk_at dksL_law_61 6 rfl rfl)
theorem dL_law_1527 : decode cL_law 1527 = .ok (.iload 5, 2) := dk_21 5 (dk_at dksL_law_61 7 rfl rfl)
theorem dL_law_1529 : decode cL_law 1529 = .ok (.iconst 1, 1) := dk_4 (dk_at dksL_law_61 9 rfl rfl)
theorem dL_law_1530 : decode cL_law 1530 = .ok (.iadd, 1) := dk_96 (dk_at dksL_law_61 10 rfl rfl)
theorem dL_law_1531 : decode cL_law 1531 = .ok (.iaload, 1) := dk_46 (dk_at dksL_law_61 11 rfl rfl)
theorem dL_law_1532 : decode cL_law 1532 = .ok (.aload_n 0, 1) := dk_42 (dk_at dksL_law_61 12 rfl rfl)
theorem dL_law_1533 : decode cL_law 1533 = .ok (.iload 5, 2) := dk_21 5 (dk_at dksL_law_61 13 rfl rfl)
theorem dL_law_1535 : decode cL_law 1535 = .ok (.iconst 2, 1) := dk_5 (dk_at dksL_law_61 15 rfl rfl)
theorem dL_law_1536 : decode cL_law 1536 = .ok (.iadd, 1) := dk_96 (dk_at dksL_law_61 16 rfl rfl)
theorem dL_law_1537 : decode cL_law 1537 = .ok (.iaload, 1) := dk_46 (dk_at dksL_law_61 17 rfl rfl)
theorem dL_law_1538 : decode cL_law 1538 = .ok (.invokevirtual 183, 3) := dk_182 0 183 (dk_at dksL_law_61 18 rfl rfl)
theorem dL_law_1541 : decode cL_law 1541 = .ok (.istore 7, 2) := dk_54 7 (dk_at dksL_law_61 21 rfl rfl)
theorem dL_law_1543 : decode cL_law 1543 = .ok (.aload_n 2, 1) := dk_44 (dk_at dksL_law_61 23 rfl rfl)
theorem dL_law_1544 : decode cL_law 1544 = .ok (.invokevirtual 111, 3) := dk_182 0 111 (dk_at dksL_law_62 0 rfl rfl)
theorem dL_law_1547 : decode cL_law 1547 = .ok (.iload 6, 2) := dk_21 6 (dk_at dksL_law_62 3 rfl rfl)
theorem dL_law_1549 : decode cL_law 1549 = .ok (.if_icmp .eq 5, 3) := dk_159 0 5 (dk_at dksL_law_62 5 rfl rfl)
theorem dL_law_1552 : decode cL_law 1552 = .ok (.iconst 0, 1) := dk_3 (dk_at dksL_law_62 8 rfl rfl)
theorem dL_law_1553 : decode cL_law 1553 = .ok (.ireturn, 1) := dk_172 (dk_at dksL_law_62 9 rfl rfl)
theorem dL_law_1554 : decode cL_law 1554 = .ok (.iload 6, 2) := dk_21 6 (dk_at dksL_law_62 10 rfl rfl)
theorem dL_law_1556 : decode cL_law 1556 = .ok (.ifCond .ne 15, 3) := dk_154 0 15 (dk_at dksL_law_62 12 rfl rfl)
theorem dL_law_1559 : decode cL_law 1559 = .ok (.aload_n 3, 1) := dk_45 (dk_at dksL_law_62 15 rfl rfl)
theorem dL_law_1560 : decode cL_law 1560 = .ok (.iconst 0, 1) := dk_3 (dk_at dksL_law_62 16 rfl rfl)
theorem dL_law_1561 : decode cL_law 1561 = .ok (.laload, 1) := dk_47 (dk_at dksL_law_62 17 rfl rfl)
theorem dL_law_1562 : decode cL_law 1562 = .ok (.iload 7, 2) := dk_21 7 (dk_at dksL_law_62 18 rfl rfl)
theorem dL_law_1564 : decode cL_law 1564 = .ok (.i2l, 1) := dk_133 (dk_at dksL_law_62 20 rfl rfl)
theorem dL_law_1565 : decode cL_law 1565 = .ok (.lcmp, 1) := dk_148 (dk_at dksL_law_62 21 rfl rfl)
theorem dL_law_1566 : decode cL_law 1566 = .ok (.ifCond .eq 5, 3) := dk_153 0 5 (dk_at dksL_law_63 0 rfl rfl)
theorem dL_law_1569 : decode cL_law 1569 = .ok (.iconst 0, 1) := dk_3 (dk_at dksL_law_63 3 rfl rfl)
theorem dL_law_1570 : decode cL_law 1570 = .ok (.ireturn, 1) := dk_172 (dk_at dksL_law_63 4 rfl rfl)
theorem dL_law_1571 : decode cL_law 1571 = .ok (.goto 151, 3) := dk_167 0 151 (dk_at dksL_law_63 5 rfl rfl)
theorem dL_law_1574 : decode cL_law 1574 = .ok (.aload_n 1, 1) := dk_43 (dk_at dksL_law_63 8 rfl rfl)
theorem dL_law_1575 : decode cL_law 1575 = .ok (.invokevirtual 184, 3) := dk_182 0 184 (dk_at dksL_law_63 9 rfl rfl)
theorem dL_law_1578 : decode cL_law 1578 = .ok (.aload_n 2, 1) := dk_44 (dk_at dksL_law_63 12 rfl rfl)
theorem dL_law_1579 : decode cL_law 1579 = .ok (.invokevirtual 188, 3) := dk_182 0 188 (dk_at dksL_law_63 13 rfl rfl)
theorem dL_law_1582 : decode cL_law 1582 = .ok (.lcmp, 1) := dk_148 (dk_at dksL_law_63 16 rfl rfl)
theorem dL_law_1583 : decode cL_law 1583 = .ok (.ifCond .eq 139, 3) := dk_153 0 139 (dk_at dksL_law_63 17 rfl rfl)
theorem dL_law_1586 : decode cL_law 1586 = .ok (.iconst 0, 1) := dk_3 (dk_at dksL_law_63 20 rfl rfl)
theorem dL_law_1587 : decode cL_law 1587 = .ok (.ireturn, 1) := dk_172 (dk_at dksL_law_63 21 rfl rfl)
theorem dL_law_1588 : decode cL_law 1588 = .ok (.aload_n 1, 1) := dk_43 (dk_at dksL_law_63 22 rfl rfl)
theorem dL_law_1589 : decode cL_law 1589 = .ok (.invokevirtual 189, 3) := dk_182 0 189 (dk_at dksL_law_64 0 rfl rfl)
theorem dL_law_1592 : decode cL_law 1592 = .ok (.f2d, 1) := dk_141 (dk_at dksL_law_64 3 rfl rfl)
theorem dL_law_1593 : decode cL_law 1593 = .ok (.dstore 6, 2) := dk_57 6 (dk_at dksL_law_64 4 rfl rfl)
theorem dL_law_1595 : decode cL_law 1595 = .ok (.aload_n 2, 1) := dk_44 (dk_at dksL_law_64 6 rfl rfl)
theorem dL_law_1596 : decode cL_law 1596 = .ok (.invokevirtual 193, 3) := dk_182 0 193 (dk_at dksL_law_64 7 rfl rfl)
theorem dL_law_1599 : decode cL_law 1599 = .ok (.f2d, 1) := dk_141 (dk_at dksL_law_64 10 rfl rfl)
theorem dL_law_1600 : decode cL_law 1600 = .ok (.dstore 8, 2) := dk_57 8 (dk_at dksL_law_64 11 rfl rfl)
theorem dL_law_1602 : decode cL_law 1602 = .ok (.dload 6, 2) := dk_24 6 (dk_at dksL_law_64 13 rfl rfl)
theorem dL_law_1604 : decode cL_law 1604 = .ok (.dload 8, 2) := dk_24 8 (dk_at dksL_law_64 15 rfl rfl)
theorem dL_law_1606 : decode cL_law 1606 = .ok (.dcmp .l, 1) := dk_151 (dk_at dksL_law_64 17 rfl rfl)
theorem dL_law_1607 : decode cL_law 1607 = .ok (.ifCond .eq 21, 3) := dk_153 0 21 (dk_at dksL_law_64 18 rfl rfl)
theorem dL_law_1610 : decode cL_law 1610 = .ok (.dload 6, 2) := dk_24 6 (dk_at dksL_law_64 21 rfl rfl)
theorem dL_law_1612 : decode cL_law 1612 = .ok (.dload 6, 2) := dk_24 6 (dk_at dksL_law_65 0 rfl rfl)
theorem dL_law_1614 : decode cL_law 1614 = .ok (.dcmp .l, 1) := dk_151 (dk_at dksL_law_65 2 rfl rfl)
theorem dL_law_1615 : decode cL_law 1615 = .ok (.ifCond .eq 11, 3) := dk_153 0 11 (dk_at dksL_law_65 3 rfl rfl)
theorem dL_law_1618 : decode cL_law 1618 = .ok (.dload 8, 2) := dk_24 8 (dk_at dksL_law_65 6 rfl rfl)
theorem dL_law_1620 : decode cL_law 1620 = .ok (.dload 8, 2) := dk_24 8 (dk_at dksL_law_65 8 rfl rfl)
theorem dL_law_1622 : decode cL_law 1622 = .ok (.dcmp .l, 1) := dk_151 (dk_at dksL_law_65 10 rfl rfl)
theorem dL_law_1623 : decode cL_law 1623 = .ok (.ifCond .ne 5, 3) := dk_154 0 5 (dk_at dksL_law_65 11 rfl rfl)
theorem dL_law_1626 : decode cL_law 1626 = .ok (.iconst 0, 1) := dk_3 (dk_at dksL_law_65 14 rfl rfl)
theorem dL_law_1627 : decode cL_law 1627 = .ok (.ireturn, 1) := dk_172 (dk_at dksL_law_65 15 rfl rfl)
theorem dL_law_1628 : decode cL_law 1628 = .ok (.goto 94, 3) := dk_167 0 94 (dk_at dksL_law_65 16 rfl rfl)
theorem dL_law_1631 : decode cL_law 1631 = .ok (.aload_n 1, 1) := dk_43 (dk_at dksL_law_65 19 rfl rfl)
theorem dL_law_1632 : decode cL_law 1632 = .ok (.invokevirtual 194, 3) := dk_182 0 194 (dk_at dksL_law_65 20 rfl rfl)
theorem dL_law_1635 : decode cL_law 1635 = .ok (.aload_n 2, 1) := dk_44 (dk_at dksL_law_65 23 rfl rfl)
theorem dL_law_1636 : decode cL_law 1636 = .ok (.invokevirtual 197, 3) := dk_182 0 197 (dk_at dksL_law_66 0 rfl rfl)
theorem dL_law_1639 : decode cL_law 1639 = .ok (.if_icmp .eq 83, 3) := dk_159 0 83 (dk_at dksL_law_66 3 rfl rfl)
theorem dL_law_1642 : decode cL_law 1642 = .ok (.iconst 0, 1) := dk_3 (dk_at dksL_law_66 6 rfl rfl)
theorem dL_law_1643 : decode cL_law 1643 = .ok (.ireturn, 1) := dk_172 (dk_at dksL_law_66 7 rfl rfl)
theorem dL_law_1644 : decode cL_law 1644 = .ok (.aload_n 1, 1) := dk_43 (dk_at dksL_law_66 8 rfl rfl)
theorem dL_law_1645 : decode cL_law 1645 = .ok (.aload 4, 2) := dk_25 4 (dk_at dksL_law_66 9 rfl rfl)
theorem dL_law_1647 : decode cL_law 1647 = .ok (.invokestatic 198, 3) := dk_184 0 198 (dk_at dksL_law_66 11 rfl rfl)
theorem dL_law_1650 : decode cL_law 1650 = .ok (.istore 6, 2) := dk_54 6 (dk_at dksL_law_66 14 rfl rfl)
theorem dL_law_1652 : decode cL_law 1652 = .ok (.aload_n 2, 1) := dk_44 (dk_at dksL_law_66 16 rfl rfl)
theorem dL_law_1653 : decode cL_law 1653 = .ok (.invokevirtual 201, 3) := dk_182 0 201 (dk_at dksL_law_66 17 rfl rfl)
theorem dL_law_1656 : decode cL_law 1656 = .ok (.dstore 7, 2) := dk_57 7 (dk_at dksL_law_66 20 rfl rfl)
theorem dL_law_1658 : decode cL_law 1658 = .ok (.aload_n 2, 1) := dk_44 (dk_at dksL_law_66 22 rfl rfl)
theorem dL_law_1659 : decode cL_law 1659 = .ok (.invokevirtual 111, 3) := dk_182 0 111 (dk_at dksL_law_67 0 rfl rfl)
theorem dL_law_1662 : decode cL_law 1662 = .ok (.iload 6, 2) := dk_21 6 (dk_at dksL_law_67 3 rfl rfl)
theorem dL_law_1664 : decode cL_law 1664 = .ok (.if_icmp .eq 5, 3) := dk_159 0 5 (dk_at dksL_law_67 5 rfl rfl)
theorem dL_law_1667 : decode cL_law 1667 = .ok (.iconst 0, 1) := dk_3 (dk_at dksL_law_67 8 rfl rfl)
theorem dL_law_1668 : decode cL_law 1668 = .ok (.ireturn, 1) := dk_172 (dk_at dksL_law_67 9 rfl rfl)
theorem dL_law_1669 : decode cL_law 1669 = .ok (.iload 6, 2) := dk_21 6 (dk_at dksL_law_67 10 rfl rfl)
theorem dL_law_1671 : decode cL_law 1671 = .ok (.ifCond .ne 35, 3) := dk_154 0 35 (dk_at dksL_law_67 12 rfl rfl)
theorem dL_law_1674 : decode cL_law 1674 = .ok (.aload 4, 2) := dk_25 4 (dk_at dksL_law_67 15 rfl rfl)
theorem dL_law_1676 : decode cL_law 1676 = .ok (.iconst 0, 1) := dk_3 (dk_at dksL_law_67 17 rfl rfl)
theorem dL_law_1677 : decode cL_law 1677 = .ok (.daload, 1) := dk_49 (dk_at dksL_law_67 18 rfl rfl)
theorem dL_law_1678 : decode cL_law 1678 = .ok (.dload 7, 2) := dk_24 7 (dk_at dksL_law_67 19 rfl rfl)
theorem dL_law_1680 : decode cL_law 1680 = .ok (.dcmp .l, 1) := dk_151 (dk_at dksL_law_67 21 rfl rfl)
theorem dL_law_1681 : decode cL_law 1681 = .ok (.ifCond .eq 25, 3) := dk_153 0 25 (dk_at dksL_law_68 0 rfl rfl)
theorem dL_law_1684 : decode cL_law 1684 = .ok (.aload 4, 2) := dk_25 4 (dk_at dksL_law_68 3 rfl rfl)
theorem dL_law_1686 : decode cL_law 1686 = .ok (.iconst 0, 1) := dk_3 (dk_at dksL_law_68 5 rfl rfl)
theorem dL_law_1687 : decode cL_law 1687 = .ok (.daload, 1) := dk_49 (dk_at dksL_law_68 6 rfl rfl)
theorem dL_law_1688 : decode cL_law 1688 = .ok (.aload 4, 2) := dk_25 4 (dk_at dksL_law_68 7 rfl rfl)
theorem dL_law_1690 : decode cL_law 1690 = .ok (.iconst 0, 1) := dk_3 (dk_at dksL_law_68 9 rfl rfl)
theorem dL_law_1691 : decode cL_law 1691 = .ok (.daload, 1) := dk_49 (dk_at dksL_law_68 10 rfl rfl)
theorem dL_law_1692 : decode cL_law 1692 = .ok (.dcmp .l, 1) := dk_151 (dk_at dksL_law_68 11 rfl rfl)
theorem dL_law_1693 : decode cL_law 1693 = .ok (.ifCond .eq 11, 3) := dk_153 0 11 (dk_at dksL_law_68 12 rfl rfl)
theorem dL_law_1696 : decode cL_law 1696 = .ok (.dload 7, 2) := dk_24 7 (dk_at dksL_law_68 15 rfl rfl)
theorem dL_law_1698 : decode cL_law 1698 = .ok (.dload 7, 2) := dk_24 7 (dk_at dksL_law_68 17 rfl rfl)
theorem dL_law_1700 : decode cL_law 1700 = .ok (.dcmp .l, 1) := dk_151 (dk_at dksL_law_68 19 rfl rfl)
theorem dL_law_1701 : decode cL_law 1701 = .ok (.ifCond .ne 5, 3) := dk_154 0 5 (dk_at dksL_law_68 20 rfl rfl)
theorem dL_law_1704 : decode cL_law 1704 = .ok (.iconst 0, 1) := dk_3 (dk_at dksL_law_68 23 rfl rfl)
theorem dL_law_1705 : decode cL_law 1705 = .ok (.ireturn, 1) := dk_172 (dk_at dksL_law_69 0 rfl rfl)
theorem dL_law_1706 : decode cL_law 1706 = .ok (.goto 16, 3) := dk_167 0 16 (dk_at dksL_law_69 1 rfl rfl)
theorem dL_law_1709 : decode cL_law 1709 = .ok (.aload_n 1, 1) := dk_43 (dk_at dksL_law_69 4 rfl rfl)
theorem dL_law_1710 : decode cL_law 1710 = .ok (.invokevirtual 202, 3) := dk_182 0 202 (dk_at dksL_law_69 5 rfl rfl)
theorem dL_law_1713 : decode cL_law 1713 = .ok (.aload_n 2, 1) := dk_44 (dk_at dksL_law_69 8 rfl rfl)
theorem dL_law_1714 : decode cL_law 1714 = .ok (.invokevirtual 206, 3) := dk_182 0 206 (dk_at dksL_law_69 9 rfl rfl)
theorem dL_law_1717 : decode cL_law 1717 = .ok (.if_icmp .eq 5, 3) := dk_159 0 5 (dk_at dksL_law_69 12 rfl rfl)
theorem dL_law_1720 : decode cL_law 1720 = .ok (.iconst 0, 1) := dk_3 (dk_at dksL_law_69 15 rfl rfl)
theorem dL_law_1721 : decode cL_law 1721 = .ok (.ireturn, 1) := dk_172 (dk_at dksL_law_69 16 rfl rfl)
theorem dL_law_1722 : decode cL_law 1722 = .ok (.iinc 5 5, 3) := dk_132 5 5 (dk_at dksL_law_69 17 rfl rfl)
theorem dL_law_1725 : decode cL_law 1725 = .ok (.goto (-1697), 3) := dk_167 249 95 (dk_at dksL_law_69 20 rfl rfl)
theorem dL_law_1728 : decode cL_law 1728 = .ok (.iconst 1, 1) := dk_4 (dk_at dksL_law_69 23 rfl rfl)
theorem dL_law_1729 : decode cL_law 1729 = .ok (.ireturn, 1) := dk_172 (dk_at dksL_law_70 0 rfl rfl)

/-! KioskReelLaw -/
set_option maxRecDepth 100000
def RX0 : String := "KioskReelLaw"
abbrev cX0_list : ByteArray := method_3_code
def yX0_list : MethodName := ⟨RX0, "list", "(LKioskReel;[J)I"⟩
def dkwX0_list_0 : List UInt8 := [43, 3, 42, 182, 0, 7, 133, 80, 167, 0, 6, 77, 4, 172, 3, 172]
abbrev dktX0_list_0 : List UInt8 := dkwX0_list_0 ++ []
theorem dksX0_list_0 : cX0_list.data.toList.drop 0 = dktX0_list_0 := by decide +kernel
theorem dX0_list_0 : decode cX0_list 0 = .ok (.aload_n 1, 1) := dk_43 (dk_at dksX0_list_0 0 rfl rfl)
theorem dX0_list_1 : decode cX0_list 1 = .ok (.iconst 0, 1) := dk_3 (dk_at dksX0_list_0 1 rfl rfl)
theorem dX0_list_2 : decode cX0_list 2 = .ok (.aload_n 0, 1) := dk_42 (dk_at dksX0_list_0 2 rfl rfl)
theorem dX0_list_3 : decode cX0_list 3 = .ok (.invokevirtual 7, 3) := dk_182 0 7 (dk_at dksX0_list_0 3 rfl rfl)
theorem dX0_list_6 : decode cX0_list 6 = .ok (.i2l, 1) := dk_133 (dk_at dksX0_list_0 6 rfl rfl)
theorem dX0_list_7 : decode cX0_list 7 = .ok (.lastore, 1) := dk_80 (dk_at dksX0_list_0 7 rfl rfl)
theorem dX0_list_8 : decode cX0_list 8 = .ok (.goto 6, 3) := dk_167 0 6 (dk_at dksX0_list_0 8 rfl rfl)
theorem dX0_list_11 : decode cX0_list 11 = .ok (.astore_n 2, 1) := dk_77 (dk_at dksX0_list_0 11 rfl rfl)
theorem dX0_list_12 : decode cX0_list 12 = .ok (.iconst 1, 1) := dk_4 (dk_at dksX0_list_0 12 rfl rfl)
theorem dX0_list_13 : decode cX0_list 13 = .ok (.ireturn, 1) := dk_172 (dk_at dksX0_list_0 13 rfl rfl)
theorem dX0_list_14 : decode cX0_list 14 = .ok (.iconst 0, 1) := dk_3 (dk_at dksX0_list_0 14 rfl rfl)
theorem dX0_list_15 : decode cX0_list 15 = .ok (.ireturn, 1) := dk_172 (dk_at dksX0_list_0 15 rfl rfl)
abbrev cX0_line : ByteArray := method_4_code
def yX0_line : MethodName := ⟨RX0, "line", "(LKioskReel;IICI[J)I"⟩
def dkwX0_line_1 : List UInt8 := [172, 58, 6, 6, 172, 3, 172]
abbrev dktX0_line_1 : List UInt8 := dkwX0_line_1 ++ []
def dkwX0_line_0 : List UInt8 := [25, 5, 3, 42, 27, 28, 29, 21, 4, 182, 0, 15, 133, 80, 167, 0, 15, 58, 6, 4, 172, 58, 6, 5]
abbrev dktX0_line_0 : List UInt8 := dkwX0_line_0 ++ dktX0_line_1
theorem dksX0_line_0 : cX0_line.data.toList.drop 0 = dktX0_line_0 := by decide +kernel
theorem dksX0_line_1 : cX0_line.data.toList.drop 24 = dktX0_line_1 := dk_seg dksX0_line_0 24 rfl rfl
theorem dX0_line_0 : decode cX0_line 0 = .ok (.aload 5, 2) := dk_25 5 (dk_at dksX0_line_0 0 rfl rfl)
theorem dX0_line_2 : decode cX0_line 2 = .ok (.iconst 0, 1) := dk_3 (dk_at dksX0_line_0 2 rfl rfl)
theorem dX0_line_3 : decode cX0_line 3 = .ok (.aload_n 0, 1) := dk_42 (dk_at dksX0_line_0 3 rfl rfl)
theorem dX0_line_4 : decode cX0_line 4 = .ok (.iload_n 1, 1) := dk_27 (dk_at dksX0_line_0 4 rfl rfl)
theorem dX0_line_5 : decode cX0_line 5 = .ok (.iload_n 2, 1) := dk_28 (dk_at dksX0_line_0 5 rfl rfl)
theorem dX0_line_6 : decode cX0_line 6 = .ok (.iload_n 3, 1) := dk_29 (dk_at dksX0_line_0 6 rfl rfl)
theorem dX0_line_7 : decode cX0_line 7 = .ok (.iload 4, 2) := dk_21 4 (dk_at dksX0_line_0 7 rfl rfl)
theorem dX0_line_9 : decode cX0_line 9 = .ok (.invokevirtual 15, 3) := dk_182 0 15 (dk_at dksX0_line_0 9 rfl rfl)
theorem dX0_line_12 : decode cX0_line 12 = .ok (.i2l, 1) := dk_133 (dk_at dksX0_line_0 12 rfl rfl)
theorem dX0_line_13 : decode cX0_line 13 = .ok (.lastore, 1) := dk_80 (dk_at dksX0_line_0 13 rfl rfl)
theorem dX0_line_14 : decode cX0_line 14 = .ok (.goto 15, 3) := dk_167 0 15 (dk_at dksX0_line_0 14 rfl rfl)
theorem dX0_line_17 : decode cX0_line 17 = .ok (.astore 6, 2) := dk_58 6 (dk_at dksX0_line_0 17 rfl rfl)
theorem dX0_line_19 : decode cX0_line 19 = .ok (.iconst 1, 1) := dk_4 (dk_at dksX0_line_0 19 rfl rfl)
theorem dX0_line_20 : decode cX0_line 20 = .ok (.ireturn, 1) := dk_172 (dk_at dksX0_line_0 20 rfl rfl)
theorem dX0_line_21 : decode cX0_line 21 = .ok (.astore 6, 2) := dk_58 6 (dk_at dksX0_line_0 21 rfl rfl)
theorem dX0_line_23 : decode cX0_line 23 = .ok (.iconst 2, 1) := dk_5 (dk_at dksX0_line_0 23 rfl rfl)
theorem dX0_line_24 : decode cX0_line 24 = .ok (.ireturn, 1) := dk_172 (dk_at dksX0_line_1 0 rfl rfl)
theorem dX0_line_25 : decode cX0_line 25 = .ok (.astore 6, 2) := dk_58 6 (dk_at dksX0_line_1 1 rfl rfl)
theorem dX0_line_27 : decode cX0_line 27 = .ok (.iconst 3, 1) := dk_6 (dk_at dksX0_line_1 3 rfl rfl)
theorem dX0_line_28 : decode cX0_line 28 = .ok (.ireturn, 1) := dk_172 (dk_at dksX0_line_1 4 rfl rfl)
theorem dX0_line_29 : decode cX0_line 29 = .ok (.iconst 0, 1) := dk_3 (dk_at dksX0_line_1 5 rfl rfl)
theorem dX0_line_30 : decode cX0_line 30 = .ok (.ireturn, 1) := dk_172 (dk_at dksX0_line_1 6 rfl rfl)
abbrev cX0_cut : ByteArray := method_5_code
def yX0_cut : MethodName := ⟨RX0, "cut", "(LKioskReel;II[J)I"⟩
def dkwX0_cut_0 : List UInt8 := [45, 3, 42, 27, 28, 182, 0, 23, 133, 80, 167, 0, 7, 58, 4, 4, 172, 3, 172]
abbrev dktX0_cut_0 : List UInt8 := dkwX0_cut_0 ++ []
theorem dksX0_cut_0 : cX0_cut.data.toList.drop 0 = dktX0_cut_0 := by decide +kernel
theorem dX0_cut_0 : decode cX0_cut 0 = .ok (.aload_n 3, 1) := dk_45 (dk_at dksX0_cut_0 0 rfl rfl)
theorem dX0_cut_1 : decode cX0_cut 1 = .ok (.iconst 0, 1) := dk_3 (dk_at dksX0_cut_0 1 rfl rfl)
theorem dX0_cut_2 : decode cX0_cut 2 = .ok (.aload_n 0, 1) := dk_42 (dk_at dksX0_cut_0 2 rfl rfl)
theorem dX0_cut_3 : decode cX0_cut 3 = .ok (.iload_n 1, 1) := dk_27 (dk_at dksX0_cut_0 3 rfl rfl)
theorem dX0_cut_4 : decode cX0_cut 4 = .ok (.iload_n 2, 1) := dk_28 (dk_at dksX0_cut_0 4 rfl rfl)
theorem dX0_cut_5 : decode cX0_cut 5 = .ok (.invokevirtual 23, 3) := dk_182 0 23 (dk_at dksX0_cut_0 5 rfl rfl)
theorem dX0_cut_8 : decode cX0_cut 8 = .ok (.i2l, 1) := dk_133 (dk_at dksX0_cut_0 8 rfl rfl)
theorem dX0_cut_9 : decode cX0_cut 9 = .ok (.lastore, 1) := dk_80 (dk_at dksX0_cut_0 9 rfl rfl)
theorem dX0_cut_10 : decode cX0_cut 10 = .ok (.goto 7, 3) := dk_167 0 7 (dk_at dksX0_cut_0 10 rfl rfl)
theorem dX0_cut_13 : decode cX0_cut 13 = .ok (.astore 4, 2) := dk_58 4 (dk_at dksX0_cut_0 13 rfl rfl)
theorem dX0_cut_15 : decode cX0_cut 15 = .ok (.iconst 1, 1) := dk_4 (dk_at dksX0_cut_0 15 rfl rfl)
theorem dX0_cut_16 : decode cX0_cut 16 = .ok (.ireturn, 1) := dk_172 (dk_at dksX0_cut_0 16 rfl rfl)
theorem dX0_cut_17 : decode cX0_cut 17 = .ok (.iconst 0, 1) := dk_3 (dk_at dksX0_cut_0 17 rfl rfl)
theorem dX0_cut_18 : decode cX0_cut 18 = .ok (.ireturn, 1) := dk_172 (dk_at dksX0_cut_0 18 rfl rfl)
abbrev cX0_lines : ByteArray := method_6_code
def yX0_lines : MethodName := ⟨RX0, "lines", "(LKioskReel;IC[J)I"⟩
def dkwX0_lines_0 : List UInt8 := [45, 3, 42, 27, 28, 182, 0, 27, 133, 80, 167, 0, 11, 58, 4, 4, 172, 58, 4, 5, 172, 3, 172]
abbrev dktX0_lines_0 : List UInt8 := dkwX0_lines_0 ++ []
theorem dksX0_lines_0 : cX0_lines.data.toList.drop 0 = dktX0_lines_0 := by decide +kernel
theorem dX0_lines_0 : decode cX0_lines 0 = .ok (.aload_n 3, 1) := dk_45 (dk_at dksX0_lines_0 0 rfl rfl)
theorem dX0_lines_1 : decode cX0_lines 1 = .ok (.iconst 0, 1) := dk_3 (dk_at dksX0_lines_0 1 rfl rfl)
theorem dX0_lines_2 : decode cX0_lines 2 = .ok (.aload_n 0, 1) := dk_42 (dk_at dksX0_lines_0 2 rfl rfl)
theorem dX0_lines_3 : decode cX0_lines 3 = .ok (.iload_n 1, 1) := dk_27 (dk_at dksX0_lines_0 3 rfl rfl)
theorem dX0_lines_4 : decode cX0_lines 4 = .ok (.iload_n 2, 1) := dk_28 (dk_at dksX0_lines_0 4 rfl rfl)
theorem dX0_lines_5 : decode cX0_lines 5 = .ok (.invokevirtual 27, 3) := dk_182 0 27 (dk_at dksX0_lines_0 5 rfl rfl)
theorem dX0_lines_8 : decode cX0_lines 8 = .ok (.i2l, 1) := dk_133 (dk_at dksX0_lines_0 8 rfl rfl)
theorem dX0_lines_9 : decode cX0_lines 9 = .ok (.lastore, 1) := dk_80 (dk_at dksX0_lines_0 9 rfl rfl)
theorem dX0_lines_10 : decode cX0_lines 10 = .ok (.goto 11, 3) := dk_167 0 11 (dk_at dksX0_lines_0 10 rfl rfl)
theorem dX0_lines_13 : decode cX0_lines 13 = .ok (.astore 4, 2) := dk_58 4 (dk_at dksX0_lines_0 13 rfl rfl)
theorem dX0_lines_15 : decode cX0_lines 15 = .ok (.iconst 1, 1) := dk_4 (dk_at dksX0_lines_0 15 rfl rfl)
theorem dX0_lines_16 : decode cX0_lines 16 = .ok (.ireturn, 1) := dk_172 (dk_at dksX0_lines_0 16 rfl rfl)
theorem dX0_lines_17 : decode cX0_lines 17 = .ok (.astore 4, 2) := dk_58 4 (dk_at dksX0_lines_0 17 rfl rfl)
theorem dX0_lines_19 : decode cX0_lines 19 = .ok (.iconst 2, 1) := dk_5 (dk_at dksX0_lines_0 19 rfl rfl)
theorem dX0_lines_20 : decode cX0_lines 20 = .ok (.ireturn, 1) := dk_172 (dk_at dksX0_lines_0 20 rfl rfl)
theorem dX0_lines_21 : decode cX0_lines 21 = .ok (.iconst 0, 1) := dk_3 (dk_at dksX0_lines_0 21 rfl rfl)
theorem dX0_lines_22 : decode cX0_lines 22 = .ok (.ireturn, 1) := dk_172 (dk_at dksX0_lines_0 22 rfl rfl)
abbrev cX0_kiosk : ByteArray := method_7_code
def yX0_kiosk : MethodName := ⟨RX0, "kiosk", "(LKioskReel;[J)I"⟩
def dkwX0_kiosk_0 : List UInt8 := [43, 3, 42, 182, 0, 31, 133, 80, 167, 0, 6, 77, 4, 172, 3, 172]
abbrev dktX0_kiosk_0 : List UInt8 := dkwX0_kiosk_0 ++ []
theorem dksX0_kiosk_0 : cX0_kiosk.data.toList.drop 0 = dktX0_kiosk_0 := by decide +kernel
theorem dX0_kiosk_0 : decode cX0_kiosk 0 = .ok (.aload_n 1, 1) := dk_43 (dk_at dksX0_kiosk_0 0 rfl rfl)
theorem dX0_kiosk_1 : decode cX0_kiosk 1 = .ok (.iconst 0, 1) := dk_3 (dk_at dksX0_kiosk_0 1 rfl rfl)
theorem dX0_kiosk_2 : decode cX0_kiosk 2 = .ok (.aload_n 0, 1) := dk_42 (dk_at dksX0_kiosk_0 2 rfl rfl)
theorem dX0_kiosk_3 : decode cX0_kiosk 3 = .ok (.invokevirtual 31, 3) := dk_182 0 31 (dk_at dksX0_kiosk_0 3 rfl rfl)
theorem dX0_kiosk_6 : decode cX0_kiosk 6 = .ok (.i2l, 1) := dk_133 (dk_at dksX0_kiosk_0 6 rfl rfl)
theorem dX0_kiosk_7 : decode cX0_kiosk 7 = .ok (.lastore, 1) := dk_80 (dk_at dksX0_kiosk_0 7 rfl rfl)
theorem dX0_kiosk_8 : decode cX0_kiosk 8 = .ok (.goto 6, 3) := dk_167 0 6 (dk_at dksX0_kiosk_0 8 rfl rfl)
theorem dX0_kiosk_11 : decode cX0_kiosk 11 = .ok (.astore_n 2, 1) := dk_77 (dk_at dksX0_kiosk_0 11 rfl rfl)
theorem dX0_kiosk_12 : decode cX0_kiosk 12 = .ok (.iconst 1, 1) := dk_4 (dk_at dksX0_kiosk_0 12 rfl rfl)
theorem dX0_kiosk_13 : decode cX0_kiosk 13 = .ok (.ireturn, 1) := dk_172 (dk_at dksX0_kiosk_0 13 rfl rfl)
theorem dX0_kiosk_14 : decode cX0_kiosk 14 = .ok (.iconst 0, 1) := dk_3 (dk_at dksX0_kiosk_0 14 rfl rfl)
theorem dX0_kiosk_15 : decode cX0_kiosk 15 = .ok (.ireturn, 1) := dk_172 (dk_at dksX0_kiosk_0 15 rfl rfl)
abbrev cX0_start : ByteArray := method_8_code
def yX0_start : MethodName := ⟨RX0, "start", "(LKioskReel;II[J)I"⟩
def dkwX0_start_0 : List UInt8 := [45, 3, 42, 27, 28, 182, 0, 34, 133, 80, 167, 0, 11, 58, 4, 4, 172, 58, 4, 5, 172, 3, 172]
abbrev dktX0_start_0 : List UInt8 := dkwX0_start_0 ++ []
theorem dksX0_start_0 : cX0_start.data.toList.drop 0 = dktX0_start_0 := by decide +kernel
theorem dX0_start_0 : decode cX0_start 0 = .ok (.aload_n 3, 1) := dk_45 (dk_at dksX0_start_0 0 rfl rfl)
theorem dX0_start_1 : decode cX0_start 1 = .ok (.iconst 0, 1) := dk_3 (dk_at dksX0_start_0 1 rfl rfl)
theorem dX0_start_2 : decode cX0_start 2 = .ok (.aload_n 0, 1) := dk_42 (dk_at dksX0_start_0 2 rfl rfl)
theorem dX0_start_3 : decode cX0_start 3 = .ok (.iload_n 1, 1) := dk_27 (dk_at dksX0_start_0 3 rfl rfl)
theorem dX0_start_4 : decode cX0_start 4 = .ok (.iload_n 2, 1) := dk_28 (dk_at dksX0_start_0 4 rfl rfl)
theorem dX0_start_5 : decode cX0_start 5 = .ok (.invokevirtual 34, 3) := dk_182 0 34 (dk_at dksX0_start_0 5 rfl rfl)
theorem dX0_start_8 : decode cX0_start 8 = .ok (.i2l, 1) := dk_133 (dk_at dksX0_start_0 8 rfl rfl)
theorem dX0_start_9 : decode cX0_start 9 = .ok (.lastore, 1) := dk_80 (dk_at dksX0_start_0 9 rfl rfl)
theorem dX0_start_10 : decode cX0_start 10 = .ok (.goto 11, 3) := dk_167 0 11 (dk_at dksX0_start_0 10 rfl rfl)
theorem dX0_start_13 : decode cX0_start 13 = .ok (.astore 4, 2) := dk_58 4 (dk_at dksX0_start_0 13 rfl rfl)
theorem dX0_start_15 : decode cX0_start 15 = .ok (.iconst 1, 1) := dk_4 (dk_at dksX0_start_0 15 rfl rfl)
theorem dX0_start_16 : decode cX0_start 16 = .ok (.ireturn, 1) := dk_172 (dk_at dksX0_start_0 16 rfl rfl)
theorem dX0_start_17 : decode cX0_start 17 = .ok (.astore 4, 2) := dk_58 4 (dk_at dksX0_start_0 17 rfl rfl)
theorem dX0_start_19 : decode cX0_start 19 = .ok (.iconst 2, 1) := dk_5 (dk_at dksX0_start_0 19 rfl rfl)
theorem dX0_start_20 : decode cX0_start 20 = .ok (.ireturn, 1) := dk_172 (dk_at dksX0_start_0 20 rfl rfl)
theorem dX0_start_21 : decode cX0_start 21 = .ok (.iconst 0, 1) := dk_3 (dk_at dksX0_start_0 21 rfl rfl)
theorem dX0_start_22 : decode cX0_start 22 = .ok (.ireturn, 1) := dk_172 (dk_at dksX0_start_0 22 rfl rfl)
abbrev cX0_stop : ByteArray := method_9_code
def yX0_stop : MethodName := ⟨RX0, "stop", "(LKioskReel;I[J)I"⟩
def dkwX0_stop_0 : List UInt8 := [44, 3, 42, 27, 182, 0, 38, 133, 80, 167, 0, 9, 78, 4, 172, 78, 5, 172, 3, 172]
abbrev dktX0_stop_0 : List UInt8 := dkwX0_stop_0 ++ []
theorem dksX0_stop_0 : cX0_stop.data.toList.drop 0 = dktX0_stop_0 := by decide +kernel
theorem dX0_stop_0 : decode cX0_stop 0 = .ok (.aload_n 2, 1) := dk_44 (dk_at dksX0_stop_0 0 rfl rfl)
theorem dX0_stop_1 : decode cX0_stop 1 = .ok (.iconst 0, 1) := dk_3 (dk_at dksX0_stop_0 1 rfl rfl)
theorem dX0_stop_2 : decode cX0_stop 2 = .ok (.aload_n 0, 1) := dk_42 (dk_at dksX0_stop_0 2 rfl rfl)
theorem dX0_stop_3 : decode cX0_stop 3 = .ok (.iload_n 1, 1) := dk_27 (dk_at dksX0_stop_0 3 rfl rfl)
theorem dX0_stop_4 : decode cX0_stop 4 = .ok (.invokevirtual 38, 3) := dk_182 0 38 (dk_at dksX0_stop_0 4 rfl rfl)
theorem dX0_stop_7 : decode cX0_stop 7 = .ok (.i2l, 1) := dk_133 (dk_at dksX0_stop_0 7 rfl rfl)
theorem dX0_stop_8 : decode cX0_stop 8 = .ok (.lastore, 1) := dk_80 (dk_at dksX0_stop_0 8 rfl rfl)
theorem dX0_stop_9 : decode cX0_stop 9 = .ok (.goto 9, 3) := dk_167 0 9 (dk_at dksX0_stop_0 9 rfl rfl)
theorem dX0_stop_12 : decode cX0_stop 12 = .ok (.astore_n 3, 1) := dk_78 (dk_at dksX0_stop_0 12 rfl rfl)
theorem dX0_stop_13 : decode cX0_stop 13 = .ok (.iconst 1, 1) := dk_4 (dk_at dksX0_stop_0 13 rfl rfl)
theorem dX0_stop_14 : decode cX0_stop 14 = .ok (.ireturn, 1) := dk_172 (dk_at dksX0_stop_0 14 rfl rfl)
theorem dX0_stop_15 : decode cX0_stop 15 = .ok (.astore_n 3, 1) := dk_78 (dk_at dksX0_stop_0 15 rfl rfl)
theorem dX0_stop_16 : decode cX0_stop 16 = .ok (.iconst 2, 1) := dk_5 (dk_at dksX0_stop_0 16 rfl rfl)
theorem dX0_stop_17 : decode cX0_stop 17 = .ok (.ireturn, 1) := dk_172 (dk_at dksX0_stop_0 17 rfl rfl)
theorem dX0_stop_18 : decode cX0_stop 18 = .ok (.iconst 0, 1) := dk_3 (dk_at dksX0_stop_0 18 rfl rfl)
theorem dX0_stop_19 : decode cX0_stop 19 = .ok (.ireturn, 1) := dk_172 (dk_at dksX0_stop_0 19 rfl rfl)
abbrev cX0_freeze : ByteArray := method_10_code
def yX0_freeze : MethodName := ⟨RX0, "freeze", "(LKioskReel;I[J)I"⟩
def dkwX0_freeze_0 : List UInt8 := [44, 3, 42, 27, 182, 0, 44, 153, 0, 7, 10, 167, 0, 4, 9, 80, 167, 0, 6, 78, 4, 172, 3, 172]
abbrev dktX0_freeze_0 : List UInt8 := dkwX0_freeze_0 ++ []
theorem dksX0_freeze_0 : cX0_freeze.data.toList.drop 0 = dktX0_freeze_0 := by decide +kernel
theorem dX0_freeze_0 : decode cX0_freeze 0 = .ok (.aload_n 2, 1) := dk_44 (dk_at dksX0_freeze_0 0 rfl rfl)
theorem dX0_freeze_1 : decode cX0_freeze 1 = .ok (.iconst 0, 1) := dk_3 (dk_at dksX0_freeze_0 1 rfl rfl)
theorem dX0_freeze_2 : decode cX0_freeze 2 = .ok (.aload_n 0, 1) := dk_42 (dk_at dksX0_freeze_0 2 rfl rfl)
theorem dX0_freeze_3 : decode cX0_freeze 3 = .ok (.iload_n 1, 1) := dk_27 (dk_at dksX0_freeze_0 3 rfl rfl)
theorem dX0_freeze_4 : decode cX0_freeze 4 = .ok (.invokevirtual 44, 3) := dk_182 0 44 (dk_at dksX0_freeze_0 4 rfl rfl)
theorem dX0_freeze_7 : decode cX0_freeze 7 = .ok (.ifCond .eq 7, 3) := dk_153 0 7 (dk_at dksX0_freeze_0 7 rfl rfl)
theorem dX0_freeze_10 : decode cX0_freeze 10 = .ok (.lconst 1, 1) := dk_10 (dk_at dksX0_freeze_0 10 rfl rfl)
theorem dX0_freeze_11 : decode cX0_freeze 11 = .ok (.goto 4, 3) := dk_167 0 4 (dk_at dksX0_freeze_0 11 rfl rfl)
theorem dX0_freeze_14 : decode cX0_freeze 14 = .ok (.lconst 0, 1) := dk_9 (dk_at dksX0_freeze_0 14 rfl rfl)
theorem dX0_freeze_15 : decode cX0_freeze 15 = .ok (.lastore, 1) := dk_80 (dk_at dksX0_freeze_0 15 rfl rfl)
theorem dX0_freeze_16 : decode cX0_freeze 16 = .ok (.goto 6, 3) := dk_167 0 6 (dk_at dksX0_freeze_0 16 rfl rfl)
theorem dX0_freeze_19 : decode cX0_freeze 19 = .ok (.astore_n 3, 1) := dk_78 (dk_at dksX0_freeze_0 19 rfl rfl)
theorem dX0_freeze_20 : decode cX0_freeze 20 = .ok (.iconst 1, 1) := dk_4 (dk_at dksX0_freeze_0 20 rfl rfl)
theorem dX0_freeze_21 : decode cX0_freeze 21 = .ok (.ireturn, 1) := dk_172 (dk_at dksX0_freeze_0 21 rfl rfl)
theorem dX0_freeze_22 : decode cX0_freeze 22 = .ok (.iconst 0, 1) := dk_3 (dk_at dksX0_freeze_0 22 rfl rfl)
theorem dX0_freeze_23 : decode cX0_freeze 23 = .ok (.ireturn, 1) := dk_172 (dk_at dksX0_freeze_0 23 rfl rfl)
abbrev cX0_thaw : ByteArray := method_11_code
def yX0_thaw : MethodName := ⟨RX0, "thaw", "(LKioskReel;I[J)I"⟩
def dkwX0_thaw_0 : List UInt8 := [44, 3, 42, 27, 182, 0, 48, 133, 80, 167, 0, 6, 78, 4, 172, 3, 172]
abbrev dktX0_thaw_0 : List UInt8 := dkwX0_thaw_0 ++ []
theorem dksX0_thaw_0 : cX0_thaw.data.toList.drop 0 = dktX0_thaw_0 := by decide +kernel
theorem dX0_thaw_0 : decode cX0_thaw 0 = .ok (.aload_n 2, 1) := dk_44 (dk_at dksX0_thaw_0 0 rfl rfl)
theorem dX0_thaw_1 : decode cX0_thaw 1 = .ok (.iconst 0, 1) := dk_3 (dk_at dksX0_thaw_0 1 rfl rfl)
theorem dX0_thaw_2 : decode cX0_thaw 2 = .ok (.aload_n 0, 1) := dk_42 (dk_at dksX0_thaw_0 2 rfl rfl)
theorem dX0_thaw_3 : decode cX0_thaw 3 = .ok (.iload_n 1, 1) := dk_27 (dk_at dksX0_thaw_0 3 rfl rfl)
theorem dX0_thaw_4 : decode cX0_thaw 4 = .ok (.invokevirtual 48, 3) := dk_182 0 48 (dk_at dksX0_thaw_0 4 rfl rfl)
theorem dX0_thaw_7 : decode cX0_thaw 7 = .ok (.i2l, 1) := dk_133 (dk_at dksX0_thaw_0 7 rfl rfl)
theorem dX0_thaw_8 : decode cX0_thaw 8 = .ok (.lastore, 1) := dk_80 (dk_at dksX0_thaw_0 8 rfl rfl)
theorem dX0_thaw_9 : decode cX0_thaw 9 = .ok (.goto 6, 3) := dk_167 0 6 (dk_at dksX0_thaw_0 9 rfl rfl)
theorem dX0_thaw_12 : decode cX0_thaw 12 = .ok (.astore_n 3, 1) := dk_78 (dk_at dksX0_thaw_0 12 rfl rfl)
theorem dX0_thaw_13 : decode cX0_thaw 13 = .ok (.iconst 1, 1) := dk_4 (dk_at dksX0_thaw_0 13 rfl rfl)
theorem dX0_thaw_14 : decode cX0_thaw 14 = .ok (.ireturn, 1) := dk_172 (dk_at dksX0_thaw_0 14 rfl rfl)
theorem dX0_thaw_15 : decode cX0_thaw 15 = .ok (.iconst 0, 1) := dk_3 (dk_at dksX0_thaw_0 15 rfl rfl)
theorem dX0_thaw_16 : decode cX0_thaw 16 = .ok (.ireturn, 1) := dk_172 (dk_at dksX0_thaw_0 16 rfl rfl)
abbrev cX0_state : ByteArray := method_12_code
def yX0_state : MethodName := ⟨RX0, "state", "(LKioskReel;I[J)I"⟩
def dkwX0_state_0 : List UInt8 := [44, 3, 42, 27, 182, 0, 51, 133, 80, 167, 0, 6, 78, 4, 172, 3, 172]
abbrev dktX0_state_0 : List UInt8 := dkwX0_state_0 ++ []
theorem dksX0_state_0 : cX0_state.data.toList.drop 0 = dktX0_state_0 := by decide +kernel
theorem dX0_state_0 : decode cX0_state 0 = .ok (.aload_n 2, 1) := dk_44 (dk_at dksX0_state_0 0 rfl rfl)
theorem dX0_state_1 : decode cX0_state 1 = .ok (.iconst 0, 1) := dk_3 (dk_at dksX0_state_0 1 rfl rfl)
theorem dX0_state_2 : decode cX0_state 2 = .ok (.aload_n 0, 1) := dk_42 (dk_at dksX0_state_0 2 rfl rfl)
theorem dX0_state_3 : decode cX0_state 3 = .ok (.iload_n 1, 1) := dk_27 (dk_at dksX0_state_0 3 rfl rfl)
theorem dX0_state_4 : decode cX0_state 4 = .ok (.invokevirtual 51, 3) := dk_182 0 51 (dk_at dksX0_state_0 4 rfl rfl)
theorem dX0_state_7 : decode cX0_state 7 = .ok (.i2l, 1) := dk_133 (dk_at dksX0_state_0 7 rfl rfl)
theorem dX0_state_8 : decode cX0_state 8 = .ok (.lastore, 1) := dk_80 (dk_at dksX0_state_0 8 rfl rfl)
theorem dX0_state_9 : decode cX0_state 9 = .ok (.goto 6, 3) := dk_167 0 6 (dk_at dksX0_state_0 9 rfl rfl)
theorem dX0_state_12 : decode cX0_state 12 = .ok (.astore_n 3, 1) := dk_78 (dk_at dksX0_state_0 12 rfl rfl)
theorem dX0_state_13 : decode cX0_state 13 = .ok (.iconst 1, 1) := dk_4 (dk_at dksX0_state_0 13 rfl rfl)
theorem dX0_state_14 : decode cX0_state 14 = .ok (.ireturn, 1) := dk_172 (dk_at dksX0_state_0 14 rfl rfl)
theorem dX0_state_15 : decode cX0_state 15 = .ok (.iconst 0, 1) := dk_3 (dk_at dksX0_state_0 15 rfl rfl)
theorem dX0_state_16 : decode cX0_state 16 = .ok (.ireturn, 1) := dk_172 (dk_at dksX0_state_0 16 rfl rfl)
abbrev cX0_plays : ByteArray := method_13_code
def yX0_plays : MethodName := ⟨RX0, "plays", "(LKioskReel;I[J)I"⟩
def dkwX0_plays_0 : List UInt8 := [44, 3, 42, 27, 182, 0, 55, 133, 80, 167, 0, 9, 78, 4, 172, 78, 5, 172, 3, 172]
abbrev dktX0_plays_0 : List UInt8 := dkwX0_plays_0 ++ []
theorem dksX0_plays_0 : cX0_plays.data.toList.drop 0 = dktX0_plays_0 := by decide +kernel
theorem dX0_plays_0 : decode cX0_plays 0 = .ok (.aload_n 2, 1) := dk_44 (dk_at dksX0_plays_0 0 rfl rfl)
theorem dX0_plays_1 : decode cX0_plays 1 = .ok (.iconst 0, 1) := dk_3 (dk_at dksX0_plays_0 1 rfl rfl)
theorem dX0_plays_2 : decode cX0_plays 2 = .ok (.aload_n 0, 1) := dk_42 (dk_at dksX0_plays_0 2 rfl rfl)
theorem dX0_plays_3 : decode cX0_plays 3 = .ok (.iload_n 1, 1) := dk_27 (dk_at dksX0_plays_0 3 rfl rfl)
theorem dX0_plays_4 : decode cX0_plays 4 = .ok (.invokevirtual 55, 3) := dk_182 0 55 (dk_at dksX0_plays_0 4 rfl rfl)
theorem dX0_plays_7 : decode cX0_plays 7 = .ok (.i2l, 1) := dk_133 (dk_at dksX0_plays_0 7 rfl rfl)
theorem dX0_plays_8 : decode cX0_plays 8 = .ok (.lastore, 1) := dk_80 (dk_at dksX0_plays_0 8 rfl rfl)
theorem dX0_plays_9 : decode cX0_plays 9 = .ok (.goto 9, 3) := dk_167 0 9 (dk_at dksX0_plays_0 9 rfl rfl)
theorem dX0_plays_12 : decode cX0_plays 12 = .ok (.astore_n 3, 1) := dk_78 (dk_at dksX0_plays_0 12 rfl rfl)
theorem dX0_plays_13 : decode cX0_plays 13 = .ok (.iconst 1, 1) := dk_4 (dk_at dksX0_plays_0 13 rfl rfl)
theorem dX0_plays_14 : decode cX0_plays 14 = .ok (.ireturn, 1) := dk_172 (dk_at dksX0_plays_0 14 rfl rfl)
theorem dX0_plays_15 : decode cX0_plays 15 = .ok (.astore_n 3, 1) := dk_78 (dk_at dksX0_plays_0 15 rfl rfl)
theorem dX0_plays_16 : decode cX0_plays 16 = .ok (.iconst 2, 1) := dk_5 (dk_at dksX0_plays_0 16 rfl rfl)
theorem dX0_plays_17 : decode cX0_plays 17 = .ok (.ireturn, 1) := dk_172 (dk_at dksX0_plays_0 17 rfl rfl)
theorem dX0_plays_18 : decode cX0_plays 18 = .ok (.iconst 0, 1) := dk_3 (dk_at dksX0_plays_0 18 rfl rfl)
theorem dX0_plays_19 : decode cX0_plays 19 = .ok (.ireturn, 1) := dk_172 (dk_at dksX0_plays_0 19 rfl rfl)
abbrev cX0_playerAt : ByteArray := method_14_code
def yX0_playerAt : MethodName := ⟨RX0, "playerAt", "(LKioskReel;II[J)I"⟩
def dkwX0_playerAt_0 : List UInt8 := [45, 3, 42, 27, 28, 182, 0, 58, 133, 80, 167, 0, 11, 58, 4, 4, 172, 58, 4, 5, 172, 3, 172]
abbrev dktX0_playerAt_0 : List UInt8 := dkwX0_playerAt_0 ++ []
theorem dksX0_playerAt_0 : cX0_playerAt.data.toList.drop 0 = dktX0_playerAt_0 := by decide +kernel
theorem dX0_playerAt_0 : decode cX0_playerAt 0 = .ok (.aload_n 3, 1) := dk_45 (dk_at dksX0_playerAt_0 0 rfl rfl)
theorem dX0_playerAt_1 : decode cX0_playerAt 1 = .ok (.iconst 0, 1) := dk_3 (dk_at dksX0_playerAt_0 1 rfl rfl)
theorem dX0_playerAt_2 : decode cX0_playerAt 2 = .ok (.aload_n 0, 1) := dk_42 (dk_at dksX0_playerAt_0 2 rfl rfl)
theorem dX0_playerAt_3 : decode cX0_playerAt 3 = .ok (.iload_n 1, 1) := dk_27 (dk_at dksX0_playerAt_0 3 rfl rfl)
theorem dX0_playerAt_4 : decode cX0_playerAt 4 = .ok (.iload_n 2, 1) := dk_28 (dk_at dksX0_playerAt_0 4 rfl rfl)
theorem dX0_playerAt_5 : decode cX0_playerAt 5 = .ok (.invokevirtual 58, 3) := dk_182 0 58 (dk_at dksX0_playerAt_0 5 rfl rfl)
theorem dX0_playerAt_8 : decode cX0_playerAt 8 = .ok (.i2l, 1) := dk_133 (dk_at dksX0_playerAt_0 8 rfl rfl)
theorem dX0_playerAt_9 : decode cX0_playerAt 9 = .ok (.lastore, 1) := dk_80 (dk_at dksX0_playerAt_0 9 rfl rfl)
theorem dX0_playerAt_10 : decode cX0_playerAt 10 = .ok (.goto 11, 3) := dk_167 0 11 (dk_at dksX0_playerAt_0 10 rfl rfl)
theorem dX0_playerAt_13 : decode cX0_playerAt 13 = .ok (.astore 4, 2) := dk_58 4 (dk_at dksX0_playerAt_0 13 rfl rfl)
theorem dX0_playerAt_15 : decode cX0_playerAt 15 = .ok (.iconst 1, 1) := dk_4 (dk_at dksX0_playerAt_0 15 rfl rfl)
theorem dX0_playerAt_16 : decode cX0_playerAt 16 = .ok (.ireturn, 1) := dk_172 (dk_at dksX0_playerAt_0 16 rfl rfl)
theorem dX0_playerAt_17 : decode cX0_playerAt 17 = .ok (.astore 4, 2) := dk_58 4 (dk_at dksX0_playerAt_0 17 rfl rfl)
theorem dX0_playerAt_19 : decode cX0_playerAt 19 = .ok (.iconst 2, 1) := dk_5 (dk_at dksX0_playerAt_0 19 rfl rfl)
theorem dX0_playerAt_20 : decode cX0_playerAt 20 = .ok (.ireturn, 1) := dk_172 (dk_at dksX0_playerAt_0 20 rfl rfl)
theorem dX0_playerAt_21 : decode cX0_playerAt 21 = .ok (.iconst 0, 1) := dk_3 (dk_at dksX0_playerAt_0 21 rfl rfl)
theorem dX0_playerAt_22 : decode cX0_playerAt 22 = .ok (.ireturn, 1) := dk_172 (dk_at dksX0_playerAt_0 22 rfl rfl)
abbrev cX0_next : ByteArray := method_15_code
def yX0_next : MethodName := ⟨RX0, "next", "(LKioskReel;I[J)I"⟩
def dkwX0_next_0 : List UInt8 := [44, 3, 42, 27, 182, 0, 61, 133, 80, 167, 0, 9, 78, 4, 172, 78, 5, 172, 3, 172]
abbrev dktX0_next_0 : List UInt8 := dkwX0_next_0 ++ []
theorem dksX0_next_0 : cX0_next.data.toList.drop 0 = dktX0_next_0 := by decide +kernel
theorem dX0_next_0 : decode cX0_next 0 = .ok (.aload_n 2, 1) := dk_44 (dk_at dksX0_next_0 0 rfl rfl)
theorem dX0_next_1 : decode cX0_next 1 = .ok (.iconst 0, 1) := dk_3 (dk_at dksX0_next_0 1 rfl rfl)
theorem dX0_next_2 : decode cX0_next 2 = .ok (.aload_n 0, 1) := dk_42 (dk_at dksX0_next_0 2 rfl rfl)
theorem dX0_next_3 : decode cX0_next 3 = .ok (.iload_n 1, 1) := dk_27 (dk_at dksX0_next_0 3 rfl rfl)
theorem dX0_next_4 : decode cX0_next 4 = .ok (.invokevirtual 61, 3) := dk_182 0 61 (dk_at dksX0_next_0 4 rfl rfl)
theorem dX0_next_7 : decode cX0_next 7 = .ok (.i2l, 1) := dk_133 (dk_at dksX0_next_0 7 rfl rfl)
theorem dX0_next_8 : decode cX0_next 8 = .ok (.lastore, 1) := dk_80 (dk_at dksX0_next_0 8 rfl rfl)
theorem dX0_next_9 : decode cX0_next 9 = .ok (.goto 9, 3) := dk_167 0 9 (dk_at dksX0_next_0 9 rfl rfl)
theorem dX0_next_12 : decode cX0_next 12 = .ok (.astore_n 3, 1) := dk_78 (dk_at dksX0_next_0 12 rfl rfl)
theorem dX0_next_13 : decode cX0_next 13 = .ok (.iconst 1, 1) := dk_4 (dk_at dksX0_next_0 13 rfl rfl)
theorem dX0_next_14 : decode cX0_next 14 = .ok (.ireturn, 1) := dk_172 (dk_at dksX0_next_0 14 rfl rfl)
theorem dX0_next_15 : decode cX0_next 15 = .ok (.astore_n 3, 1) := dk_78 (dk_at dksX0_next_0 15 rfl rfl)
theorem dX0_next_16 : decode cX0_next 16 = .ok (.iconst 2, 1) := dk_5 (dk_at dksX0_next_0 16 rfl rfl)
theorem dX0_next_17 : decode cX0_next 17 = .ok (.ireturn, 1) := dk_172 (dk_at dksX0_next_0 17 rfl rfl)
theorem dX0_next_18 : decode cX0_next 18 = .ok (.iconst 0, 1) := dk_3 (dk_at dksX0_next_0 18 rfl rfl)
theorem dX0_next_19 : decode cX0_next 19 = .ok (.ireturn, 1) := dk_172 (dk_at dksX0_next_0 19 rfl rfl)
abbrev cX0_count : ByteArray := method_16_code
def yX0_count : MethodName := ⟨RX0, "count", "(LKioskReel;I[J)I"⟩
def dkwX0_count_0 : List UInt8 := [44, 3, 42, 27, 182, 0, 64, 133, 80, 167, 0, 9, 78, 4, 172, 78, 5, 172, 3, 172]
abbrev dktX0_count_0 : List UInt8 := dkwX0_count_0 ++ []
theorem dksX0_count_0 : cX0_count.data.toList.drop 0 = dktX0_count_0 := by decide +kernel
theorem dX0_count_0 : decode cX0_count 0 = .ok (.aload_n 2, 1) := dk_44 (dk_at dksX0_count_0 0 rfl rfl)
theorem dX0_count_1 : decode cX0_count 1 = .ok (.iconst 0, 1) := dk_3 (dk_at dksX0_count_0 1 rfl rfl)
theorem dX0_count_2 : decode cX0_count 2 = .ok (.aload_n 0, 1) := dk_42 (dk_at dksX0_count_0 2 rfl rfl)
theorem dX0_count_3 : decode cX0_count 3 = .ok (.iload_n 1, 1) := dk_27 (dk_at dksX0_count_0 3 rfl rfl)
theorem dX0_count_4 : decode cX0_count 4 = .ok (.invokevirtual 64, 3) := dk_182 0 64 (dk_at dksX0_count_0 4 rfl rfl)
theorem dX0_count_7 : decode cX0_count 7 = .ok (.i2l, 1) := dk_133 (dk_at dksX0_count_0 7 rfl rfl)
theorem dX0_count_8 : decode cX0_count 8 = .ok (.lastore, 1) := dk_80 (dk_at dksX0_count_0 8 rfl rfl)
theorem dX0_count_9 : decode cX0_count 9 = .ok (.goto 9, 3) := dk_167 0 9 (dk_at dksX0_count_0 9 rfl rfl)
theorem dX0_count_12 : decode cX0_count 12 = .ok (.astore_n 3, 1) := dk_78 (dk_at dksX0_count_0 12 rfl rfl)
theorem dX0_count_13 : decode cX0_count 13 = .ok (.iconst 1, 1) := dk_4 (dk_at dksX0_count_0 13 rfl rfl)
theorem dX0_count_14 : decode cX0_count 14 = .ok (.ireturn, 1) := dk_172 (dk_at dksX0_count_0 14 rfl rfl)
theorem dX0_count_15 : decode cX0_count 15 = .ok (.astore_n 3, 1) := dk_78 (dk_at dksX0_count_0 15 rfl rfl)
theorem dX0_count_16 : decode cX0_count 16 = .ok (.iconst 2, 1) := dk_5 (dk_at dksX0_count_0 16 rfl rfl)
theorem dX0_count_17 : decode cX0_count 17 = .ok (.ireturn, 1) := dk_172 (dk_at dksX0_count_0 17 rfl rfl)
theorem dX0_count_18 : decode cX0_count 18 = .ok (.iconst 0, 1) := dk_3 (dk_at dksX0_count_0 18 rfl rfl)
theorem dX0_count_19 : decode cX0_count 19 = .ok (.ireturn, 1) := dk_172 (dk_at dksX0_count_0 19 rfl rfl)
abbrev cX0_waits : ByteArray := method_17_code
def yX0_waits : MethodName := ⟨RX0, "waits", "(LKioskReel;I[J)I"⟩
def dkwX0_waits_0 : List UInt8 := [44, 3, 42, 27, 182, 0, 67, 133, 80, 167, 0, 9, 78, 4, 172, 78, 5, 172, 3, 172]
abbrev dktX0_waits_0 : List UInt8 := dkwX0_waits_0 ++ []
theorem dksX0_waits_0 : cX0_waits.data.toList.drop 0 = dktX0_waits_0 := by decide +kernel
theorem dX0_waits_0 : decode cX0_waits 0 = .ok (.aload_n 2, 1) := dk_44 (dk_at dksX0_waits_0 0 rfl rfl)
theorem dX0_waits_1 : decode cX0_waits 1 = .ok (.iconst 0, 1) := dk_3 (dk_at dksX0_waits_0 1 rfl rfl)
theorem dX0_waits_2 : decode cX0_waits 2 = .ok (.aload_n 0, 1) := dk_42 (dk_at dksX0_waits_0 2 rfl rfl)
theorem dX0_waits_3 : decode cX0_waits 3 = .ok (.iload_n 1, 1) := dk_27 (dk_at dksX0_waits_0 3 rfl rfl)
theorem dX0_waits_4 : decode cX0_waits 4 = .ok (.invokevirtual 67, 3) := dk_182 0 67 (dk_at dksX0_waits_0 4 rfl rfl)
theorem dX0_waits_7 : decode cX0_waits 7 = .ok (.i2l, 1) := dk_133 (dk_at dksX0_waits_0 7 rfl rfl)
theorem dX0_waits_8 : decode cX0_waits 8 = .ok (.lastore, 1) := dk_80 (dk_at dksX0_waits_0 8 rfl rfl)
theorem dX0_waits_9 : decode cX0_waits 9 = .ok (.goto 9, 3) := dk_167 0 9 (dk_at dksX0_waits_0 9 rfl rfl)
theorem dX0_waits_12 : decode cX0_waits 12 = .ok (.astore_n 3, 1) := dk_78 (dk_at dksX0_waits_0 12 rfl rfl)
theorem dX0_waits_13 : decode cX0_waits 13 = .ok (.iconst 1, 1) := dk_4 (dk_at dksX0_waits_0 13 rfl rfl)
theorem dX0_waits_14 : decode cX0_waits 14 = .ok (.ireturn, 1) := dk_172 (dk_at dksX0_waits_0 14 rfl rfl)
theorem dX0_waits_15 : decode cX0_waits 15 = .ok (.astore_n 3, 1) := dk_78 (dk_at dksX0_waits_0 15 rfl rfl)
theorem dX0_waits_16 : decode cX0_waits 16 = .ok (.iconst 2, 1) := dk_5 (dk_at dksX0_waits_0 16 rfl rfl)
theorem dX0_waits_17 : decode cX0_waits 17 = .ok (.ireturn, 1) := dk_172 (dk_at dksX0_waits_0 17 rfl rfl)
theorem dX0_waits_18 : decode cX0_waits 18 = .ok (.iconst 0, 1) := dk_3 (dk_at dksX0_waits_0 18 rfl rfl)
theorem dX0_waits_19 : decode cX0_waits 19 = .ok (.ireturn, 1) := dk_172 (dk_at dksX0_waits_0 19 rfl rfl)
abbrev cX0_tick : ByteArray := method_18_code
def yX0_tick : MethodName := ⟨RX0, "tick", "(LKioskReel;I[J)I"⟩
def dkwX0_tick_0 : List UInt8 := [44, 3, 42, 27, 182, 0, 70, 133, 80, 167, 0, 6, 78, 4, 172, 3, 172]
abbrev dktX0_tick_0 : List UInt8 := dkwX0_tick_0 ++ []
theorem dksX0_tick_0 : cX0_tick.data.toList.drop 0 = dktX0_tick_0 := by decide +kernel
theorem dX0_tick_0 : decode cX0_tick 0 = .ok (.aload_n 2, 1) := dk_44 (dk_at dksX0_tick_0 0 rfl rfl)
theorem dX0_tick_1 : decode cX0_tick 1 = .ok (.iconst 0, 1) := dk_3 (dk_at dksX0_tick_0 1 rfl rfl)
theorem dX0_tick_2 : decode cX0_tick 2 = .ok (.aload_n 0, 1) := dk_42 (dk_at dksX0_tick_0 2 rfl rfl)
theorem dX0_tick_3 : decode cX0_tick 3 = .ok (.iload_n 1, 1) := dk_27 (dk_at dksX0_tick_0 3 rfl rfl)
theorem dX0_tick_4 : decode cX0_tick 4 = .ok (.invokevirtual 70, 3) := dk_182 0 70 (dk_at dksX0_tick_0 4 rfl rfl)
theorem dX0_tick_7 : decode cX0_tick 7 = .ok (.i2l, 1) := dk_133 (dk_at dksX0_tick_0 7 rfl rfl)
theorem dX0_tick_8 : decode cX0_tick 8 = .ok (.lastore, 1) := dk_80 (dk_at dksX0_tick_0 8 rfl rfl)
theorem dX0_tick_9 : decode cX0_tick 9 = .ok (.goto 6, 3) := dk_167 0 6 (dk_at dksX0_tick_0 9 rfl rfl)
theorem dX0_tick_12 : decode cX0_tick 12 = .ok (.astore_n 3, 1) := dk_78 (dk_at dksX0_tick_0 12 rfl rfl)
theorem dX0_tick_13 : decode cX0_tick 13 = .ok (.iconst 1, 1) := dk_4 (dk_at dksX0_tick_0 13 rfl rfl)
theorem dX0_tick_14 : decode cX0_tick 14 = .ok (.ireturn, 1) := dk_172 (dk_at dksX0_tick_0 14 rfl rfl)
theorem dX0_tick_15 : decode cX0_tick 15 = .ok (.iconst 0, 1) := dk_3 (dk_at dksX0_tick_0 15 rfl rfl)
theorem dX0_tick_16 : decode cX0_tick 16 = .ok (.ireturn, 1) := dk_172 (dk_at dksX0_tick_0 16 rfl rfl)
abbrev cX0_slide : ByteArray := method_19_code
def yX0_slide : MethodName := ⟨RX0, "slide", "(LKioskReel;I[J)I"⟩
def dkwX0_slide_0 : List UInt8 := [44, 3, 42, 27, 182, 0, 73, 133, 80, 167, 0, 9, 78, 4, 172, 78, 5, 172, 3, 172]
abbrev dktX0_slide_0 : List UInt8 := dkwX0_slide_0 ++ []
theorem dksX0_slide_0 : cX0_slide.data.toList.drop 0 = dktX0_slide_0 := by decide +kernel
theorem dX0_slide_0 : decode cX0_slide 0 = .ok (.aload_n 2, 1) := dk_44 (dk_at dksX0_slide_0 0 rfl rfl)
theorem dX0_slide_1 : decode cX0_slide 1 = .ok (.iconst 0, 1) := dk_3 (dk_at dksX0_slide_0 1 rfl rfl)
theorem dX0_slide_2 : decode cX0_slide 2 = .ok (.aload_n 0, 1) := dk_42 (dk_at dksX0_slide_0 2 rfl rfl)
theorem dX0_slide_3 : decode cX0_slide 3 = .ok (.iload_n 1, 1) := dk_27 (dk_at dksX0_slide_0 3 rfl rfl)
theorem dX0_slide_4 : decode cX0_slide 4 = .ok (.invokevirtual 73, 3) := dk_182 0 73 (dk_at dksX0_slide_0 4 rfl rfl)
theorem dX0_slide_7 : decode cX0_slide 7 = .ok (.i2l, 1) := dk_133 (dk_at dksX0_slide_0 7 rfl rfl)
theorem dX0_slide_8 : decode cX0_slide 8 = .ok (.lastore, 1) := dk_80 (dk_at dksX0_slide_0 8 rfl rfl)
theorem dX0_slide_9 : decode cX0_slide 9 = .ok (.goto 9, 3) := dk_167 0 9 (dk_at dksX0_slide_0 9 rfl rfl)
theorem dX0_slide_12 : decode cX0_slide 12 = .ok (.astore_n 3, 1) := dk_78 (dk_at dksX0_slide_0 12 rfl rfl)
theorem dX0_slide_13 : decode cX0_slide 13 = .ok (.iconst 1, 1) := dk_4 (dk_at dksX0_slide_0 13 rfl rfl)
theorem dX0_slide_14 : decode cX0_slide 14 = .ok (.ireturn, 1) := dk_172 (dk_at dksX0_slide_0 14 rfl rfl)
theorem dX0_slide_15 : decode cX0_slide 15 = .ok (.astore_n 3, 1) := dk_78 (dk_at dksX0_slide_0 15 rfl rfl)
theorem dX0_slide_16 : decode cX0_slide 16 = .ok (.iconst 2, 1) := dk_5 (dk_at dksX0_slide_0 16 rfl rfl)
theorem dX0_slide_17 : decode cX0_slide 17 = .ok (.ireturn, 1) := dk_172 (dk_at dksX0_slide_0 17 rfl rfl)
theorem dX0_slide_18 : decode cX0_slide 18 = .ok (.iconst 0, 1) := dk_3 (dk_at dksX0_slide_0 18 rfl rfl)
theorem dX0_slide_19 : decode cX0_slide 19 = .ok (.ireturn, 1) := dk_172 (dk_at dksX0_slide_0 19 rfl rfl)
abbrev cX0_holder : ByteArray := method_20_code
def yX0_holder : MethodName := ⟨RX0, "holder", "(LKioskReel;I[J)I"⟩
def dkwX0_holder_0 : List UInt8 := [44, 3, 42, 27, 182, 0, 76, 133, 80, 167, 0, 9, 78, 4, 172, 78, 5, 172, 3, 172]
abbrev dktX0_holder_0 : List UInt8 := dkwX0_holder_0 ++ []
theorem dksX0_holder_0 : cX0_holder.data.toList.drop 0 = dktX0_holder_0 := by decide +kernel
theorem dX0_holder_0 : decode cX0_holder 0 = .ok (.aload_n 2, 1) := dk_44 (dk_at dksX0_holder_0 0 rfl rfl)
theorem dX0_holder_1 : decode cX0_holder 1 = .ok (.iconst 0, 1) := dk_3 (dk_at dksX0_holder_0 1 rfl rfl)
theorem dX0_holder_2 : decode cX0_holder 2 = .ok (.aload_n 0, 1) := dk_42 (dk_at dksX0_holder_0 2 rfl rfl)
theorem dX0_holder_3 : decode cX0_holder 3 = .ok (.iload_n 1, 1) := dk_27 (dk_at dksX0_holder_0 3 rfl rfl)
theorem dX0_holder_4 : decode cX0_holder 4 = .ok (.invokevirtual 76, 3) := dk_182 0 76 (dk_at dksX0_holder_0 4 rfl rfl)
theorem dX0_holder_7 : decode cX0_holder 7 = .ok (.i2l, 1) := dk_133 (dk_at dksX0_holder_0 7 rfl rfl)
theorem dX0_holder_8 : decode cX0_holder 8 = .ok (.lastore, 1) := dk_80 (dk_at dksX0_holder_0 8 rfl rfl)
theorem dX0_holder_9 : decode cX0_holder 9 = .ok (.goto 9, 3) := dk_167 0 9 (dk_at dksX0_holder_0 9 rfl rfl)
theorem dX0_holder_12 : decode cX0_holder 12 = .ok (.astore_n 3, 1) := dk_78 (dk_at dksX0_holder_0 12 rfl rfl)
theorem dX0_holder_13 : decode cX0_holder 13 = .ok (.iconst 1, 1) := dk_4 (dk_at dksX0_holder_0 13 rfl rfl)
theorem dX0_holder_14 : decode cX0_holder 14 = .ok (.ireturn, 1) := dk_172 (dk_at dksX0_holder_0 14 rfl rfl)
theorem dX0_holder_15 : decode cX0_holder 15 = .ok (.astore_n 3, 1) := dk_78 (dk_at dksX0_holder_0 15 rfl rfl)
theorem dX0_holder_16 : decode cX0_holder 16 = .ok (.iconst 2, 1) := dk_5 (dk_at dksX0_holder_0 16 rfl rfl)
theorem dX0_holder_17 : decode cX0_holder 17 = .ok (.ireturn, 1) := dk_172 (dk_at dksX0_holder_0 17 rfl rfl)
theorem dX0_holder_18 : decode cX0_holder 18 = .ok (.iconst 0, 1) := dk_3 (dk_at dksX0_holder_0 18 rfl rfl)
theorem dX0_holder_19 : decode cX0_holder 19 = .ok (.ireturn, 1) := dk_172 (dk_at dksX0_holder_0 19 rfl rfl)
abbrev cX0_queued : ByteArray := method_21_code
def yX0_queued : MethodName := ⟨RX0, "queued", "(LKioskReel;II[J)I"⟩
def dkwX0_queued_0 : List UInt8 := [45, 3, 42, 27, 28, 182, 0, 79, 133, 80, 167, 0, 11, 58, 4, 4, 172, 58, 4, 5, 172, 3, 172]
abbrev dktX0_queued_0 : List UInt8 := dkwX0_queued_0 ++ []
theorem dksX0_queued_0 : cX0_queued.data.toList.drop 0 = dktX0_queued_0 := by decide +kernel
theorem dX0_queued_0 : decode cX0_queued 0 = .ok (.aload_n 3, 1) := dk_45 (dk_at dksX0_queued_0 0 rfl rfl)
theorem dX0_queued_1 : decode cX0_queued 1 = .ok (.iconst 0, 1) := dk_3 (dk_at dksX0_queued_0 1 rfl rfl)
theorem dX0_queued_2 : decode cX0_queued 2 = .ok (.aload_n 0, 1) := dk_42 (dk_at dksX0_queued_0 2 rfl rfl)
theorem dX0_queued_3 : decode cX0_queued 3 = .ok (.iload_n 1, 1) := dk_27 (dk_at dksX0_queued_0 3 rfl rfl)
theorem dX0_queued_4 : decode cX0_queued 4 = .ok (.iload_n 2, 1) := dk_28 (dk_at dksX0_queued_0 4 rfl rfl)
theorem dX0_queued_5 : decode cX0_queued 5 = .ok (.invokevirtual 79, 3) := dk_182 0 79 (dk_at dksX0_queued_0 5 rfl rfl)
theorem dX0_queued_8 : decode cX0_queued 8 = .ok (.i2l, 1) := dk_133 (dk_at dksX0_queued_0 8 rfl rfl)
theorem dX0_queued_9 : decode cX0_queued 9 = .ok (.lastore, 1) := dk_80 (dk_at dksX0_queued_0 9 rfl rfl)
theorem dX0_queued_10 : decode cX0_queued 10 = .ok (.goto 11, 3) := dk_167 0 11 (dk_at dksX0_queued_0 10 rfl rfl)
theorem dX0_queued_13 : decode cX0_queued 13 = .ok (.astore 4, 2) := dk_58 4 (dk_at dksX0_queued_0 13 rfl rfl)
theorem dX0_queued_15 : decode cX0_queued 15 = .ok (.iconst 1, 1) := dk_4 (dk_at dksX0_queued_0 15 rfl rfl)
theorem dX0_queued_16 : decode cX0_queued 16 = .ok (.ireturn, 1) := dk_172 (dk_at dksX0_queued_0 16 rfl rfl)
theorem dX0_queued_17 : decode cX0_queued 17 = .ok (.astore 4, 2) := dk_58 4 (dk_at dksX0_queued_0 17 rfl rfl)
theorem dX0_queued_19 : decode cX0_queued 19 = .ok (.iconst 2, 1) := dk_5 (dk_at dksX0_queued_0 19 rfl rfl)
theorem dX0_queued_20 : decode cX0_queued 20 = .ok (.ireturn, 1) := dk_172 (dk_at dksX0_queued_0 20 rfl rfl)
theorem dX0_queued_21 : decode cX0_queued 21 = .ok (.iconst 0, 1) := dk_3 (dk_at dksX0_queued_0 21 rfl rfl)
theorem dX0_queued_22 : decode cX0_queued 22 = .ok (.ireturn, 1) := dk_172 (dk_at dksX0_queued_0 22 rfl rfl)
abbrev cX0_visitor : ByteArray := method_22_code
def yX0_visitor : MethodName := ⟨RX0, "visitor", "(LKioskReel;[J)I"⟩
def dkwX0_visitor_0 : List UInt8 := [43, 3, 42, 182, 0, 82, 133, 80, 167, 0, 6, 77, 4, 172, 3, 172]
abbrev dktX0_visitor_0 : List UInt8 := dkwX0_visitor_0 ++ []
theorem dksX0_visitor_0 : cX0_visitor.data.toList.drop 0 = dktX0_visitor_0 := by decide +kernel
theorem dX0_visitor_0 : decode cX0_visitor 0 = .ok (.aload_n 1, 1) := dk_43 (dk_at dksX0_visitor_0 0 rfl rfl)
theorem dX0_visitor_1 : decode cX0_visitor 1 = .ok (.iconst 0, 1) := dk_3 (dk_at dksX0_visitor_0 1 rfl rfl)
theorem dX0_visitor_2 : decode cX0_visitor 2 = .ok (.aload_n 0, 1) := dk_42 (dk_at dksX0_visitor_0 2 rfl rfl)
theorem dX0_visitor_3 : decode cX0_visitor 3 = .ok (.invokevirtual 82, 3) := dk_182 0 82 (dk_at dksX0_visitor_0 3 rfl rfl)
theorem dX0_visitor_6 : decode cX0_visitor 6 = .ok (.i2l, 1) := dk_133 (dk_at dksX0_visitor_0 6 rfl rfl)
theorem dX0_visitor_7 : decode cX0_visitor 7 = .ok (.lastore, 1) := dk_80 (dk_at dksX0_visitor_0 7 rfl rfl)
theorem dX0_visitor_8 : decode cX0_visitor 8 = .ok (.goto 6, 3) := dk_167 0 6 (dk_at dksX0_visitor_0 8 rfl rfl)
theorem dX0_visitor_11 : decode cX0_visitor 11 = .ok (.astore_n 2, 1) := dk_77 (dk_at dksX0_visitor_0 11 rfl rfl)
theorem dX0_visitor_12 : decode cX0_visitor 12 = .ok (.iconst 1, 1) := dk_4 (dk_at dksX0_visitor_0 12 rfl rfl)
theorem dX0_visitor_13 : decode cX0_visitor 13 = .ok (.ireturn, 1) := dk_172 (dk_at dksX0_visitor_0 13 rfl rfl)
theorem dX0_visitor_14 : decode cX0_visitor 14 = .ok (.iconst 0, 1) := dk_3 (dk_at dksX0_visitor_0 14 rfl rfl)
theorem dX0_visitor_15 : decode cX0_visitor 15 = .ok (.ireturn, 1) := dk_172 (dk_at dksX0_visitor_0 15 rfl rfl)
abbrev cX0_go : ByteArray := method_23_code
def yX0_go : MethodName := ⟨RX0, "go", "(LKioskReel;II[J)I"⟩
def dkwX0_go_0 : List UInt8 := [45, 3, 42, 27, 28, 182, 0, 85, 133, 80, 167, 0, 7, 58, 4, 4, 172, 3, 172]
abbrev dktX0_go_0 : List UInt8 := dkwX0_go_0 ++ []
theorem dksX0_go_0 : cX0_go.data.toList.drop 0 = dktX0_go_0 := by decide +kernel
theorem dX0_go_0 : decode cX0_go 0 = .ok (.aload_n 3, 1) := dk_45 (dk_at dksX0_go_0 0 rfl rfl)
theorem dX0_go_1 : decode cX0_go 1 = .ok (.iconst 0, 1) := dk_3 (dk_at dksX0_go_0 1 rfl rfl)
theorem dX0_go_2 : decode cX0_go 2 = .ok (.aload_n 0, 1) := dk_42 (dk_at dksX0_go_0 2 rfl rfl)
theorem dX0_go_3 : decode cX0_go 3 = .ok (.iload_n 1, 1) := dk_27 (dk_at dksX0_go_0 3 rfl rfl)
theorem dX0_go_4 : decode cX0_go 4 = .ok (.iload_n 2, 1) := dk_28 (dk_at dksX0_go_0 4 rfl rfl)
theorem dX0_go_5 : decode cX0_go 5 = .ok (.invokevirtual 85, 3) := dk_182 0 85 (dk_at dksX0_go_0 5 rfl rfl)
theorem dX0_go_8 : decode cX0_go 8 = .ok (.i2l, 1) := dk_133 (dk_at dksX0_go_0 8 rfl rfl)
theorem dX0_go_9 : decode cX0_go 9 = .ok (.lastore, 1) := dk_80 (dk_at dksX0_go_0 9 rfl rfl)
theorem dX0_go_10 : decode cX0_go 10 = .ok (.goto 7, 3) := dk_167 0 7 (dk_at dksX0_go_0 10 rfl rfl)
theorem dX0_go_13 : decode cX0_go 13 = .ok (.astore 4, 2) := dk_58 4 (dk_at dksX0_go_0 13 rfl rfl)
theorem dX0_go_15 : decode cX0_go 15 = .ok (.iconst 1, 1) := dk_4 (dk_at dksX0_go_0 15 rfl rfl)
theorem dX0_go_16 : decode cX0_go 16 = .ok (.ireturn, 1) := dk_172 (dk_at dksX0_go_0 16 rfl rfl)
theorem dX0_go_17 : decode cX0_go 17 = .ok (.iconst 0, 1) := dk_3 (dk_at dksX0_go_0 17 rfl rfl)
theorem dX0_go_18 : decode cX0_go 18 = .ok (.ireturn, 1) := dk_172 (dk_at dksX0_go_0 18 rfl rfl)
abbrev cX0_ask : ByteArray := method_24_code
def yX0_ask : MethodName := ⟨RX0, "ask", "(LKioskReel;II[J)I"⟩
def dkwX0_ask_1 : List UInt8 := [58, 4, 5, 172, 3, 172]
abbrev dktX0_ask_1 : List UInt8 := dkwX0_ask_1 ++ []
def dkwX0_ask_0 : List UInt8 := [45, 3, 42, 27, 28, 182, 0, 88, 153, 0, 7, 10, 167, 0, 4, 9, 80, 167, 0, 11, 58, 4, 4, 172]
abbrev dktX0_ask_0 : List UInt8 := dkwX0_ask_0 ++ dktX0_ask_1
theorem dksX0_ask_0 : cX0_ask.data.toList.drop 0 = dktX0_ask_0 := by decide +kernel
theorem dksX0_ask_1 : cX0_ask.data.toList.drop 24 = dktX0_ask_1 := dk_seg dksX0_ask_0 24 rfl rfl
theorem dX0_ask_0 : decode cX0_ask 0 = .ok (.aload_n 3, 1) := dk_45 (dk_at dksX0_ask_0 0 rfl rfl)
theorem dX0_ask_1 : decode cX0_ask 1 = .ok (.iconst 0, 1) := dk_3 (dk_at dksX0_ask_0 1 rfl rfl)
theorem dX0_ask_2 : decode cX0_ask 2 = .ok (.aload_n 0, 1) := dk_42 (dk_at dksX0_ask_0 2 rfl rfl)
theorem dX0_ask_3 : decode cX0_ask 3 = .ok (.iload_n 1, 1) := dk_27 (dk_at dksX0_ask_0 3 rfl rfl)
theorem dX0_ask_4 : decode cX0_ask 4 = .ok (.iload_n 2, 1) := dk_28 (dk_at dksX0_ask_0 4 rfl rfl)
theorem dX0_ask_5 : decode cX0_ask 5 = .ok (.invokevirtual 88, 3) := dk_182 0 88 (dk_at dksX0_ask_0 5 rfl rfl)
theorem dX0_ask_8 : decode cX0_ask 8 = .ok (.ifCond .eq 7, 3) := dk_153 0 7 (dk_at dksX0_ask_0 8 rfl rfl)
theorem dX0_ask_11 : decode cX0_ask 11 = .ok (.lconst 1, 1) := dk_10 (dk_at dksX0_ask_0 11 rfl rfl)
theorem dX0_ask_12 : decode cX0_ask 12 = .ok (.goto 4, 3) := dk_167 0 4 (dk_at dksX0_ask_0 12 rfl rfl)
theorem dX0_ask_15 : decode cX0_ask 15 = .ok (.lconst 0, 1) := dk_9 (dk_at dksX0_ask_0 15 rfl rfl)
theorem dX0_ask_16 : decode cX0_ask 16 = .ok (.lastore, 1) := dk_80 (dk_at dksX0_ask_0 16 rfl rfl)
theorem dX0_ask_17 : decode cX0_ask 17 = .ok (.goto 11, 3) := dk_167 0 11 (dk_at dksX0_ask_0 17 rfl rfl)
theorem dX0_ask_20 : decode cX0_ask 20 = .ok (.astore 4, 2) := dk_58 4 (dk_at dksX0_ask_0 20 rfl rfl)
theorem dX0_ask_22 : decode cX0_ask 22 = .ok (.iconst 1, 1) := dk_4 (dk_at dksX0_ask_0 22 rfl rfl)
theorem dX0_ask_23 : decode cX0_ask 23 = .ok (.ireturn, 1) := dk_172 (dk_at dksX0_ask_0 23 rfl rfl)
theorem dX0_ask_24 : decode cX0_ask 24 = .ok (.astore 4, 2) := dk_58 4 (dk_at dksX0_ask_1 0 rfl rfl)
theorem dX0_ask_26 : decode cX0_ask 26 = .ok (.iconst 2, 1) := dk_5 (dk_at dksX0_ask_1 2 rfl rfl)
theorem dX0_ask_27 : decode cX0_ask 27 = .ok (.ireturn, 1) := dk_172 (dk_at dksX0_ask_1 3 rfl rfl)
theorem dX0_ask_28 : decode cX0_ask 28 = .ok (.iconst 0, 1) := dk_3 (dk_at dksX0_ask_1 4 rfl rfl)
theorem dX0_ask_29 : decode cX0_ask 29 = .ok (.ireturn, 1) := dk_172 (dk_at dksX0_ask_1 5 rfl rfl)
abbrev cX0_saw : ByteArray := method_25_code
def yX0_saw : MethodName := ⟨RX0, "saw", "(LKioskReel;II[J)I"⟩
def dkwX0_saw_0 : List UInt8 := [45, 3, 42, 27, 28, 182, 0, 92, 133, 80, 167, 0, 11, 58, 4, 4, 172, 58, 4, 5, 172, 3, 172]
abbrev dktX0_saw_0 : List UInt8 := dkwX0_saw_0 ++ []
theorem dksX0_saw_0 : cX0_saw.data.toList.drop 0 = dktX0_saw_0 := by decide +kernel
theorem dX0_saw_0 : decode cX0_saw 0 = .ok (.aload_n 3, 1) := dk_45 (dk_at dksX0_saw_0 0 rfl rfl)
theorem dX0_saw_1 : decode cX0_saw 1 = .ok (.iconst 0, 1) := dk_3 (dk_at dksX0_saw_0 1 rfl rfl)
theorem dX0_saw_2 : decode cX0_saw 2 = .ok (.aload_n 0, 1) := dk_42 (dk_at dksX0_saw_0 2 rfl rfl)
theorem dX0_saw_3 : decode cX0_saw 3 = .ok (.iload_n 1, 1) := dk_27 (dk_at dksX0_saw_0 3 rfl rfl)
theorem dX0_saw_4 : decode cX0_saw 4 = .ok (.iload_n 2, 1) := dk_28 (dk_at dksX0_saw_0 4 rfl rfl)
theorem dX0_saw_5 : decode cX0_saw 5 = .ok (.invokevirtual 92, 3) := dk_182 0 92 (dk_at dksX0_saw_0 5 rfl rfl)
theorem dX0_saw_8 : decode cX0_saw 8 = .ok (.i2l, 1) := dk_133 (dk_at dksX0_saw_0 8 rfl rfl)
theorem dX0_saw_9 : decode cX0_saw 9 = .ok (.lastore, 1) := dk_80 (dk_at dksX0_saw_0 9 rfl rfl)
theorem dX0_saw_10 : decode cX0_saw 10 = .ok (.goto 11, 3) := dk_167 0 11 (dk_at dksX0_saw_0 10 rfl rfl)
theorem dX0_saw_13 : decode cX0_saw 13 = .ok (.astore 4, 2) := dk_58 4 (dk_at dksX0_saw_0 13 rfl rfl)
theorem dX0_saw_15 : decode cX0_saw 15 = .ok (.iconst 1, 1) := dk_4 (dk_at dksX0_saw_0 15 rfl rfl)
theorem dX0_saw_16 : decode cX0_saw 16 = .ok (.ireturn, 1) := dk_172 (dk_at dksX0_saw_0 16 rfl rfl)
theorem dX0_saw_17 : decode cX0_saw 17 = .ok (.astore 4, 2) := dk_58 4 (dk_at dksX0_saw_0 17 rfl rfl)
theorem dX0_saw_19 : decode cX0_saw 19 = .ok (.iconst 2, 1) := dk_5 (dk_at dksX0_saw_0 19 rfl rfl)
theorem dX0_saw_20 : decode cX0_saw 20 = .ok (.ireturn, 1) := dk_172 (dk_at dksX0_saw_0 20 rfl rfl)
theorem dX0_saw_21 : decode cX0_saw 21 = .ok (.iconst 0, 1) := dk_3 (dk_at dksX0_saw_0 21 rfl rfl)
theorem dX0_saw_22 : decode cX0_saw 22 = .ok (.ireturn, 1) := dk_172 (dk_at dksX0_saw_0 22 rfl rfl)
abbrev cX0_meanSeen : ByteArray := method_26_code
def yX0_meanSeen : MethodName := ⟨RX0, "meanSeen", "(LKioskReel;[D)I"⟩
def dkwX0_meanSeen_0 : List UInt8 := [43, 3, 42, 182, 0, 95, 82, 167, 0, 6, 77, 4, 172, 3, 172]
abbrev dktX0_meanSeen_0 : List UInt8 := dkwX0_meanSeen_0 ++ []
theorem dksX0_meanSeen_0 : cX0_meanSeen.data.toList.drop 0 = dktX0_meanSeen_0 := by decide +kernel
theorem dX0_meanSeen_0 : decode cX0_meanSeen 0 = .ok (.aload_n 1, 1) := dk_43 (dk_at dksX0_meanSeen_0 0 rfl rfl)
theorem dX0_meanSeen_1 : decode cX0_meanSeen 1 = .ok (.iconst 0, 1) := dk_3 (dk_at dksX0_meanSeen_0 1 rfl rfl)
theorem dX0_meanSeen_2 : decode cX0_meanSeen 2 = .ok (.aload_n 0, 1) := dk_42 (dk_at dksX0_meanSeen_0 2 rfl rfl)
theorem dX0_meanSeen_3 : decode cX0_meanSeen 3 = .ok (.invokevirtual 95, 3) := dk_182 0 95 (dk_at dksX0_meanSeen_0 3 rfl rfl)
theorem dX0_meanSeen_6 : decode cX0_meanSeen 6 = .ok (.dastore, 1) := dk_82 (dk_at dksX0_meanSeen_0 6 rfl rfl)
theorem dX0_meanSeen_7 : decode cX0_meanSeen 7 = .ok (.goto 6, 3) := dk_167 0 6 (dk_at dksX0_meanSeen_0 7 rfl rfl)
theorem dX0_meanSeen_10 : decode cX0_meanSeen 10 = .ok (.astore_n 2, 1) := dk_77 (dk_at dksX0_meanSeen_0 10 rfl rfl)
theorem dX0_meanSeen_11 : decode cX0_meanSeen 11 = .ok (.iconst 1, 1) := dk_4 (dk_at dksX0_meanSeen_0 11 rfl rfl)
theorem dX0_meanSeen_12 : decode cX0_meanSeen 12 = .ok (.ireturn, 1) := dk_172 (dk_at dksX0_meanSeen_0 12 rfl rfl)
theorem dX0_meanSeen_13 : decode cX0_meanSeen 13 = .ok (.iconst 0, 1) := dk_3 (dk_at dksX0_meanSeen_0 13 rfl rfl)
theorem dX0_meanSeen_14 : decode cX0_meanSeen 14 = .ok (.ireturn, 1) := dk_172 (dk_at dksX0_meanSeen_0 14 rfl rfl)
theorem q42 : (Jvm.Cond.initialized "KioskReelLaw") ∈ lw_all := lw_g (lw_at lw_m1 0 rfl) rfl
theorem q89 : (Jvm.Cond.classLink "KioskReelLaw" (8 : Nat) "KioskReel") ∈ lw_all := lw_g (lw_at lw_m1 47 rfl) rfl
theorem q91 : (Jvm.Cond.methodLink "KioskReelLaw" (101 : Nat) ({ cls := "KioskReel", name := "<init>", desc := "()V" } : Jvm.MethodName)) ∈ lw_all := lw_g (lw_at lw_m1 49 rfl) rfl
theorem q247 : (Jvm.Cond.methodLink "KioskReelLaw" (184 : Nat) ({ cls := "KioskReel", name := "done", desc := "()J" } : Jvm.MethodName)) ∈ lw_all := lw_g (lw_at lw_m1 205 rfl) rfl
theorem q251 : (Jvm.Cond.methodLink "KioskReelLaw" (189 : Nat) ({ cls := "KioskReel", name := "heldShare", desc := "()F" } : Jvm.MethodName)) ∈ lw_all := lw_g (lw_at lw_m1 209 rfl) rfl
theorem q385 : (Jvm.Cond.methodLink "KioskReelLaw" (194 : Nat) ({ cls := "KioskReel", name := "heldBits", desc := "()I" } : Jvm.MethodName)) ∈ lw_all := lw_g (lw_at lw_m2 103 rfl) rfl
theorem q400 : (Jvm.Cond.methodLink "KioskReelLaw" (202 : Nat) ({ cls := "KioskReel", name := "isSound", desc := "()Z" } : Jvm.MethodName)) ∈ lw_all := lw_g (lw_at lw_m2 118 rfl) rfl
theorem q469 : (Jvm.Cond.methodLink "KioskReelLaw" (105 : Nat) ({ cls := "KioskReelLaw", name := "list", desc := "(LKioskReel;[J)I" } : Jvm.MethodName)) ∈ lw_all := lw_g (lw_at lw_m2 187 rfl) rfl
theorem q470 : (Jvm.Cond.static ({ cls := "KioskReelLaw", name := "list", desc := "(LKioskReel;[J)I" } : Jvm.MethodName)) ∈ lw_all := lw_g (lw_at lw_m2 188 rfl) rfl
theorem q471 : (Jvm.Cond.codeWith ({ cls := "KioskReelLaw", name := "list", desc := "(LKioskReel;[J)I" } : Jvm.MethodName) method_3_code (3 : Nat) (Option.some Jvm.ClassFile.FieldType.int) [((0 : Nat), (8 : Nat), (11 : Nat), (13 : Nat))]) ∈ lw_all := lw_g (lw_at lw_m2 189 rfl) rfl
theorem q472 : (Jvm.Cond.classLink "KioskReelLaw" (13 : Nat) "java/lang/IllegalStateException") ∈ lw_all := lw_g (lw_at lw_m2 190 rfl) rfl
theorem q473 : (Jvm.Cond.methodLink "KioskReelLaw" (7 : Nat) ({ cls := "KioskReel", name := "list", desc := "()I" } : Jvm.MethodName)) ∈ lw_all := lw_g (lw_at lw_m2 191 rfl) rfl
theorem q523 : (Jvm.Cond.methodLink "KioskReelLaw" (114 : Nat) ({ cls := "KioskReelLaw", name := "line", desc := "(LKioskReel;IICI[J)I" } : Jvm.MethodName)) ∈ lw_all := lw_g (lw_at lw_m3 1 rfl) rfl
theorem q524 : (Jvm.Cond.static ({ cls := "KioskReelLaw", name := "line", desc := "(LKioskReel;IICI[J)I" } : Jvm.MethodName)) ∈ lw_all := lw_g (lw_at lw_m3 2 rfl) rfl
theorem q525 : (Jvm.Cond.codeWith ({ cls := "KioskReelLaw", name := "line", desc := "(LKioskReel;IICI[J)I" } : Jvm.MethodName) method_4_code (7 : Nat) (Option.some Jvm.ClassFile.FieldType.int) [((0 : Nat), (14 : Nat), (17 : Nat), (19 : Nat)), ((0 : Nat), (14 : Nat), (21 : Nat), (21 : Nat)), ((0 : Nat), (14 : Nat), (25 : Nat), (13 : Nat))]) ∈ lw_all := lw_g (lw_at lw_m3 3 rfl) rfl
theorem q526 : (Jvm.Cond.classLink "KioskReelLaw" (19 : Nat) "java/lang/IndexOutOfBoundsException") ∈ lw_all := lw_g (lw_at lw_m3 4 rfl) rfl
theorem q559 : (Jvm.Cond.classLink "KioskReelLaw" (21 : Nat) "java/lang/IllegalArgumentException") ∈ lw_all := lw_g (lw_at lw_m3 37 rfl) rfl
theorem q560 : (Jvm.Cond.methodLink "KioskReelLaw" (15 : Nat) ({ cls := "KioskReel", name := "line", desc := "(IICI)I" } : Jvm.MethodName)) ∈ lw_all := lw_g (lw_at lw_m3 38 rfl) rfl
theorem q970 : (Jvm.Cond.methodLink "KioskReelLaw" (118 : Nat) ({ cls := "KioskReelLaw", name := "cut", desc := "(LKioskReel;II[J)I" } : Jvm.MethodName)) ∈ lw_all := lw_g (lw_at lw_m4 208 rfl) rfl
theorem q971 : (Jvm.Cond.static ({ cls := "KioskReelLaw", name := "cut", desc := "(LKioskReel;II[J)I" } : Jvm.MethodName)) ∈ lw_all := lw_g (lw_at lw_m4 209 rfl) rfl
theorem q972 : (Jvm.Cond.codeWith ({ cls := "KioskReelLaw", name := "cut", desc := "(LKioskReel;II[J)I" } : Jvm.MethodName) method_5_code (5 : Nat) (Option.some Jvm.ClassFile.FieldType.int) [((0 : Nat), (10 : Nat), (13 : Nat), (19 : Nat))]) ∈ lw_all := lw_g (lw_at lw_m4 210 rfl) rfl
theorem q973 : (Jvm.Cond.methodLink "KioskReelLaw" (23 : Nat) ({ cls := "KioskReel", name := "cut", desc := "(II)C" } : Jvm.MethodName)) ∈ lw_all := lw_g (lw_at lw_m4 211 rfl) rfl
theorem q1045 : (Jvm.Cond.methodLink "KioskReelLaw" (122 : Nat) ({ cls := "KioskReelLaw", name := "lines", desc := "(LKioskReel;IC[J)I" } : Jvm.MethodName)) ∈ lw_all := lw_g (lw_at lw_m5 43 rfl) rfl
theorem q1046 : (Jvm.Cond.static ({ cls := "KioskReelLaw", name := "lines", desc := "(LKioskReel;IC[J)I" } : Jvm.MethodName)) ∈ lw_all := lw_g (lw_at lw_m5 44 rfl) rfl
theorem q1047 : (Jvm.Cond.codeWith ({ cls := "KioskReelLaw", name := "lines", desc := "(LKioskReel;IC[J)I" } : Jvm.MethodName) method_6_code (5 : Nat) (Option.some Jvm.ClassFile.FieldType.int) [((0 : Nat), (10 : Nat), (13 : Nat), (19 : Nat)), ((0 : Nat), (10 : Nat), (17 : Nat), (21 : Nat))]) ∈ lw_all := lw_g (lw_at lw_m5 45 rfl) rfl
theorem q1048 : (Jvm.Cond.methodLink "KioskReelLaw" (27 : Nat) ({ cls := "KioskReel", name := "lines", desc := "(IC)I" } : Jvm.MethodName)) ∈ lw_all := lw_g (lw_at lw_m5 46 rfl) rfl
theorem q1052 : (Jvm.Cond.methodLink "KioskReelLaw" (126 : Nat) ({ cls := "KioskReelLaw", name := "kiosk", desc := "(LKioskReel;[J)I" } : Jvm.MethodName)) ∈ lw_all := lw_g (lw_at lw_m5 50 rfl) rfl
theorem q1053 : (Jvm.Cond.static ({ cls := "KioskReelLaw", name := "kiosk", desc := "(LKioskReel;[J)I" } : Jvm.MethodName)) ∈ lw_all := lw_g (lw_at lw_m5 51 rfl) rfl
theorem q1054 : (Jvm.Cond.codeWith ({ cls := "KioskReelLaw", name := "kiosk", desc := "(LKioskReel;[J)I" } : Jvm.MethodName) method_7_code (3 : Nat) (Option.some Jvm.ClassFile.FieldType.int) [((0 : Nat), (8 : Nat), (11 : Nat), (13 : Nat))]) ∈ lw_all := lw_g (lw_at lw_m5 52 rfl) rfl
theorem q1055 : (Jvm.Cond.methodLink "KioskReelLaw" (31 : Nat) ({ cls := "KioskReel", name := "kiosk", desc := "()I" } : Jvm.MethodName)) ∈ lw_all := lw_g (lw_at lw_m5 53 rfl) rfl
theorem q1092 : (Jvm.Cond.methodLink "KioskReelLaw" (129 : Nat) ({ cls := "KioskReelLaw", name := "start", desc := "(LKioskReel;II[J)I" } : Jvm.MethodName)) ∈ lw_all := lw_g (lw_at lw_m5 90 rfl) rfl
theorem q1093 : (Jvm.Cond.static ({ cls := "KioskReelLaw", name := "start", desc := "(LKioskReel;II[J)I" } : Jvm.MethodName)) ∈ lw_all := lw_g (lw_at lw_m5 91 rfl) rfl
theorem q1094 : (Jvm.Cond.codeWith ({ cls := "KioskReelLaw", name := "start", desc := "(LKioskReel;II[J)I" } : Jvm.MethodName) method_8_code (5 : Nat) (Option.some Jvm.ClassFile.FieldType.int) [((0 : Nat), (10 : Nat), (13 : Nat), (19 : Nat)), ((0 : Nat), (10 : Nat), (17 : Nat), (13 : Nat))]) ∈ lw_all := lw_g (lw_at lw_m5 92 rfl) rfl
theorem q1095 : (Jvm.Cond.methodLink "KioskReelLaw" (34 : Nat) ({ cls := "KioskReel", name := "start", desc := "(II)I" } : Jvm.MethodName)) ∈ lw_all := lw_g (lw_at lw_m5 93 rfl) rfl
theorem q1181 : (Jvm.Cond.methodLink "KioskReelLaw" (132 : Nat) ({ cls := "KioskReelLaw", name := "stop", desc := "(LKioskReel;I[J)I" } : Jvm.MethodName)) ∈ lw_all := lw_g (lw_at lw_m5 179 rfl) rfl
theorem q1182 : (Jvm.Cond.static ({ cls := "KioskReelLaw", name := "stop", desc := "(LKioskReel;I[J)I" } : Jvm.MethodName)) ∈ lw_all := lw_g (lw_at lw_m5 180 rfl) rfl
theorem q1183 : (Jvm.Cond.codeWith ({ cls := "KioskReelLaw", name := "stop", desc := "(LKioskReel;I[J)I" } : Jvm.MethodName) method_9_code (4 : Nat) (Option.some Jvm.ClassFile.FieldType.int) [((0 : Nat), (9 : Nat), (12 : Nat), (19 : Nat)), ((0 : Nat), (9 : Nat), (15 : Nat), (42 : Nat))]) ∈ lw_all := lw_g (lw_at lw_m5 181 rfl) rfl
theorem q1184 : (Jvm.Cond.classLink "KioskReelLaw" (42 : Nat) "java/util/NoSuchElementException") ∈ lw_all := lw_g (lw_at lw_m5 182 rfl) rfl
theorem q1185 : (Jvm.Cond.methodLink "KioskReelLaw" (38 : Nat) ({ cls := "KioskReel", name := "stop", desc := "(I)I" } : Jvm.MethodName)) ∈ lw_all := lw_g (lw_at lw_m5 183 rfl) rfl
theorem q1229 : (Jvm.Cond.methodLink "KioskReelLaw" (136 : Nat) ({ cls := "KioskReelLaw", name := "freeze", desc := "(LKioskReel;I[J)I" } : Jvm.MethodName)) ∈ lw_all := lw_g (lw_at lw_m5 227 rfl) rfl
theorem q1230 : (Jvm.Cond.static ({ cls := "KioskReelLaw", name := "freeze", desc := "(LKioskReel;I[J)I" } : Jvm.MethodName)) ∈ lw_all := lw_g (lw_at lw_m5 228 rfl) rfl
theorem q1231 : (Jvm.Cond.codeWith ({ cls := "KioskReelLaw", name := "freeze", desc := "(LKioskReel;I[J)I" } : Jvm.MethodName) method_10_code (4 : Nat) (Option.some Jvm.ClassFile.FieldType.int) [((0 : Nat), (16 : Nat), (19 : Nat), (19 : Nat))]) ∈ lw_all := lw_g (lw_at lw_m5 229 rfl) rfl
theorem q1232 : (Jvm.Cond.methodLink "KioskReelLaw" (44 : Nat) ({ cls := "KioskReel", name := "freeze", desc := "(I)Z" } : Jvm.MethodName)) ∈ lw_all := lw_g (lw_at lw_m5 230 rfl) rfl
theorem q1236 : (Jvm.Cond.methodLink "KioskReelLaw" (139 : Nat) ({ cls := "KioskReelLaw", name := "thaw", desc := "(LKioskReel;I[J)I" } : Jvm.MethodName)) ∈ lw_all := lw_g (lw_at lw_m5 234 rfl) rfl
theorem q1237 : (Jvm.Cond.static ({ cls := "KioskReelLaw", name := "thaw", desc := "(LKioskReel;I[J)I" } : Jvm.MethodName)) ∈ lw_all := lw_g (lw_at lw_m5 235 rfl) rfl
theorem q1238 : (Jvm.Cond.codeWith ({ cls := "KioskReelLaw", name := "thaw", desc := "(LKioskReel;I[J)I" } : Jvm.MethodName) method_11_code (4 : Nat) (Option.some Jvm.ClassFile.FieldType.int) [((0 : Nat), (9 : Nat), (12 : Nat), (19 : Nat))]) ∈ lw_all := lw_g (lw_at lw_m5 236 rfl) rfl
theorem q1239 : (Jvm.Cond.methodLink "KioskReelLaw" (48 : Nat) ({ cls := "KioskReel", name := "thaw", desc := "(I)I" } : Jvm.MethodName)) ∈ lw_all := lw_g (lw_at lw_m5 237 rfl) rfl
theorem q1243 : (Jvm.Cond.methodLink "KioskReelLaw" (142 : Nat) ({ cls := "KioskReelLaw", name := "state", desc := "(LKioskReel;I[J)I" } : Jvm.MethodName)) ∈ lw_all := lw_g (lw_at lw_m6 1 rfl) rfl
theorem q1244 : (Jvm.Cond.static ({ cls := "KioskReelLaw", name := "state", desc := "(LKioskReel;I[J)I" } : Jvm.MethodName)) ∈ lw_all := lw_g (lw_at lw_m6 2 rfl) rfl
theorem q1245 : (Jvm.Cond.codeWith ({ cls := "KioskReelLaw", name := "state", desc := "(LKioskReel;I[J)I" } : Jvm.MethodName) method_12_code (4 : Nat) (Option.some Jvm.ClassFile.FieldType.int) [((0 : Nat), (9 : Nat), (12 : Nat), (19 : Nat))]) ∈ lw_all := lw_g (lw_at lw_m6 3 rfl) rfl
theorem q1246 : (Jvm.Cond.methodLink "KioskReelLaw" (51 : Nat) ({ cls := "KioskReel", name := "state", desc := "(I)C" } : Jvm.MethodName)) ∈ lw_all := lw_g (lw_at lw_m6 4 rfl) rfl
theorem q1250 : (Jvm.Cond.methodLink "KioskReelLaw" (145 : Nat) ({ cls := "KioskReelLaw", name := "plays", desc := "(LKioskReel;I[J)I" } : Jvm.MethodName)) ∈ lw_all := lw_g (lw_at lw_m6 8 rfl) rfl
theorem q1251 : (Jvm.Cond.static ({ cls := "KioskReelLaw", name := "plays", desc := "(LKioskReel;I[J)I" } : Jvm.MethodName)) ∈ lw_all := lw_g (lw_at lw_m6 9 rfl) rfl
theorem q1252 : (Jvm.Cond.codeWith ({ cls := "KioskReelLaw", name := "plays", desc := "(LKioskReel;I[J)I" } : Jvm.MethodName) method_13_code (4 : Nat) (Option.some Jvm.ClassFile.FieldType.int) [((0 : Nat), (9 : Nat), (12 : Nat), (19 : Nat)), ((0 : Nat), (9 : Nat), (15 : Nat), (42 : Nat))]) ∈ lw_all := lw_g (lw_at lw_m6 10 rfl) rfl
theorem q1253 : (Jvm.Cond.methodLink "KioskReelLaw" (55 : Nat) ({ cls := "KioskReel", name := "plays", desc := "(I)I" } : Jvm.MethodName)) ∈ lw_all := lw_g (lw_at lw_m6 11 rfl) rfl
theorem q1257 : (Jvm.Cond.methodLink "KioskReelLaw" (148 : Nat) ({ cls := "KioskReelLaw", name := "playerAt", desc := "(LKioskReel;II[J)I" } : Jvm.MethodName)) ∈ lw_all := lw_g (lw_at lw_m6 15 rfl) rfl
theorem q1258 : (Jvm.Cond.static ({ cls := "KioskReelLaw", name := "playerAt", desc := "(LKioskReel;II[J)I" } : Jvm.MethodName)) ∈ lw_all := lw_g (lw_at lw_m6 16 rfl) rfl
theorem q1259 : (Jvm.Cond.codeWith ({ cls := "KioskReelLaw", name := "playerAt", desc := "(LKioskReel;II[J)I" } : Jvm.MethodName) method_14_code (5 : Nat) (Option.some Jvm.ClassFile.FieldType.int) [((0 : Nat), (10 : Nat), (13 : Nat), (19 : Nat)), ((0 : Nat), (10 : Nat), (17 : Nat), (42 : Nat))]) ∈ lw_all := lw_g (lw_at lw_m6 17 rfl) rfl
theorem q1260 : (Jvm.Cond.methodLink "KioskReelLaw" (58 : Nat) ({ cls := "KioskReel", name := "playerAt", desc := "(II)I" } : Jvm.MethodName)) ∈ lw_all := lw_g (lw_at lw_m6 18 rfl) rfl
theorem q1264 : (Jvm.Cond.methodLink "KioskReelLaw" (151 : Nat) ({ cls := "KioskReelLaw", name := "next", desc := "(LKioskReel;I[J)I" } : Jvm.MethodName)) ∈ lw_all := lw_g (lw_at lw_m6 22 rfl) rfl
theorem q1265 : (Jvm.Cond.static ({ cls := "KioskReelLaw", name := "next", desc := "(LKioskReel;I[J)I" } : Jvm.MethodName)) ∈ lw_all := lw_g (lw_at lw_m6 23 rfl) rfl
theorem q1266 : (Jvm.Cond.codeWith ({ cls := "KioskReelLaw", name := "next", desc := "(LKioskReel;I[J)I" } : Jvm.MethodName) method_15_code (4 : Nat) (Option.some Jvm.ClassFile.FieldType.int) [((0 : Nat), (9 : Nat), (12 : Nat), (19 : Nat)), ((0 : Nat), (9 : Nat), (15 : Nat), (42 : Nat))]) ∈ lw_all := lw_g (lw_at lw_m6 24 rfl) rfl
theorem q1267 : (Jvm.Cond.methodLink "KioskReelLaw" (61 : Nat) ({ cls := "KioskReel", name := "next", desc := "(I)I" } : Jvm.MethodName)) ∈ lw_all := lw_g (lw_at lw_m6 25 rfl) rfl
theorem q1279 : (Jvm.Cond.methodLink "KioskReelLaw" (154 : Nat) ({ cls := "KioskReelLaw", name := "count", desc := "(LKioskReel;I[J)I" } : Jvm.MethodName)) ∈ lw_all := lw_g (lw_at lw_m6 37 rfl) rfl
theorem q1280 : (Jvm.Cond.static ({ cls := "KioskReelLaw", name := "count", desc := "(LKioskReel;I[J)I" } : Jvm.MethodName)) ∈ lw_all := lw_g (lw_at lw_m6 38 rfl) rfl
theorem q1281 : (Jvm.Cond.codeWith ({ cls := "KioskReelLaw", name := "count", desc := "(LKioskReel;I[J)I" } : Jvm.MethodName) method_16_code (4 : Nat) (Option.some Jvm.ClassFile.FieldType.int) [((0 : Nat), (9 : Nat), (12 : Nat), (19 : Nat)), ((0 : Nat), (9 : Nat), (15 : Nat), (42 : Nat))]) ∈ lw_all := lw_g (lw_at lw_m6 39 rfl) rfl
theorem q1282 : (Jvm.Cond.methodLink "KioskReelLaw" (64 : Nat) ({ cls := "KioskReel", name := "count", desc := "(I)I" } : Jvm.MethodName)) ∈ lw_all := lw_g (lw_at lw_m6 40 rfl) rfl
theorem q1286 : (Jvm.Cond.methodLink "KioskReelLaw" (157 : Nat) ({ cls := "KioskReelLaw", name := "waits", desc := "(LKioskReel;I[J)I" } : Jvm.MethodName)) ∈ lw_all := lw_g (lw_at lw_m6 44 rfl) rfl
theorem q1287 : (Jvm.Cond.static ({ cls := "KioskReelLaw", name := "waits", desc := "(LKioskReel;I[J)I" } : Jvm.MethodName)) ∈ lw_all := lw_g (lw_at lw_m6 45 rfl) rfl
theorem q1288 : (Jvm.Cond.codeWith ({ cls := "KioskReelLaw", name := "waits", desc := "(LKioskReel;I[J)I" } : Jvm.MethodName) method_17_code (4 : Nat) (Option.some Jvm.ClassFile.FieldType.int) [((0 : Nat), (9 : Nat), (12 : Nat), (19 : Nat)), ((0 : Nat), (9 : Nat), (15 : Nat), (42 : Nat))]) ∈ lw_all := lw_g (lw_at lw_m6 46 rfl) rfl
theorem q1289 : (Jvm.Cond.methodLink "KioskReelLaw" (67 : Nat) ({ cls := "KioskReel", name := "waits", desc := "(I)I" } : Jvm.MethodName)) ∈ lw_all := lw_g (lw_at lw_m6 47 rfl) rfl
theorem q1293 : (Jvm.Cond.methodLink "KioskReelLaw" (160 : Nat) ({ cls := "KioskReelLaw", name := "tick", desc := "(LKioskReel;I[J)I" } : Jvm.MethodName)) ∈ lw_all := lw_g (lw_at lw_m6 51 rfl) rfl
theorem q1294 : (Jvm.Cond.static ({ cls := "KioskReelLaw", name := "tick", desc := "(LKioskReel;I[J)I" } : Jvm.MethodName)) ∈ lw_all := lw_g (lw_at lw_m6 52 rfl) rfl
theorem q1295 : (Jvm.Cond.codeWith ({ cls := "KioskReelLaw", name := "tick", desc := "(LKioskReel;I[J)I" } : Jvm.MethodName) method_18_code (4 : Nat) (Option.some Jvm.ClassFile.FieldType.int) [((0 : Nat), (9 : Nat), (12 : Nat), (21 : Nat))]) ∈ lw_all := lw_g (lw_at lw_m6 53 rfl) rfl
theorem q1296 : (Jvm.Cond.methodLink "KioskReelLaw" (70 : Nat) ({ cls := "KioskReel", name := "tick", desc := "(I)I" } : Jvm.MethodName)) ∈ lw_all := lw_g (lw_at lw_m6 54 rfl) rfl
theorem q1438 : (Jvm.Cond.methodLink "KioskReelLaw" (163 : Nat) ({ cls := "KioskReelLaw", name := "slide", desc := "(LKioskReel;I[J)I" } : Jvm.MethodName)) ∈ lw_all := lw_g (lw_at lw_m6 196 rfl) rfl
theorem q1439 : (Jvm.Cond.static ({ cls := "KioskReelLaw", name := "slide", desc := "(LKioskReel;I[J)I" } : Jvm.MethodName)) ∈ lw_all := lw_g (lw_at lw_m6 197 rfl) rfl
theorem q1440 : (Jvm.Cond.codeWith ({ cls := "KioskReelLaw", name := "slide", desc := "(LKioskReel;I[J)I" } : Jvm.MethodName) method_19_code (4 : Nat) (Option.some Jvm.ClassFile.FieldType.int) [((0 : Nat), (9 : Nat), (12 : Nat), (19 : Nat)), ((0 : Nat), (9 : Nat), (15 : Nat), (42 : Nat))]) ∈ lw_all := lw_g (lw_at lw_m6 198 rfl) rfl
theorem q1441 : (Jvm.Cond.methodLink "KioskReelLaw" (73 : Nat) ({ cls := "KioskReel", name := "slide", desc := "(I)I" } : Jvm.MethodName)) ∈ lw_all := lw_g (lw_at lw_m6 199 rfl) rfl
theorem q1445 : (Jvm.Cond.methodLink "KioskReelLaw" (166 : Nat) ({ cls := "KioskReelLaw", name := "holder", desc := "(LKioskReel;I[J)I" } : Jvm.MethodName)) ∈ lw_all := lw_g (lw_at lw_m6 203 rfl) rfl
theorem q1446 : (Jvm.Cond.static ({ cls := "KioskReelLaw", name := "holder", desc := "(LKioskReel;I[J)I" } : Jvm.MethodName)) ∈ lw_all := lw_g (lw_at lw_m6 204 rfl) rfl
theorem q1447 : (Jvm.Cond.codeWith ({ cls := "KioskReelLaw", name := "holder", desc := "(LKioskReel;I[J)I" } : Jvm.MethodName) method_20_code (4 : Nat) (Option.some Jvm.ClassFile.FieldType.int) [((0 : Nat), (9 : Nat), (12 : Nat), (19 : Nat)), ((0 : Nat), (9 : Nat), (15 : Nat), (42 : Nat))]) ∈ lw_all := lw_g (lw_at lw_m6 205 rfl) rfl
theorem q1448 : (Jvm.Cond.methodLink "KioskReelLaw" (76 : Nat) ({ cls := "KioskReel", name := "holder", desc := "(I)I" } : Jvm.MethodName)) ∈ lw_all := lw_g (lw_at lw_m6 206 rfl) rfl
theorem q1456 : (Jvm.Cond.methodLink "KioskReelLaw" (169 : Nat) ({ cls := "KioskReelLaw", name := "queued", desc := "(LKioskReel;II[J)I" } : Jvm.MethodName)) ∈ lw_all := lw_g (lw_at lw_m6 214 rfl) rfl
theorem q1457 : (Jvm.Cond.static ({ cls := "KioskReelLaw", name := "queued", desc := "(LKioskReel;II[J)I" } : Jvm.MethodName)) ∈ lw_all := lw_g (lw_at lw_m6 215 rfl) rfl
theorem q1458 : (Jvm.Cond.codeWith ({ cls := "KioskReelLaw", name := "queued", desc := "(LKioskReel;II[J)I" } : Jvm.MethodName) method_21_code (5 : Nat) (Option.some Jvm.ClassFile.FieldType.int) [((0 : Nat), (10 : Nat), (13 : Nat), (19 : Nat)), ((0 : Nat), (10 : Nat), (17 : Nat), (42 : Nat))]) ∈ lw_all := lw_g (lw_at lw_m6 216 rfl) rfl
theorem q1459 : (Jvm.Cond.methodLink "KioskReelLaw" (79 : Nat) ({ cls := "KioskReel", name := "queued", desc := "(II)I" } : Jvm.MethodName)) ∈ lw_all := lw_g (lw_at lw_m6 217 rfl) rfl
theorem q1463 : (Jvm.Cond.methodLink "KioskReelLaw" (172 : Nat) ({ cls := "KioskReelLaw", name := "visitor", desc := "(LKioskReel;[J)I" } : Jvm.MethodName)) ∈ lw_all := lw_g (lw_at lw_m6 221 rfl) rfl
theorem q1464 : (Jvm.Cond.static ({ cls := "KioskReelLaw", name := "visitor", desc := "(LKioskReel;[J)I" } : Jvm.MethodName)) ∈ lw_all := lw_g (lw_at lw_m6 222 rfl) rfl
theorem q1465 : (Jvm.Cond.codeWith ({ cls := "KioskReelLaw", name := "visitor", desc := "(LKioskReel;[J)I" } : Jvm.MethodName) method_22_code (3 : Nat) (Option.some Jvm.ClassFile.FieldType.int) [((0 : Nat), (8 : Nat), (11 : Nat), (13 : Nat))]) ∈ lw_all := lw_g (lw_at lw_m6 223 rfl) rfl
theorem q1466 : (Jvm.Cond.methodLink "KioskReelLaw" (82 : Nat) ({ cls := "KioskReel", name := "visitor", desc := "()I" } : Jvm.MethodName)) ∈ lw_all := lw_g (lw_at lw_m6 224 rfl) rfl
theorem q1494 : (Jvm.Cond.methodLink "KioskReelLaw" (175 : Nat) ({ cls := "KioskReelLaw", name := "go", desc := "(LKioskReel;II[J)I" } : Jvm.MethodName)) ∈ lw_all := lw_g (lw_at lw_m7 12 rfl) rfl
theorem q1495 : (Jvm.Cond.static ({ cls := "KioskReelLaw", name := "go", desc := "(LKioskReel;II[J)I" } : Jvm.MethodName)) ∈ lw_all := lw_g (lw_at lw_m7 13 rfl) rfl
theorem q1496 : (Jvm.Cond.codeWith ({ cls := "KioskReelLaw", name := "go", desc := "(LKioskReel;II[J)I" } : Jvm.MethodName) method_23_code (5 : Nat) (Option.some Jvm.ClassFile.FieldType.int) [((0 : Nat), (10 : Nat), (13 : Nat), (19 : Nat))]) ∈ lw_all := lw_g (lw_at lw_m7 14 rfl) rfl
theorem q1497 : (Jvm.Cond.methodLink "KioskReelLaw" (85 : Nat) ({ cls := "KioskReel", name := "go", desc := "(II)I" } : Jvm.MethodName)) ∈ lw_all := lw_g (lw_at lw_m7 15 rfl) rfl
theorem q1505 : (Jvm.Cond.methodLink "KioskReelLaw" (178 : Nat) ({ cls := "KioskReelLaw", name := "ask", desc := "(LKioskReel;II[J)I" } : Jvm.MethodName)) ∈ lw_all := lw_g (lw_at lw_m7 23 rfl) rfl
theorem q1506 : (Jvm.Cond.static ({ cls := "KioskReelLaw", name := "ask", desc := "(LKioskReel;II[J)I" } : Jvm.MethodName)) ∈ lw_all := lw_g (lw_at lw_m7 24 rfl) rfl
theorem q1507 : (Jvm.Cond.codeWith ({ cls := "KioskReelLaw", name := "ask", desc := "(LKioskReel;II[J)I" } : Jvm.MethodName) method_24_code (5 : Nat) (Option.some Jvm.ClassFile.FieldType.int) [((0 : Nat), (17 : Nat), (20 : Nat), (19 : Nat)), ((0 : Nat), (17 : Nat), (24 : Nat), (21 : Nat))]) ∈ lw_all := lw_g (lw_at lw_m7 25 rfl) rfl
theorem q1508 : (Jvm.Cond.methodLink "KioskReelLaw" (88 : Nat) ({ cls := "KioskReel", name := "ask", desc := "(II)Z" } : Jvm.MethodName)) ∈ lw_all := lw_g (lw_at lw_m7 26 rfl) rfl
theorem q1512 : (Jvm.Cond.methodLink "KioskReelLaw" (181 : Nat) ({ cls := "KioskReelLaw", name := "saw", desc := "(LKioskReel;II[J)I" } : Jvm.MethodName)) ∈ lw_all := lw_g (lw_at lw_m7 30 rfl) rfl
theorem q1513 : (Jvm.Cond.static ({ cls := "KioskReelLaw", name := "saw", desc := "(LKioskReel;II[J)I" } : Jvm.MethodName)) ∈ lw_all := lw_g (lw_at lw_m7 31 rfl) rfl
theorem q1514 : (Jvm.Cond.codeWith ({ cls := "KioskReelLaw", name := "saw", desc := "(LKioskReel;II[J)I" } : Jvm.MethodName) method_25_code (5 : Nat) (Option.some Jvm.ClassFile.FieldType.int) [((0 : Nat), (10 : Nat), (13 : Nat), (19 : Nat)), ((0 : Nat), (10 : Nat), (17 : Nat), (21 : Nat))]) ∈ lw_all := lw_g (lw_at lw_m7 32 rfl) rfl
theorem q1515 : (Jvm.Cond.methodLink "KioskReelLaw" (92 : Nat) ({ cls := "KioskReel", name := "saw", desc := "(II)I" } : Jvm.MethodName)) ∈ lw_all := lw_g (lw_at lw_m7 33 rfl) rfl
theorem q1519 : (Jvm.Cond.methodLink "KioskReelLaw" (198 : Nat) ({ cls := "KioskReelLaw", name := "meanSeen", desc := "(LKioskReel;[D)I" } : Jvm.MethodName)) ∈ lw_all := lw_g (lw_at lw_m7 37 rfl) rfl
theorem q1520 : (Jvm.Cond.static ({ cls := "KioskReelLaw", name := "meanSeen", desc := "(LKioskReel;[D)I" } : Jvm.MethodName)) ∈ lw_all := lw_g (lw_at lw_m7 38 rfl) rfl
theorem q1521 : (Jvm.Cond.codeWith ({ cls := "KioskReelLaw", name := "meanSeen", desc := "(LKioskReel;[D)I" } : Jvm.MethodName) method_26_code (3 : Nat) (Option.some Jvm.ClassFile.FieldType.int) [((0 : Nat), (7 : Nat), (10 : Nat), (99 : Nat))]) ∈ lw_all := lw_g (lw_at lw_m7 39 rfl) rfl
theorem q1522 : (Jvm.Cond.classLink "KioskReelLaw" (99 : Nat) "java/lang/ArithmeticException") ∈ lw_all := lw_g (lw_at lw_m7 40 rfl) rfl
theorem q1536 : (Jvm.Cond.methodLink "KioskReelLaw" (95 : Nat) ({ cls := "KioskReel", name := "meanSeen", desc := "()D" } : Jvm.MethodName)) ∈ lw_all := lw_g (lw_at lw_m7 54 rfl) rfl
theorem q1547 : (Jvm.Cond.classLink "KioskReelLaw" (102 : Nat) "KioskReelModel") ∈ lw_all := lw_g (lw_at lw_m7 65 rfl) rfl
theorem q1549 : (Jvm.Cond.methodLink "KioskReelLaw" (104 : Nat) ({ cls := "KioskReelModel", name := "<init>", desc := "()V" } : Jvm.MethodName)) ∈ lw_all := lw_g (lw_at lw_m7 67 rfl) rfl
theorem q1650 : (Jvm.Cond.methodLink "KioskReelLaw" (111 : Nat) ({ cls := "KioskReelModel", name := "thrown", desc := "()I" } : Jvm.MethodName)) ∈ lw_all := lw_g (lw_at lw_m7 168 rfl) rfl
theorem q1654 : (Jvm.Cond.methodLink "KioskReelLaw" (110 : Nat) ({ cls := "KioskReelModel", name := "list", desc := "()I" } : Jvm.MethodName)) ∈ lw_all := lw_g (lw_at lw_m7 172 rfl) rfl
theorem q1662 : (Jvm.Cond.methodLink "KioskReelLaw" (117 : Nat) ({ cls := "KioskReelModel", name := "line", desc := "(IICI)I" } : Jvm.MethodName)) ∈ lw_all := lw_g (lw_at lw_m7 180 rfl) rfl
theorem q1679 : (Jvm.Cond.methodLink "KioskReelLaw" (121 : Nat) ({ cls := "KioskReelModel", name := "cut", desc := "(II)C" } : Jvm.MethodName)) ∈ lw_all := lw_g (lw_at lw_m7 197 rfl) rfl
theorem q1683 : (Jvm.Cond.methodLink "KioskReelLaw" (125 : Nat) ({ cls := "KioskReelModel", name := "lines", desc := "(IC)I" } : Jvm.MethodName)) ∈ lw_all := lw_g (lw_at lw_m7 201 rfl) rfl
theorem q1687 : (Jvm.Cond.methodLink "KioskReelLaw" (128 : Nat) ({ cls := "KioskReelModel", name := "kiosk", desc := "()I" } : Jvm.MethodName)) ∈ lw_all := lw_g (lw_at lw_m7 205 rfl) rfl
theorem q1691 : (Jvm.Cond.methodLink "KioskReelLaw" (131 : Nat) ({ cls := "KioskReelModel", name := "start", desc := "(II)I" } : Jvm.MethodName)) ∈ lw_all := lw_g (lw_at lw_m7 209 rfl) rfl
theorem q1714 : (Jvm.Cond.methodLink "KioskReelLaw" (135 : Nat) ({ cls := "KioskReelModel", name := "stop", desc := "(I)I" } : Jvm.MethodName)) ∈ lw_all := lw_g (lw_at lw_m7 232 rfl) rfl
theorem q1738 : (Jvm.Cond.methodLink "KioskReelLaw" (138 : Nat) ({ cls := "KioskReelModel", name := "freeze", desc := "(I)Z" } : Jvm.MethodName)) ∈ lw_all := lw_g (lw_at lw_m8 16 rfl) rfl
theorem q1742 : (Jvm.Cond.methodLink "KioskReelLaw" (141 : Nat) ({ cls := "KioskReelModel", name := "thaw", desc := "(I)I" } : Jvm.MethodName)) ∈ lw_all := lw_g (lw_at lw_m8 20 rfl) rfl
theorem q1746 : (Jvm.Cond.methodLink "KioskReelLaw" (144 : Nat) ({ cls := "KioskReelModel", name := "state", desc := "(I)C" } : Jvm.MethodName)) ∈ lw_all := lw_g (lw_at lw_m8 24 rfl) rfl
theorem q1750 : (Jvm.Cond.methodLink "KioskReelLaw" (147 : Nat) ({ cls := "KioskReelModel", name := "plays", desc := "(I)I" } : Jvm.MethodName)) ∈ lw_all := lw_g (lw_at lw_m8 28 rfl) rfl
theorem q1754 : (Jvm.Cond.methodLink "KioskReelLaw" (150 : Nat) ({ cls := "KioskReelModel", name := "playerAt", desc := "(II)I" } : Jvm.MethodName)) ∈ lw_all := lw_g (lw_at lw_m8 32 rfl) rfl
theorem q1758 : (Jvm.Cond.methodLink "KioskReelLaw" (153 : Nat) ({ cls := "KioskReelModel", name := "next", desc := "(I)I" } : Jvm.MethodName)) ∈ lw_all := lw_g (lw_at lw_m8 36 rfl) rfl
theorem q1766 : (Jvm.Cond.methodLink "KioskReelLaw" (156 : Nat) ({ cls := "KioskReelModel", name := "count", desc := "(I)I" } : Jvm.MethodName)) ∈ lw_all := lw_g (lw_at lw_m8 44 rfl) rfl
theorem q1770 : (Jvm.Cond.methodLink "KioskReelLaw" (159 : Nat) ({ cls := "KioskReelModel", name := "waits", desc := "(I)I" } : Jvm.MethodName)) ∈ lw_all := lw_g (lw_at lw_m8 48 rfl) rfl
theorem q1774 : (Jvm.Cond.methodLink "KioskReelLaw" (162 : Nat) ({ cls := "KioskReelModel", name := "tick", desc := "(I)I" } : Jvm.MethodName)) ∈ lw_all := lw_g (lw_at lw_m8 52 rfl) rfl
theorem q1806 : (Jvm.Cond.methodLink "KioskReelLaw" (165 : Nat) ({ cls := "KioskReelModel", name := "slide", desc := "(I)I" } : Jvm.MethodName)) ∈ lw_all := lw_g (lw_at lw_m8 84 rfl) rfl
theorem q1810 : (Jvm.Cond.methodLink "KioskReelLaw" (168 : Nat) ({ cls := "KioskReelModel", name := "holder", desc := "(I)I" } : Jvm.MethodName)) ∈ lw_all := lw_g (lw_at lw_m8 88 rfl) rfl
theorem q1817 : (Jvm.Cond.methodLink "KioskReelLaw" (171 : Nat) ({ cls := "KioskReelModel", name := "queued", desc := "(II)I" } : Jvm.MethodName)) ∈ lw_all := lw_g (lw_at lw_m8 95 rfl) rfl
theorem q1821 : (Jvm.Cond.methodLink "KioskReelLaw" (174 : Nat) ({ cls := "KioskReelModel", name := "visitor", desc := "()I" } : Jvm.MethodName)) ∈ lw_all := lw_g (lw_at lw_m8 99 rfl) rfl
theorem q1825 : (Jvm.Cond.methodLink "KioskReelLaw" (177 : Nat) ({ cls := "KioskReelModel", name := "go", desc := "(II)I" } : Jvm.MethodName)) ∈ lw_all := lw_g (lw_at lw_m8 103 rfl) rfl
theorem q1833 : (Jvm.Cond.methodLink "KioskReelLaw" (180 : Nat) ({ cls := "KioskReelModel", name := "ask", desc := "(II)Z" } : Jvm.MethodName)) ∈ lw_all := lw_g (lw_at lw_m8 111 rfl) rfl
theorem q1837 : (Jvm.Cond.methodLink "KioskReelLaw" (183 : Nat) ({ cls := "KioskReelModel", name := "saw", desc := "(II)I" } : Jvm.MethodName)) ∈ lw_all := lw_g (lw_at lw_m8 115 rfl) rfl
theorem q1841 : (Jvm.Cond.methodLink "KioskReelLaw" (188 : Nat) ({ cls := "KioskReelModel", name := "done", desc := "()J" } : Jvm.MethodName)) ∈ lw_all := lw_g (lw_at lw_m8 119 rfl) rfl
theorem q1845 : (Jvm.Cond.methodLink "KioskReelLaw" (193 : Nat) ({ cls := "KioskReelModel", name := "heldShare", desc := "()F" } : Jvm.MethodName)) ∈ lw_all := lw_g (lw_at lw_m8 123 rfl) rfl
theorem q1850 : (Jvm.Cond.methodLink "KioskReelLaw" (197 : Nat) ({ cls := "KioskReelModel", name := "heldBits", desc := "()I" } : Jvm.MethodName)) ∈ lw_all := lw_g (lw_at lw_m8 128 rfl) rfl
theorem q1856 : (Jvm.Cond.methodLink "KioskReelLaw" (201 : Nat) ({ cls := "KioskReelModel", name := "meanSeen", desc := "()D" } : Jvm.MethodName)) ∈ lw_all := lw_g (lw_at lw_m8 134 rfl) rfl
theorem q1860 : (Jvm.Cond.methodLink "KioskReelLaw" (206 : Nat) ({ cls := "KioskReelModel", name := "isSound", desc := "()Z" } : Jvm.MethodName)) ∈ lw_all := lw_g (lw_at lw_m8 138 rfl) rfl
