/-! ===== the law ===== -/
set_option maxRecDepth 100000
abbrev RL : String := RX0
abbrev cL_law : ByteArray := code
def dkwL_law_71 : List UInt8 := [182, 0, 198, 159, 0, 5, 3, 172, 132, 4, 6, 167, 249, 46, 4, 172]
abbrev dktL_law_71 : List UInt8 := dkwL_law_71 ++ []
def dkwL_law_70 : List UInt8 := [159, 0, 30, 3, 172, 43, 42, 21, 4, 4, 96, 46, 182, 0, 195, 44, 42, 21, 4, 4, 96, 46]
abbrev dktL_law_70 : List UInt8 := dkwL_law_70 ++ dktL_law_71
def dkwL_law_69 : List UInt8 := [167, 0, 52, 43, 182, 0, 186, 44, 182, 0, 189, 167, 0, 41, 43, 182, 0, 190, 44, 182, 0, 194]
abbrev dktL_law_69 : List UInt8 := dkwL_law_69 ++ dktL_law_70
def dkwL_law_68 : List UInt8 := [21, 5, 159, 0, 5, 3, 172, 21, 5, 154, 0, 15, 45, 3, 47, 21, 6, 133, 148, 153, 0, 5, 3, 172]
abbrev dktL_law_68 : List UInt8 := dkwL_law_68 ++ dktL_law_69
def dkwL_law_67 : List UInt8 := [4, 96, 46, 42, 21, 4, 5, 96, 46, 42, 21, 4, 6, 96, 46, 182, 0, 185, 54, 6, 44, 182, 0, 111]
abbrev dktL_law_67 : List UInt8 := dkwL_law_67 ++ dktL_law_68
def dkwL_law_66 : List UInt8 := [96, 46, 42, 21, 4, 5, 96, 46, 42, 21, 4, 6, 96, 46, 45, 184, 0, 183, 54, 5, 44, 42, 21, 4]
abbrev dktL_law_66 : List UInt8 := dkwL_law_66 ++ dktL_law_67
def dkwL_law_65 : List UInt8 := [21, 5, 154, 0, 14, 45, 3, 47, 22, 6, 148, 153, 0, 5, 3, 172, 167, 0, 132, 43, 42, 21, 4, 4]
abbrev dktL_law_65 : List UInt8 := dkwL_law_65 ++ dktL_law_66
def dkwL_law_64 : List UInt8 := [153, 0, 7, 4, 167, 0, 4, 3, 182, 0, 182, 55, 6, 44, 182, 0, 111, 21, 5, 159, 0, 5, 3, 172]
abbrev dktL_law_64 : List UInt8 := dkwL_law_64 ++ dktL_law_65
def dkwL_law_63 : List UInt8 := [21, 4, 5, 96, 46, 42, 21, 4, 6, 96, 46, 42, 21, 4, 7, 96, 46, 42, 21, 4, 8, 96, 46]
abbrev dktL_law_63 : List UInt8 := dkwL_law_63 ++ dktL_law_64
def dkwL_law_62 : List UInt8 := [46, 153, 0, 7, 4, 167, 0, 4, 3, 45, 184, 0, 179, 54, 5, 44, 42, 21, 4, 4, 96, 46, 42]
abbrev dktL_law_62 : List UInt8 := dkwL_law_62 ++ dktL_law_63
def dkwL_law_61 : List UInt8 := [46, 42, 21, 4, 5, 96, 46, 42, 21, 4, 6, 96, 46, 42, 21, 4, 7, 96, 46, 42, 21, 4, 8, 96]
abbrev dktL_law_61 : List UInt8 := dkwL_law_61 ++ dktL_law_62
def dkwL_law_60 : List UInt8 := [154, 0, 15, 45, 3, 47, 21, 6, 133, 148, 153, 0, 5, 3, 172, 167, 0, 251, 43, 42, 21, 4, 4, 96]
abbrev dktL_law_60 : List UInt8 := dkwL_law_60 ++ dktL_law_61
def dkwL_law_59 : List UInt8 := [21, 4, 4, 96, 46, 182, 0, 178, 54, 6, 44, 182, 0, 111, 21, 5, 159, 0, 5, 3, 172, 21, 5]
abbrev dktL_law_59 : List UInt8 := dkwL_law_59 ++ dktL_law_60
def dkwL_law_58 : List UInt8 := [153, 0, 5, 3, 172, 167, 1, 51, 43, 42, 21, 4, 4, 96, 46, 45, 184, 0, 176, 54, 5, 44, 42]
abbrev dktL_law_58 : List UInt8 := dkwL_law_58 ++ dktL_law_59
def dkwL_law_57 : List UInt8 := [182, 0, 111, 21, 5, 159, 0, 5, 3, 172, 21, 5, 154, 0, 15, 45, 3, 47, 21, 6, 133, 148]
abbrev dktL_law_57 : List UInt8 := dkwL_law_57 ++ dktL_law_58
def dkwL_law_56 : List UInt8 := [184, 0, 173, 54, 5, 44, 42, 21, 4, 4, 96, 46, 42, 21, 4, 5, 96, 46, 182, 0, 175, 54, 6, 44]
abbrev dktL_law_56 : List UInt8 := dkwL_law_56 ++ dktL_law_57
def dkwL_law_55 : List UInt8 := [153, 0, 5, 3, 172, 167, 1, 119, 43, 42, 21, 4, 4, 96, 46, 42, 21, 4, 5, 96, 46, 45]
abbrev dktL_law_55 : List UInt8 := dkwL_law_55 ++ dktL_law_56
def dkwL_law_54 : List UInt8 := [182, 0, 111, 21, 5, 159, 0, 5, 3, 172, 21, 5, 154, 0, 15, 45, 3, 47, 21, 6, 133, 148]
abbrev dktL_law_54 : List UInt8 := dkwL_law_54 ++ dktL_law_55
def dkwL_law_53 : List UInt8 := [42, 21, 4, 5, 96, 46, 42, 21, 4, 6, 96, 46, 42, 21, 4, 7, 96, 46, 182, 0, 172, 54, 6, 44]
abbrev dktL_law_53 : List UInt8 := dkwL_law_53 ++ dktL_law_54
def dkwL_law_52 : List UInt8 := [21, 4, 6, 96, 46, 42, 21, 4, 7, 96, 46, 45, 184, 0, 169, 54, 5, 44, 42, 21, 4, 4, 96, 46]
abbrev dktL_law_52 : List UInt8 := dkwL_law_52 ++ dktL_law_53
def dkwL_law_51 : List UInt8 := [148, 153, 0, 5, 3, 172, 167, 1, 211, 43, 42, 21, 4, 4, 96, 46, 42, 21, 4, 5, 96, 46, 42]
abbrev dktL_law_51 : List UInt8 := dkwL_law_51 ++ dktL_law_52
def dkwL_law_50 : List UInt8 := [54, 6, 44, 182, 0, 111, 21, 5, 159, 0, 5, 3, 172, 21, 5, 154, 0, 15, 45, 3, 47, 21, 6, 133]
abbrev dktL_law_50 : List UInt8 := dkwL_law_50 ++ dktL_law_51
def dkwL_law_49 : List UInt8 := [46, 45, 184, 0, 166, 54, 5, 44, 42, 21, 4, 4, 96, 46, 42, 21, 4, 5, 96, 46, 182, 0, 168]
abbrev dktL_law_49 : List UInt8 := dkwL_law_49 ++ dktL_law_50
def dkwL_law_48 : List UInt8 := [21, 6, 133, 148, 153, 0, 5, 3, 172, 167, 2, 23, 43, 42, 21, 4, 4, 96, 46, 42, 21, 4, 5, 96]
abbrev dktL_law_48 : List UInt8 := dkwL_law_48 ++ dktL_law_49
def dkwL_law_47 : List UInt8 := [182, 0, 165, 54, 6, 44, 182, 0, 111, 21, 5, 159, 0, 5, 3, 172, 21, 5, 154, 0, 15, 45, 3, 47]
abbrev dktL_law_47 : List UInt8 := dkwL_law_47 ++ dktL_law_48
def dkwL_law_46 : List UInt8 := [184, 0, 163, 54, 5, 44, 42, 21, 4, 4, 96, 46, 42, 21, 4, 5, 96, 46, 42, 21, 4, 6, 96, 46]
abbrev dktL_law_46 : List UInt8 := dkwL_law_46 ++ dktL_law_47
def dkwL_law_45 : List UInt8 := [167, 2, 103, 43, 42, 21, 4, 4, 96, 46, 42, 21, 4, 5, 96, 46, 42, 21, 4, 6, 96, 46, 45]
abbrev dktL_law_45 : List UInt8 := dkwL_law_45 ++ dktL_law_46
def dkwL_law_44 : List UInt8 := [21, 5, 159, 0, 5, 3, 172, 21, 5, 154, 0, 15, 45, 3, 47, 21, 6, 133, 148, 153, 0, 5, 3, 172]
abbrev dktL_law_44 : List UInt8 := dkwL_law_44 ++ dktL_law_45
def dkwL_law_43 : List UInt8 := [96, 46, 42, 21, 4, 5, 96, 46, 42, 21, 4, 6, 96, 46, 182, 0, 162, 54, 6, 44, 182, 0, 111]
abbrev dktL_law_43 : List UInt8 := dkwL_law_43 ++ dktL_law_44
def dkwL_law_42 : List UInt8 := [46, 42, 21, 4, 5, 96, 46, 42, 21, 4, 6, 96, 46, 45, 184, 0, 160, 54, 5, 44, 42, 21, 4, 4]
abbrev dktL_law_42 : List UInt8 := dkwL_law_42 ++ dktL_law_43
def dkwL_law_41 : List UInt8 := [154, 0, 15, 45, 3, 47, 21, 6, 133, 148, 153, 0, 5, 3, 172, 167, 2, 183, 43, 42, 21, 4, 4, 96]
abbrev dktL_law_41 : List UInt8 := dkwL_law_41 ++ dktL_law_42
def dkwL_law_40 : List UInt8 := [4, 167, 0, 4, 3, 182, 0, 159, 54, 6, 44, 182, 0, 111, 21, 5, 159, 0, 5, 3, 172, 21, 5]
abbrev dktL_law_40 : List UInt8 := dkwL_law_40 ++ dktL_law_41
def dkwL_law_39 : List UInt8 := [54, 5, 44, 42, 21, 4, 4, 96, 46, 42, 21, 4, 5, 96, 46, 42, 21, 4, 6, 96, 46, 153, 0, 7]
abbrev dktL_law_39 : List UInt8 := dkwL_law_39 ++ dktL_law_40
def dkwL_law_38 : List UInt8 := [21, 4, 5, 96, 46, 42, 21, 4, 6, 96, 46, 153, 0, 7, 4, 167, 0, 4, 3, 45, 184, 0, 156]
abbrev dktL_law_38 : List UInt8 := dkwL_law_38 ++ dktL_law_39
def dkwL_law_37 : List UInt8 := [45, 3, 47, 21, 6, 133, 148, 153, 0, 5, 3, 172, 167, 3, 23, 43, 42, 21, 4, 4, 96, 46, 42]
abbrev dktL_law_37 : List UInt8 := dkwL_law_37 ++ dktL_law_38
def dkwL_law_36 : List UInt8 := [5, 96, 46, 182, 0, 155, 54, 6, 44, 182, 0, 111, 21, 5, 159, 0, 5, 3, 172, 21, 5, 154, 0, 15]
abbrev dktL_law_36 : List UInt8 := dkwL_law_36 ++ dktL_law_37
def dkwL_law_35 : List UInt8 := [96, 46, 42, 21, 4, 5, 96, 46, 45, 184, 0, 153, 54, 5, 44, 42, 21, 4, 4, 96, 46, 42, 21, 4]
abbrev dktL_law_35 : List UInt8 := dkwL_law_35 ++ dktL_law_36
def dkwL_law_34 : List UInt8 := [21, 6, 153, 0, 7, 10, 167, 0, 4, 9, 148, 153, 0, 5, 3, 172, 167, 3, 91, 43, 42, 21, 4, 4]
abbrev dktL_law_34 : List UInt8 := dkwL_law_34 ++ dktL_law_35
def dkwL_law_33 : List UInt8 := [182, 0, 152, 54, 6, 44, 182, 0, 111, 21, 5, 159, 0, 5, 3, 172, 21, 5, 154, 0, 22, 45, 3, 47]
abbrev dktL_law_33 : List UInt8 := dkwL_law_33 ++ dktL_law_34
def dkwL_law_32 : List UInt8 := [167, 3, 154, 43, 42, 21, 4, 4, 96, 46, 45, 184, 0, 150, 54, 5, 44, 42, 21, 4, 4, 96, 46]
abbrev dktL_law_32 : List UInt8 := dkwL_law_32 ++ dktL_law_33
def dkwL_law_31 : List UInt8 := [159, 0, 5, 3, 172, 21, 5, 154, 0, 15, 45, 3, 47, 21, 6, 133, 148, 153, 0, 5, 3, 172]
abbrev dktL_law_31 : List UInt8 := dkwL_law_31 ++ dktL_law_32
def dkwL_law_30 : List UInt8 := [21, 4, 4, 96, 46, 42, 21, 4, 5, 96, 46, 182, 0, 149, 54, 6, 44, 182, 0, 111, 21, 5]
abbrev dktL_law_30 : List UInt8 := dkwL_law_30 ++ dktL_law_31
def dkwL_law_29 : List UInt8 := [167, 3, 222, 43, 42, 21, 4, 4, 96, 46, 42, 21, 4, 5, 96, 46, 45, 184, 0, 147, 54, 5, 44, 42]
abbrev dktL_law_29 : List UInt8 := dkwL_law_29 ++ dktL_law_30
def dkwL_law_28 : List UInt8 := [159, 0, 5, 3, 172, 21, 5, 154, 0, 15, 45, 3, 47, 21, 6, 133, 148, 153, 0, 5, 3, 172]
abbrev dktL_law_28 : List UInt8 := dkwL_law_28 ++ dktL_law_29
def dkwL_law_27 : List UInt8 := [45, 184, 0, 144, 54, 5, 44, 42, 21, 4, 4, 96, 46, 182, 0, 146, 54, 6, 44, 182, 0, 111, 21, 5]
abbrev dktL_law_27 : List UInt8 := dkwL_law_27 ++ dktL_law_28
def dkwL_law_26 : List UInt8 := [182, 0, 143, 44, 182, 0, 111, 21, 5, 159, 0, 5, 3, 172, 167, 4, 22, 43, 42, 21, 4, 4, 96, 46]
abbrev dktL_law_26 : List UInt8 := dkwL_law_26 ++ dktL_law_27
def dkwL_law_25 : List UInt8 := [42, 21, 4, 5, 96, 46, 184, 0, 141, 54, 5, 44, 42, 21, 4, 4, 96, 46, 42, 21, 4, 5, 96, 46]
abbrev dktL_law_25 : List UInt8 := dkwL_law_25 ++ dktL_law_26
def dkwL_law_24 : List UInt8 := [182, 0, 140, 44, 182, 0, 111, 21, 5, 159, 0, 5, 3, 172, 167, 4, 70, 43, 42, 21, 4, 4, 96, 46]
abbrev dktL_law_24 : List UInt8 := dkwL_law_24 ++ dktL_law_25
def dkwL_law_23 : List UInt8 := [42, 21, 4, 5, 96, 46, 184, 0, 137, 54, 5, 44, 42, 21, 4, 4, 96, 46, 42, 21, 4, 5, 96, 46]
abbrev dktL_law_23 : List UInt8 := dkwL_law_23 ++ dktL_law_24
def dkwL_law_22 : List UInt8 := [182, 0, 136, 44, 182, 0, 111, 21, 5, 159, 0, 5, 3, 172, 167, 4, 118, 43, 42, 21, 4, 4, 96, 46]
abbrev dktL_law_22 : List UInt8 := dkwL_law_22 ++ dktL_law_23
def dkwL_law_21 : List UInt8 := [184, 0, 133, 54, 5, 44, 42, 21, 4, 4, 96, 46, 42, 21, 4, 5, 96, 46, 42, 21, 4, 6, 96, 46]
abbrev dktL_law_21 : List UInt8 := dkwL_law_21 ++ dktL_law_22
def dkwL_law_20 : List UInt8 := [167, 4, 178, 43, 42, 21, 4, 4, 96, 46, 42, 21, 4, 5, 96, 46, 42, 21, 4, 6, 96, 46]
abbrev dktL_law_20 : List UInt8 := dkwL_law_20 ++ dktL_law_21
def dkwL_law_19 : List UInt8 := [159, 0, 5, 3, 172, 21, 5, 154, 0, 15, 45, 3, 47, 21, 6, 133, 148, 153, 0, 5, 3, 172]
abbrev dktL_law_19 : List UInt8 := dkwL_law_19 ++ dktL_law_20
def dkwL_law_18 : List UInt8 := [184, 0, 129, 54, 5, 44, 42, 21, 4, 4, 96, 46, 182, 0, 132, 54, 6, 44, 182, 0, 111, 21, 5]
abbrev dktL_law_18 : List UInt8 := dkwL_law_18 ++ dktL_law_19
def dkwL_law_17 : List UInt8 := [3, 47, 21, 6, 133, 148, 153, 0, 5, 3, 172, 167, 4, 234, 43, 42, 21, 4, 4, 96, 46, 45]
abbrev dktL_law_17 : List UInt8 := dkwL_law_17 ++ dktL_law_18
def dkwL_law_16 : List UInt8 := [96, 46, 182, 0, 128, 54, 6, 44, 182, 0, 111, 21, 5, 159, 0, 5, 3, 172, 21, 5, 154, 0, 15, 45]
abbrev dktL_law_16 : List UInt8 := dkwL_law_16 ++ dktL_law_17
def dkwL_law_15 : List UInt8 := [46, 42, 21, 4, 5, 96, 46, 45, 184, 0, 125, 54, 5, 44, 42, 21, 4, 4, 96, 46, 42, 21, 4, 5]
abbrev dktL_law_15 : List UInt8 := dkwL_law_15 ++ dktL_law_16
def dkwL_law_14 : List UInt8 := [154, 0, 15, 45, 3, 47, 21, 6, 133, 148, 153, 0, 5, 3, 172, 167, 5, 46, 43, 42, 21, 4, 4, 96]
abbrev dktL_law_14 : List UInt8 := dkwL_law_14 ++ dktL_law_15
def dkwL_law_13 : List UInt8 := [21, 4, 6, 96, 46, 182, 0, 124, 54, 6, 44, 182, 0, 111, 21, 5, 159, 0, 5, 3, 172, 21, 5]
abbrev dktL_law_13 : List UInt8 := dkwL_law_13 ++ dktL_law_14
def dkwL_law_12 : List UInt8 := [6, 96, 46, 45, 184, 0, 121, 54, 5, 44, 42, 21, 4, 4, 96, 46, 42, 21, 4, 5, 96, 46, 42]
abbrev dktL_law_12 : List UInt8 := dkwL_law_12 ++ dktL_law_13
def dkwL_law_11 : List UInt8 := [182, 0, 120, 159, 5, 128, 3, 172, 43, 42, 21, 4, 4, 96, 46, 42, 21, 4, 5, 96, 46, 42, 21, 4]
abbrev dktL_law_11 : List UInt8 := dkwL_law_11 ++ dktL_law_12
def dkwL_law_10 : List UInt8 := [154, 0, 15, 45, 3, 47, 21, 6, 133, 148, 153, 0, 5, 3, 172, 167, 5, 139, 43, 182, 0, 117, 44]
abbrev dktL_law_10 : List UInt8 := dkwL_law_10 ++ dktL_law_11
def dkwL_law_9 : List UInt8 := [184, 0, 114, 54, 5, 44, 182, 0, 116, 54, 6, 44, 182, 0, 111, 21, 5, 159, 0, 5, 3, 172, 21, 5]
abbrev dktL_law_9 : List UInt8 := dkwL_law_9 ++ dktL_law_10
def dkwL_law_8 : List UInt8 := [3, 172, 21, 5, 154, 0, 15, 45, 3, 47, 21, 6, 133, 148, 153, 0, 5, 3, 172, 167, 5, 183, 43, 45]
abbrev dktL_law_8 : List UInt8 := dkwL_law_8 ++ dktL_law_9
def dkwL_law_7 : List UInt8 := [3, 172, 43, 45, 184, 0, 105, 54, 5, 44, 182, 0, 110, 54, 6, 44, 182, 0, 111, 21, 5, 159, 0, 5]
abbrev dktL_law_7 : List UInt8 := dkwL_law_7 ++ dktL_law_8
def dkwL_law_6 : List UInt8 := [172, 43, 42, 21, 4, 4, 96, 46, 182, 0, 101, 44, 42, 21, 4, 4, 96, 46, 182, 0, 104, 159, 5, 229]
abbrev dktL_law_6 : List UInt8 := dkwL_law_6 ++ dktL_law_7
def dkwL_law_5 : List UInt8 := [21, 4, 6, 96, 46, 42, 21, 4, 7, 96, 46, 42, 21, 4, 8, 96, 46, 182, 0, 100, 159, 5, 254, 3]
abbrev dktL_law_5 : List UInt8 := dkwL_law_5 ++ dktL_law_6
def dkwL_law_4 : List UInt8 := [46, 42, 21, 4, 8, 96, 46, 182, 0, 96, 44, 42, 21, 4, 4, 96, 46, 42, 21, 4, 5, 96, 46, 42]
abbrev dktL_law_4 : List UInt8 := dkwL_law_4 ++ dktL_law_5
def dkwL_law_3 : List UInt8 := [43, 42, 21, 4, 4, 96, 46, 42, 21, 4, 5, 96, 46, 42, 21, 4, 6, 96, 46, 42, 21, 4, 7, 96]
abbrev dktL_law_3 : List UInt8 := dkwL_law_3 ++ dktL_law_4
def dkwL_law_2 : List UInt8 := [170, 0, 0, 0, 0, 0, 6, 190, 0, 0, 0, 0, 0, 0, 0, 26, 0, 0, 0, 124, 0, 0, 0, 197, 0, 0, 0, 222, 0, 0, 1, 10, 0, 0, 1, 54, 0, 0, 1, 67, 0, 0, 1, 147, 0, 0, 1, 215, 0, 0, 2, 15, 0, 0, 2, 75, 0, 0, 2, 123, 0, 0, 2, 171, 0, 0, 2, 227, 0, 0, 3, 39, 0, 0, 3, 102, 0, 0, 3, 170, 0, 0, 4, 10, 0, 0, 4, 90, 0, 0, 4, 170, 0, 0, 4, 238, 0, 0, 5, 74, 0, 0, 5, 142, 0, 0, 5, 198, 0, 0, 6, 61, 0, 0, 6, 141, 0, 0, 6, 152, 0, 0, 6, 165]
abbrev dktL_law_2 : List UInt8 := dkwL_law_2 ++ dktL_law_3
def dkwL_law_1 : List UInt8 := [21, 4, 42, 190, 16, 6, 100, 163, 6, 206, 42, 21, 4, 46, 16, 31, 126]
abbrev dktL_law_1 : List UInt8 := dkwL_law_1 ++ dktL_law_2
def dkwL_law_0 : List UInt8 := [187, 0, 8, 89, 183, 0, 92, 76, 187, 0, 93, 89, 183, 0, 95, 77, 4, 188, 11, 78, 3, 54, 4]
abbrev dktL_law_0 : List UInt8 := dkwL_law_0 ++ dktL_law_1
theorem dksL_law_0 : cL_law.data.toList.drop 0 = dktL_law_0 := by decide +kernel
theorem dksL_law_1 : cL_law.data.toList.drop 23 = dktL_law_1 := dk_seg dksL_law_0 23 rfl rfl
theorem dksL_law_2 : cL_law.data.toList.drop 40 = dktL_law_2 := dk_seg dksL_law_1 17 rfl rfl
theorem dksL_law_3 : cL_law.data.toList.drop 164 = dktL_law_3 := dk_seg dksL_law_2 124 rfl rfl
theorem dksL_law_4 : cL_law.data.toList.drop 188 = dktL_law_4 := dk_seg dksL_law_3 24 rfl rfl
theorem dksL_law_5 : cL_law.data.toList.drop 212 = dktL_law_5 := dk_seg dksL_law_4 24 rfl rfl
theorem dksL_law_6 : cL_law.data.toList.drop 236 = dktL_law_6 := dk_seg dksL_law_5 24 rfl rfl
theorem dksL_law_7 : cL_law.data.toList.drop 260 = dktL_law_7 := dk_seg dksL_law_6 24 rfl rfl
theorem dksL_law_8 : cL_law.data.toList.drop 284 = dktL_law_8 := dk_seg dksL_law_7 24 rfl rfl
theorem dksL_law_9 : cL_law.data.toList.drop 308 = dktL_law_9 := dk_seg dksL_law_8 24 rfl rfl
theorem dksL_law_10 : cL_law.data.toList.drop 332 = dktL_law_10 := dk_seg dksL_law_9 24 rfl rfl
theorem dksL_law_11 : cL_law.data.toList.drop 355 = dktL_law_11 := dk_seg dksL_law_10 23 rfl rfl
theorem dksL_law_12 : cL_law.data.toList.drop 379 = dktL_law_12 := dk_seg dksL_law_11 24 rfl rfl
theorem dksL_law_13 : cL_law.data.toList.drop 402 = dktL_law_13 := dk_seg dksL_law_12 23 rfl rfl
theorem dksL_law_14 : cL_law.data.toList.drop 425 = dktL_law_14 := dk_seg dksL_law_13 23 rfl rfl
theorem dksL_law_15 : cL_law.data.toList.drop 449 = dktL_law_15 := dk_seg dksL_law_14 24 rfl rfl
theorem dksL_law_16 : cL_law.data.toList.drop 473 = dktL_law_16 := dk_seg dksL_law_15 24 rfl rfl
theorem dksL_law_17 : cL_law.data.toList.drop 497 = dktL_law_17 := dk_seg dksL_law_16 24 rfl rfl
theorem dksL_law_18 : cL_law.data.toList.drop 519 = dktL_law_18 := dk_seg dksL_law_17 22 rfl rfl
theorem dksL_law_19 : cL_law.data.toList.drop 542 = dktL_law_19 := dk_seg dksL_law_18 23 rfl rfl
theorem dksL_law_20 : cL_law.data.toList.drop 564 = dktL_law_20 := dk_seg dksL_law_19 22 rfl rfl
theorem dksL_law_21 : cL_law.data.toList.drop 586 = dktL_law_21 := dk_seg dksL_law_20 22 rfl rfl
theorem dksL_law_22 : cL_law.data.toList.drop 610 = dktL_law_22 := dk_seg dksL_law_21 24 rfl rfl
theorem dksL_law_23 : cL_law.data.toList.drop 634 = dktL_law_23 := dk_seg dksL_law_22 24 rfl rfl
theorem dksL_law_24 : cL_law.data.toList.drop 658 = dktL_law_24 := dk_seg dksL_law_23 24 rfl rfl
theorem dksL_law_25 : cL_law.data.toList.drop 682 = dktL_law_25 := dk_seg dksL_law_24 24 rfl rfl
theorem dksL_law_26 : cL_law.data.toList.drop 706 = dktL_law_26 := dk_seg dksL_law_25 24 rfl rfl
theorem dksL_law_27 : cL_law.data.toList.drop 730 = dktL_law_27 := dk_seg dksL_law_26 24 rfl rfl
theorem dksL_law_28 : cL_law.data.toList.drop 754 = dktL_law_28 := dk_seg dksL_law_27 24 rfl rfl
theorem dksL_law_29 : cL_law.data.toList.drop 776 = dktL_law_29 := dk_seg dksL_law_28 22 rfl rfl
theorem dksL_law_30 : cL_law.data.toList.drop 800 = dktL_law_30 := dk_seg dksL_law_29 24 rfl rfl
theorem dksL_law_31 : cL_law.data.toList.drop 822 = dktL_law_31 := dk_seg dksL_law_30 22 rfl rfl
theorem dksL_law_32 : cL_law.data.toList.drop 844 = dktL_law_32 := dk_seg dksL_law_31 22 rfl rfl
theorem dksL_law_33 : cL_law.data.toList.drop 867 = dktL_law_33 := dk_seg dksL_law_32 23 rfl rfl
theorem dksL_law_34 : cL_law.data.toList.drop 891 = dktL_law_34 := dk_seg dksL_law_33 24 rfl rfl
theorem dksL_law_35 : cL_law.data.toList.drop 915 = dktL_law_35 := dk_seg dksL_law_34 24 rfl rfl
theorem dksL_law_36 : cL_law.data.toList.drop 939 = dktL_law_36 := dk_seg dksL_law_35 24 rfl rfl
theorem dksL_law_37 : cL_law.data.toList.drop 963 = dktL_law_37 := dk_seg dksL_law_36 24 rfl rfl
theorem dksL_law_38 : cL_law.data.toList.drop 986 = dktL_law_38 := dk_seg dksL_law_37 23 rfl rfl
theorem dksL_law_39 : cL_law.data.toList.drop 1009 = dktL_law_39 := dk_seg dksL_law_38 23 rfl rfl
theorem dksL_law_40 : cL_law.data.toList.drop 1033 = dktL_law_40 := dk_seg dksL_law_39 24 rfl rfl
theorem dksL_law_41 : cL_law.data.toList.drop 1056 = dktL_law_41 := dk_seg dksL_law_40 23 rfl rfl
theorem dksL_law_42 : cL_law.data.toList.drop 1080 = dktL_law_42 := dk_seg dksL_law_41 24 rfl rfl
theorem dksL_law_43 : cL_law.data.toList.drop 1104 = dktL_law_43 := dk_seg dksL_law_42 24 rfl rfl
theorem dksL_law_44 : cL_law.data.toList.drop 1127 = dktL_law_44 := dk_seg dksL_law_43 23 rfl rfl
theorem dksL_law_45 : cL_law.data.toList.drop 1151 = dktL_law_45 := dk_seg dksL_law_44 24 rfl rfl
theorem dksL_law_46 : cL_law.data.toList.drop 1174 = dktL_law_46 := dk_seg dksL_law_45 23 rfl rfl
theorem dksL_law_47 : cL_law.data.toList.drop 1198 = dktL_law_47 := dk_seg dksL_law_46 24 rfl rfl
theorem dksL_law_48 : cL_law.data.toList.drop 1222 = dktL_law_48 := dk_seg dksL_law_47 24 rfl rfl
theorem dksL_law_49 : cL_law.data.toList.drop 1246 = dktL_law_49 := dk_seg dksL_law_48 24 rfl rfl
theorem dksL_law_50 : cL_law.data.toList.drop 1269 = dktL_law_50 := dk_seg dksL_law_49 23 rfl rfl
theorem dksL_law_51 : cL_law.data.toList.drop 1293 = dktL_law_51 := dk_seg dksL_law_50 24 rfl rfl
theorem dksL_law_52 : cL_law.data.toList.drop 1316 = dktL_law_52 := dk_seg dksL_law_51 23 rfl rfl
theorem dksL_law_53 : cL_law.data.toList.drop 1340 = dktL_law_53 := dk_seg dksL_law_52 24 rfl rfl
theorem dksL_law_54 : cL_law.data.toList.drop 1364 = dktL_law_54 := dk_seg dksL_law_53 24 rfl rfl
theorem dksL_law_55 : cL_law.data.toList.drop 1386 = dktL_law_55 := dk_seg dksL_law_54 22 rfl rfl
theorem dksL_law_56 : cL_law.data.toList.drop 1408 = dktL_law_56 := dk_seg dksL_law_55 22 rfl rfl
theorem dksL_law_57 : cL_law.data.toList.drop 1432 = dktL_law_57 := dk_seg dksL_law_56 24 rfl rfl
theorem dksL_law_58 : cL_law.data.toList.drop 1454 = dktL_law_58 := dk_seg dksL_law_57 22 rfl rfl
theorem dksL_law_59 : cL_law.data.toList.drop 1477 = dktL_law_59 := dk_seg dksL_law_58 23 rfl rfl
theorem dksL_law_60 : cL_law.data.toList.drop 1500 = dktL_law_60 := dk_seg dksL_law_59 23 rfl rfl
theorem dksL_law_61 : cL_law.data.toList.drop 1524 = dktL_law_61 := dk_seg dksL_law_60 24 rfl rfl
theorem dksL_law_62 : cL_law.data.toList.drop 1548 = dktL_law_62 := dk_seg dksL_law_61 24 rfl rfl
theorem dksL_law_63 : cL_law.data.toList.drop 1571 = dktL_law_63 := dk_seg dksL_law_62 23 rfl rfl
theorem dksL_law_64 : cL_law.data.toList.drop 1594 = dktL_law_64 := dk_seg dksL_law_63 23 rfl rfl
theorem dksL_law_65 : cL_law.data.toList.drop 1618 = dktL_law_65 := dk_seg dksL_law_64 24 rfl rfl
theorem dksL_law_66 : cL_law.data.toList.drop 1642 = dktL_law_66 := dk_seg dksL_law_65 24 rfl rfl
theorem dksL_law_67 : cL_law.data.toList.drop 1666 = dktL_law_67 := dk_seg dksL_law_66 24 rfl rfl
theorem dksL_law_68 : cL_law.data.toList.drop 1690 = dktL_law_68 := dk_seg dksL_law_67 24 rfl rfl
theorem dksL_law_69 : cL_law.data.toList.drop 1714 = dktL_law_69 := dk_seg dksL_law_68 24 rfl rfl
theorem dksL_law_70 : cL_law.data.toList.drop 1736 = dktL_law_70 := dk_seg dksL_law_69 22 rfl rfl
theorem dksL_law_71 : cL_law.data.toList.drop 1758 = dktL_law_71 := dk_seg dksL_law_70 22 rfl rfl
theorem dL_law_0 : decode cL_law 0 = .ok (.new 8, 3) := dk_187 0 8 (dk_at dksL_law_0 0 rfl rfl)
theorem dL_law_3 : decode cL_law 3 = .ok (.dup, 1) := dk_89 (dk_at dksL_law_0 3 rfl rfl)
theorem dL_law_4 : decode cL_law 4 = .ok (.invokespecial 92, 3) := dk_183 0 92 (dk_at dksL_law_0 4 rfl rfl)
theorem dL_law_7 : decode cL_law 7 = .ok (.astore_n 1, 1) := dk_76 (dk_at dksL_law_0 7 rfl rfl)
theorem dL_law_8 : decode cL_law 8 = .ok (.new 93, 3) := dk_187 0 93 (dk_at dksL_law_0 8 rfl rfl)
theorem dL_law_11 : decode cL_law 11 = .ok (.dup, 1) := dk_89 (dk_at dksL_law_0 11 rfl rfl)
theorem dL_law_12 : decode cL_law 12 = .ok (.invokespecial 95, 3) := dk_183 0 95 (dk_at dksL_law_0 12 rfl rfl)
theorem dL_law_15 : decode cL_law 15 = .ok (.astore_n 2, 1) := dk_77 (dk_at dksL_law_0 15 rfl rfl)
theorem dL_law_16 : decode cL_law 16 = .ok (.iconst 1, 1) := dk_4 (dk_at dksL_law_0 16 rfl rfl)
theorem dL_law_17 : decode cL_law 17 = .ok (.newarray .long, 2) := dk_188_11 (dk_at dksL_law_0 17 rfl rfl)
theorem dL_law_19 : decode cL_law 19 = .ok (.astore_n 3, 1) := dk_78 (dk_at dksL_law_0 19 rfl rfl)
theorem dL_law_20 : decode cL_law 20 = .ok (.iconst 0, 1) := dk_3 (dk_at dksL_law_0 20 rfl rfl)
theorem dL_law_21 : decode cL_law 21 = .ok (.istore 4, 2) := dk_54 4 (dk_at dksL_law_0 21 rfl rfl)
theorem dL_law_23 : decode cL_law 23 = .ok (.iload 4, 2) := dk_21 4 (dk_at dksL_law_1 0 rfl rfl)
theorem dL_law_25 : decode cL_law 25 = .ok (.aload_n 0, 1) := dk_42 (dk_at dksL_law_1 2 rfl rfl)
theorem dL_law_26 : decode cL_law 26 = .ok (.arraylength, 1) := dk_190 (dk_at dksL_law_1 3 rfl rfl)
theorem dL_law_27 : decode cL_law 27 = .ok (.bipush 6, 2) := dk_16 6 (dk_at dksL_law_1 4 rfl rfl)
theorem dL_law_29 : decode cL_law 29 = .ok (.isub, 1) := dk_100 (dk_at dksL_law_1 6 rfl rfl)
theorem dL_law_30 : decode cL_law 30 = .ok (.if_icmp .gt 1742, 3) := dk_163 6 206 (dk_at dksL_law_1 7 rfl rfl)
theorem dL_law_33 : decode cL_law 33 = .ok (.aload_n 0, 1) := dk_42 (dk_at dksL_law_1 10 rfl rfl)
theorem dL_law_34 : decode cL_law 34 = .ok (.iload 4, 2) := dk_21 4 (dk_at dksL_law_1 11 rfl rfl)
theorem dL_law_36 : decode cL_law 36 = .ok (.iaload, 1) := dk_46 (dk_at dksL_law_1 13 rfl rfl)
theorem dL_law_37 : decode cL_law 37 = .ok (.bipush 31, 2) := dk_16 31 (dk_at dksL_law_1 14 rfl rfl)
theorem dL_law_39 : decode cL_law 39 = .ok (.iand, 1) := dk_126 (dk_at dksL_law_1 16 rfl rfl)
theorem dL_law_40 : decode cL_law 40 = .ok (.tableswitch 1726 0 26 #[124, 197, 222, 266, 310, 323, 403, 471, 527, 587, 635, 683, 739, 807, 870, 938, 1034, 1114, 1194, 1262, 1354, 1422, 1478, 1597, 1677, 1688, 1701], 124) := by decide +kernel
theorem dL_law_164 : decode cL_law 164 = .ok (.aload_n 1, 1) := dk_43 (dk_at dksL_law_3 0 rfl rfl)
theorem dL_law_165 : decode cL_law 165 = .ok (.aload_n 0, 1) := dk_42 (dk_at dksL_law_3 1 rfl rfl)
theorem dL_law_166 : decode cL_law 166 = .ok (.iload 4, 2) := dk_21 4 (dk_at dksL_law_3 2 rfl rfl)
theorem dL_law_168 : decode cL_law 168 = .ok (.iconst 1, 1) := dk_4 (dk_at dksL_law_3 4 rfl rfl)
theorem dL_law_169 : decode cL_law 169 = .ok (.iadd, 1) := dk_96 (dk_at dksL_law_3 5 rfl rfl)
theorem dL_law_170 : decode cL_law 170 = .ok (.iaload, 1) := dk_46 (dk_at dksL_law_3 6 rfl rfl)
theorem dL_law_171 : decode cL_law 171 = .ok (.aload_n 0, 1) := dk_42 (dk_at dksL_law_3 7 rfl rfl)
theorem dL_law_172 : decode cL_law 172 = .ok (.iload 4, 2) := dk_21 4 (dk_at dksL_law_3 8 rfl rfl)
theorem dL_law_174 : decode cL_law 174 = .ok (.iconst 2, 1) := dk_5 (dk_at dksL_law_3 10 rfl rfl)
theorem dL_law_175 : decode cL_law 175 = .ok (.iadd, 1) := dk_96 (dk_at dksL_law_3 11 rfl rfl)
theorem dL_law_176 : decode cL_law 176 = .ok (.iaload, 1) := dk_46 (dk_at dksL_law_3 12 rfl rfl)
theorem dL_law_177 : decode cL_law 177 = .ok (.aload_n 0, 1) := dk_42 (dk_at dksL_law_3 13 rfl rfl)
theorem dL_law_178 : decode cL_law 178 = .ok (.iload 4, 2) := dk_21 4 (dk_at dksL_law_3 14 rfl rfl)
theorem dL_law_180 : decode cL_law 180 = .ok (.iconst 3, 1) := dk_6 (dk_at dksL_law_3 16 rfl rfl)
theorem dL_law_181 : decode cL_law 181 = .ok (.iadd, 1) := dk_96 (dk_at dksL_law_3 17 rfl rfl)
theorem dL_law_182 : decode cL_law 182 = .ok (.iaload, 1) := dk_46 (dk_at dksL_law_3 18 rfl rfl)
theorem dL_law_183 : decode cL_law 183 = .ok (.aload_n 0, 1) := dk_42 (dk_at dksL_law_3 19 rfl rfl)
theorem dL_law_184 : decode cL_law 184 = .ok (.iload 4, 2) := dk_21 4 (dk_at dksL_law_3 20 rfl rfl)
theorem dL_law_186 : decode cL_law 186 = .ok (.iconst 4, 1) := dk_7 (dk_at dksL_law_3 22 rfl rfl)
theorem dL_law_187 : decode cL_law 187 = .ok (.iadd, 1) := dk_96 (dk_at dksL_law_3 23 rfl rfl)
theorem dL_law_188 : decode cL_law 188 = .ok (.iaload, 1) := dk_46 (dk_at dksL_law_4 0 rfl rfl)
theorem dL_law_189 : decode cL_law 189 = .ok (.aload_n 0, 1) := dk_42 (dk_at dksL_law_4 1 rfl rfl)
theorem dL_law_190 : decode cL_law 190 = .ok (.iload 4, 2) := dk_21 4 (dk_at dksL_law_4 2 rfl rfl)
theorem dL_law_192 : decode cL_law 192 = .ok (.iconst 5, 1) := dk_8 (dk_at dksL_law_4 4 rfl rfl)
theorem dL_law_193 : decode cL_law 193 = .ok (.iadd, 1) := dk_96 (dk_at dksL_law_4 5 rfl rfl)
theorem dL_law_194 : decode cL_law 194 = .ok (.iaload, 1) := dk_46 (dk_at dksL_law_4 6 rfl rfl)
theorem dL_law_195 : decode cL_law 195 = .ok (.invokevirtual 96, 3) := dk_182 0 96 (dk_at dksL_law_4 7 rfl rfl)
theorem dL_law_198 : decode cL_law 198 = .ok (.aload_n 2, 1) := dk_44 (dk_at dksL_law_4 10 rfl rfl)
theorem dL_law_199 : decode cL_law 199 = .ok (.aload_n 0, 1) := dk_42 (dk_at dksL_law_4 11 rfl rfl)
theorem dL_law_200 : decode cL_law 200 = .ok (.iload 4, 2) := dk_21 4 (dk_at dksL_law_4 12 rfl rfl)
theorem dL_law_202 : decode cL_law 202 = .ok (.iconst 1, 1) := dk_4 (dk_at dksL_law_4 14 rfl rfl)
theorem dL_law_203 : decode cL_law 203 = .ok (.iadd, 1) := dk_96 (dk_at dksL_law_4 15 rfl rfl)
theorem dL_law_204 : decode cL_law 204 = .ok (.iaload, 1) := dk_46 (dk_at dksL_law_4 16 rfl rfl)
theorem dL_law_205 : decode cL_law 205 = .ok (.aload_n 0, 1) := dk_42 (dk_at dksL_law_4 17 rfl rfl)
theorem dL_law_206 : decode cL_law 206 = .ok (.iload 4, 2) := dk_21 4 (dk_at dksL_law_4 18 rfl rfl)
theorem dL_law_208 : decode cL_law 208 = .ok (.iconst 2, 1) := dk_5 (dk_at dksL_law_4 20 rfl rfl)
theorem dL_law_209 : decode cL_law 209 = .ok (.iadd, 1) := dk_96 (dk_at dksL_law_4 21 rfl rfl)
theorem dL_law_210 : decode cL_law 210 = .ok (.iaload, 1) := dk_46 (dk_at dksL_law_4 22 rfl rfl)
theorem dL_law_211 : decode cL_law 211 = .ok (.aload_n 0, 1) := dk_42 (dk_at dksL_law_4 23 rfl rfl)
theorem dL_law_212 : decode cL_law 212 = .ok (.iload 4, 2) := dk_21 4 (dk_at dksL_law_5 0 rfl rfl)
theorem dL_law_214 : decode cL_law 214 = .ok (.iconst 3, 1) := dk_6 (dk_at dksL_law_5 2 rfl rfl)
theorem dL_law_215 : decode cL_law 215 = .ok (.iadd, 1) := dk_96 (dk_at dksL_law_5 3 rfl rfl)
theorem dL_law_216 : decode cL_law 216 = .ok (.iaload, 1) := dk_46 (dk_at dksL_law_5 4 rfl rfl)
theorem dL_law_217 : decode cL_law 217 = .ok (.aload_n 0, 1) := dk_42 (dk_at dksL_law_5 5 rfl rfl)
theorem dL_law_218 : decode cL_law 218 = .ok (.iload 4, 2) := dk_21 4 (dk_at dksL_law_5 6 rfl rfl)
theorem dL_law_220 : decode cL_law 220 = .ok (.iconst 4, 1) := dk_7 (dk_at dksL_law_5 8 rfl rfl)
theorem dL_law_221 : decode cL_law 221 = .ok (.iadd, 1) := dk_96 (dk_at dksL_law_5 9 rfl rfl)
theorem dL_law_222 : decode cL_law 222 = .ok (.iaload, 1) := dk_46 (dk_at dksL_law_5 10 rfl rfl)
theorem dL_law_223 : decode cL_law 223 = .ok (.aload_n 0, 1) := dk_42 (dk_at dksL_law_5 11 rfl rfl)
theorem dL_law_224 : decode cL_law 224 = .ok (.iload 4, 2) := dk_21 4 (dk_at dksL_law_5 12 rfl rfl)
theorem dL_law_226 : decode cL_law 226 = .ok (.iconst 5, 1) := dk_8 (dk_at dksL_law_5 14 rfl rfl)
theorem dL_law_227 : decode cL_law 227 = .ok (.iadd, 1) := dk_96 (dk_at dksL_law_5 15 rfl rfl)
theorem dL_law_228 : decode cL_law 228 = .ok (.iaload, 1) := dk_46 (dk_at dksL_law_5 16 rfl rfl)
theorem dL_law_229 : decode cL_law 229 = .ok (.invokevirtual 100, 3) := dk_182 0 100 (dk_at dksL_law_5 17 rfl rfl)
theorem dL_law_232 : decode cL_law 232 = .ok (.if_icmp .eq 1534, 3) := dk_159 5 254 (dk_at dksL_law_5 20 rfl rfl)
theorem dL_law_235 : decode cL_law 235 = .ok (.iconst 0, 1) := dk_3 (dk_at dksL_law_5 23 rfl rfl)
theorem dL_law_236 : decode cL_law 236 = .ok (.ireturn, 1) := dk_172 (dk_at dksL_law_6 0 rfl rfl)
theorem dL_law_237 : decode cL_law 237 = .ok (.aload_n 1, 1) := dk_43 (dk_at dksL_law_6 1 rfl rfl)
theorem dL_law_238 : decode cL_law 238 = .ok (.aload_n 0, 1) := dk_42 (dk_at dksL_law_6 2 rfl rfl)
theorem dL_law_239 : decode cL_law 239 = .ok (.iload 4, 2) := dk_21 4 (dk_at dksL_law_6 3 rfl rfl)
theorem dL_law_241 : decode cL_law 241 = .ok (.iconst 1, 1) := dk_4 (dk_at dksL_law_6 5 rfl rfl)
theorem dL_law_242 : decode cL_law 242 = .ok (.iadd, 1) := dk_96 (dk_at dksL_law_6 6 rfl rfl)
theorem dL_law_243 : decode cL_law 243 = .ok (.iaload, 1) := dk_46 (dk_at dksL_law_6 7 rfl rfl)
theorem dL_law_244 : decode cL_law 244 = .ok (.invokevirtual 101, 3) := dk_182 0 101 (dk_at dksL_law_6 8 rfl rfl)
theorem dL_law_247 : decode cL_law 247 = .ok (.aload_n 2, 1) := dk_44 (dk_at dksL_law_6 11 rfl rfl)
theorem dL_law_248 : decode cL_law 248 = .ok (.aload_n 0, 1) := dk_42 (dk_at dksL_law_6 12 rfl rfl)
theorem dL_law_249 : decode cL_law 249 = .ok (.iload 4, 2) := dk_21 4 (dk_at dksL_law_6 13 rfl rfl)
theorem dL_law_251 : decode cL_law 251 = .ok (.iconst 1, 1) := dk_4 (dk_at dksL_law_6 15 rfl rfl)
theorem dL_law_252 : decode cL_law 252 = .ok (.iadd, 1) := dk_96 (dk_at dksL_law_6 16 rfl rfl)
theorem dL_law_253 : decode cL_law 253 = .ok (.iaload, 1) := dk_46 (dk_at dksL_law_6 17 rfl rfl)
theorem dL_law_254 : decode cL_law 254 = .ok (.invokevirtual 104, 3) := dk_182 0 104 (dk_at dksL_law_6 18 rfl rfl)
theorem dL_law_257 : decode cL_law 257 = .ok (.if_icmp .eq 1509, 3) := dk_159 5 229 (dk_at dksL_law_6 21 rfl rfl)
theorem dL_law_260 : decode cL_law 260 = .ok (.iconst 0, 1) := dk_3 (dk_at dksL_law_7 0 rfl rfl)
theorem dL_law_261 : decode cL_law 261 = .ok (.ireturn, 1) := dk_172 (dk_at dksL_law_7 1 rfl rfl)
theorem dL_law_262 : decode cL_law 262 = .ok (.aload_n 1, 1) := dk_43 (dk_at dksL_law_7 2 rfl rfl)
theorem dL_law_263 : decode cL_law 263 = .ok (.aload_n 3, 1) := dk_45 (dk_at dksL_law_7 3 rfl rfl)
theorem dL_law_264 : decode cL_law 264 = .ok (.invokestatic 105, 3) := dk_184 0 105 (dk_at dksL_law_7 4 rfl rfl)
theorem dL_law_267 : decode cL_law 267 = .ok (.istore 5, 2) := dk_54 5 (dk_at dksL_law_7 7 rfl rfl)
theorem dL_law_269 : decode cL_law 269 = .ok (.aload_n 2, 1) := dk_44 (dk_at dksL_law_7 9 rfl rfl)
theorem dL_law_270 : decode cL_law 270 = .ok (.invokevirtual 110, 3) := dk_182 0 110 (dk_at dksL_law_7 10 rfl rfl)
theorem dL_law_273 : decode cL_law 273 = .ok (.istore 6, 2) := dk_54 6 (dk_at dksL_law_7 13 rfl rfl)
theorem dL_law_275 : decode cL_law 275 = .ok (.aload_n 2, 1) := dk_44 (dk_at dksL_law_7 15 rfl rfl)
theorem dL_law_276 : decode cL_law 276 = .ok (.invokevirtual 111, 3) := dk_182 0 111 (dk_at dksL_law_7 16 rfl rfl)
theorem dL_law_279 : decode cL_law 279 = .ok (.iload 5, 2) := dk_21 5 (dk_at dksL_law_7 19 rfl rfl)
theorem dL_law_281 : decode cL_law 281 = .ok (.if_icmp .eq 5, 3) := dk_159 0 5 (dk_at dksL_law_7 21 rfl rfl)
theorem dL_law_284 : decode cL_law 284 = .ok (.iconst 0, 1) := dk_3 (dk_at dksL_law_8 0 rfl rfl)
theorem dL_law_285 : decode cL_law 285 = .ok (.ireturn, 1) := dk_172 (dk_at dksL_law_8 1 rfl rfl)
theorem dL_law_286 : decode cL_law 286 = .ok (.iload 5, 2) := dk_21 5 (dk_at dksL_law_8 2 rfl rfl)
theorem dL_law_288 : decode cL_law 288 = .ok (.ifCond .ne 15, 3) := dk_154 0 15 (dk_at dksL_law_8 4 rfl rfl)
theorem dL_law_291 : decode cL_law 291 = .ok (.aload_n 3, 1) := dk_45 (dk_at dksL_law_8 7 rfl rfl)
theorem dL_law_292 : decode cL_law 292 = .ok (.iconst 0, 1) := dk_3 (dk_at dksL_law_8 8 rfl rfl)
theorem dL_law_293 : decode cL_law 293 = .ok (.laload, 1) := dk_47 (dk_at dksL_law_8 9 rfl rfl)
theorem dL_law_294 : decode cL_law 294 = .ok (.iload 6, 2) := dk_21 6 (dk_at dksL_law_8 10 rfl rfl)
theorem dL_law_296 : decode cL_law 296 = .ok (.i2l, 1) := dk_133 (dk_at dksL_law_8 12 rfl rfl)
theorem dL_law_297 : decode cL_law 297 = .ok (.lcmp, 1) := dk_148 (dk_at dksL_law_8 13 rfl rfl)
theorem dL_law_298 : decode cL_law 298 = .ok (.ifCond .eq 5, 3) := dk_153 0 5 (dk_at dksL_law_8 14 rfl rfl)
theorem dL_law_301 : decode cL_law 301 = .ok (.iconst 0, 1) := dk_3 (dk_at dksL_law_8 17 rfl rfl)
theorem dL_law_302 : decode cL_law 302 = .ok (.ireturn, 1) := dk_172 (dk_at dksL_law_8 18 rfl rfl)
theorem dL_law_303 : decode cL_law 303 = .ok (.goto 1463, 3) := dk_167 5 183 (dk_at dksL_law_8 19 rfl rfl)
theorem dL_law_306 : decode cL_law 306 = .ok (.aload_n 1, 1) := dk_43 (dk_at dksL_law_8 22 rfl rfl)
theorem dL_law_307 : decode cL_law 307 = .ok (.aload_n 3, 1) := dk_45 (dk_at dksL_law_8 23 rfl rfl)
theorem dL_law_308 : decode cL_law 308 = .ok (.invokestatic 114, 3) := dk_184 0 114 (dk_at dksL_law_9 0 rfl rfl)
theorem dL_law_311 : decode cL_law 311 = .ok (.istore 5, 2) := dk_54 5 (dk_at dksL_law_9 3 rfl rfl)
theorem dL_law_313 : decode cL_law 313 = .ok (.aload_n 2, 1) := dk_44 (dk_at dksL_law_9 5 rfl rfl)
theorem dL_law_314 : decode cL_law 314 = .ok (.invokevirtual 116, 3) := dk_182 0 116 (dk_at dksL_law_9 6 rfl rfl)
theorem dL_law_317 : decode cL_law 317 = .ok (.istore 6, 2) := dk_54 6 (dk_at dksL_law_9 9 rfl rfl)
theorem dL_law_319 : decode cL_law 319 = .ok (.aload_n 2, 1) := dk_44 (dk_at dksL_law_9 11 rfl rfl)
theorem dL_law_320 : decode cL_law 320 = .ok (.invokevirtual 111, 3) := dk_182 0 111 (dk_at dksL_law_9 12 rfl rfl)
theorem dL_law_323 : decode cL_law 323 = .ok (.iload 5, 2) := dk_21 5 (dk_at dksL_law_9 15 rfl rfl)
theorem dL_law_325 : decode cL_law 325 = .ok (.if_icmp .eq 5, 3) := dk_159 0 5 (dk_at dksL_law_9 17 rfl rfl)
theorem dL_law_328 : decode cL_law 328 = .ok (.iconst 0, 1) := dk_3 (dk_at dksL_law_9 20 rfl rfl)
theorem dL_law_329 : decode cL_law 329 = .ok (.ireturn, 1) := dk_172 (dk_at dksL_law_9 21 rfl rfl)
theorem dL_law_330 : decode cL_law 330 = .ok (.iload 5, 2) := dk_21 5 (dk_at dksL_law_9 22 rfl rfl)
theorem dL_law_332 : decode cL_law 332 = .ok (.ifCond .ne 15, 3) := dk_154 0 15 (dk_at dksL_law_10 0 rfl rfl)
theorem dL_law_335 : decode cL_law 335 = .ok (.aload_n 3, 1) := dk_45 (dk_at dksL_law_10 3 rfl rfl)
theorem dL_law_336 : decode cL_law 336 = .ok (.iconst 0, 1) := dk_3 (dk_at dksL_law_10 4 rfl rfl)
theorem dL_law_337 : decode cL_law 337 = .ok (.laload, 1) := dk_47 (dk_at dksL_law_10 5 rfl rfl)
theorem dL_law_338 : decode cL_law 338 = .ok (.iload 6, 2) := dk_21 6 (dk_at dksL_law_10 6 rfl rfl)
theorem dL_law_340 : decode cL_law 340 = .ok (.i2l, 1) := dk_133 (dk_at dksL_law_10 8 rfl rfl)
theorem dL_law_341 : decode cL_law 341 = .ok (.lcmp, 1) := dk_148 (dk_at dksL_law_10 9 rfl rfl)
theorem dL_law_342 : decode cL_law 342 = .ok (.ifCond .eq 5, 3) := dk_153 0 5 (dk_at dksL_law_10 10 rfl rfl)
theorem dL_law_345 : decode cL_law 345 = .ok (.iconst 0, 1) := dk_3 (dk_at dksL_law_10 13 rfl rfl)
theorem dL_law_346 : decode cL_law 346 = .ok (.ireturn, 1) := dk_172 (dk_at dksL_law_10 14 rfl rfl)
theorem dL_law_347 : decode cL_law 347 = .ok (.goto 1419, 3) := dk_167 5 139 (dk_at dksL_law_10 15 rfl rfl)
theorem dL_law_350 : decode cL_law 350 = .ok (.aload_n 1, 1) := dk_43 (dk_at dksL_law_10 18 rfl rfl)
theorem dL_law_351 : decode cL_law 351 = .ok (.invokevirtual 117, 3) := dk_182 0 117 (dk_at dksL_law_10 19 rfl rfl)
theorem dL_law_354 : decode cL_law 354 = .ok (.aload_n 2, 1) := dk_44 (dk_at dksL_law_10 22 rfl rfl)
theorem dL_law_355 : decode cL_law 355 = .ok (.invokevirtual 120, 3) := dk_182 0 120 (dk_at dksL_law_11 0 rfl rfl)
theorem dL_law_358 : decode cL_law 358 = .ok (.if_icmp .eq 1408, 3) := dk_159 5 128 (dk_at dksL_law_11 3 rfl rfl)
theorem dL_law_361 : decode cL_law 361 = .ok (.iconst 0, 1) := dk_3 (dk_at dksL_law_11 6 rfl rfl)
theorem dL_law_362 : decode cL_law 362 = .ok (.ireturn, 1) := dk_172 (dk_at dksL_law_11 7 rfl rfl)
theorem dL_law_363 : decode cL_law 363 = .ok (.aload_n 1, 1) := dk_43 (dk_at dksL_law_11 8 rfl rfl)
theorem dL_law_364 : decode cL_law 364 = .ok (.aload_n 0, 1) := dk_42 (dk_at dksL_law_11 9 rfl rfl)
theorem dL_law_365 : decode cL_law 365 = .ok (.iload 4, 2) := dk_21 4 (dk_at dksL_law_11 10 rfl rfl)
theorem dL_law_367 : decode cL_law 367 = .ok (.iconst 1, 1) := dk_4 (dk_at dksL_law_11 12 rfl rfl)
theorem dL_law_368 : decode cL_law 368 = .ok (.iadd, 1) := dk_96 (dk_at dksL_law_11 13 rfl rfl)
theorem dL_law_369 : decode cL_law 369 = .ok (.iaload, 1) := dk_46 (dk_at dksL_law_11 14 rfl rfl)
theorem dL_law_370 : decode cL_law 370 = .ok (.aload_n 0, 1) := dk_42 (dk_at dksL_law_11 15 rfl rfl)
theorem dL_law_371 : decode cL_law 371 = .ok (.iload 4, 2) := dk_21 4 (dk_at dksL_law_11 16 rfl rfl)
theorem dL_law_373 : decode cL_law 373 = .ok (.iconst 2, 1) := dk_5 (dk_at dksL_law_11 18 rfl rfl)
theorem dL_law_374 : decode cL_law 374 = .ok (.iadd, 1) := dk_96 (dk_at dksL_law_11 19 rfl rfl)
theorem dL_law_375 : decode cL_law 375 = .ok (.iaload, 1) := dk_46 (dk_at dksL_law_11 20 rfl rfl)
theorem dL_law_376 : decode cL_law 376 = .ok (.aload_n 0, 1) := dk_42 (dk_at dksL_law_11 21 rfl rfl)
theorem dL_law_377 : decode cL_law 377 = .ok (.iload 4, 2) := dk_21 4 (dk_at dksL_law_11 22 rfl rfl)
theorem dL_law_379 : decode cL_law 379 = .ok (.iconst 3, 1) := dk_6 (dk_at dksL_law_12 0 rfl rfl)
theorem dL_law_380 : decode cL_law 380 = .ok (.iadd, 1) := dk_96 (dk_at dksL_law_12 1 rfl rfl)
theorem dL_law_381 : decode cL_law 381 = .ok (.iaload, 1) := dk_46 (dk_at dksL_law_12 2 rfl rfl)
theorem dL_law_382 : decode cL_law 382 = .ok (.aload_n 3, 1) := dk_45 (dk_at dksL_law_12 3 rfl rfl)
theorem dL_law_383 : decode cL_law 383 = .ok (.invokestatic 121, 3) := dk_184 0 121 (dk_at dksL_law_12 4 rfl rfl)
theorem dL_law_386 : decode cL_law 386 = .ok (.istore 5, 2) := dk_54 5 (dk_at dksL_law_12 7 rfl rfl)
theorem dL_law_388 : decode cL_law 388 = .ok (.aload_n 2, 1) := dk_44 (dk_at dksL_law_12 9 rfl rfl)
theorem dL_law_389 : decode cL_law 389 = .ok (.aload_n 0, 1) := dk_42 (dk_at dksL_law_12 10 rfl rfl)
theorem dL_law_390 : decode cL_law 390 = .ok (.iload 4, 2) := dk_21 4 (dk_at dksL_law_12 11 rfl rfl)
theorem dL_law_392 : decode cL_law 392 = .ok (.iconst 1, 1) := dk_4 (dk_at dksL_law_12 13 rfl rfl)
theorem dL_law_393 : decode cL_law 393 = .ok (.iadd, 1) := dk_96 (dk_at dksL_law_12 14 rfl rfl)
theorem dL_law_394 : decode cL_law 394 = .ok (.iaload, 1) := dk_46 (dk_at dksL_law_12 15 rfl rfl)
theorem dL_law_395 : decode cL_law 395 = .ok (.aload_n 0, 1) := dk_42 (dk_at dksL_law_12 16 rfl rfl)
theorem dL_law_396 : decode cL_law 396 = .ok (.iload 4, 2) := dk_21 4 (dk_at dksL_law_12 17 rfl rfl)
theorem dL_law_398 : decode cL_law 398 = .ok (.iconst 2, 1) := dk_5 (dk_at dksL_law_12 19 rfl rfl)
theorem dL_law_399 : decode cL_law 399 = .ok (.iadd, 1) := dk_96 (dk_at dksL_law_12 20 rfl rfl)
theorem dL_law_400 : decode cL_law 400 = .ok (.iaload, 1) := dk_46 (dk_at dksL_law_12 21 rfl rfl)
theorem dL_law_401 : decode cL_law 401 = .ok (.aload_n 0, 1) := dk_42 (dk_at dksL_law_12 22 rfl rfl)
theorem dL_law_402 : decode cL_law 402 = .ok (.iload 4, 2) := dk_21 4 (dk_at dksL_law_13 0 rfl rfl)
theorem dL_law_404 : decode cL_law 404 = .ok (.iconst 3, 1) := dk_6 (dk_at dksL_law_13 2 rfl rfl)
theorem dL_law_405 : decode cL_law 405 = .ok (.iadd, 1) := dk_96 (dk_at dksL_law_13 3 rfl rfl)
theorem dL_law_406 : decode cL_law 406 = .ok (.iaload, 1) := dk_46 (dk_at dksL_law_13 4 rfl rfl)
theorem dL_law_407 : decode cL_law 407 = .ok (.invokevirtual 124, 3) := dk_182 0 124 (dk_at dksL_law_13 5 rfl rfl)
theorem dL_law_410 : decode cL_law 410 = .ok (.istore 6, 2) := dk_54 6 (dk_at dksL_law_13 8 rfl rfl)
theorem dL_law_412 : decode cL_law 412 = .ok (.aload_n 2, 1) := dk_44 (dk_at dksL_law_13 10 rfl rfl)
theorem dL_law_413 : decode cL_law 413 = .ok (.invokevirtual 111, 3) := dk_182 0 111 (dk_at dksL_law_13 11 rfl rfl)
theorem dL_law_416 : decode cL_law 416 = .ok (.iload 5, 2) := dk_21 5 (dk_at dksL_law_13 14 rfl rfl)
theorem dL_law_418 : decode cL_law 418 = .ok (.if_icmp .eq 5, 3) := dk_159 0 5 (dk_at dksL_law_13 16 rfl rfl)
theorem dL_law_421 : decode cL_law 421 = .ok (.iconst 0, 1) := dk_3 (dk_at dksL_law_13 19 rfl rfl)
theorem dL_law_422 : decode cL_law 422 = .ok (.ireturn, 1) := dk_172 (dk_at dksL_law_13 20 rfl rfl)
theorem dL_law_423 : decode cL_law 423 = .ok (.iload 5, 2) := dk_21 5 (dk_at dksL_law_13 21 rfl rfl)
theorem dL_law_425 : decode cL_law 425 = .ok (.ifCond .ne 15, 3) := dk_154 0 15 (dk_at dksL_law_14 0 rfl rfl)
theorem dL_law_428 : decode cL_law 428 = .ok (.aload_n 3, 1) := dk_45 (dk_at dksL_law_14 3 rfl rfl)
theorem dL_law_429 : decode cL_law 429 = .ok (.iconst 0, 1) := dk_3 (dk_at dksL_law_14 4 rfl rfl)
theorem dL_law_430 : decode cL_law 430 = .ok (.laload, 1) := dk_47 (dk_at dksL_law_14 5 rfl rfl)
theorem dL_law_431 : decode cL_law 431 = .ok (.iload 6, 2) := dk_21 6 (dk_at dksL_law_14 6 rfl rfl)
theorem dL_law_433 : decode cL_law 433 = .ok (.i2l, 1) := dk_133 (dk_at dksL_law_14 8 rfl rfl)
theorem dL_law_434 : decode cL_law 434 = .ok (.lcmp, 1) := dk_148 (dk_at dksL_law_14 9 rfl rfl)
theorem dL_law_435 : decode cL_law 435 = .ok (.ifCond .eq 5, 3) := dk_153 0 5 (dk_at dksL_law_14 10 rfl rfl)
theorem dL_law_438 : decode cL_law 438 = .ok (.iconst 0, 1) := dk_3 (dk_at dksL_law_14 13 rfl rfl)
theorem dL_law_439 : decode cL_law 439 = .ok (.ireturn, 1) := dk_172 (dk_at dksL_law_14 14 rfl rfl)
theorem dL_law_440 : decode cL_law 440 = .ok (.goto 1326, 3) := dk_167 5 46 (dk_at dksL_law_14 15 rfl rfl)
theorem dL_law_443 : decode cL_law 443 = .ok (.aload_n 1, 1) := dk_43 (dk_at dksL_law_14 18 rfl rfl)
theorem dL_law_444 : decode cL_law 444 = .ok (.aload_n 0, 1) := dk_42 (dk_at dksL_law_14 19 rfl rfl)
theorem dL_law_445 : decode cL_law 445 = .ok (.iload 4, 2) := dk_21 4 (dk_at dksL_law_14 20 rfl rfl)
theorem dL_law_447 : decode cL_law 447 = .ok (.iconst 1, 1) := dk_4 (dk_at dksL_law_14 22 rfl rfl)
theorem dL_law_448 : decode cL_law 448 = .ok (.iadd, 1) := dk_96 (dk_at dksL_law_14 23 rfl rfl)
theorem dL_law_449 : decode cL_law 449 = .ok (.iaload, 1) := dk_46 (dk_at dksL_law_15 0 rfl rfl)
theorem dL_law_450 : decode cL_law 450 = .ok (.aload_n 0, 1) := dk_42 (dk_at dksL_law_15 1 rfl rfl)
theorem dL_law_451 : decode cL_law 451 = .ok (.iload 4, 2) := dk_21 4 (dk_at dksL_law_15 2 rfl rfl)
theorem dL_law_453 : decode cL_law 453 = .ok (.iconst 2, 1) := dk_5 (dk_at dksL_law_15 4 rfl rfl)
theorem dL_law_454 : decode cL_law 454 = .ok (.iadd, 1) := dk_96 (dk_at dksL_law_15 5 rfl rfl)
theorem dL_law_455 : decode cL_law 455 = .ok (.iaload, 1) := dk_46 (dk_at dksL_law_15 6 rfl rfl)
theorem dL_law_456 : decode cL_law 456 = .ok (.aload_n 3, 1) := dk_45 (dk_at dksL_law_15 7 rfl rfl)
theorem dL_law_457 : decode cL_law 457 = .ok (.invokestatic 125, 3) := dk_184 0 125 (dk_at dksL_law_15 8 rfl rfl)
theorem dL_law_460 : decode cL_law 460 = .ok (.istore 5, 2) := dk_54 5 (dk_at dksL_law_15 11 rfl rfl)
theorem dL_law_462 : decode cL_law 462 = .ok (.aload_n 2, 1) := dk_44 (dk_at dksL_law_15 13 rfl rfl)
theorem dL_law_463 : decode cL_law 463 = .ok (.aload_n 0, 1) := dk_42 (dk_at dksL_law_15 14 rfl rfl)
theorem dL_law_464 : decode cL_law 464 = .ok (.iload 4, 2) := dk_21 4 (dk_at dksL_law_15 15 rfl rfl)
theorem dL_law_466 : decode cL_law 466 = .ok (.iconst 1, 1) := dk_4 (dk_at dksL_law_15 17 rfl rfl)
theorem dL_law_467 : decode cL_law 467 = .ok (.iadd, 1) := dk_96 (dk_at dksL_law_15 18 rfl rfl)
theorem dL_law_468 : decode cL_law 468 = .ok (.iaload, 1) := dk_46 (dk_at dksL_law_15 19 rfl rfl)
theorem dL_law_469 : decode cL_law 469 = .ok (.aload_n 0, 1) := dk_42 (dk_at dksL_law_15 20 rfl rfl)
theorem dL_law_470 : decode cL_law 470 = .ok (.iload 4, 2) := dk_21 4 (dk_at dksL_law_15 21 rfl rfl)
theorem dL_law_472 : decode cL_law 472 = .ok (.iconst 2, 1) := dk_5 (dk_at dksL_law_15 23 rfl rfl)
theorem dL_law_473 : decode cL_law 473 = .ok (.iadd, 1) := dk_96 (dk_at dksL_law_16 0 rfl rfl)
theorem dL_law_474 : decode cL_law 474 = .ok (.iaload, 1) := dk_46 (dk_at dksL_law_16 1 rfl rfl)
theorem dL_law_475 : decode cL_law 475 = .ok (.invokevirtual 128, 3) := dk_182 0 128 (dk_at dksL_law_16 2 rfl rfl)
theorem dL_law_478 : decode cL_law 478 = .ok (.istore 6, 2) := dk_54 6 (dk_at dksL_law_16 5 rfl rfl)
theorem dL_law_480 : decode cL_law 480 = .ok (.aload_n 2, 1) := dk_44 (dk_at dksL_law_16 7 rfl rfl)
theorem dL_law_481 : decode cL_law 481 = .ok (.invokevirtual 111, 3) := dk_182 0 111 (dk_at dksL_law_16 8 rfl rfl)
theorem dL_law_484 : decode cL_law 484 = .ok (.iload 5, 2) := dk_21 5 (dk_at dksL_law_16 11 rfl rfl)
theorem dL_law_486 : decode cL_law 486 = .ok (.if_icmp .eq 5, 3) := dk_159 0 5 (dk_at dksL_law_16 13 rfl rfl)
theorem dL_law_489 : decode cL_law 489 = .ok (.iconst 0, 1) := dk_3 (dk_at dksL_law_16 16 rfl rfl)
theorem dL_law_490 : decode cL_law 490 = .ok (.ireturn, 1) := dk_172 (dk_at dksL_law_16 17 rfl rfl)
theorem dL_law_491 : decode cL_law 491 = .ok (.iload 5, 2) := dk_21 5 (dk_at dksL_law_16 18 rfl rfl)
theorem dL_law_493 : decode cL_law 493 = .ok (.ifCond .ne 15, 3) := dk_154 0 15 (dk_at dksL_law_16 20 rfl rfl)
theorem dL_law_496 : decode cL_law 496 = .ok (.aload_n 3, 1) := dk_45 (dk_at dksL_law_16 23 rfl rfl)
theorem dL_law_497 : decode cL_law 497 = .ok (.iconst 0, 1) := dk_3 (dk_at dksL_law_17 0 rfl rfl)
theorem dL_law_498 : decode cL_law 498 = .ok (.laload, 1) := dk_47 (dk_at dksL_law_17 1 rfl rfl)
theorem dL_law_499 : decode cL_law 499 = .ok (.iload 6, 2) := dk_21 6 (dk_at dksL_law_17 2 rfl rfl)
theorem dL_law_501 : decode cL_law 501 = .ok (.i2l, 1) := dk_133 (dk_at dksL_law_17 4 rfl rfl)
theorem dL_law_502 : decode cL_law 502 = .ok (.lcmp, 1) := dk_148 (dk_at dksL_law_17 5 rfl rfl)
theorem dL_law_503 : decode cL_law 503 = .ok (.ifCond .eq 5, 3) := dk_153 0 5 (dk_at dksL_law_17 6 rfl rfl)
theorem dL_law_506 : decode cL_law 506 = .ok (.iconst 0, 1) := dk_3 (dk_at dksL_law_17 9 rfl rfl)
theorem dL_law_507 : decode cL_law 507 = .ok (.ireturn, 1) := dk_172 (dk_at dksL_law_17 10 rfl rfl)
theorem dL_law_508 : decode cL_law 508 = .ok (.goto 1258, 3) := dk_167 4 234 (dk_at dksL_law_17 11 rfl rfl)
theorem dL_law_511 : decode cL_law 511 = .ok (.aload_n 1, 1) := dk_43 (dk_at dksL_law_17 14 rfl rfl)
theorem dL_law_512 : decode cL_law 512 = .ok (.aload_n 0, 1) := dk_42 (dk_at dksL_law_17 15 rfl rfl)
theorem dL_law_513 : decode cL_law 513 = .ok (.iload 4, 2) := dk_21 4 (dk_at dksL_law_17 16 rfl rfl)
theorem dL_law_515 : decode cL_law 515 = .ok (.iconst 1, 1) := dk_4 (dk_at dksL_law_17 18 rfl rfl)
theorem dL_law_516 : decode cL_law 516 = .ok (.iadd, 1) := dk_96 (dk_at dksL_law_17 19 rfl rfl)
theorem dL_law_517 : decode cL_law 517 = .ok (.iaload, 1) := dk_46 (dk_at dksL_law_17 20 rfl rfl)
theorem dL_law_518 : decode cL_law 518 = .ok (.aload_n 3, 1) := dk_45 (dk_at dksL_law_17 21 rfl rfl)
theorem dL_law_519 : decode cL_law 519 = .ok (.invokestatic 129, 3) := dk_184 0 129 (dk_at dksL_law_18 0 rfl rfl)
theorem dL_law_522 : decode cL_law 522 = .ok (.istore 5, 2) := dk_54 5 (dk_at dksL_law_18 3 rfl rfl)
theorem dL_law_524 : decode cL_law 524 = .ok (.aload_n 2, 1) := dk_44 (dk_at dksL_law_18 5 rfl rfl)
theorem dL_law_525 : decode cL_law 525 = .ok (.aload_n 0, 1) := dk_42 (dk_at dksL_law_18 6 rfl rfl)
theorem dL_law_526 : decode cL_law 526 = .ok (.iload 4, 2) := dk_21 4 (dk_at dksL_law_18 7 rfl rfl)
theorem dL_law_528 : decode cL_law 528 = .ok (.iconst 1, 1) := dk_4 (dk_at dksL_law_18 9 rfl rfl)
theorem dL_law_529 : decode cL_law 529 = .ok (.iadd, 1) := dk_96 (dk_at dksL_law_18 10 rfl rfl)
theorem dL_law_530 : decode cL_law 530 = .ok (.iaload, 1) := dk_46 (dk_at dksL_law_18 11 rfl rfl)
theorem dL_law_531 : decode cL_law 531 = .ok (.invokevirtual 132, 3) := dk_182 0 132 (dk_at dksL_law_18 12 rfl rfl)
theorem dL_law_534 : decode cL_law 534 = .ok (.istore 6, 2) := dk_54 6 (dk_at dksL_law_18 15 rfl rfl)
theorem dL_law_536 : decode cL_law 536 = .ok (.aload_n 2, 1) := dk_44 (dk_at dksL_law_18 17 rfl rfl)
theorem dL_law_537 : decode cL_law 537 = .ok (.invokevirtual 111, 3) := dk_182 0 111 (dk_at dksL_law_18 18 rfl rfl)
theorem dL_law_540 : decode cL_law 540 = .ok (.iload 5, 2) := dk_21 5 (dk_at dksL_law_18 21 rfl rfl)
theorem dL_law_542 : decode cL_law 542 = .ok (.if_icmp .eq 5, 3) := dk_159 0 5 (dk_at dksL_law_19 0 rfl rfl)
theorem dL_law_545 : decode cL_law 545 = .ok (.iconst 0, 1) := dk_3 (dk_at dksL_law_19 3 rfl rfl)
theorem dL_law_546 : decode cL_law 546 = .ok (.ireturn, 1) := dk_172 (dk_at dksL_law_19 4 rfl rfl)
theorem dL_law_547 : decode cL_law 547 = .ok (.iload 5, 2) := dk_21 5 (dk_at dksL_law_19 5 rfl rfl)
theorem dL_law_549 : decode cL_law 549 = .ok (.ifCond .ne 15, 3) := dk_154 0 15 (dk_at dksL_law_19 7 rfl rfl)
theorem dL_law_552 : decode cL_law 552 = .ok (.aload_n 3, 1) := dk_45 (dk_at dksL_law_19 10 rfl rfl)
theorem dL_law_553 : decode cL_law 553 = .ok (.iconst 0, 1) := dk_3 (dk_at dksL_law_19 11 rfl rfl)
theorem dL_law_554 : decode cL_law 554 = .ok (.laload, 1) := dk_47 (dk_at dksL_law_19 12 rfl rfl)
theorem dL_law_555 : decode cL_law 555 = .ok (.iload 6, 2) := dk_21 6 (dk_at dksL_law_19 13 rfl rfl)
theorem dL_law_557 : decode cL_law 557 = .ok (.i2l, 1) := dk_133 (dk_at dksL_law_19 15 rfl rfl)
theorem dL_law_558 : decode cL_law 558 = .ok (.lcmp, 1) := dk_148 (dk_at dksL_law_19 16 rfl rfl)
theorem dL_law_559 : decode cL_law 559 = .ok (.ifCond .eq 5, 3) := dk_153 0 5 (dk_at dksL_law_19 17 rfl rfl)
theorem dL_law_562 : decode cL_law 562 = .ok (.iconst 0, 1) := dk_3 (dk_at dksL_law_19 20 rfl rfl)
theorem dL_law_563 : decode cL_law 563 = .ok (.ireturn, 1) := dk_172 (dk_at dksL_law_19 21 rfl rfl)
theorem dL_law_564 : decode cL_law 564 = .ok (.goto 1202, 3) := dk_167 4 178 (dk_at dksL_law_20 0 rfl rfl)
theorem dL_law_567 : decode cL_law 567 = .ok (.aload_n 1, 1) := dk_43 (dk_at dksL_law_20 3 rfl rfl)
theorem dL_law_568 : decode cL_law 568 = .ok (.aload_n 0, 1) := dk_42 (dk_at dksL_law_20 4 rfl rfl)
theorem dL_law_569 : decode cL_law 569 = .ok (.iload 4, 2) := dk_21 4 (dk_at dksL_law_20 5 rfl rfl)
theorem dL_law_571 : decode cL_law 571 = .ok (.iconst 1, 1) := dk_4 (dk_at dksL_law_20 7 rfl rfl)
theorem dL_law_572 : decode cL_law 572 = .ok (.iadd, 1) := dk_96 (dk_at dksL_law_20 8 rfl rfl)
theorem dL_law_573 : decode cL_law 573 = .ok (.iaload, 1) := dk_46 (dk_at dksL_law_20 9 rfl rfl)
theorem dL_law_574 : decode cL_law 574 = .ok (.aload_n 0, 1) := dk_42 (dk_at dksL_law_20 10 rfl rfl)
theorem dL_law_575 : decode cL_law 575 = .ok (.iload 4, 2) := dk_21 4 (dk_at dksL_law_20 11 rfl rfl)
theorem dL_law_577 : decode cL_law 577 = .ok (.iconst 2, 1) := dk_5 (dk_at dksL_law_20 13 rfl rfl)
theorem dL_law_578 : decode cL_law 578 = .ok (.iadd, 1) := dk_96 (dk_at dksL_law_20 14 rfl rfl)
theorem dL_law_579 : decode cL_law 579 = .ok (.iaload, 1) := dk_46 (dk_at dksL_law_20 15 rfl rfl)
theorem dL_law_580 : decode cL_law 580 = .ok (.aload_n 0, 1) := dk_42 (dk_at dksL_law_20 16 rfl rfl)
theorem dL_law_581 : decode cL_law 581 = .ok (.iload 4, 2) := dk_21 4 (dk_at dksL_law_20 17 rfl rfl)
theorem dL_law_583 : decode cL_law 583 = .ok (.iconst 3, 1) := dk_6 (dk_at dksL_law_20 19 rfl rfl)
theorem dL_law_584 : decode cL_law 584 = .ok (.iadd, 1) := dk_96 (dk_at dksL_law_20 20 rfl rfl)
theorem dL_law_585 : decode cL_law 585 = .ok (.iaload, 1) := dk_46 (dk_at dksL_law_20 21 rfl rfl)
theorem dL_law_586 : decode cL_law 586 = .ok (.invokestatic 133, 3) := dk_184 0 133 (dk_at dksL_law_21 0 rfl rfl)
theorem dL_law_589 : decode cL_law 589 = .ok (.istore 5, 2) := dk_54 5 (dk_at dksL_law_21 3 rfl rfl)
theorem dL_law_591 : decode cL_law 591 = .ok (.aload_n 2, 1) := dk_44 (dk_at dksL_law_21 5 rfl rfl)
theorem dL_law_592 : decode cL_law 592 = .ok (.aload_n 0, 1) := dk_42 (dk_at dksL_law_21 6 rfl rfl)
theorem dL_law_593 : decode cL_law 593 = .ok (.iload 4, 2) := dk_21 4 (dk_at dksL_law_21 7 rfl rfl)
theorem dL_law_595 : decode cL_law 595 = .ok (.iconst 1, 1) := dk_4 (dk_at dksL_law_21 9 rfl rfl)
theorem dL_law_596 : decode cL_law 596 = .ok (.iadd, 1) := dk_96 (dk_at dksL_law_21 10 rfl rfl)
theorem dL_law_597 : decode cL_law 597 = .ok (.iaload, 1) := dk_46 (dk_at dksL_law_21 11 rfl rfl)
theorem dL_law_598 : decode cL_law 598 = .ok (.aload_n 0, 1) := dk_42 (dk_at dksL_law_21 12 rfl rfl)
theorem dL_law_599 : decode cL_law 599 = .ok (.iload 4, 2) := dk_21 4 (dk_at dksL_law_21 13 rfl rfl)
theorem dL_law_601 : decode cL_law 601 = .ok (.iconst 2, 1) := dk_5 (dk_at dksL_law_21 15 rfl rfl)
theorem dL_law_602 : decode cL_law 602 = .ok (.iadd, 1) := dk_96 (dk_at dksL_law_21 16 rfl rfl)
theorem dL_law_603 : decode cL_law 603 = .ok (.iaload, 1) := dk_46 (dk_at dksL_law_21 17 rfl rfl)
theorem dL_law_604 : decode cL_law 604 = .ok (.aload_n 0, 1) := dk_42 (dk_at dksL_law_21 18 rfl rfl)
theorem dL_law_605 : decode cL_law 605 = .ok (.iload 4, 2) := dk_21 4 (dk_at dksL_law_21 19 rfl rfl)
theorem dL_law_607 : decode cL_law 607 = .ok (.iconst 3, 1) := dk_6 (dk_at dksL_law_21 21 rfl rfl)
theorem dL_law_608 : decode cL_law 608 = .ok (.iadd, 1) := dk_96 (dk_at dksL_law_21 22 rfl rfl)
theorem dL_law_609 : decode cL_law 609 = .ok (.iaload, 1) := dk_46 (dk_at dksL_law_21 23 rfl rfl)
theorem dL_law_610 : decode cL_law 610 = .ok (.invokevirtual 136, 3) := dk_182 0 136 (dk_at dksL_law_22 0 rfl rfl)
theorem dL_law_613 : decode cL_law 613 = .ok (.aload_n 2, 1) := dk_44 (dk_at dksL_law_22 3 rfl rfl)
theorem dL_law_614 : decode cL_law 614 = .ok (.invokevirtual 111, 3) := dk_182 0 111 (dk_at dksL_law_22 4 rfl rfl)
theorem dL_law_617 : decode cL_law 617 = .ok (.iload 5, 2) := dk_21 5 (dk_at dksL_law_22 7 rfl rfl)
theorem dL_law_619 : decode cL_law 619 = .ok (.if_icmp .eq 5, 3) := dk_159 0 5 (dk_at dksL_law_22 9 rfl rfl)
theorem dL_law_622 : decode cL_law 622 = .ok (.iconst 0, 1) := dk_3 (dk_at dksL_law_22 12 rfl rfl)
theorem dL_law_623 : decode cL_law 623 = .ok (.ireturn, 1) := dk_172 (dk_at dksL_law_22 13 rfl rfl)
theorem dL_law_624 : decode cL_law 624 = .ok (.goto 1142, 3) := dk_167 4 118 (dk_at dksL_law_22 14 rfl rfl)
theorem dL_law_627 : decode cL_law 627 = .ok (.aload_n 1, 1) := dk_43 (dk_at dksL_law_22 17 rfl rfl)
theorem dL_law_628 : decode cL_law 628 = .ok (.aload_n 0, 1) := dk_42 (dk_at dksL_law_22 18 rfl rfl)
theorem dL_law_629 : decode cL_law 629 = .ok (.iload 4, 2) := dk_21 4 (dk_at dksL_law_22 19 rfl rfl)
theorem dL_law_631 : decode cL_law 631 = .ok (.iconst 1, 1) := dk_4 (dk_at dksL_law_22 21 rfl rfl)
theorem dL_law_632 : decode cL_law 632 = .ok (.iadd, 1) := dk_96 (dk_at dksL_law_22 22 rfl rfl)
theorem dL_law_633 : decode cL_law 633 = .ok (.iaload, 1) := dk_46 (dk_at dksL_law_22 23 rfl rfl)
theorem dL_law_634 : decode cL_law 634 = .ok (.aload_n 0, 1) := dk_42 (dk_at dksL_law_23 0 rfl rfl)
theorem dL_law_635 : decode cL_law 635 = .ok (.iload 4, 2) := dk_21 4 (dk_at dksL_law_23 1 rfl rfl)
theorem dL_law_637 : decode cL_law 637 = .ok (.iconst 2, 1) := dk_5 (dk_at dksL_law_23 3 rfl rfl)
theorem dL_law_638 : decode cL_law 638 = .ok (.iadd, 1) := dk_96 (dk_at dksL_law_23 4 rfl rfl)
theorem dL_law_639 : decode cL_law 639 = .ok (.iaload, 1) := dk_46 (dk_at dksL_law_23 5 rfl rfl)
theorem dL_law_640 : decode cL_law 640 = .ok (.invokestatic 137, 3) := dk_184 0 137 (dk_at dksL_law_23 6 rfl rfl)
theorem dL_law_643 : decode cL_law 643 = .ok (.istore 5, 2) := dk_54 5 (dk_at dksL_law_23 9 rfl rfl)
theorem dL_law_645 : decode cL_law 645 = .ok (.aload_n 2, 1) := dk_44 (dk_at dksL_law_23 11 rfl rfl)
theorem dL_law_646 : decode cL_law 646 = .ok (.aload_n 0, 1) := dk_42 (dk_at dksL_law_23 12 rfl rfl)
theorem dL_law_647 : decode cL_law 647 = .ok (.iload 4, 2) := dk_21 4 (dk_at dksL_law_23 13 rfl rfl)
theorem dL_law_649 : decode cL_law 649 = .ok (.iconst 1, 1) := dk_4 (dk_at dksL_law_23 15 rfl rfl)
theorem dL_law_650 : decode cL_law 650 = .ok (.iadd, 1) := dk_96 (dk_at dksL_law_23 16 rfl rfl)
theorem dL_law_651 : decode cL_law 651 = .ok (.iaload, 1) := dk_46 (dk_at dksL_law_23 17 rfl rfl)
theorem dL_law_652 : decode cL_law 652 = .ok (.aload_n 0, 1) := dk_42 (dk_at dksL_law_23 18 rfl rfl)
theorem dL_law_653 : decode cL_law 653 = .ok (.iload 4, 2) := dk_21 4 (dk_at dksL_law_23 19 rfl rfl)
theorem dL_law_655 : decode cL_law 655 = .ok (.iconst 2, 1) := dk_5 (dk_at dksL_law_23 21 rfl rfl)
theorem dL_law_656 : decode cL_law 656 = .ok (.iadd, 1) := dk_96 (dk_at dksL_law_23 22 rfl rfl)
theorem dL_law_657 : decode cL_law 657 = .ok (.iaload, 1) := dk_46 (dk_at dksL_law_23 23 rfl rfl)
theorem dL_law_658 : decode cL_law 658 = .ok (.invokevirtual 140, 3) := dk_182 0 140 (dk_at dksL_law_24 0 rfl rfl)
theorem dL_law_661 : decode cL_law 661 = .ok (.aload_n 2, 1) := dk_44 (dk_at dksL_law_24 3 rfl rfl)
theorem dL_law_662 : decode cL_law 662 = .ok (.invokevirtual 111, 3) := dk_182 0 111 (dk_at dksL_law_24 4 rfl rfl)
theorem dL_law_665 : decode cL_law 665 = .ok (.iload 5, 2) := dk_21 5 (dk_at dksL_law_24 7 rfl rfl)
theorem dL_law_667 : decode cL_law 667 = .ok (.if_icmp .eq 5, 3) := dk_159 0 5 (dk_at dksL_law_24 9 rfl rfl)
theorem dL_law_670 : decode cL_law 670 = .ok (.iconst 0, 1) := dk_3 (dk_at dksL_law_24 12 rfl rfl)
theorem dL_law_671 : decode cL_law 671 = .ok (.ireturn, 1) := dk_172 (dk_at dksL_law_24 13 rfl rfl)
theorem dL_law_672 : decode cL_law 672 = .ok (.goto 1094, 3) := dk_167 4 70 (dk_at dksL_law_24 14 rfl rfl)
theorem dL_law_675 : decode cL_law 675 = .ok (.aload_n 1, 1) := dk_43 (dk_at dksL_law_24 17 rfl rfl)
theorem dL_law_676 : decode cL_law 676 = .ok (.aload_n 0, 1) := dk_42 (dk_at dksL_law_24 18 rfl rfl)
theorem dL_law_677 : decode cL_law 677 = .ok (.iload 4, 2) := dk_21 4 (dk_at dksL_law_24 19 rfl rfl)
theorem dL_law_679 : decode cL_law 679 = .ok (.iconst 1, 1) := dk_4 (dk_at dksL_law_24 21 rfl rfl)
theorem dL_law_680 : decode cL_law 680 = .ok (.iadd, 1) := dk_96 (dk_at dksL_law_24 22 rfl rfl)
theorem dL_law_681 : decode cL_law 681 = .ok (.iaload, 1) := dk_46 (dk_at dksL_law_24 23 rfl rfl)
theorem dL_law_682 : decode cL_law 682 = .ok (.aload_n 0, 1) := dk_42 (dk_at dksL_law_25 0 rfl rfl)
theorem dL_law_683 : decode cL_law 683 = .ok (.iload 4, 2) := dk_21 4 (dk_at dksL_law_25 1 rfl rfl)
theorem dL_law_685 : decode cL_law 685 = .ok (.iconst 2, 1) := dk_5 (dk_at dksL_law_25 3 rfl rfl)
theorem dL_law_686 : decode cL_law 686 = .ok (.iadd, 1) := dk_96 (dk_at dksL_law_25 4 rfl rfl)
theorem dL_law_687 : decode cL_law 687 = .ok (.iaload, 1) := dk_46 (dk_at dksL_law_25 5 rfl rfl)
theorem dL_law_688 : decode cL_law 688 = .ok (.invokestatic 141, 3) := dk_184 0 141 (dk_at dksL_law_25 6 rfl rfl)
theorem dL_law_691 : decode cL_law 691 = .ok (.istore 5, 2) := dk_54 5 (dk_at dksL_law_25 9 rfl rfl)
theorem dL_law_693 : decode cL_law 693 = .ok (.aload_n 2, 1) := dk_44 (dk_at dksL_law_25 11 rfl rfl)
theorem dL_law_694 : decode cL_law 694 = .ok (.aload_n 0, 1) := dk_42 (dk_at dksL_law_25 12 rfl rfl)
theorem dL_law_695 : decode cL_law 695 = .ok (.iload 4, 2) := dk_21 4 (dk_at dksL_law_25 13 rfl rfl)
theorem dL_law_697 : decode cL_law 697 = .ok (.iconst 1, 1) := dk_4 (dk_at dksL_law_25 15 rfl rfl)
theorem dL_law_698 : decode cL_law 698 = .ok (.iadd, 1) := dk_96 (dk_at dksL_law_25 16 rfl rfl)
theorem dL_law_699 : decode cL_law 699 = .ok (.iaload, 1) := dk_46 (dk_at dksL_law_25 17 rfl rfl)
theorem dL_law_700 : decode cL_law 700 = .ok (.aload_n 0, 1) := dk_42 (dk_at dksL_law_25 18 rfl rfl)
theorem dL_law_701 : decode cL_law 701 = .ok (.iload 4, 2) := dk_21 4 (dk_at dksL_law_25 19 rfl rfl)
theorem dL_law_703 : decode cL_law 703 = .ok (.iconst 2, 1) := dk_5 (dk_at dksL_law_25 21 rfl rfl)
theorem dL_law_704 : decode cL_law 704 = .ok (.iadd, 1) := dk_96 (dk_at dksL_law_25 22 rfl rfl)
theorem dL_law_705 : decode cL_law 705 = .ok (.iaload, 1) := dk_46 (dk_at dksL_law_25 23 rfl rfl)
theorem dL_law_706 : decode cL_law 706 = .ok (.invokevirtual 143, 3) := dk_182 0 143 (dk_at dksL_law_26 0 rfl rfl)
theorem dL_law_709 : decode cL_law 709 = .ok (.aload_n 2, 1) := dk_44 (dk_at dksL_law_26 3 rfl rfl)
theorem dL_law_710 : decode cL_law 710 = .ok (.invokevirtual 111, 3) := dk_182 0 111 (dk_at dksL_law_26 4 rfl rfl)
theorem dL_law_713 : decode cL_law 713 = .ok (.iload 5, 2) := dk_21 5 (dk_at dksL_law_26 7 rfl rfl)
theorem dL_law_715 : decode cL_law 715 = .ok (.if_icmp .eq 5, 3) := dk_159 0 5 (dk_at dksL_law_26 9 rfl rfl)
theorem dL_law_718 : decode cL_law 718 = .ok (.iconst 0, 1) := dk_3 (dk_at dksL_law_26 12 rfl rfl)
theorem dL_law_719 : decode cL_law 719 = .ok (.ireturn, 1) := dk_172 (dk_at dksL_law_26 13 rfl rfl)
theorem dL_law_720 : decode cL_law 720 = .ok (.goto 1046, 3) := dk_167 4 22 (dk_at dksL_law_26 14 rfl rfl)
theorem dL_law_723 : decode cL_law 723 = .ok (.aload_n 1, 1) := dk_43 (dk_at dksL_law_26 17 rfl rfl)
theorem dL_law_724 : decode cL_law 724 = .ok (.aload_n 0, 1) := dk_42 (dk_at dksL_law_26 18 rfl rfl)
theorem dL_law_725 : decode cL_law 725 = .ok (.iload 4, 2) := dk_21 4 (dk_at dksL_law_26 19 rfl rfl)
theorem dL_law_727 : decode cL_law 727 = .ok (.iconst 1, 1) := dk_4 (dk_at dksL_law_26 21 rfl rfl)
theorem dL_law_728 : decode cL_law 728 = .ok (.iadd, 1) := dk_96 (dk_at dksL_law_26 22 rfl rfl)
theorem dL_law_729 : decode cL_law 729 = .ok (.iaload, 1) := dk_46 (dk_at dksL_law_26 23 rfl rfl)
theorem dL_law_730 : decode cL_law 730 = .ok (.aload_n 3, 1) := dk_45 (dk_at dksL_law_27 0 rfl rfl)
theorem dL_law_731 : decode cL_law 731 = .ok (.invokestatic 144, 3) := dk_184 0 144 (dk_at dksL_law_27 1 rfl rfl)
theorem dL_law_734 : decode cL_law 734 = .ok (.istore 5, 2) := dk_54 5 (dk_at dksL_law_27 4 rfl rfl)
theorem dL_law_736 : decode cL_law 736 = .ok (.aload_n 2, 1) := dk_44 (dk_at dksL_law_27 6 rfl rfl)
theorem dL_law_737 : decode cL_law 737 = .ok (.aload_n 0, 1) := dk_42 (dk_at dksL_law_27 7 rfl rfl)
theorem dL_law_738 : decode cL_law 738 = .ok (.iload 4, 2) := dk_21 4 (dk_at dksL_law_27 8 rfl rfl)
theorem dL_law_740 : decode cL_law 740 = .ok (.iconst 1, 1) := dk_4 (dk_at dksL_law_27 10 rfl rfl)
theorem dL_law_741 : decode cL_law 741 = .ok (.iadd, 1) := dk_96 (dk_at dksL_law_27 11 rfl rfl)
theorem dL_law_742 : decode cL_law 742 = .ok (.iaload, 1) := dk_46 (dk_at dksL_law_27 12 rfl rfl)
theorem dL_law_743 : decode cL_law 743 = .ok (.invokevirtual 146, 3) := dk_182 0 146 (dk_at dksL_law_27 13 rfl rfl)
theorem dL_law_746 : decode cL_law 746 = .ok (.istore 6, 2) := dk_54 6 (dk_at dksL_law_27 16 rfl rfl)
theorem dL_law_748 : decode cL_law 748 = .ok (.aload_n 2, 1) := dk_44 (dk_at dksL_law_27 18 rfl rfl)
theorem dL_law_749 : decode cL_law 749 = .ok (.invokevirtual 111, 3) := dk_182 0 111 (dk_at dksL_law_27 19 rfl rfl)
theorem dL_law_752 : decode cL_law 752 = .ok (.iload 5, 2) := dk_21 5 (dk_at dksL_law_27 22 rfl rfl)
theorem dL_law_754 : decode cL_law 754 = .ok (.if_icmp .eq 5, 3) := dk_159 0 5 (dk_at dksL_law_28 0 rfl rfl)
theorem dL_law_757 : decode cL_law 757 = .ok (.iconst 0, 1) := dk_3 (dk_at dksL_law_28 3 rfl rfl)
theorem dL_law_758 : decode cL_law 758 = .ok (.ireturn, 1) := dk_172 (dk_at dksL_law_28 4 rfl rfl)
theorem dL_law_759 : decode cL_law 759 = .ok (.iload 5, 2) := dk_21 5 (dk_at dksL_law_28 5 rfl rfl)
theorem dL_law_761 : decode cL_law 761 = .ok (.ifCond .ne 15, 3) := dk_154 0 15 (dk_at dksL_law_28 7 rfl rfl)
theorem dL_law_764 : decode cL_law 764 = .ok (.aload_n 3, 1) := dk_45 (dk_at dksL_law_28 10 rfl rfl)
theorem dL_law_765 : decode cL_law 765 = .ok (.iconst 0, 1) := dk_3 (dk_at dksL_law_28 11 rfl rfl)
theorem dL_law_766 : decode cL_law 766 = .ok (.laload, 1) := dk_47 (dk_at dksL_law_28 12 rfl rfl)
theorem dL_law_767 : decode cL_law 767 = .ok (.iload 6, 2) := dk_21 6 (dk_at dksL_law_28 13 rfl rfl)
theorem dL_law_769 : decode cL_law 769 = .ok (.i2l, 1) := dk_133 (dk_at dksL_law_28 15 rfl rfl)
theorem dL_law_770 : decode cL_law 770 = .ok (.lcmp, 1) := dk_148 (dk_at dksL_law_28 16 rfl rfl)
theorem dL_law_771 : decode cL_law 771 = .ok (.ifCond .eq 5, 3) := dk_153 0 5 (dk_at dksL_law_28 17 rfl rfl)
theorem dL_law_774 : decode cL_law 774 = .ok (.iconst 0, 1) := dk_3 (dk_at dksL_law_28 20 rfl rfl)
theorem dL_law_775 : decode cL_law 775 = .ok (.ireturn, 1) := dk_172 (dk_at dksL_law_28 21 rfl rfl)
theorem dL_law_776 : decode cL_law 776 = .ok (.goto 990, 3) := dk_167 3 222 (dk_at dksL_law_29 0 rfl rfl)
theorem dL_law_779 : decode cL_law 779 = .ok (.aload_n 1, 1) := dk_43 (dk_at dksL_law_29 3 rfl rfl)
theorem dL_law_780 : decode cL_law 780 = .ok (.aload_n 0, 1) := dk_42 (dk_at dksL_law_29 4 rfl rfl)
theorem dL_law_781 : decode cL_law 781 = .ok (.iload 4, 2) := dk_21 4 (dk_at dksL_law_29 5 rfl rfl)
theorem dL_law_783 : decode cL_law 783 = .ok (.iconst 1, 1) := dk_4 (dk_at dksL_law_29 7 rfl rfl)
theorem dL_law_784 : decode cL_law 784 = .ok (.iadd, 1) := dk_96 (dk_at dksL_law_29 8 rfl rfl)
theorem dL_law_785 : decode cL_law 785 = .ok (.iaload, 1) := dk_46 (dk_at dksL_law_29 9 rfl rfl)
theorem dL_law_786 : decode cL_law 786 = .ok (.aload_n 0, 1) := dk_42 (dk_at dksL_law_29 10 rfl rfl)
theorem dL_law_787 : decode cL_law 787 = .ok (.iload 4, 2) := dk_21 4 (dk_at dksL_law_29 11 rfl rfl)
theorem dL_law_789 : decode cL_law 789 = .ok (.iconst 2, 1) := dk_5 (dk_at dksL_law_29 13 rfl rfl)
theorem dL_law_790 : decode cL_law 790 = .ok (.iadd, 1) := dk_96 (dk_at dksL_law_29 14 rfl rfl)
theorem dL_law_791 : decode cL_law 791 = .ok (.iaload, 1) := dk_46 (dk_at dksL_law_29 15 rfl rfl)
theorem dL_law_792 : decode cL_law 792 = .ok (.aload_n 3, 1) := dk_45 (dk_at dksL_law_29 16 rfl rfl)
theorem dL_law_793 : decode cL_law 793 = .ok (.invokestatic 147, 3) := dk_184 0 147 (dk_at dksL_law_29 17 rfl rfl)
theorem dL_law_796 : decode cL_law 796 = .ok (.istore 5, 2) := dk_54 5 (dk_at dksL_law_29 20 rfl rfl)
theorem dL_law_798 : decode cL_law 798 = .ok (.aload_n 2, 1) := dk_44 (dk_at dksL_law_29 22 rfl rfl)
theorem dL_law_799 : decode cL_law 799 = .ok (.aload_n 0, 1) := dk_42 (dk_at dksL_law_29 23 rfl rfl)
theorem dL_law_800 : decode cL_law 800 = .ok (.iload 4, 2) := dk_21 4 (dk_at dksL_law_30 0 rfl rfl)
theorem dL_law_802 : decode cL_law 802 = .ok (.iconst 1, 1) := dk_4 (dk_at dksL_law_30 2 rfl rfl)
theorem dL_law_803 : decode cL_law 803 = .ok (.iadd, 1) := dk_96 (dk_at dksL_law_30 3 rfl rfl)
theorem dL_law_804 : decode cL_law 804 = .ok (.iaload, 1) := dk_46 (dk_at dksL_law_30 4 rfl rfl)
theorem dL_law_805 : decode cL_law 805 = .ok (.aload_n 0, 1) := dk_42 (dk_at dksL_law_30 5 rfl rfl)
theorem dL_law_806 : decode cL_law 806 = .ok (.iload 4, 2) := dk_21 4 (dk_at dksL_law_30 6 rfl rfl)
theorem dL_law_808 : decode cL_law 808 = .ok (.iconst 2, 1) := dk_5 (dk_at dksL_law_30 8 rfl rfl)
theorem dL_law_809 : decode cL_law 809 = .ok (.iadd, 1) := dk_96 (dk_at dksL_law_30 9 rfl rfl)
theorem dL_law_810 : decode cL_law 810 = .ok (.iaload, 1) := dk_46 (dk_at dksL_law_30 10 rfl rfl)
theorem dL_law_811 : decode cL_law 811 = .ok (.invokevirtual 149, 3) := dk_182 0 149 (dk_at dksL_law_30 11 rfl rfl)
theorem dL_law_814 : decode cL_law 814 = .ok (.istore 6, 2) := dk_54 6 (dk_at dksL_law_30 14 rfl rfl)
theorem dL_law_816 : decode cL_law 816 = .ok (.aload_n 2, 1) := dk_44 (dk_at dksL_law_30 16 rfl rfl)
theorem dL_law_817 : decode cL_law 817 = .ok (.invokevirtual 111, 3) := dk_182 0 111 (dk_at dksL_law_30 17 rfl rfl)
theorem dL_law_820 : decode cL_law 820 = .ok (.iload 5, 2) := dk_21 5 (dk_at dksL_law_30 20 rfl rfl)
theorem dL_law_822 : decode cL_law 822 = .ok (.if_icmp .eq 5, 3) := dk_159 0 5 (dk_at dksL_law_31 0 rfl rfl)
theorem dL_law_825 : decode cL_law 825 = .ok (.iconst 0, 1) := dk_3 (dk_at dksL_law_31 3 rfl rfl)
theorem dL_law_826 : decode cL_law 826 = .ok (.ireturn, 1) := dk_172 (dk_at dksL_law_31 4 rfl rfl)
theorem dL_law_827 : decode cL_law 827 = .ok (.iload 5, 2) := dk_21 5 (dk_at dksL_law_31 5 rfl rfl)
theorem dL_law_829 : decode cL_law 829 = .ok (.ifCond .ne 15, 3) := dk_154 0 15 (dk_at dksL_law_31 7 rfl rfl)
theorem dL_law_832 : decode cL_law 832 = .ok (.aload_n 3, 1) := dk_45 (dk_at dksL_law_31 10 rfl rfl)
theorem dL_law_833 : decode cL_law 833 = .ok (.iconst 0, 1) := dk_3 (dk_at dksL_law_31 11 rfl rfl)
theorem dL_law_834 : decode cL_law 834 = .ok (.laload, 1) := dk_47 (dk_at dksL_law_31 12 rfl rfl)
theorem dL_law_835 : decode cL_law 835 = .ok (.iload 6, 2) := dk_21 6 (dk_at dksL_law_31 13 rfl rfl)
theorem dL_law_837 : decode cL_law 837 = .ok (.i2l, 1) := dk_133 (dk_at dksL_law_31 15 rfl rfl)
theorem dL_law_838 : decode cL_law 838 = .ok (.lcmp, 1) := dk_148 (dk_at dksL_law_31 16 rfl rfl)
theorem dL_law_839 : decode cL_law 839 = .ok (.ifCond .eq 5, 3) := dk_153 0 5 (dk_at dksL_law_31 17 rfl rfl)
theorem dL_law_842 : decode cL_law 842 = .ok (.iconst 0, 1) := dk_3 (dk_at dksL_law_31 20 rfl rfl)
theorem dL_law_843 : decode cL_law 843 = .ok (.ireturn, 1) := dk_172 (dk_at dksL_law_31 21 rfl rfl)
theorem dL_law_844 : decode cL_law 844 = .ok (.goto 922, 3) := dk_167 3 154 (dk_at dksL_law_32 0 rfl rfl)
theorem dL_law_847 : decode cL_law 847 = .ok (.aload_n 1, 1) := dk_43 (dk_at dksL_law_32 3 rfl rfl)
theorem dL_law_848 : decode cL_law 848 = .ok (.aload_n 0, 1) := dk_42 (dk_at dksL_law_32 4 rfl rfl)
theorem dL_law_849 : decode cL_law 849 = .ok (.iload 4, 2) := dk_21 4 (dk_at dksL_law_32 5 rfl rfl)
theorem dL_law_851 : decode cL_law 851 = .ok (.iconst 1, 1) := dk_4 (dk_at dksL_law_32 7 rfl rfl)
theorem dL_law_852 : decode cL_law 852 = .ok (.iadd, 1) := dk_96 (dk_at dksL_law_32 8 rfl rfl)
theorem dL_law_853 : decode cL_law 853 = .ok (.iaload, 1) := dk_46 (dk_at dksL_law_32 9 rfl rfl)
theorem dL_law_854 : decode cL_law 854 = .ok (.aload_n 3, 1) := dk_45 (dk_at dksL_law_32 10 rfl rfl)
theorem dL_law_855 : decode cL_law 855 = .ok (.invokestatic 150, 3) := dk_184 0 150 (dk_at dksL_law_32 11 rfl rfl)
theorem dL_law_858 : decode cL_law 858 = .ok (.istore 5, 2) := dk_54 5 (dk_at dksL_law_32 14 rfl rfl)
theorem dL_law_860 : decode cL_law 860 = .ok (.aload_n 2, 1) := dk_44 (dk_at dksL_law_32 16 rfl rfl)
theorem dL_law_861 : decode cL_law 861 = .ok (.aload_n 0, 1) := dk_42 (dk_at dksL_law_32 17 rfl rfl)
theorem dL_law_862 : decode cL_law 862 = .ok (.iload 4, 2) := dk_21 4 (dk_at dksL_law_32 18 rfl rfl)
theorem dL_law_864 : decode cL_law 864 = .ok (.iconst 1, 1) := dk_4 (dk_at dksL_law_32 20 rfl rfl)
theorem dL_law_865 : decode cL_law 865 = .ok (.iadd, 1) := dk_96 (dk_at dksL_law_32 21 rfl rfl)
theorem dL_law_866 : decode cL_law 866 = .ok (.iaload, 1) := dk_46 (dk_at dksL_law_32 22 rfl rfl)
theorem dL_law_867 : decode cL_law 867 = .ok (.invokevirtual 152, 3) := dk_182 0 152 (dk_at dksL_law_33 0 rfl rfl)
theorem dL_law_870 : decode cL_law 870 = .ok (.istore 6, 2) := dk_54 6 (dk_at dksL_law_33 3 rfl rfl)
theorem dL_law_872 : decode cL_law 872 = .ok (.aload_n 2, 1) := dk_44 (dk_at dksL_law_33 5 rfl rfl)
theorem dL_law_873 : decode cL_law 873 = .ok (.invokevirtual 111, 3) := dk_182 0 111 (dk_at dksL_law_33 6 rfl rfl)
theorem dL_law_876 : decode cL_law 876 = .ok (.iload 5, 2) := dk_21 5 (dk_at dksL_law_33 9 rfl rfl)
theorem dL_law_878 : decode cL_law 878 = .ok (.if_icmp .eq 5, 3) := dk_159 0 5 (dk_at dksL_law_33 11 rfl rfl)
theorem dL_law_881 : decode cL_law 881 = .ok (.iconst 0, 1) := dk_3 (dk_at dksL_law_33 14 rfl rfl)
theorem dL_law_882 : decode cL_law 882 = .ok (.ireturn, 1) := dk_172 (dk_at dksL_law_33 15 rfl rfl)
theorem dL_law_883 : decode cL_law 883 = .ok (.iload 5, 2) := dk_21 5 (dk_at dksL_law_33 16 rfl rfl)
theorem dL_law_885 : decode cL_law 885 = .ok (.ifCond .ne 22, 3) := dk_154 0 22 (dk_at dksL_law_33 18 rfl rfl)
theorem dL_law_888 : decode cL_law 888 = .ok (.aload_n 3, 1) := dk_45 (dk_at dksL_law_33 21 rfl rfl)
theorem dL_law_889 : decode cL_law 889 = .ok (.iconst 0, 1) := dk_3 (dk_at dksL_law_33 22 rfl rfl)
theorem dL_law_890 : decode cL_law 890 = .ok (.laload, 1) := dk_47 (dk_at dksL_law_33 23 rfl rfl)
theorem dL_law_891 : decode cL_law 891 = .ok (.iload 6, 2) := dk_21 6 (dk_at dksL_law_34 0 rfl rfl)
theorem dL_law_893 : decode cL_law 893 = .ok (.ifCond .eq 7, 3) := dk_153 0 7 (dk_at dksL_law_34 2 rfl rfl)
theorem dL_law_896 : decode cL_law 896 = .ok (.lconst 1, 1) := dk_10 (dk_at dksL_law_34 5 rfl rfl)
theorem dL_law_897 : decode cL_law 897 = .ok (.goto 4, 3) := dk_167 0 4 (dk_at dksL_law_34 6 rfl rfl)
theorem dL_law_900 : decode cL_law 900 = .ok (.lconst 0, 1) := dk_9 (dk_at dksL_law_34 9 rfl rfl)
theorem dL_law_901 : decode cL_law 901 = .ok (.lcmp, 1) := dk_148 (dk_at dksL_law_34 10 rfl rfl)
theorem dL_law_902 : decode cL_law 902 = .ok (.ifCond .eq 5, 3) := dk_153 0 5 (dk_at dksL_law_34 11 rfl rfl)
theorem dL_law_905 : decode cL_law 905 = .ok (.iconst 0, 1) := dk_3 (dk_at dksL_law_34 14 rfl rfl)
theorem dL_law_906 : decode cL_law 906 = .ok (.ireturn, 1) := dk_172 (dk_at dksL_law_34 15 rfl rfl)
theorem dL_law_907 : decode cL_law 907 = .ok (.goto 859, 3) := dk_167 3 91 (dk_at dksL_law_34 16 rfl rfl)
theorem dL_law_910 : decode cL_law 910 = .ok (.aload_n 1, 1) := dk_43 (dk_at dksL_law_34 19 rfl rfl)
theorem dL_law_911 : decode cL_law 911 = .ok (.aload_n 0, 1) := dk_42 (dk_at dksL_law_34 20 rfl rfl)
theorem dL_law_912 : decode cL_law 912 = .ok (.iload 4, 2) := dk_21 4 (dk_at dksL_law_34 21 rfl rfl)
theorem dL_law_914 : decode cL_law 914 = .ok (.iconst 1, 1) := dk_4 (dk_at dksL_law_34 23 rfl rfl)
theorem dL_law_915 : decode cL_law 915 = .ok (.iadd, 1) := dk_96 (dk_at dksL_law_35 0 rfl rfl)
theorem dL_law_916 : decode cL_law 916 = .ok (.iaload, 1) := dk_46 (dk_at dksL_law_35 1 rfl rfl)
theorem dL_law_917 : decode cL_law 917 = .ok (.aload_n 0, 1) := dk_42 (dk_at dksL_law_35 2 rfl rfl)
theorem dL_law_918 : decode cL_law 918 = .ok (.iload 4, 2) := dk_21 4 (dk_at dksL_law_35 3 rfl rfl)
theorem dL_law_920 : decode cL_law 920 = .ok (.iconst 2, 1) := dk_5 (dk_at dksL_law_35 5 rfl rfl)
theorem dL_law_921 : decode cL_law 921 = .ok (.iadd, 1) := dk_96 (dk_at dksL_law_35 6 rfl rfl)
theorem dL_law_922 : decode cL_law 922 = .ok (.iaload, 1) := dk_46 (dk_at dksL_law_35 7 rfl rfl)
theorem dL_law_923 : decode cL_law 923 = .ok (.aload_n 3, 1) := dk_45 (dk_at dksL_law_35 8 rfl rfl)
theorem dL_law_924 : decode cL_law 924 = .ok (.invokestatic 153, 3) := dk_184 0 153 (dk_at dksL_law_35 9 rfl rfl)
theorem dL_law_927 : decode cL_law 927 = .ok (.istore 5, 2) := dk_54 5 (dk_at dksL_law_35 12 rfl rfl)
theorem dL_law_929 : decode cL_law 929 = .ok (.aload_n 2, 1) := dk_44 (dk_at dksL_law_35 14 rfl rfl)
theorem dL_law_930 : decode cL_law 930 = .ok (.aload_n 0, 1) := dk_42 (dk_at dksL_law_35 15 rfl rfl)
theorem dL_law_931 : decode cL_law 931 = .ok (.iload 4, 2) := dk_21 4 (dk_at dksL_law_35 16 rfl rfl)
theorem dL_law_933 : decode cL_law 933 = .ok (.iconst 1, 1) := dk_4 (dk_at dksL_law_35 18 rfl rfl)
theorem dL_law_934 : decode cL_law 934 = .ok (.iadd, 1) := dk_96 (dk_at dksL_law_35 19 rfl rfl)
theorem dL_law_935 : decode cL_law 935 = .ok (.iaload, 1) := dk_46 (dk_at dksL_law_35 20 rfl rfl)
theorem dL_law_936 : decode cL_law 936 = .ok (.aload_n 0, 1) := dk_42 (dk_at dksL_law_35 21 rfl rfl)
theorem dL_law_937 : decode cL_law 937 = .ok (.iload 4, 2) := dk_21 4 (dk_at dksL_law_35 22 rfl rfl)
theorem dL_law_939 : decode cL_law 939 = .ok (.iconst 2, 1) := dk_5 (dk_at dksL_law_36 0 rfl rfl)
theorem dL_law_940 : decode cL_law 940 = .ok (.iadd, 1) := dk_96 (dk_at dksL_law_36 1 rfl rfl)
theorem dL_law_941 : decode cL_law 941 = .ok (.iaload, 1) := dk_46 (dk_at dksL_law_36 2 rfl rfl)
theorem dL_law_942 : decode cL_law 942 = .ok (.invokevirtual 155, 3) := dk_182 0 155 (dk_at dksL_law_36 3 rfl rfl)
theorem dL_law_945 : decode cL_law 945 = .ok (.istore 6, 2) := dk_54 6 (dk_at dksL_law_36 6 rfl rfl)
theorem dL_law_947 : decode cL_law 947 = .ok (.aload_n 2, 1) := dk_44 (dk_at dksL_law_36 8 rfl rfl)
theorem dL_law_948 : decode cL_law 948 = .ok (.invokevirtual 111, 3) := dk_182 0 111 (dk_at dksL_law_36 9 rfl rfl)
theorem dL_law_951 : decode cL_law 951 = .ok (.iload 5, 2) := dk_21 5 (dk_at dksL_law_36 12 rfl rfl)
theorem dL_law_953 : decode cL_law 953 = .ok (.if_icmp .eq 5, 3) := dk_159 0 5 (dk_at dksL_law_36 14 rfl rfl)
theorem dL_law_956 : decode cL_law 956 = .ok (.iconst 0, 1) := dk_3 (dk_at dksL_law_36 17 rfl rfl)
theorem dL_law_957 : decode cL_law 957 = .ok (.ireturn, 1) := dk_172 (dk_at dksL_law_36 18 rfl rfl)
theorem dL_law_958 : decode cL_law 958 = .ok (.iload 5, 2) := dk_21 5 (dk_at dksL_law_36 19 rfl rfl)
theorem dL_law_960 : decode cL_law 960 = .ok (.ifCond .ne 15, 3) := dk_154 0 15 (dk_at dksL_law_36 21 rfl rfl)
theorem dL_law_963 : decode cL_law 963 = .ok (.aload_n 3, 1) := dk_45 (dk_at dksL_law_37 0 rfl rfl)
theorem dL_law_964 : decode cL_law 964 = .ok (.iconst 0, 1) := dk_3 (dk_at dksL_law_37 1 rfl rfl)
theorem dL_law_965 : decode cL_law 965 = .ok (.laload, 1) := dk_47 (dk_at dksL_law_37 2 rfl rfl)
theorem dL_law_966 : decode cL_law 966 = .ok (.iload 6, 2) := dk_21 6 (dk_at dksL_law_37 3 rfl rfl)
theorem dL_law_968 : decode cL_law 968 = .ok (.i2l, 1) := dk_133 (dk_at dksL_law_37 5 rfl rfl)
theorem dL_law_969 : decode cL_law 969 = .ok (.lcmp, 1) := dk_148 (dk_at dksL_law_37 6 rfl rfl)
theorem dL_law_970 : decode cL_law 970 = .ok (.ifCond .eq 5, 3) := dk_153 0 5 (dk_at dksL_law_37 7 rfl rfl)
theorem dL_law_973 : decode cL_law 973 = .ok (.iconst 0, 1) := dk_3 (dk_at dksL_law_37 10 rfl rfl)
theorem dL_law_974 : decode cL_law 974 = .ok (.ireturn, 1) := dk_172 (dk_at dksL_law_37 11 rfl rfl)
theorem dL_law_975 : decode cL_law 975 = .ok (.goto 791, 3) := dk_167 3 23 (dk_at dksL_law_37 12 rfl rfl)
theorem dL_law_978 : decode cL_law 978 = .ok (.aload_n 1, 1) := dk_43 (dk_at dksL_law_37 15 rfl rfl)
theorem dL_law_979 : decode cL_law 979 = .ok (.aload_n 0, 1) := dk_42 (dk_at dksL_law_37 16 rfl rfl)
theorem dL_law_980 : decode cL_law 980 = .ok (.iload 4, 2) := dk_21 4 (dk_at dksL_law_37 17 rfl rfl)
theorem dL_law_982 : decode cL_law 982 = .ok (.iconst 1, 1) := dk_4 (dk_at dksL_law_37 19 rfl rfl)
theorem dL_law_983 : decode cL_law 983 = .ok (.iadd, 1) := dk_96 (dk_at dksL_law_37 20 rfl rfl)
theorem dL_law_984 : decode cL_law 984 = .ok (.iaload, 1) := dk_46 (dk_at dksL_law_37 21 rfl rfl)
theorem dL_law_985 : decode cL_law 985 = .ok (.aload_n 0, 1) := dk_42 (dk_at dksL_law_37 22 rfl rfl)
theorem dL_law_986 : decode cL_law 986 = .ok (.iload 4, 2) := dk_21 4 (dk_at dksL_law_38 0 rfl rfl)
theorem dL_law_988 : decode cL_law 988 = .ok (.iconst 2, 1) := dk_5 (dk_at dksL_law_38 2 rfl rfl)
theorem dL_law_989 : decode cL_law 989 = .ok (.iadd, 1) := dk_96 (dk_at dksL_law_38 3 rfl rfl)
theorem dL_law_990 : decode cL_law 990 = .ok (.iaload, 1) := dk_46 (dk_at dksL_law_38 4 rfl rfl)
theorem dL_law_991 : decode cL_law 991 = .ok (.aload_n 0, 1) := dk_42 (dk_at dksL_law_38 5 rfl rfl)
theorem dL_law_992 : decode cL_law 992 = .ok (.iload 4, 2) := dk_21 4 (dk_at dksL_law_38 6 rfl rfl)
theorem dL_law_994 : decode cL_law 994 = .ok (.iconst 3, 1) := dk_6 (dk_at dksL_law_38 8 rfl rfl)
theorem dL_law_995 : decode cL_law 995 = .ok (.iadd, 1) := dk_96 (dk_at dksL_law_38 9 rfl rfl)
theorem dL_law_996 : decode cL_law 996 = .ok (.iaload, 1) := dk_46 (dk_at dksL_law_38 10 rfl rfl)
theorem dL_law_997 : decode cL_law 997 = .ok (.ifCond .eq 7, 3) := dk_153 0 7 (dk_at dksL_law_38 11 rfl rfl)
theorem dL_law_1000 : decode cL_law 1000 = .ok (.iconst 1, 1) := dk_4 (dk_at dksL_law_38 14 rfl rfl)
theorem dL_law_1001 : decode cL_law 1001 = .ok (.goto 4, 3) := dk_167 0 4 (dk_at dksL_law_38 15 rfl rfl)
theorem dL_law_1004 : decode cL_law 1004 = .ok (.iconst 0, 1) := dk_3 (dk_at dksL_law_38 18 rfl rfl)
theorem dL_law_1005 : decode cL_law 1005 = .ok (.aload_n 3, 1) := dk_45 (dk_at dksL_law_38 19 rfl rfl)
theorem dL_law_1006 : decode cL_law 1006 = .ok (.invokestatic 156, 3) := dk_184 0 156 (dk_at dksL_law_38 20 rfl rfl)
theorem dL_law_1009 : decode cL_law 1009 = .ok (.istore 5, 2) := dk_54 5 (dk_at dksL_law_39 0 rfl rfl)
theorem dL_law_1011 : decode cL_law 1011 = .ok (.aload_n 2, 1) := dk_44 (dk_at dksL_law_39 2 rfl rfl)
theorem dL_law_1012 : decode cL_law 1012 = .ok (.aload_n 0, 1) := dk_42 (dk_at dksL_law_39 3 rfl rfl)
theorem dL_law_1013 : decode cL_law 1013 = .ok (.iload 4, 2) := dk_21 4 (dk_at dksL_law_39 4 rfl rfl)
theorem dL_law_1015 : decode cL_law 1015 = .ok (.iconst 1, 1) := dk_4 (dk_at dksL_law_39 6 rfl rfl)
theorem dL_law_1016 : decode cL_law 1016 = .ok (.iadd, 1) := dk_96 (dk_at dksL_law_39 7 rfl rfl)
theorem dL_law_1017 : decode cL_law 1017 = .ok (.iaload, 1) := dk_46 (dk_at dksL_law_39 8 rfl rfl)
theorem dL_law_1018 : decode cL_law 1018 = .ok (.aload_n 0, 1) := dk_42 (dk_at dksL_law_39 9 rfl rfl)
theorem dL_law_1019 : decode cL_law 1019 = .ok (.iload 4, 2) := dk_21 4 (dk_at dksL_law_39 10 rfl rfl)
theorem dL_law_1021 : decode cL_law 1021 = .ok (.iconst 2, 1) := dk_5 (dk_at dksL_law_39 12 rfl rfl)
theorem dL_law_1022 : decode cL_law 1022 = .ok (.iadd, 1) := dk_96 (dk_at dksL_law_39 13 rfl rfl)
theorem dL_law_1023 : decode cL_law 1023 = .ok (.iaload, 1) := dk_46 (dk_at dksL_law_39 14 rfl rfl)
theorem dL_law_1024 : decode cL_law 1024 = .ok (.aload_n 0, 1) := dk_42 (dk_at dksL_law_39 15 rfl rfl)
theorem dL_law_1025 : decode cL_law 1025 = .ok (.iload 4, 2) := dk_21 4 (dk_at dksL_law_39 16 rfl rfl)
theorem dL_law_1027 : decode cL_law 1027 = .ok (.iconst 3, 1) := dk_6 (dk_at dksL_law_39 18 rfl rfl)
theorem dL_law_1028 : decode cL_law 1028 = .ok (.iadd, 1) := dk_96 (dk_at dksL_law_39 19 rfl rfl)
theorem dL_law_1029 : decode cL_law 1029 = .ok (.iaload, 1) := dk_46 (dk_at dksL_law_39 20 rfl rfl)
theorem dL_law_1030 : decode cL_law 1030 = .ok (.ifCond .eq 7, 3) := dk_153 0 7 (dk_at dksL_law_39 21 rfl rfl)
theorem dL_law_1033 : decode cL_law 1033 = .ok (.iconst 1, 1) := dk_4 (dk_at dksL_law_40 0 rfl rfl)
theorem dL_law_1034 : decode cL_law 1034 = .ok (.goto 4, 3) := dk_167 0 4 (dk_at dksL_law_40 1 rfl rfl)
theorem dL_law_1037 : decode cL_law 1037 = .ok (.iconst 0, 1) := dk_3 (dk_at dksL_law_40 4 rfl rfl)
theorem dL_law_1038 : decode cL_law 1038 = .ok (.invokevirtual 159, 3) := dk_182 0 159 (dk_at dksL_law_40 5 rfl rfl)
theorem dL_law_1041 : decode cL_law 1041 = .ok (.istore 6, 2) := dk_54 6 (dk_at dksL_law_40 8 rfl rfl)
theorem dL_law_1043 : decode cL_law 1043 = .ok (.aload_n 2, 1) := dk_44 (dk_at dksL_law_40 10 rfl rfl)
theorem dL_law_1044 : decode cL_law 1044 = .ok (.invokevirtual 111, 3) := dk_182 0 111 (dk_at dksL_law_40 11 rfl rfl)
theorem dL_law_1047 : decode cL_law 1047 = .ok (.iload 5, 2) := dk_21 5 (dk_at dksL_law_40 14 rfl rfl)
theorem dL_law_1049 : decode cL_law 1049 = .ok (.if_icmp .eq 5, 3) := dk_159 0 5 (dk_at dksL_law_40 16 rfl rfl)
theorem dL_law_1052 : decode cL_law 1052 = .ok (.iconst 0, 1) := dk_3 (dk_at dksL_law_40 19 rfl rfl)
theorem dL_law_1053 : decode cL_law 1053 = .ok (.ireturn, 1) := dk_172 (dk_at dksL_law_40 20 rfl rfl)
theorem dL_law_1054 : decode cL_law 1054 = .ok (.iload 5, 2) := dk_21 5 (dk_at dksL_law_40 21 rfl rfl)
theorem dL_law_1056 : decode cL_law 1056 = .ok (.ifCond .ne 15, 3) := dk_154 0 15 (dk_at dksL_law_41 0 rfl rfl)
theorem dL_law_1059 : decode cL_law 1059 = .ok (.aload_n 3, 1) := dk_45 (dk_at dksL_law_41 3 rfl rfl)
theorem dL_law_1060 : decode cL_law 1060 = .ok (.iconst 0, 1) := dk_3 (dk_at dksL_law_41 4 rfl rfl)
theorem dL_law_1061 : decode cL_law 1061 = .ok (.laload, 1) := dk_47 (dk_at dksL_law_41 5 rfl rfl)
theorem dL_law_1062 : decode cL_law 1062 = .ok (.iload 6, 2) := dk_21 6 (dk_at dksL_law_41 6 rfl rfl)
theorem dL_law_1064 : decode cL_law 1064 = .ok (.i2l, 1) := dk_133 (dk_at dksL_law_41 8 rfl rfl)
theorem dL_law_1065 : decode cL_law 1065 = .ok (.lcmp, 1) := dk_148 (dk_at dksL_law_41 9 rfl rfl)
theorem dL_law_1066 : decode cL_law 1066 = .ok (.ifCond .eq 5, 3) := dk_153 0 5 (dk_at dksL_law_41 10 rfl rfl)
theorem dL_law_1069 : decode cL_law 1069 = .ok (.iconst 0, 1) := dk_3 (dk_at dksL_law_41 13 rfl rfl)
theorem dL_law_1070 : decode cL_law 1070 = .ok (.ireturn, 1) := dk_172 (dk_at dksL_law_41 14 rfl rfl)
theorem dL_law_1071 : decode cL_law 1071 = .ok (.goto 695, 3) := dk_167 2 183 (dk_at dksL_law_41 15 rfl rfl)
theorem dL_law_1074 : decode cL_law 1074 = .ok (.aload_n 1, 1) := dk_43 (dk_at dksL_law_41 18 rfl rfl)
theorem dL_law_1075 : decode cL_law 1075 = .ok (.aload_n 0, 1) := dk_42 (dk_at dksL_law_41 19 rfl rfl)
theorem dL_law_1076 : decode cL_law 1076 = .ok (.iload 4, 2) := dk_21 4 (dk_at dksL_law_41 20 rfl rfl)
theorem dL_law_1078 : decode cL_law 1078 = .ok (.iconst 1, 1) := dk_4 (dk_at dksL_law_41 22 rfl rfl)
theorem dL_law_1079 : decode cL_law 1079 = .ok (.iadd, 1) := dk_96 (dk_at dksL_law_41 23 rfl rfl)
theorem dL_law_1080 : decode cL_law 1080 = .ok (.iaload, 1) := dk_46 (dk_at dksL_law_42 0 rfl rfl)
theorem dL_law_1081 : decode cL_law 1081 = .ok (.aload_n 0, 1) := dk_42 (dk_at dksL_law_42 1 rfl rfl)
theorem dL_law_1082 : decode cL_law 1082 = .ok (.iload 4, 2) := dk_21 4 (dk_at dksL_law_42 2 rfl rfl)
theorem dL_law_1084 : decode cL_law 1084 = .ok (.iconst 2, 1) := dk_5 (dk_at dksL_law_42 4 rfl rfl)
theorem dL_law_1085 : decode cL_law 1085 = .ok (.iadd, 1) := dk_96 (dk_at dksL_law_42 5 rfl rfl)
theorem dL_law_1086 : decode cL_law 1086 = .ok (.iaload, 1) := dk_46 (dk_at dksL_law_42 6 rfl rfl)
theorem dL_law_1087 : decode cL_law 1087 = .ok (.aload_n 0, 1) := dk_42 (dk_at dksL_law_42 7 rfl rfl)
theorem dL_law_1088 : decode cL_law 1088 = .ok (.iload 4, 2) := dk_21 4 (dk_at dksL_law_42 8 rfl rfl)
theorem dL_law_1090 : decode cL_law 1090 = .ok (.iconst 3, 1) := dk_6 (dk_at dksL_law_42 10 rfl rfl)
theorem dL_law_1091 : decode cL_law 1091 = .ok (.iadd, 1) := dk_96 (dk_at dksL_law_42 11 rfl rfl)
theorem dL_law_1092 : decode cL_law 1092 = .ok (.iaload, 1) := dk_46 (dk_at dksL_law_42 12 rfl rfl)
theorem dL_law_1093 : decode cL_law 1093 = .ok (.aload_n 3, 1) := dk_45 (dk_at dksL_law_42 13 rfl rfl)
theorem dL_law_1094 : decode cL_law 1094 = .ok (.invokestatic 160, 3) := dk_184 0 160 (dk_at dksL_law_42 14 rfl rfl)
theorem dL_law_1097 : decode cL_law 1097 = .ok (.istore 5, 2) := dk_54 5 (dk_at dksL_law_42 17 rfl rfl)
theorem dL_law_1099 : decode cL_law 1099 = .ok (.aload_n 2, 1) := dk_44 (dk_at dksL_law_42 19 rfl rfl)
theorem dL_law_1100 : decode cL_law 1100 = .ok (.aload_n 0, 1) := dk_42 (dk_at dksL_law_42 20 rfl rfl)
theorem dL_law_1101 : decode cL_law 1101 = .ok (.iload 4, 2) := dk_21 4 (dk_at dksL_law_42 21 rfl rfl)
theorem dL_law_1103 : decode cL_law 1103 = .ok (.iconst 1, 1) := dk_4 (dk_at dksL_law_42 23 rfl rfl)
theorem dL_law_1104 : decode cL_law 1104 = .ok (.iadd, 1) := dk_96 (dk_at dksL_law_43 0 rfl rfl)
theorem dL_law_1105 : decode cL_law 1105 = .ok (.iaload, 1) := dk_46 (dk_at dksL_law_43 1 rfl rfl)
theorem dL_law_1106 : decode cL_law 1106 = .ok (.aload_n 0, 1) := dk_42 (dk_at dksL_law_43 2 rfl rfl)
theorem dL_law_1107 : decode cL_law 1107 = .ok (.iload 4, 2) := dk_21 4 (dk_at dksL_law_43 3 rfl rfl)
theorem dL_law_1109 : decode cL_law 1109 = .ok (.iconst 2, 1) := dk_5 (dk_at dksL_law_43 5 rfl rfl)
theorem dL_law_1110 : decode cL_law 1110 = .ok (.iadd, 1) := dk_96 (dk_at dksL_law_43 6 rfl rfl)
theorem dL_law_1111 : decode cL_law 1111 = .ok (.iaload, 1) := dk_46 (dk_at dksL_law_43 7 rfl rfl)
theorem dL_law_1112 : decode cL_law 1112 = .ok (.aload_n 0, 1) := dk_42 (dk_at dksL_law_43 8 rfl rfl)
theorem dL_law_1113 : decode cL_law 1113 = .ok (.iload 4, 2) := dk_21 4 (dk_at dksL_law_43 9 rfl rfl)
theorem dL_law_1115 : decode cL_law 1115 = .ok (.iconst 3, 1) := dk_6 (dk_at dksL_law_43 11 rfl rfl)
theorem dL_law_1116 : decode cL_law 1116 = .ok (.iadd, 1) := dk_96 (dk_at dksL_law_43 12 rfl rfl)
theorem dL_law_1117 : decode cL_law 1117 = .ok (.iaload, 1) := dk_46 (dk_at dksL_law_43 13 rfl rfl)
theorem dL_law_1118 : decode cL_law 1118 = .ok (.invokevirtual 162, 3) := dk_182 0 162 (dk_at dksL_law_43 14 rfl rfl)
theorem dL_law_1121 : decode cL_law 1121 = .ok (.istore 6, 2) := dk_54 6 (dk_at dksL_law_43 17 rfl rfl)
theorem dL_law_1123 : decode cL_law 1123 = .ok (.aload_n 2, 1) := dk_44 (dk_at dksL_law_43 19 rfl rfl)
theorem dL_law_1124 : decode cL_law 1124 = .ok (.invokevirtual 111, 3) := dk_182 0 111 (dk_at dksL_law_43 20 rfl rfl)
theorem dL_law_1127 : decode cL_law 1127 = .ok (.iload 5, 2) := dk_21 5 (dk_at dksL_law_44 0 rfl rfl)
theorem dL_law_1129 : decode cL_law 1129 = .ok (.if_icmp .eq 5, 3) := dk_159 0 5 (dk_at dksL_law_44 2 rfl rfl)
theorem dL_law_1132 : decode cL_law 1132 = .ok (.iconst 0, 1) := dk_3 (dk_at dksL_law_44 5 rfl rfl)
theorem dL_law_1133 : decode cL_law 1133 = .ok (.ireturn, 1) := dk_172 (dk_at dksL_law_44 6 rfl rfl)
theorem dL_law_1134 : decode cL_law 1134 = .ok (.iload 5, 2) := dk_21 5 (dk_at dksL_law_44 7 rfl rfl)
theorem dL_law_1136 : decode cL_law 1136 = .ok (.ifCond .ne 15, 3) := dk_154 0 15 (dk_at dksL_law_44 9 rfl rfl)
theorem dL_law_1139 : decode cL_law 1139 = .ok (.aload_n 3, 1) := dk_45 (dk_at dksL_law_44 12 rfl rfl)
theorem dL_law_1140 : decode cL_law 1140 = .ok (.iconst 0, 1) := dk_3 (dk_at dksL_law_44 13 rfl rfl)
theorem dL_law_1141 : decode cL_law 1141 = .ok (.laload, 1) := dk_47 (dk_at dksL_law_44 14 rfl rfl)
theorem dL_law_1142 : decode cL_law 1142 = .ok (.iload 6, 2) := dk_21 6 (dk_at dksL_law_44 15 rfl rfl)
theorem dL_law_1144 : decode cL_law 1144 = .ok (.i2l, 1) := dk_133 (dk_at dksL_law_44 17 rfl rfl)
theorem dL_law_1145 : decode cL_law 1145 = .ok (.lcmp, 1) := dk_148 (dk_at dksL_law_44 18 rfl rfl)
theorem dL_law_1146 : decode cL_law 1146 = .ok (.ifCond .eq 5, 3) := dk_153 0 5 (dk_at dksL_law_44 19 rfl rfl)
theorem dL_law_1149 : decode cL_law 1149 = .ok (.iconst 0, 1) := dk_3 (dk_at dksL_law_44 22 rfl rfl)
theorem dL_law_1150 : decode cL_law 1150 = .ok (.ireturn, 1) := dk_172 (dk_at dksL_law_44 23 rfl rfl)
theorem dL_law_1151 : decode cL_law 1151 = .ok (.goto 615, 3) := dk_167 2 103 (dk_at dksL_law_45 0 rfl rfl)
theorem dL_law_1154 : decode cL_law 1154 = .ok (.aload_n 1, 1) := dk_43 (dk_at dksL_law_45 3 rfl rfl)
theorem dL_law_1155 : decode cL_law 1155 = .ok (.aload_n 0, 1) := dk_42 (dk_at dksL_law_45 4 rfl rfl)
theorem dL_law_1156 : decode cL_law 1156 = .ok (.iload 4, 2) := dk_21 4 (dk_at dksL_law_45 5 rfl rfl)
theorem dL_law_1158 : decode cL_law 1158 = .ok (.iconst 1, 1) := dk_4 (dk_at dksL_law_45 7 rfl rfl)
theorem dL_law_1159 : decode cL_law 1159 = .ok (.iadd, 1) := dk_96 (dk_at dksL_law_45 8 rfl rfl)
theorem dL_law_1160 : decode cL_law 1160 = .ok (.iaload, 1) := dk_46 (dk_at dksL_law_45 9 rfl rfl)
theorem dL_law_1161 : decode cL_law 1161 = .ok (.aload_n 0, 1) := dk_42 (dk_at dksL_law_45 10 rfl rfl)
theorem dL_law_1162 : decode cL_law 1162 = .ok (.iload 4, 2) := dk_21 4 (dk_at dksL_law_45 11 rfl rfl)
theorem dL_law_1164 : decode cL_law 1164 = .ok (.iconst 2, 1) := dk_5 (dk_at dksL_law_45 13 rfl rfl)
theorem dL_law_1165 : decode cL_law 1165 = .ok (.iadd, 1) := dk_96 (dk_at dksL_law_45 14 rfl rfl)
theorem dL_law_1166 : decode cL_law 1166 = .ok (.iaload, 1) := dk_46 (dk_at dksL_law_45 15 rfl rfl)
theorem dL_law_1167 : decode cL_law 1167 = .ok (.aload_n 0, 1) := dk_42 (dk_at dksL_law_45 16 rfl rfl)
theorem dL_law_1168 : decode cL_law 1168 = .ok (.iload 4, 2) := dk_21 4 (dk_at dksL_law_45 17 rfl rfl)
theorem dL_law_1170 : decode cL_law 1170 = .ok (.iconst 3, 1) := dk_6 (dk_at dksL_law_45 19 rfl rfl)
theorem dL_law_1171 : decode cL_law 1171 = .ok (.iadd, 1) := dk_96 (dk_at dksL_law_45 20 rfl rfl)
theorem dL_law_1172 : decode cL_law 1172 = .ok (.iaload, 1) := dk_46 (dk_at dksL_law_45 21 rfl rfl)
theorem dL_law_1173 : decode cL_law 1173 = .ok (.aload_n 3, 1) := dk_45 (dk_at dksL_law_45 22 rfl rfl)
theorem dL_law_1174 : decode cL_law 1174 = .ok (.invokestatic 163, 3) := dk_184 0 163 (dk_at dksL_law_46 0 rfl rfl)
theorem dL_law_1177 : decode cL_law 1177 = .ok (.istore 5, 2) := dk_54 5 (dk_at dksL_law_46 3 rfl rfl)
theorem dL_law_1179 : decode cL_law 1179 = .ok (.aload_n 2, 1) := dk_44 (dk_at dksL_law_46 5 rfl rfl)
theorem dL_law_1180 : decode cL_law 1180 = .ok (.aload_n 0, 1) := dk_42 (dk_at dksL_law_46 6 rfl rfl)
theorem dL_law_1181 : decode cL_law 1181 = .ok (.iload 4, 2) := dk_21 4 (dk_at dksL_law_46 7 rfl rfl)
theorem dL_law_1183 : decode cL_law 1183 = .ok (.iconst 1, 1) := dk_4 (dk_at dksL_law_46 9 rfl rfl)
theorem dL_law_1184 : decode cL_law 1184 = .ok (.iadd, 1) := dk_96 (dk_at dksL_law_46 10 rfl rfl)
theorem dL_law_1185 : decode cL_law 1185 = .ok (.iaload, 1) := dk_46 (dk_at dksL_law_46 11 rfl rfl)
theorem dL_law_1186 : decode cL_law 1186 = .ok (.aload_n 0, 1) := dk_42 (dk_at dksL_law_46 12 rfl rfl)
theorem dL_law_1187 : decode cL_law 1187 = .ok (.iload 4, 2) := dk_21 4 (dk_at dksL_law_46 13 rfl rfl)
theorem dL_law_1189 : decode cL_law 1189 = .ok (.iconst 2, 1) := dk_5 (dk_at dksL_law_46 15 rfl rfl)
theorem dL_law_1190 : decode cL_law 1190 = .ok (.iadd, 1) := dk_96 (dk_at dksL_law_46 16 rfl rfl)
theorem dL_law_1191 : decode cL_law 1191 = .ok (.iaload, 1) := dk_46 (dk_at dksL_law_46 17 rfl rfl)
theorem dL_law_1192 : decode cL_law 1192 = .ok (.aload_n 0, 1) := dk_42 (dk_at dksL_law_46 18 rfl rfl)
theorem dL_law_1193 : decode cL_law 1193 = .ok (.iload 4, 2) := dk_21 4 (dk_at dksL_law_46 19 rfl rfl)
theorem dL_law_1195 : decode cL_law 1195 = .ok (.iconst 3, 1) := dk_6 (dk_at dksL_law_46 21 rfl rfl)
theorem dL_law_1196 : decode cL_law 1196 = .ok (.iadd, 1) := dk_96 (dk_at dksL_law_46 22 rfl rfl)
theorem dL_law_1197 : decode cL_law 1197 = .ok (.iaload, 1) := dk_46 (dk_at dksL_law_46 23 rfl rfl)
theorem dL_law_1198 : decode cL_law 1198 = .ok (.invokevirtual 165, 3) := dk_182 0 165 (dk_at dksL_law_47 0 rfl rfl)
theorem dL_law_1201 : decode cL_law 1201 = .ok (.istore 6, 2) := dk_54 6 (dk_at dksL_law_47 3 rfl rfl)
theorem dL_law_1203 : decode cL_law 1203 = .ok (.aload_n 2, 1) := dk_44 (dk_at dksL_law_47 5 rfl rfl)
theorem dL_law_1204 : decode cL_law 1204 = .ok (.invokevirtual 111, 3) := dk_182 0 111 (dk_at dksL_law_47 6 rfl rfl)
theorem dL_law_1207 : decode cL_law 1207 = .ok (.iload 5, 2) := dk_21 5 (dk_at dksL_law_47 9 rfl rfl)
theorem dL_law_1209 : decode cL_law 1209 = .ok (.if_icmp .eq 5, 3) := dk_159 0 5 (dk_at dksL_law_47 11 rfl rfl)
theorem dL_law_1212 : decode cL_law 1212 = .ok (.iconst 0, 1) := dk_3 (dk_at dksL_law_47 14 rfl rfl)
theorem dL_law_1213 : decode cL_law 1213 = .ok (.ireturn, 1) := dk_172 (dk_at dksL_law_47 15 rfl rfl)
theorem dL_law_1214 : decode cL_law 1214 = .ok (.iload 5, 2) := dk_21 5 (dk_at dksL_law_47 16 rfl rfl)
theorem dL_law_1216 : decode cL_law 1216 = .ok (.ifCond .ne 15, 3) := dk_154 0 15 (dk_at dksL_law_47 18 rfl rfl)
theorem dL_law_1219 : decode cL_law 1219 = .ok (.aload_n 3, 1) := dk_45 (dk_at dksL_law_47 21 rfl rfl)
theorem dL_law_1220 : decode cL_law 1220 = .ok (.iconst 0, 1) := dk_3 (dk_at dksL_law_47 22 rfl rfl)
theorem dL_law_1221 : decode cL_law 1221 = .ok (.laload, 1) := dk_47 (dk_at dksL_law_47 23 rfl rfl)
theorem dL_law_1222 : decode cL_law 1222 = .ok (.iload 6, 2) := dk_21 6 (dk_at dksL_law_48 0 rfl rfl)
theorem dL_law_1224 : decode cL_law 1224 = .ok (.i2l, 1) := dk_133 (dk_at dksL_law_48 2 rfl rfl)
theorem dL_law_1225 : decode cL_law 1225 = .ok (.lcmp, 1) := dk_148 (dk_at dksL_law_48 3 rfl rfl)
theorem dL_law_1226 : decode cL_law 1226 = .ok (.ifCond .eq 5, 3) := dk_153 0 5 (dk_at dksL_law_48 4 rfl rfl)
theorem dL_law_1229 : decode cL_law 1229 = .ok (.iconst 0, 1) := dk_3 (dk_at dksL_law_48 7 rfl rfl)
theorem dL_law_1230 : decode cL_law 1230 = .ok (.ireturn, 1) := dk_172 (dk_at dksL_law_48 8 rfl rfl)
theorem dL_law_1231 : decode cL_law 1231 = .ok (.goto 535, 3) := dk_167 2 23 (dk_at dksL_law_48 9 rfl rfl)
theorem dL_law_1234 : decode cL_law 1234 = .ok (.aload_n 1, 1) := dk_43 (dk_at dksL_law_48 12 rfl rfl)
theorem dL_law_1235 : decode cL_law 1235 = .ok (.aload_n 0, 1) := dk_42 (dk_at dksL_law_48 13 rfl rfl)
theorem dL_law_1236 : decode cL_law 1236 = .ok (.iload 4, 2) := dk_21 4 (dk_at dksL_law_48 14 rfl rfl)
theorem dL_law_1238 : decode cL_law 1238 = .ok (.iconst 1, 1) := dk_4 (dk_at dksL_law_48 16 rfl rfl)
theorem dL_law_1239 : decode cL_law 1239 = .ok (.iadd, 1) := dk_96 (dk_at dksL_law_48 17 rfl rfl)
theorem dL_law_1240 : decode cL_law 1240 = .ok (.iaload, 1) := dk_46 (dk_at dksL_law_48 18 rfl rfl)
theorem dL_law_1241 : decode cL_law 1241 = .ok (.aload_n 0, 1) := dk_42 (dk_at dksL_law_48 19 rfl rfl)
theorem dL_law_1242 : decode cL_law 1242 = .ok (.iload 4, 2) := dk_21 4 (dk_at dksL_law_48 20 rfl rfl)
theorem dL_law_1244 : decode cL_law 1244 = .ok (.iconst 2, 1) := dk_5 (dk_at dksL_law_48 22 rfl rfl)
theorem dL_law_1245 : decode cL_law 1245 = .ok (.iadd, 1) := dk_96 (dk_at dksL_law_48 23 rfl rfl)
theorem dL_law_1246 : decode cL_law 1246 = .ok (.iaload, 1) := dk_46 (dk_at dksL_law_49 0 rfl rfl)
theorem dL_law_1247 : decode cL_law 1247 = .ok (.aload_n 3, 1) := dk_45 (dk_at dksL_law_49 1 rfl rfl)
theorem dL_law_1248 : decode cL_law 1248 = .ok (.invokestatic 166, 3) := dk_184 0 166 (dk_at dksL_law_49 2 rfl rfl)
theorem dL_law_1251 : decode cL_law 1251 = .ok (.istore 5, 2) := dk_54 5 (dk_at dksL_law_49 5 rfl rfl)
theorem dL_law_1253 : decode cL_law 1253 = .ok (.aload_n 2, 1) := dk_44 (dk_at dksL_law_49 7 rfl rfl)
theorem dL_law_1254 : decode cL_law 1254 = .ok (.aload_n 0, 1) := dk_42 (dk_at dksL_law_49 8 rfl rfl)
theorem dL_law_1255 : decode cL_law 1255 = .ok (.iload 4, 2) := dk_21 4 (dk_at dksL_law_49 9 rfl rfl)
theorem dL_law_1257 : decode cL_law 1257 = .ok (.iconst 1, 1) := dk_4 (dk_at dksL_law_49 11 rfl rfl)
theorem dL_law_1258 : decode cL_law 1258 = .ok (.iadd, 1) := dk_96 (dk_at dksL_law_49 12 rfl rfl)
theorem dL_law_1259 : decode cL_law 1259 = .ok (.iaload, 1) := dk_46 (dk_at dksL_law_49 13 rfl rfl)
theorem dL_law_1260 : decode cL_law 1260 = .ok (.aload_n 0, 1) := dk_42 (dk_at dksL_law_49 14 rfl rfl)
theorem dL_law_1261 : decode cL_law 1261 = .ok (.iload 4, 2) := dk_21 4 (dk_at dksL_law_49 15 rfl rfl)
theorem dL_law_1263 : decode cL_law 1263 = .ok (.iconst 2, 1) := dk_5 (dk_at dksL_law_49 17 rfl rfl)
theorem dL_law_1264 : decode cL_law 1264 = .ok (.iadd, 1) := dk_96 (dk_at dksL_law_49 18 rfl rfl)
theorem dL_law_1265 : decode cL_law 1265 = .ok (.iaload, 1) := dk_46 (dk_at dksL_law_49 19 rfl rfl)
theorem dL_law_1266 : decode cL_law 1266 = .ok (.invokevirtual 168, 3) := dk_182 0 168 (dk_at dksL_law_49 20 rfl rfl)
theorem dL_law_1269 : decode cL_law 1269 = .ok (.istore 6, 2) := dk_54 6 (dk_at dksL_law_50 0 rfl rfl)
theorem dL_law_1271 : decode cL_law 1271 = .ok (.aload_n 2, 1) := dk_44 (dk_at dksL_law_50 2 rfl rfl)
theorem dL_law_1272 : decode cL_law 1272 = .ok (.invokevirtual 111, 3) := dk_182 0 111 (dk_at dksL_law_50 3 rfl rfl)
theorem dL_law_1275 : decode cL_law 1275 = .ok (.iload 5, 2) := dk_21 5 (dk_at dksL_law_50 6 rfl rfl)
theorem dL_law_1277 : decode cL_law 1277 = .ok (.if_icmp .eq 5, 3) := dk_159 0 5 (dk_at dksL_law_50 8 rfl rfl)
theorem dL_law_1280 : decode cL_law 1280 = .ok (.iconst 0, 1) := dk_3 (dk_at dksL_law_50 11 rfl rfl)
theorem dL_law_1281 : decode cL_law 1281 = .ok (.ireturn, 1) := dk_172 (dk_at dksL_law_50 12 rfl rfl)
theorem dL_law_1282 : decode cL_law 1282 = .ok (.iload 5, 2) := dk_21 5 (dk_at dksL_law_50 13 rfl rfl)
theorem dL_law_1284 : decode cL_law 1284 = .ok (.ifCond .ne 15, 3) := dk_154 0 15 (dk_at dksL_law_50 15 rfl rfl)
theorem dL_law_1287 : decode cL_law 1287 = .ok (.aload_n 3, 1) := dk_45 (dk_at dksL_law_50 18 rfl rfl)
theorem dL_law_1288 : decode cL_law 1288 = .ok (.iconst 0, 1) := dk_3 (dk_at dksL_law_50 19 rfl rfl)
theorem dL_law_1289 : decode cL_law 1289 = .ok (.laload, 1) := dk_47 (dk_at dksL_law_50 20 rfl rfl)
theorem dL_law_1290 : decode cL_law 1290 = .ok (.iload 6, 2) := dk_21 6 (dk_at dksL_law_50 21 rfl rfl)
theorem dL_law_1292 : decode cL_law 1292 = .ok (.i2l, 1) := dk_133 (dk_at dksL_law_50 23 rfl rfl)
theorem dL_law_1293 : decode cL_law 1293 = .ok (.lcmp, 1) := dk_148 (dk_at dksL_law_51 0 rfl rfl)
theorem dL_law_1294 : decode cL_law 1294 = .ok (.ifCond .eq 5, 3) := dk_153 0 5 (dk_at dksL_law_51 1 rfl rfl)
theorem dL_law_1297 : decode cL_law 1297 = .ok (.iconst 0, 1) := dk_3 (dk_at dksL_law_51 4 rfl rfl)
theorem dL_law_1298 : decode cL_law 1298 = .ok (.ireturn, 1) := dk_172 (dk_at dksL_law_51 5 rfl rfl)
theorem dL_law_1299 : decode cL_law 1299 = .ok (.goto 467, 3) := dk_167 1 211 (dk_at dksL_law_51 6 rfl rfl)
theorem dL_law_1302 : decode cL_law 1302 = .ok (.aload_n 1, 1) := dk_43 (dk_at dksL_law_51 9 rfl rfl)
theorem dL_law_1303 : decode cL_law 1303 = .ok (.aload_n 0, 1) := dk_42 (dk_at dksL_law_51 10 rfl rfl)
theorem dL_law_1304 : decode cL_law 1304 = .ok (.iload 4, 2) := dk_21 4 (dk_at dksL_law_51 11 rfl rfl)
theorem dL_law_1306 : decode cL_law 1306 = .ok (.iconst 1, 1) := dk_4 (dk_at dksL_law_51 13 rfl rfl)
theorem dL_law_1307 : decode cL_law 1307 = .ok (.iadd, 1) := dk_96 (dk_at dksL_law_51 14 rfl rfl)
theorem dL_law_1308 : decode cL_law 1308 = .ok (.iaload, 1) := dk_46 (dk_at dksL_law_51 15 rfl rfl)
theorem dL_law_1309 : decode cL_law 1309 = .ok (.aload_n 0, 1) := dk_42 (dk_at dksL_law_51 16 rfl rfl)
theorem dL_law_1310 : decode cL_law 1310 = .ok (.iload 4, 2) := dk_21 4 (dk_at dksL_law_51 17 rfl rfl)
theorem dL_law_1312 : decode cL_law 1312 = .ok (.iconst 2, 1) := dk_5 (dk_at dksL_law_51 19 rfl rfl)
theorem dL_law_1313 : decode cL_law 1313 = .ok (.iadd, 1) := dk_96 (dk_at dksL_law_51 20 rfl rfl)
theorem dL_law_1314 : decode cL_law 1314 = .ok (.iaload, 1) := dk_46 (dk_at dksL_law_51 21 rfl rfl)
theorem dL_law_1315 : decode cL_law 1315 = .ok (.aload_n 0, 1) := dk_42 (dk_at dksL_law_51 22 rfl rfl)
theorem dL_law_1316 : decode cL_law 1316 = .ok (.iload 4, 2) := dk_21 4 (dk_at dksL_law_52 0 rfl rfl)
theorem dL_law_1318 : decode cL_law 1318 = .ok (.iconst 3, 1) := dk_6 (dk_at dksL_law_52 2 rfl rfl)
theorem dL_law_1319 : decode cL_law 1319 = .ok (.iadd, 1) := dk_96 (dk_at dksL_law_52 3 rfl rfl)
theorem dL_law_1320 : decode cL_law 1320 = .ok (.iaload, 1) := dk_46 (dk_at dksL_law_52 4 rfl rfl)
theorem dL_law_1321 : decode cL_law 1321 = .ok (.aload_n 0, 1) := dk_42 (dk_at dksL_law_52 5 rfl rfl)
theorem dL_law_1322 : decode cL_law 1322 = .ok (.iload 4, 2) := dk_21 4 (dk_at dksL_law_52 6 rfl rfl)
theorem dL_law_1324 : decode cL_law 1324 = .ok (.iconst 4, 1) := dk_7 (dk_at dksL_law_52 8 rfl rfl)
theorem dL_law_1325 : decode cL_law 1325 = .ok (.iadd, 1) := dk_96 (dk_at dksL_law_52 9 rfl rfl)
theorem dL_law_1326 : decode cL_law 1326 = .ok (.iaload, 1) := dk_46 (dk_at dksL_law_52 10 rfl rfl)
theorem dL_law_1327 : decode cL_law 1327 = .ok (.aload_n 3, 1) := dk_45 (dk_at dksL_law_52 11 rfl rfl)
theorem dL_law_1328 : decode cL_law 1328 = .ok (.invokestatic 169, 3) := dk_184 0 169 (dk_at dksL_law_52 12 rfl rfl)
theorem dL_law_1331 : decode cL_law 1331 = .ok (.istore 5, 2) := dk_54 5 (dk_at dksL_law_52 15 rfl rfl)
theorem dL_law_1333 : decode cL_law 1333 = .ok (.aload_n 2, 1) := dk_44 (dk_at dksL_law_52 17 rfl rfl)
theorem dL_law_1334 : decode cL_law 1334 = .ok (.aload_n 0, 1) := dk_42 (dk_at dksL_law_52 18 rfl rfl)
theorem dL_law_1335 : decode cL_law 1335 = .ok (.iload 4, 2) := dk_21 4 (dk_at dksL_law_52 19 rfl rfl)
theorem dL_law_1337 : decode cL_law 1337 = .ok (.iconst 1, 1) := dk_4 (dk_at dksL_law_52 21 rfl rfl)
theorem dL_law_1338 : decode cL_law 1338 = .ok (.iadd, 1) := dk_96 (dk_at dksL_law_52 22 rfl rfl)
theorem dL_law_1339 : decode cL_law 1339 = .ok (.iaload, 1) := dk_46 (dk_at dksL_law_52 23 rfl rfl)
theorem dL_law_1340 : decode cL_law 1340 = .ok (.aload_n 0, 1) := dk_42 (dk_at dksL_law_53 0 rfl rfl)
theorem dL_law_1341 : decode cL_law 1341 = .ok (.iload 4, 2) := dk_21 4 (dk_at dksL_law_53 1 rfl rfl)
theorem dL_law_1343 : decode cL_law 1343 = .ok (.iconst 2, 1) := dk_5 (dk_at dksL_law_53 3 rfl rfl)
theorem dL_law_1344 : decode cL_law 1344 = .ok (.iadd, 1) := dk_96 (dk_at dksL_law_53 4 rfl rfl)
theorem dL_law_1345 : decode cL_law 1345 = .ok (.iaload, 1) := dk_46 (dk_at dksL_law_53 5 rfl rfl)
theorem dL_law_1346 : decode cL_law 1346 = .ok (.aload_n 0, 1) := dk_42 (dk_at dksL_law_53 6 rfl rfl)
theorem dL_law_1347 : decode cL_law 1347 = .ok (.iload 4, 2) := dk_21 4 (dk_at dksL_law_53 7 rfl rfl)
theorem dL_law_1349 : decode cL_law 1349 = .ok (.iconst 3, 1) := dk_6 (dk_at dksL_law_53 9 rfl rfl)
theorem dL_law_1350 : decode cL_law 1350 = .ok (.iadd, 1) := dk_96 (dk_at dksL_law_53 10 rfl rfl)
theorem dL_law_1351 : decode cL_law 1351 = .ok (.iaload, 1) := dk_46 (dk_at dksL_law_53 11 rfl rfl)
theorem dL_law_1352 : decode cL_law 1352 = .ok (.aload_n 0, 1) := dk_42 (dk_at dksL_law_53 12 rfl rfl)
theorem dL_law_1353 : decode cL_law 1353 = .ok (.iload 4, 2) := dk_21 4 (dk_at dksL_law_53 13 rfl rfl)
theorem dL_law_1355 : decode cL_law 1355 = .ok (.iconst 4, 1) := dk_7 (dk_at dksL_law_53 15 rfl rfl)
theorem dL_law_1356 : decode cL_law 1356 = .ok (.iadd, 1) := dk_96 (dk_at dksL_law_53 16 rfl rfl)
theorem dL_law_1357 : decode cL_law 1357 = .ok (.iaload, 1) := dk_46 (dk_at dksL_law_53 17 rfl rfl)
theorem dL_law_1358 : decode cL_law 1358 = .ok (.invokevirtual 172, 3) := dk_182 0 172 (dk_at dksL_law_53 18 rfl rfl)
theorem dL_law_1361 : decode cL_law 1361 = .ok (.istore 6, 2) := dk_54 6 (dk_at dksL_law_53 21 rfl rfl)
theorem dL_law_1363 : decode cL_law 1363 = .ok (.aload_n 2, 1) := dk_44 (dk_at dksL_law_53 23 rfl rfl)
theorem dL_law_1364 : decode cL_law 1364 = .ok (.invokevirtual 111, 3) := dk_182 0 111 (dk_at dksL_law_54 0 rfl rfl)
theorem dL_law_1367 : decode cL_law 1367 = .ok (.iload 5, 2) := dk_21 5 (dk_at dksL_law_54 3 rfl rfl)
theorem dL_law_1369 : decode cL_law 1369 = .ok (.if_icmp .eq 5, 3) := dk_159 0 5 (dk_at dksL_law_54 5 rfl rfl)
theorem dL_law_1372 : decode cL_law 1372 = .ok (.iconst 0, 1) := dk_3 (dk_at dksL_law_54 8 rfl rfl)
theorem dL_law_1373 : decode cL_law 1373 = .ok (.ireturn, 1) := dk_172 (dk_at dksL_law_54 9 rfl rfl)
theorem dL_law_1374 : decode cL_law 1374 = .ok (.iload 5, 2) := dk_21 5 (dk_at dksL_law_54 10 rfl rfl)
theorem dL_law_1376 : decode cL_law 1376 = .ok (.ifCond .ne 15, 3) := dk_154 0 15 (dk_at dksL_law_54 12 rfl rfl)
theorem dL_law_1379 : decode cL_law 1379 = .ok (.aload_n 3, 1) := dk_45 (dk_at dksL_law_54 15 rfl rfl)
theorem dL_law_1380 : decode cL_law 1380 = .ok (.iconst 0, 1) := dk_3 (dk_at dksL_law_54 16 rfl rfl)
theorem dL_law_1381 : decode cL_law 1381 = .ok (.laload, 1) := dk_47 (dk_at dksL_law_54 17 rfl rfl)
theorem dL_law_1382 : decode cL_law 1382 = .ok (.iload 6, 2) := dk_21 6 (dk_at dksL_law_54 18 rfl rfl)
theorem dL_law_1384 : decode cL_law 1384 = .ok (.i2l, 1) := dk_133 (dk_at dksL_law_54 20 rfl rfl)
theorem dL_law_1385 : decode cL_law 1385 = .ok (.lcmp, 1) := dk_148 (dk_at dksL_law_54 21 rfl rfl)
theorem dL_law_1386 : decode cL_law 1386 = .ok (.ifCond .eq 5, 3) := dk_153 0 5 (dk_at dksL_law_55 0 rfl rfl)
theorem dL_law_1389 : decode cL_law 1389 = .ok (.iconst 0, 1) := dk_3 (dk_at dksL_law_55 3 rfl rfl)
theorem dL_law_1390 : decode cL_law 1390 = .ok (.ireturn, 1) := dk_172 (dk_at dksL_law_55 4 rfl rfl)
theorem dL_law_1391 : decode cL_law 1391 = .ok (.goto 375, 3) := dk_167 1 119 (dk_at dksL_law_55 5 rfl rfl)
theorem dL_law_1394 : decode cL_law 1394 = .ok (.aload_n 1, 1) := dk_43 (dk_at dksL_law_55 8 rfl rfl)
theorem dL_law_1395 : decode cL_law 1395 = .ok (.aload_n 0, 1) := dk_42 (dk_at dksL_law_55 9 rfl rfl)
theorem dL_law_1396 : decode cL_law 1396 = .ok (.iload 4, 2) := dk_21 4 (dk_at dksL_law_55 10 rfl rfl)
theorem dL_law_1398 : decode cL_law 1398 = .ok (.iconst 1, 1) := dk_4 (dk_at dksL_law_55 12 rfl rfl)
theorem dL_law_1399 : decode cL_law 1399 = .ok (.iadd, 1) := dk_96 (dk_at dksL_law_55 13 rfl rfl)
theorem dL_law_1400 : decode cL_law 1400 = .ok (.iaload, 1) := dk_46 (dk_at dksL_law_55 14 rfl rfl)
theorem dL_law_1401 : decode cL_law 1401 = .ok (.aload_n 0, 1) := dk_42 (dk_at dksL_law_55 15 rfl rfl)
theorem dL_law_1402 : decode cL_law 1402 = .ok (.iload 4, 2) := dk_21 4 (dk_at dksL_law_55 16 rfl rfl)
theorem dL_law_1404 : decode cL_law 1404 = .ok (.iconst 2, 1) := dk_5 (dk_at dksL_law_55 18 rfl rfl)
theorem dL_law_1405 : decode cL_law 1405 = .ok (.iadd, 1) := dk_96 (dk_at dksL_law_55 19 rfl rfl)
theorem dL_law_1406 : decode cL_law 1406 = .ok (.iaload, 1) := dk_46 (dk_at dksL_law_55 20 rfl rfl)
theorem dL_law_1407 : decode cL_law 1407 = .ok (.aload_n 3, 1) := dk_45 (dk_at dksL_law_55 21 rfl rfl)
theorem dL_law_1408 : decode cL_law 1408 = .ok (.invokestatic 173, 3) := dk_184 0 173 (dk_at dksL_law_56 0 rfl rfl)
theorem dL_law_1411 : decode cL_law 1411 = .ok (.istore 5, 2) := dk_54 5 (dk_at dksL_law_56 3 rfl rfl)
theorem dL_law_1413 : decode cL_law 1413 = .ok (.aload_n 2, 1) := dk_44 (dk_at dksL_law_56 5 rfl rfl)
theorem dL_law_1414 : decode cL_law 1414 = .ok (.aload_n 0, 1) := dk_42 (dk_at dksL_law_56 6 rfl rfl)
theorem dL_law_1415 : decode cL_law 1415 = .ok (.iload 4, 2) := dk_21 4 (dk_at dksL_law_56 7 rfl rfl)
theorem dL_law_1417 : decode cL_law 1417 = .ok (.iconst 1, 1) := dk_4 (dk_at dksL_law_56 9 rfl rfl)
theorem dL_law_1418 : decode cL_law 1418 = .ok (.iadd, 1) := dk_96 (dk_at dksL_law_56 10 rfl rfl)
theorem dL_law_1419 : decode cL_law 1419 = .ok (.iaload, 1) := dk_46 (dk_at dksL_law_56 11 rfl rfl)
theorem dL_law_1420 : decode cL_law 1420 = .ok (.aload_n 0, 1) := dk_42 (dk_at dksL_law_56 12 rfl rfl)
theorem dL_law_1421 : decode cL_law 1421 = .ok (.iload 4, 2) := dk_21 4 (dk_at dksL_law_56 13 rfl rfl)
theorem dL_law_1423 : decode cL_law 1423 = .ok (.iconst 2, 1) := dk_5 (dk_at dksL_law_56 15 rfl rfl)
theorem dL_law_1424 : decode cL_law 1424 = .ok (.iadd, 1) := dk_96 (dk_at dksL_law_56 16 rfl rfl)
theorem dL_law_1425 : decode cL_law 1425 = .ok (.iaload, 1) := dk_46 (dk_at dksL_law_56 17 rfl rfl)
theorem dL_law_1426 : decode cL_law 1426 = .ok (.invokevirtual 175, 3) := dk_182 0 175 (dk_at dksL_law_56 18 rfl rfl)
theorem dL_law_1429 : decode cL_law 1429 = .ok (.istore 6, 2) := dk_54 6 (dk_at dksL_law_56 21 rfl rfl)
theorem dL_law_1431 : decode cL_law 1431 = .ok (.aload_n 2, 1) := dk_44 (dk_at dksL_law_56 23 rfl rfl)
theorem dL_law_1432 : decode cL_law 1432 = .ok (.invokevirtual 111, 3) := dk_182 0 111 (dk_at dksL_law_57 0 rfl rfl)
theorem dL_law_1435 : decode cL_law 1435 = .ok (.iload 5, 2) := dk_21 5 (dk_at dksL_law_57 3 rfl rfl)
theorem dL_law_1437 : decode cL_law 1437 = .ok (.if_icmp .eq 5, 3) := dk_159 0 5 (dk_at dksL_law_57 5 rfl rfl)
theorem dL_law_1440 : decode cL_law 1440 = .ok (.iconst 0, 1) := dk_3 (dk_at dksL_law_57 8 rfl rfl)
theorem dL_law_1441 : decode cL_law 1441 = .ok (.ireturn, 1) := dk_172 (dk_at dksL_law_57 9 rfl rfl)
theorem dL_law_1442 : decode cL_law 1442 = .ok (.iload 5, 2) := dk_21 5 (dk_at dksL_law_57 10 rfl rfl)
theorem dL_law_1444 : decode cL_law 1444 = .ok (.ifCond .ne 15, 3) := dk_154 0 15 (dk_at dksL_law_57 12 rfl rfl)
theorem dL_law_1447 : decode cL_law 1447 = .ok (.aload_n 3, 1) := dk_45 (dk_at dksL_law_57 15 rfl rfl)
theorem dL_law_1448 : decode cL_law 1448 = .ok (.iconst 0, 1) := dk_3 (dk_at dksL_law_57 16 rfl rfl)
theorem dL_law_1449 : decode cL_law 1449 = .ok (.laload, 1) := dk_47 (dk_at dksL_law_57 17 rfl rfl)
theorem dL_law_1450 : decode cL_law 1450 = .ok (.iload 6, 2) := dk_21 6 (dk_at dksL_law_57 18 rfl rfl)
theorem dL_law_1452 : decode cL_law 1452 = .ok (.i2l, 1) := dk_133 (dk_at dksL_law_57 20 rfl rfl)
theorem dL_law_1453 : decode cL_law 1453 = .ok (.lcmp, 1) := dk_148 (dk_at dksL_law_57 21 rfl rfl)
theorem dL_law_1454 : decode cL_law 1454 = .ok (.ifCond .eq 5, 3) := dk_153 0 5 (dk_at dksL_law_58 0 rfl rfl)
theorem dL_law_1457 : decode cL_law 1457 = .ok (.iconst 0, 1) := dk_3 (dk_at dksL_law_58 3 rfl rfl)
theorem dL_law_1458 : decode cL_law 1458 = .ok (.ireturn, 1) := dk_172 (dk_at dksL_law_58 4 rfl rfl)
theorem dL_law_1459 : decode cL_law 1459 = .ok (.goto 307, 3) := dk_167 1 51 (dk_at dksL_law_58 5 rfl rfl)
theorem dL_law_1462 : decode cL_law 1462 = .ok (.aload_n 1, 1) := dk_43 (dk_at dksL_law_58 8 rfl rfl)
theorem dL_law_1463 : decode cL_law 1463 = .ok (.aload_n 0, 1) := dk_42 (dk_at dksL_law_58 9 rfl rfl)
theorem dL_law_1464 : decode cL_law 1464 = .ok (.iload 4, 2) := dk_21 4 (dk_at dksL_law_58 10 rfl rfl)
theorem dL_law_1466 : decode cL_law 1466 = .ok (.iconst 1, 1) := dk_4 (dk_at dksL_law_58 12 rfl rfl)
theorem dL_law_1467 : decode cL_law 1467 = .ok (.iadd, 1) := dk_96 (dk_at dksL_law_58 13 rfl rfl)
theorem dL_law_1468 : decode cL_law 1468 = .ok (.iaload, 1) := dk_46 (dk_at dksL_law_58 14 rfl rfl)
theorem dL_law_1469 : decode cL_law 1469 = .ok (.aload_n 3, 1) := dk_45 (dk_at dksL_law_58 15 rfl rfl)
theorem dL_law_1470 : decode cL_law 1470 = .ok (.invokestatic 176, 3) := dk_184 0 176 (dk_at dksL_law_58 16 rfl rfl)
theorem dL_law_1473 : decode cL_law 1473 = .ok (.istore 5, 2) := dk_54 5 (dk_at dksL_law_58 19 rfl rfl)
theorem dL_law_1475 : decode cL_law 1475 = .ok (.aload_n 2, 1) := dk_44 (dk_at dksL_law_58 21 rfl rfl)
theorem dL_law_1476 : decode cL_law 1476 = .ok (.aload_n 0, 1) := dk_42 (dk_at dksL_law_58 22 rfl rfl)
theorem dL_law_1477 : decode cL_law 1477 = .ok (.iload 4, 2) := dk_21 4 (dk_at dksL_law_59 0 rfl rfl)
theorem dL_law_1479 : decode cL_law 1479 = .ok (.iconst 1, 1) := dk_4 (dk_at dksL_law_59 2 rfl rfl)
theorem dL_law_1480 : decode cL_law 1480 = .ok (.iadd, 1) := dk_96 (dk_at dksL_law_59 3 rfl rfl)
theorem dL_law_1481 : decode cL_law 1481 = .ok (.iaload, 1) := dk_46 (dk_at dksL_law_59 4 rfl rfl)
theorem dL_law_1482 : decode cL_law 1482 = .ok (.invokevirtual 178, 3) := dk_182 0 178 (dk_at dksL_law_59 5 rfl rfl)
theorem dL_law_1485 : decode cL_law 1485 = .ok (.istore 6, 2) := dk_54 6 (dk_at dksL_law_59 8 rfl rfl)
theorem dL_law_1487 : decode cL_law 1487 = .ok (.aload_n 2, 1) := dk_44 (dk_at dksL_law_59 10 rfl rfl)
theorem dL_law_1488 : decode cL_law 1488 = .ok (.invokevirtual 111, 3) := dk_182 0 111 (dk_at dksL_law_59 11 rfl rfl)
theorem dL_law_1491 : decode cL_law 1491 = .ok (.iload 5, 2) := dk_21 5 (dk_at dksL_law_59 14 rfl rfl)
theorem dL_law_1493 : decode cL_law 1493 = .ok (.if_icmp .eq 5, 3) := dk_159 0 5 (dk_at dksL_law_59 16 rfl rfl)
theorem dL_law_1496 : decode cL_law 1496 = .ok (.iconst 0, 1) := dk_3 (dk_at dksL_law_59 19 rfl rfl)
theorem dL_law_1497 : decode cL_law 1497 = .ok (.ireturn, 1) := dk_172 (dk_at dksL_law_59 20 rfl rfl)
theorem dL_law_1498 : decode cL_law 1498 = .ok (.iload 5, 2) := dk_21 5 (dk_at dksL_law_59 21 rfl rfl)
theorem dL_law_1500 : decode cL_law 1500 = .ok (.ifCond .ne 15, 3) := dk_154 0 15 (dk_at dksL_law_60 0 rfl rfl)
theorem dL_law_1503 : decode cL_law 1503 = .ok (.aload_n 3, 1) := dk_45 (dk_at dksL_law_60 3 rfl rfl)
theorem dL_law_1504 : decode cL_law 1504 = .ok (.iconst 0, 1) := dk_3 (dk_at dksL_law_60 4 rfl rfl)
theorem dL_law_1505 : decode cL_law 1505 = .ok (.laload, 1) := dk_47 (dk_at dksL_law_60 5 rfl rfl)
theorem dL_law_1506 : decode cL_law 1506 = .ok (.iload 6, 2) := dk_21 6 (dk_at dksL_law_60 6 rfl rfl)
theorem dL_law_1508 : decode cL_law 1508 = .ok (.i2l, 1) := dk_133 (dk_at dksL_law_60 8 rfl rfl)
theorem dL_law_1509 : decode cL_law 1509 = .ok (.lcmp, 1) := dk_148 (dk_at dksL_law_60 9 rfl rfl)
theorem dL_law_1510 : decode cL_law 1510 = .ok (.ifCond .eq 5, 3) := dk_153 0 5 (dk_at dksL_law_60 10 rfl rfl)
theorem dL_law_1513 : decode cL_law 1513 = .ok (.iconst 0, 1) := dk_3 (dk_at dksL_law_60 13 rfl rfl)
theorem dL_law_1514 : decode cL_law 1514 = .ok (.ireturn, 1) := dk_172 (dk_at dksL_law_60 14 rfl rfl)
theorem dL_law_1515 : decode cL_law 1515 = .ok (.goto 251, 3) := dk_167 0 251 (dk_at dksL_law_60 15 rfl rfl)
theorem dL_law_1518 : decode cL_law 1518 = .ok (.aload_n 1, 1) := dk_43 (dk_at dksL_law_60 18 rfl rfl)
theorem dL_law_1519 : decode cL_law 1519 = .ok (.aload_n 0, 1) := dk_42 (dk_at dksL_law_60 19 rfl rfl)
theorem dL_law_1520 : decode cL_law 1520 = .ok (.iload 4, 2) := dk_21 4 (dk_at dksL_law_60 20 rfl rfl)
theorem dL_law_1522 : decode cL_law 1522 = .ok (.iconst 1, 1) := dk_4 (dk_at dksL_law_60 22 rfl rfl)
theorem dL_law_1523 : decode cL_law 1523 = .ok (.iadd, 1) := dk_96 (dk_at dksL_law_60 23 rfl rfl)
theorem dL_law_1524 : decode cL_law 1524 = .ok (.iaload, 1) := dk_46 (dk_at dksL_law_61 0 rfl rfl)
theorem dL_law_1525 : decode cL_law 1525 = .ok (.aload_n 0, 1) := dk_42 (dk_at dksL_law_61 1 rfl rfl)
theorem dL_law_1526 : decode cL_law 1526 = .ok (.iload 4, 2) := dk_21 4 (dk_at dksL_law_61 2 rfl rfl)
theorem dL_law_1528 : decode cL_law 1528 = .ok (.iconst 2, 1) := dk_5 (dk_at dksL_law_61 4 rfl rfl)
theorem dL_law_1529 : decode cL_law 1529 = .ok (.iadd, 1) := dk_96 (dk_at dksL_law_61 5 rfl rfl)
theorem dL_law_1530 : decode cL_law 1530 = .ok (.iaload, 1) := dk_46 (dk_at dksL_law_61 6 rfl rfl)
theorem dL_law_1531 : decode cL_law 1531 = .ok (.aload_n 0, 1) := dk_42 (dk_at dksL_law_61 7 rfl rfl)
theorem dL_law_1532 : decode cL_law 1532 = .ok (.iload 4, 2) := dk_21 4 (dk_at dksL_law_61 8 rfl rfl)
theorem dL_law_1534 : decode cL_law 1534 = .ok (.iconst 3, 1) := dk_6 (dk_at dksL_law_61 10 rfl rfl)
theorem dL_law_1535 : decode cL_law 1535 = .ok (.iadd, 1) := dk_96 (dk_at dksL_law_61 11 rfl rfl)
theorem dL_law_1536 : decode cL_law 1536 = .ok (.iaload, 1) := dk_46 (dk_at dksL_law_61 12 rfl rfl)
theorem dL_law_1537 : decode cL_law 1537 = .ok (.aload_n 0, 1) := dk_42 (dk_at dksL_law_61 13 rfl rfl)
theorem dL_law_1538 : decode cL_law 1538 = .ok (.iload 4, 2) := dk_21 4 (dk_at dksL_law_61 14 rfl rfl)
theorem dL_law_1540 : decode cL_law 1540 = .ok (.iconst 4, 1) := dk_7 (dk_at dksL_law_61 16 rfl rfl)
theorem dL_law_1541 : decode cL_law 1541 = .ok (.iadd, 1) := dk_96 (dk_at dksL_law_61 17 rfl rfl)
theorem dL_law_1542 : decode cL_law 1542 = .ok (.iaload, 1) := dk_46 (dk_at dksL_law_61 18 rfl rfl)
theorem dL_law_1543 : decode cL_law 1543 = .ok (.aload_n 0, 1) := dk_42 (dk_at dksL_law_61 19 rfl rfl)
theorem dL_law_1544 : decode cL_law 1544 = .ok (.iload 4, 2) := dk_21 4 (dk_at dksL_law_61 20 rfl rfl)
theorem dL_law_1546 : decode cL_law 1546 = .ok (.iconst 5, 1) := dk_8 (dk_at dksL_law_61 22 rfl rfl)
theorem dL_law_1547 : decode cL_law 1547 = .ok (.iadd, 1) := dk_96 (dk_at dksL_law_61 23 rfl rfl)
theorem dL_law_1548 : decode cL_law 1548 = .ok (.iaload, 1) := dk_46 (dk_at dksL_law_62 0 rfl rfl)
theorem dL_law_1549 : decode cL_law 1549 = .ok (.ifCond .eq 7, 3) := dk_153 0 7 (dk_at dksL_law_62 1 rfl rfl)
theorem dL_law_1552 : decode cL_law 1552 = .ok (.iconst 1, 1) := dk_4 (dk_at dksL_law_62 4 rfl rfl)
theorem dL_law_1553 : decode cL_law 1553 = .ok (.goto 4, 3) := dk_167 0 4 (dk_at dksL_law_62 5 rfl rfl)
theorem dL_law_1556 : decode cL_law 1556 = .ok (.iconst 0, 1) := dk_3 (dk_at dksL_law_62 8 rfl rfl)
theorem dL_law_1557 : decode cL_law 1557 = .ok (.aload_n 3, 1) := dk_45 (dk_at dksL_law_62 9 rfl rfl)
theorem dL_law_1558 : decode cL_law 1558 = .ok (.invokestatic 179, 3) := dk_184 0 179 (dk_at dksL_law_62 10 rfl rfl)
theorem dL_law_1561 : decode cL_law 1561 = .ok (.istore 5, 2) := dk_54 5 (dk_at dksL_law_62 13 rfl rfl)
theorem dL_law_1563 : decode cL_law 1563 = .ok (.aload_n 2, 1) := dk_44 (dk_at dksL_law_62 15 rfl rfl)
theorem dL_law_1564 : decode cL_law 1564 = .ok (.aload_n 0, 1) := dk_42 (dk_at dksL_law_62 16 rfl rfl)
theorem dL_law_1565 : decode cL_law 1565 = .ok (.iload 4, 2) := dk_21 4 (dk_at dksL_law_62 17 rfl rfl)
theorem dL_law_1567 : decode cL_law 1567 = .ok (.iconst 1, 1) := dk_4 (dk_at dksL_law_62 19 rfl rfl)
theorem dL_law_1568 : decode cL_law 1568 = .ok (.iadd, 1) := dk_96 (dk_at dksL_law_62 20 rfl rfl)
theorem dL_law_1569 : decode cL_law 1569 = .ok (.iaload, 1) := dk_46 (dk_at dksL_law_62 21 rfl rfl)
theorem dL_law_1570 : decode cL_law 1570 = .ok (.aload_n 0, 1) := dk_42 (dk_at dksL_law_62 22 rfl rfl)
theorem dL_law_1571 : decode cL_law 1571 = .ok (.iload 4, 2) := dk_21 4 (dk_at dksL_law_63 0 rfl rfl)
theorem dL_law_1573 : decode cL_law 1573 = .ok (.iconst 2, 1) := dk_5 (dk_at dksL_law_63 2 rfl rfl)
theorem dL_law_1574 : decode cL_law 1574 = .ok (.iadd, 1) := dk_96 (dk_at dksL_law_63 3 rfl rfl)
theorem dL_law_1575 : decode cL_law 1575 = .ok (.iaload, 1) := dk_46 (dk_at dksL_law_63 4 rfl rfl)
theorem dL_law_1576 : decode cL_law 1576 = .ok (.aload_n 0, 1) := dk_42 (dk_at dksL_law_63 5 rfl rfl)
theorem dL_law_1577 : decode cL_law 1577 = .ok (.iload 4, 2) := dk_21 4 (dk_at dksL_law_63 6 rfl rfl)
theorem dL_law_1579 : decode cL_law 1579 = .ok (.iconst 3, 1) := dk_6 (dk_at dksL_law_63 8 rfl rfl)
theorem dL_law_1580 : decode cL_law 1580 = .ok (.iadd, 1) := dk_96 (dk_at dksL_law_63 9 rfl rfl)
theorem dL_law_1581 : decode cL_law 1581 = .ok (.iaload, 1) := dk_46 (dk_at dksL_law_63 10 rfl rfl)
theorem dL_law_1582 : decode cL_law 1582 = .ok (.aload_n 0, 1) := dk_42 (dk_at dksL_law_63 11 rfl rfl)
theorem dL_law_1583 : decode cL_law 1583 = .ok (.iload 4, 2) := dk_21 4 (dk_at dksL_law_63 12 rfl rfl)
theorem dL_law_1585 : decode cL_law 1585 = .ok (.iconst 4, 1) := dk_7 (dk_at dksL_law_63 14 rfl rfl)
theorem dL_law_1586 : decode cL_law 1586 = .ok (.iadd, 1) := dk_96 (dk_at dksL_law_63 15 rfl rfl)
theorem dL_law_1587 : decode cL_law 1587 = .ok (.iaload, 1) := dk_46 (dk_at dksL_law_63 16 rfl rfl)
theorem dL_law_1588 : decode cL_law 1588 = .ok (.aload_n 0, 1) := dk_42 (dk_at dksL_law_63 17 rfl rfl)
theorem dL_law_1589 : decode cL_law 1589 = .ok (.iload 4, 2) := dk_21 4 (dk_at dksL_law_63 18 rfl rfl)
theorem dL_law_1591 : decode cL_law 1591 = .ok (.iconst 5, 1) := dk_8 (dk_at dksL_law_63 20 rfl rfl)
theorem dL_law_1592 : decode cL_law 1592 = .ok (.iadd, 1) := dk_96 (dk_at dksL_law_63 21 rfl rfl)
theorem dL_law_1593 : decode cL_law 1593 = .ok (.iaload, 1) := dk_46 (dk_at dksL_law_63 22 rfl rfl)
theorem dL_law_1594 : decode cL_law 1594 = .ok (.ifCond .eq 7, 3) := dk_153 0 7 (dk_at dksL_law_64 0 rfl rfl)
theorem dL_law_1597 : decode cL_law 1597 = .ok (.iconst 1, 1) := dk_4 (dk_at dksL_law_64 3 rfl rfl)
theorem dL_law_1598 : decode cL_law 1598 = .ok (.goto 4, 3) := dk_167 0 4 (dk_at dksL_law_64 4 rfl rfl)
theorem dL_law_1601 : decode cL_law 1601 = .ok (.iconst 0, 1) := dk_3 (dk_at dksL_law_64 7 rfl rfl)
theorem dL_law_1602 : decode cL_law 1602 = .ok (.invokevirtual 182, 3) := dk_182 0 182 (dk_at dksL_law_64 8 rfl rfl)
theorem dL_law_1605 : decode cL_law 1605 = .ok (.lstore 6, 2) := dk_55 6 (dk_at dksL_law_64 11 rfl rfl)
theorem dL_law_1607 : decode cL_law 1607 = .ok (.aload_n 2, 1) := dk_44 (dk_at dksL_law_64 13 rfl rfl)
theorem dL_law_1608 : decode cL_law 1608 = .ok (.invokevirtual 111, 3) := dk_182 0 111 (dk_at dksL_law_64 14 rfl rfl)
theorem dL_law_1611 : decode cL_law 1611 = .ok (.iload 5, 2) := dk_21 5 (dk_at dksL_law_64 17 rfl rfl)
theorem dL_law_1613 : decode cL_law 1613 = .ok (.if_icmp .eq 5, 3) := dk_159 0 5 (dk_at dksL_law_64 19 rfl rfl)
theorem dL_law_1616 : decode cL_law 1616 = .ok (.iconst 0, 1) := dk_3 (dk_at dksL_law_64 22 rfl rfl)
theorem dL_law_1617 : decode cL_law 1617 = .ok (.ireturn, 1) := dk_172 (dk_at dksL_law_64 23 rfl rfl)
theorem dL_law_1618 : decode cL_law 1618 = .ok (.iload 5, 2) := dk_21 5 (dk_at dksL_law_65 0 rfl rfl)
theorem dL_law_1620 : decode cL_law 1620 = .ok (.ifCond .ne 14, 3) := dk_154 0 14 (dk_at dksL_law_65 2 rfl rfl)
theorem dL_law_1623 : decode cL_law 1623 = .ok (.aload_n 3, 1) := dk_45 (dk_at dksL_law_65 5 rfl rfl)
theorem dL_law_1624 : decode cL_law 1624 = .ok (.iconst 0, 1) := dk_3 (dk_at dksL_law_65 6 rfl rfl)
theorem dL_law_1625 : decode cL_law 1625 = .ok (.laload, 1) := dk_47 (dk_at dksL_law_65 7 rfl rfl)
theorem dL_law_1626 : decode cL_law 1626 = .ok (.lload 6, 2) := dk_22 6 (dk_at dksL_law_65 8 rfl rfl)
theorem dL_law_1628 : decode cL_law 1628 = .ok (.lcmp, 1) := dk_148 (dk_at dksL_law_65 10 rfl rfl)
theorem dL_law_1629 : decode cL_law 1629 = .ok (.ifCond .eq 5, 3) := dk_153 0 5 (dk_at dksL_law_65 11 rfl rfl)
theorem dL_law_1632 : decode cL_law 1632 = .ok (.iconst 0, 1) := dk_3 (dk_at dksL_law_65 14 rfl rfl)
theorem dL_law_1633 : decode cL_law 1633 = .ok (.ireturn, 1) := dk_172 (dk_at dksL_law_65 15 rfl rfl)
theorem dL_law_1634 : decode cL_law 1634 = .ok (.goto 132, 3) := dk_167 0 132 (dk_at dksL_law_65 16 rfl rfl)
theorem dL_law_1637 : decode cL_law 1637 = .ok (.aload_n 1, 1) := dk_43 (dk_at dksL_law_65 19 rfl rfl)
theorem dL_law_1638 : decode cL_law 1638 = .ok (.aload_n 0, 1) := dk_42 (dk_at dksL_law_65 20 rfl rfl)
theorem dL_law_1639 : decode cL_law 1639 = .ok (.iload 4, 2) := dk_21 4 (dk_at dksL_law_65 21 rfl rfl)
theorem dL_law_1641 : decode cL_law 1641 = .ok (.iconst 1, 1) := dk_4 (dk_at dksL_law_65 23 rfl rfl)
theorem dL_law_1642 : decode cL_law 1642 = .ok (.iadd, 1) := dk_96 (dk_at dksL_law_66 0 rfl rfl)
theorem dL_law_1643 : decode cL_law 1643 = .ok (.iaload, 1) := dk_46 (dk_at dksL_law_66 1 rfl rfl)
theorem dL_law_1644 : decode cL_law 1644 = .ok (.aload_n 0, 1) := dk_42 (dk_at dksL_law_66 2 rfl rfl)
theorem dL_law_1645 : decode cL_law 1645 = .ok (.iload 4, 2) := dk_21 4 (dk_at dksL_law_66 3 rfl rfl)
theorem dL_law_1647 : decode cL_law 1647 = .ok (.iconst 2, 1) := dk_5 (dk_at dksL_law_66 5 rfl rfl)
theorem dL_law_1648 : decode cL_law 1648 = .ok (.iadd, 1) := dk_96 (dk_at dksL_law_66 6 rfl rfl)
theorem dL_law_1649 : decode cL_law 1649 = .ok (.iaload, 1) := dk_46 (dk_at dksL_law_66 7 rfl rfl)
theorem dL_law_1650 : decode cL_law 1650 = .ok (.aload_n 0, 1) := dk_42 (dk_at dksL_law_66 8 rfl rfl)
theorem dL_law_1651 : decode cL_law 1651 = .ok (.iload 4, 2) := dk_21 4 (dk_at dksL_law_66 9 rfl rfl)
theorem dL_law_1653 : decode cL_law 1653 = .ok (.iconst 3, 1) := dk_6 (dk_at dksL_law_66 11 rfl rfl)
theorem dL_law_1654 : decode cL_law 1654 = .ok (.iadd, 1) := dk_96 (dk_at dksL_law_66 12 rfl rfl)
theorem dL_law_1655 : decode cL_law 1655 = .ok (.iaload, 1) := dk_46 (dk_at dksL_law_66 13 rfl rfl)
theorem dL_law_1656 : decode cL_law 1656 = .ok (.aload_n 3, 1) := dk_45 (dk_at dksL_law_66 14 rfl rfl)
theorem dL_law_1657 : decode cL_law 1657 = .ok (.invokestatic 183, 3) := dk_184 0 183 (dk_at dksL_law_66 15 rfl rfl)
theorem dL_law_1660 : decode cL_law 1660 = .ok (.istore 5, 2) := dk_54 5 (dk_at dksL_law_66 18 rfl rfl)
theorem dL_law_1662 : decode cL_law 1662 = .ok (.aload_n 2, 1) := dk_44 (dk_at dksL_law_66 20 rfl rfl)
theorem dL_law_1663 : decode cL_law 1663 = .ok (.aload_n 0, 1) := dk_42 (dk_at dksL_law_66 21 rfl rfl)
theorem dL_law_1664 : decode cL_law 1664 = .ok (.iload 4, 2) := dk_21 4 (dk_at dksL_law_66 22 rfl rfl)
theorem dL_law_1666 : decode cL_law 1666 = .ok (.iconst 1, 1) := dk_4 (dk_at dksL_law_67 0 rfl rfl)
theorem dL_law_1667 : decode cL_law 1667 = .ok (.iadd, 1) := dk_96 (dk_at dksL_law_67 1 rfl rfl)
theorem dL_law_1668 : decode cL_law 1668 = .ok (.iaload, 1) := dk_46 (dk_at dksL_law_67 2 rfl rfl)
theorem dL_law_1669 : decode cL_law 1669 = .ok (.aload_n 0, 1) := dk_42 (dk_at dksL_law_67 3 rfl rfl)
theorem dL_law_1670 : decode cL_law 1670 = .ok (.iload 4, 2) := dk_21 4 (dk_at dksL_law_67 4 rfl rfl)
theorem dL_law_1672 : decode cL_law 1672 = .ok (.iconst 2, 1) := dk_5 (dk_at dksL_law_67 6 rfl rfl)
theorem dL_law_1673 : decode cL_law 1673 = .ok (.iadd, 1) := dk_96 (dk_at dksL_law_67 7 rfl rfl)
theorem dL_law_1674 : decode cL_law 1674 = .ok (.iaload, 1) := dk_46 (dk_at dksL_law_67 8 rfl rfl)
theorem dL_law_1675 : decode cL_law 1675 = .ok (.aload_n 0, 1) := dk_42 (dk_at dksL_law_67 9 rfl rfl)
theorem dL_law_1676 : decode cL_law 1676 = .ok (.iload 4, 2) := dk_21 4 (dk_at dksL_law_67 10 rfl rfl)
theorem dL_law_1678 : decode cL_law 1678 = .ok (.iconst 3, 1) := dk_6 (dk_at dksL_law_67 12 rfl rfl)
theorem dL_law_1679 : decode cL_law 1679 = .ok (.iadd, 1) := dk_96 (dk_at dksL_law_67 13 rfl rfl)
theorem dL_law_1680 : decode cL_law 1680 = .ok (.iaload, 1) := dk_46 (dk_at dksL_law_67 14 rfl rfl)
theorem dL_law_1681 : decode cL_law 1681 = .ok (.invokevirtual 185, 3) := dk_182 0 185 (dk_at dksL_law_67 15 rfl rfl)
theorem dL_law_1684 : decode cL_law 1684 = .ok (.istore 6, 2) := dk_54 6 (dk_at dksL_law_67 18 rfl rfl)
theorem dL_law_1686 : decode cL_law 1686 = .ok (.aload_n 2, 1) := dk_44 (dk_at dksL_law_67 20 rfl rfl)
theorem dL_law_1687 : decode cL_law 1687 = .ok (.invokevirtual 111, 3) := dk_182 0 111 (dk_at dksL_law_67 21 rfl rfl)
theorem dL_law_1690 : decode cL_law 1690 = .ok (.iload 5, 2) := dk_21 5 (dk_at dksL_law_68 0 rfl rfl)
theorem dL_law_1692 : decode cL_law 1692 = .ok (.if_icmp .eq 5, 3) := dk_159 0 5 (dk_at dksL_law_68 2 rfl rfl)
theorem dL_law_1695 : decode cL_law 1695 = .ok (.iconst 0, 1) := dk_3 (dk_at dksL_law_68 5 rfl rfl)
theorem dL_law_1696 : decode cL_law 1696 = .ok (.ireturn, 1) := dk_172 (dk_at dksL_law_68 6 rfl rfl)
theorem dL_law_1697 : decode cL_law 1697 = .ok (.iload 5, 2) := dk_21 5 (dk_at dksL_law_68 7 rfl rfl)
theorem dL_law_1699 : decode cL_law 1699 = .ok (.ifCond .ne 15, 3) := dk_154 0 15 (dk_at dksL_law_68 9 rfl rfl)
theorem dL_law_1702 : decode cL_law 1702 = .ok (.aload_n 3, 1) := dk_45 (dk_at dksL_law_68 12 rfl rfl)
theorem dL_law_1703 : decode cL_law 1703 = .ok (.iconst 0, 1) := dk_3 (dk_at dksL_law_68 13 rfl rfl)
theorem dL_law_1704 : decode cL_law 1704 = .ok (.laload, 1) := dk_47 (dk_at dksL_law_68 14 rfl rfl)
theorem dL_law_1705 : decode cL_law 1705 = .ok (.iload 6, 2) := dk_21 6 (dk_at dksL_law_68 15 rfl rfl)
theorem dL_law_1707 : decode cL_law 1707 = .ok (.i2l, 1) := dk_133 (dk_at dksL_law_68 17 rfl rfl)
theorem dL_law_1708 : decode cL_law 1708 = .ok (.lcmp, 1) := dk_148 (dk_at dksL_law_68 18 rfl rfl)
theorem dL_law_1709 : decode cL_law 1709 = .ok (.ifCond .eq 5, 3) := dk_153 0 5 (dk_at dksL_law_68 19 rfl rfl)
theorem dL_law_1712 : decode cL_law 1712 = .ok (.iconst 0, 1) := dk_3 (dk_at dksL_law_68 22 rfl rfl)
theorem dL_law_1713 : decode cL_law 1713 = .ok (.ireturn, 1) := dk_172 (dk_at dksL_law_68 23 rfl rfl)
theorem dL_law_1714 : decode cL_law 1714 = .ok (.goto 52, 3) := dk_167 0 52 (dk_at dksL_law_69 0 rfl rfl)
theorem dL_law_1717 : decode cL_law 1717 = .ok (.aload_n 1, 1) := dk_43 (dk_at dksL_law_69 3 rfl rfl)
theorem dL_law_1718 : decode cL_law 1718 = .ok (.invokevirtual 186, 3) := dk_182 0 186 (dk_at dksL_law_69 4 rfl rfl)
theorem dL_law_1721 : decode cL_law 1721 = .ok (.aload_n 2, 1) := dk_44 (dk_at dksL_law_69 7 rfl rfl)
theorem dL_law_1722 : decode cL_law 1722 = .ok (.invokevirtual 189, 3) := dk_182 0 189 (dk_at dksL_law_69 8 rfl rfl)
theorem dL_law_1725 : decode cL_law 1725 = .ok (.goto 41, 3) := dk_167 0 41 (dk_at dksL_law_69 11 rfl rfl)
theorem dL_law_1728 : decode cL_law 1728 = .ok (.aload_n 1, 1) := dk_43 (dk_at dksL_law_69 14 rfl rfl)
theorem dL_law_1729 : decode cL_law 1729 = .ok (.invokevirtual 190, 3) := dk_182 0 190 (dk_at dksL_law_69 15 rfl rfl)
theorem dL_law_1732 : decode cL_law 1732 = .ok (.aload_n 2, 1) := dk_44 (dk_at dksL_law_69 18 rfl rfl)
theorem dL_law_1733 : decode cL_law 1733 = .ok (.invokevirtual 194, 3) := dk_182 0 194 (dk_at dksL_law_69 19 rfl rfl)
theorem dL_law_1736 : decode cL_law 1736 = .ok (.if_icmp .eq 30, 3) := dk_159 0 30 (dk_at dksL_law_70 0 rfl rfl)
theorem dL_law_1739 : decode cL_law 1739 = .ok (.iconst 0, 1) := dk_3 (dk_at dksL_law_70 3 rfl rfl)
theorem dL_law_1740 : decode cL_law 1740 = .ok (.ireturn, 1) := dk_172 (dk_at dksL_law_70 4 rfl rfl)
theorem dL_law_1741 : decode cL_law 1741 = .ok (.aload_n 1, 1) := dk_43 (dk_at dksL_law_70 5 rfl rfl)
theorem dL_law_1742 : decode cL_law 1742 = .ok (.aload_n 0, 1) := dk_42 (dk_at dksL_law_70 6 rfl rfl)
theorem dL_law_1743 : decode cL_law 1743 = .ok (.iload 4, 2) := dk_21 4 (dk_at dksL_law_70 7 rfl rfl)
theorem dL_law_1745 : decode cL_law 1745 = .ok (.iconst 1, 1) := dk_4 (dk_at dksL_law_70 9 rfl rfl)
theorem dL_law_1746 : decode cL_law 1746 = .ok (.iadd, 1) := dk_96 (dk_at dksL_law_70 10 rfl rfl)
theorem dL_law_1747 : decode cL_law 1747 = .ok (.iaload, 1) := dk_46 (dk_at dksL_law_70 11 rfl rfl)
theorem dL_law_1748 : decode cL_law 1748 = .ok (.invokevirtual 195, 3) := dk_182 0 195 (dk_at dksL_law_70 12 rfl rfl)
theorem dL_law_1751 : decode cL_law 1751 = .ok (.aload_n 2, 1) := dk_44 (dk_at dksL_law_70 15 rfl rfl)
theorem dL_law_1752 : decode cL_law 1752 = .ok (.aload_n 0, 1) := dk_42 (dk_at dksL_law_70 16 rfl rfl)
theorem dL_law_1753 : decode cL_law 1753 = .ok (.iload 4, 2) := dk_21 4 (dk_at dksL_law_70 17 rfl rfl)
theorem dL_law_1755 : decode cL_law 1755 = .ok (.iconst 1, 1) := dk_4 (dk_at dksL_law_70 19 rfl rfl)
theorem dL_law_1756 : decode cL_law 1756 = .ok (.iadd, 1) := dk_96 (dk_at dksL_law_70 20 rfl rfl)
theorem dL_law_1757 : decode cL_law 1757 = .ok (.iaload, 1) := dk_46 (dk_at dksL_law_70 21 rfl rfl)
theorem dL_law_1758 : decode cL_law 1758 = .ok (.invokevirtual 198, 3) := dk_182 0 198 (dk_at dksL_law_71 0 rfl rfl)
theorem dL_law_1761 : decode cL_law 1761 = .ok (.if_icmp .eq 5, 3) := dk_159 0 5 (dk_at dksL_law_71 3 rfl rfl)
theorem dL_law_1764 : decode cL_law 1764 = .ok (.iconst 0, 1) := dk_3 (dk_at dksL_law_71 6 rfl rfl)
theorem dL_law_1765 : decode cL_law 1765 = .ok (.ireturn, 1) := dk_172 (dk_at dksL_law_71 7 rfl rfl)
theorem dL_law_1766 : decode cL_law 1766 = .ok (.iinc 4 6, 3) := dk_132 4 6 (dk_at dksL_law_71 8 rfl rfl)
theorem dL_law_1769 : decode cL_law 1769 = .ok (.goto (-1746), 3) := dk_167 249 46 (dk_at dksL_law_71 11 rfl rfl)
theorem dL_law_1772 : decode cL_law 1772 = .ok (.iconst 1, 1) := dk_4 (dk_at dksL_law_71 14 rfl rfl)
theorem dL_law_1773 : decode cL_law 1773 = .ok (.ireturn, 1) := dk_172 (dk_at dksL_law_71 15 rfl rfl)
def zL_law : zz_Sp := fun as M Q X => match as with
  | [.inr (.inr (some s))] => bif Nat.beq s 1500 then (True ∧ Q (some (vi 1)) M) else False
  | _ => False

def zpL_law (n : Nat) (sc : Nat → Int) : zz_P := [(0, zo_new room_1 3 0 19), (3, zo_dup 4), (4, zo_ciF room_1 7 1 200 400000 zX1_init), (7, zo_ast 8 1), (8, zo_new room_1 11 8 32), (11, zo_dup 12), (12, zo_ciF room_1 15 1 17 354787 zX9_init), (15, zo_ast 16 2), (16, zo_c 17 (vi 1)), (17, zo_newa room_1 19 3 8), (19, zo_ast 20 3), (20, zo_c 21 (vi 0)), (21, zo_ist 23 4), (23, zo_ild 25 4), (25, zo_ald 26 0), (26, zo_slen n 27), (27, zo_c 29 (vi 6)), (29, zo_isub 30), (30, zo_cgt false false 33 1772), (33, zo_ald 34 0), (34, zo_ild 36 4), (36, zo_sld n sc 37), (37, zo_c 39 (vi 31)), (39, zo_iand 40), (40, zo_sw false [(0, 164), (1, 237), (2, 262), (3, 306), (4, 350), (5, 363), (6, 443), (7, 511), (8, 567), (9, 627), (10, 675), (11, 723), (12, 779), (13, 847), (14, 910), (15, 978), (16, 1074), (17, 1154), (18, 1234), (19, 1302), (20, 1394), (21, 1462), (22, 1518), (23, 1637), (24, 1717), (25, 1728), (26, 1741)] 1766), (164, zo_ald 165 1), (165, zo_ald 166 0), (166, zo_ild 168 4), (168, zo_c 169 (vi 1)), (169, zo_iadd 170), (170, zo_sld n sc 171), (171, zo_ald 172 0), (172, zo_ild 174 4), (174, zo_c 175 (vi 2)), (175, zo_iadd 176), (176, zo_sld n sc 177), (177, zo_ald 178 0), (178, zo_ild 180 4), (180, zo_c 181 (vi 3)), (181, zo_iadd 182), (182, zo_sld n sc 183), (183, zo_ald 184 0), (184, zo_ild 186 4), (186, zo_c 187 (vi 4)), (187, zo_iadd 188), (188, zo_sld n sc 189), (189, zo_ald 190 0), (190, zo_ild 192 4), (192, zo_c 193 (vi 5)), (193, zo_iadd 194), (194, zo_sld n sc 195), (195, zo_cvFp room_1 198 6 0 1 5 zX1_feed_w), (198, zo_ald 199 2), (199, zo_ald 200 0), (200, zo_ild 202 4), (202, zo_c 203 (vi 1)), (203, zo_iadd 204), (204, zo_sld n sc 205), (205, zo_ald 206 0), (206, zo_ild 208 4), (208, zo_c 209 (vi 2)), (209, zo_iadd 210), (210, zo_sld n sc 211), (211, zo_ald 212 0), (212, zo_ild 214 4), (214, zo_c 215 (vi 3)), (215, zo_iadd 216), (216, zo_sld n sc 217), (217, zo_ald 218 0), (218, zo_ild 220 4), (220, zo_c 221 (vi 4)), (221, zo_iadd 222), (222, zo_sld n sc 223), (223, zo_ald 224 0), (224, zo_ild 226 4), (226, zo_c 227 (vi 5)), (227, zo_iadd 228), (228, zo_sld n sc 229), (229, zo_cvFp room_1 232 6 8 0 0 zX9_feed_w), (232, zo_ceq false false 235 1766), (235, zo_c 236 (vi 0)), (236, zo_zret true), (237, zo_ald 238 1), (238, zo_ald 239 0), (239, zo_ild 241 4), (241, zo_c 242 (vi 1)), (242, zo_iadd 243), (243, zo_sld n sc 244), (244, zo_cvFp room_1 247 2 0 0 0 zX1_end_w), (247, zo_ald 248 2), (248, zo_ald 249 0), (249, zo_ild 251 4), (251, zo_c 252 (vi 1)), (252, zo_iadd 253), (253, zo_sld n sc 254), (254, zo_cvFp room_1 257 2 8 0 0 zX9_end_w), (257, zo_ceq false false 260 1766), (260, zo_c 261 (vi 0)), (261, zo_zret true), (262, zo_ald 263 1), (263, zo_ald 264 3), (264, zo_csF room_1 267 2 342 28900 zX0_court_w), (267, zo_ist 269 5), (269, zo_ald 270 2), (270, zo_cvFp room_1 273 1 8 0 0 zX9_court_w), (273, zo_ist 275 6), (275, zo_ald 276 2), (276, zo_cvFp room_1 279 1 8 0 0 zX9_thrown_w), (279, zo_ild 281 5), (281, zo_ceq false false 284 286), (284, zo_c 285 (vi 0)), (285, zo_zret true), (286, zo_ild 288 5), (288, zo_ifne false 291 303), (291, zo_ald 292 3), (292, zo_c 293 (vi 0)), (293, zo_lalp 294), (294, zo_ild 296 6), (296, zo_i2l 297), (297, zo_lcmp 298), (298, zo_ifeq false 301 303), (301, zo_c 302 (vi 0)), (302, zo_zret true), (303, zo_goto 1766), (306, zo_ald 307 1), (307, zo_ald 308 3), (308, zo_csF room_1 311 2 10110 57020 zX0_rule_w), (311, zo_ist 313 5), (313, zo_ald 314 2), (314, zo_cvFp room_1 317 1 8 0 0 zX9_rule_w), (317, zo_ist 319 6), (319, zo_ald 320 2), (320, zo_cvFp room_1 323 1 8 0 0 zX9_thrown_w), (323, zo_ild 325 5), (325, zo_ceq false false 328 330), (328, zo_c 329 (vi 0)), (329, zo_zret true), (330, zo_ild 332 5), (332, zo_ifne false 335 347), (335, zo_ald 336 3), (336, zo_c 337 (vi 0)), (337, zo_lalp 338), (338, zo_ild 340 6), (340, zo_i2l 341), (341, zo_lcmp 342), (342, zo_ifeq false 345 347), (345, zo_c 346 (vi 0)), (346, zo_zret true), (347, zo_goto 1766), (350, zo_ald 351 1), (351, zo_cvFp room_1 354 1 0 0 0 zX1_fault_w), (354, zo_ald 355 2), (355, zo_cvFp room_1 358 1 8 0 0 zX9_fault_w), (358, zo_ceq false false 361 1766), (361, zo_c 362 (vi 0)), (362, zo_zret true), (363, zo_ald 364 1), (364, zo_ald 365 0), (365, zo_ild 367 4), (367, zo_c 368 (vi 1)), (368, zo_iadd 369), (369, zo_sld n sc 370), (370, zo_ald 371 0), (371, zo_ild 373 4), (373, zo_c 374 (vi 2)), (374, zo_iadd 375), (375, zo_sld n sc 376), (376, zo_ald 377 0), (377, zo_ild 379 4), (379, zo_c 380 (vi 3)), (380, zo_iadd 381), (381, zo_sld n sc 382), (382, zo_ald 383 3), (383, zo_csF room_1 386 5 3 18 zX0_look_w), (386, zo_ist 388 5), (388, zo_ald 389 2), (389, zo_ald 390 0), (390, zo_ild 392 4), (392, zo_c 393 (vi 1)), (393, zo_iadd 394), (394, zo_sld n sc 395), (395, zo_ald 396 0), (396, zo_ild 398 4), (398, zo_c 399 (vi 2)), (399, zo_iadd 400), (400, zo_sld n sc 401), (401, zo_ald 402 0), (402, zo_ild 404 4), (404, zo_c 405 (vi 3)), (405, zo_iadd 406), (406, zo_sld n sc 407), (407, zo_cvFp room_1 410 4 8 0 0 zX9_look_w), (410, zo_ist 412 6), (412, zo_ald 413 2), (413, zo_cvFp room_1 416 1 8 0 0 zX9_thrown_w), (416, zo_ild 418 5), (418, zo_ceq false false 421 423), (421, zo_c 422 (vi 0)), (422, zo_zret true), (423, zo_ild 425 5), (425, zo_ifne false 428 440), (428, zo_ald 429 3), (429, zo_c 430 (vi 0)), (430, zo_lalp 431), (431, zo_ild 433 6), (433, zo_i2l 434), (434, zo_lcmp 435), (435, zo_ifeq false 438 440), (438, zo_c 439 (vi 0)), (439, zo_zret true), (440, zo_goto 1766), (443, zo_ald 444 1), (444, zo_ald 445 0), (445, zo_ild 447 4), (447, zo_c 448 (vi 1)), (448, zo_iadd 449), (449, zo_sld n sc 450), (450, zo_ald 451 0), (451, zo_ild 453 4), (453, zo_c 454 (vi 2)), (454, zo_iadd 455), (455, zo_sld n sc 456), (456, zo_ald 457 3), (457, zo_csF room_1 460 4 2 12 zX0_plays_w), (460, zo_ist 462 5), (462, zo_ald 463 2), (463, zo_ald 464 0), (464, zo_ild 466 4), (466, zo_c 467 (vi 1)), (467, zo_iadd 468), (468, zo_sld n sc 469), (469, zo_ald 470 0), (470, zo_ild 472 4), (472, zo_c 473 (vi 2)), (473, zo_iadd 474), (474, zo_sld n sc 475), (475, zo_cvFp room_1 478 3 8 0 0 zX9_plays_w), (478, zo_ist 480 6), (480, zo_ald 481 2), (481, zo_cvFp room_1 484 1 8 0 0 zX9_thrown_w), (484, zo_ild 486 5), (486, zo_ceq false false 489 491), (489, zo_c 490 (vi 0)), (490, zo_zret true), (491, zo_ild 493 5), (493, zo_ifne false 496 508), (496, zo_ald 497 3), (497, zo_c 498 (vi 0)), (498, zo_lalp 499), (499, zo_ild 501 6), (501, zo_i2l 502), (502, zo_lcmp 503), (503, zo_ifeq false 506 508), (506, zo_c 507 (vi 0)), (507, zo_zret true), (508, zo_goto 1766), (511, zo_ald 512 1), (512, zo_ald 513 0), (513, zo_ild 515 4), (515, zo_c 516 (vi 1)), (516, zo_iadd 517), (517, zo_sld n sc 518), (518, zo_ald 519 3), (519, zo_csF room_1 522 3 1 6 zX0_style_w), (522, zo_ist 524 5), (524, zo_ald 525 2), (525, zo_ald 526 0), (526, zo_ild 528 4), (528, zo_c 529 (vi 1)), (529, zo_iadd 530), (530, zo_sld n sc 531), (531, zo_cvFp room_1 534 2 8 0 0 zX9_style_w), (534, zo_ist 536 6), (536, zo_ald 537 2), (537, zo_cvFp room_1 540 1 8 0 0 zX9_thrown_w), (540, zo_ild 542 5), (542, zo_ceq false false 545 547), (545, zo_c 546 (vi 0)), (546, zo_zret true), (547, zo_ild 549 5), (549, zo_ifne false 552 564), (552, zo_ald 553 3), (553, zo_c 554 (vi 0)), (554, zo_lalp 555), (555, zo_ild 557 6), (557, zo_i2l 558), (558, zo_lcmp 559), (559, zo_ifeq false 562 564), (562, zo_c 563 (vi 0)), (563, zo_zret true), (564, zo_goto 1766), (567, zo_ald 568 1), (568, zo_ald 569 0), (569, zo_ild 571 4), (571, zo_c 572 (vi 1)), (572, zo_iadd 573), (573, zo_sld n sc 574), (574, zo_ald 575 0), (575, zo_ild 577 4), (577, zo_c 578 (vi 2)), (578, zo_iadd 579), (579, zo_sld n sc 580), (580, zo_ald 581 0), (581, zo_ild 583 4), (583, zo_c 584 (vi 3)), (584, zo_iadd 585), (585, zo_sld n sc 586), (586, zo_csF room_1 589 4 2 12 zX0_score_w), (589, zo_ist 591 5), (591, zo_ald 592 2), (592, zo_ald 593 0), (593, zo_ild 595 4), (595, zo_c 596 (vi 1)), (596, zo_iadd 597), (597, zo_sld n sc 598), (598, zo_ald 599 0), (599, zo_ild 601 4), (601, zo_c 602 (vi 2)), (602, zo_iadd 603), (603, zo_sld n sc 604), (604, zo_ald 605 0), (605, zo_ild 607 4), (607, zo_c 608 (vi 3)), (608, zo_iadd 609), (609, zo_sld n sc 610), (610, zo_cvFp room_1 613 4 8 0 0 zX9_score_w), (613, zo_ald 614 2), (614, zo_cvFp room_1 617 1 8 0 0 zX9_thrown_w), (617, zo_ild 619 5), (619, zo_ceq false false 622 624), (622, zo_c 623 (vi 0)), (623, zo_zret true), (624, zo_goto 1766), (627, zo_ald 628 1), (628, zo_ald 629 0), (629, zo_ild 631 4), (631, zo_c 632 (vi 1)), (632, zo_iadd 633), (633, zo_sld n sc 634), (634, zo_ald 635 0), (635, zo_ild 637 4), (637, zo_c 638 (vi 2)), (638, zo_iadd 639), (639, zo_sld n sc 640), (640, zo_csF room_1 643 3 1 6 zX0_games_w), (643, zo_ist 645 5), (645, zo_ald 646 2), (646, zo_ald 647 0), (647, zo_ild 649 4), (649, zo_c 650 (vi 1)), (650, zo_iadd 651), (651, zo_sld n sc 652), (652, zo_ald 653 0), (653, zo_ild 655 4), (655, zo_c 656 (vi 2)), (656, zo_iadd 657), (657, zo_sld n sc 658), (658, zo_cvFp room_1 661 3 8 0 0 zX9_games_w), (661, zo_ald 662 2), (662, zo_cvFp room_1 665 1 8 0 0 zX9_thrown_w), (665, zo_ild 667 5), (667, zo_ceq false false 670 672), (670, zo_c 671 (vi 0)), (671, zo_zret true), (672, zo_goto 1766), (675, zo_ald 676 1), (676, zo_ald 677 0), (677, zo_ild 679 4), (679, zo_c 680 (vi 1)), (680, zo_iadd 681), (681, zo_sld n sc 682), (682, zo_ald 683 0), (683, zo_ild 685 4), (685, zo_c 686 (vi 2)), (686, zo_iadd 687), (687, zo_sld n sc 688), (688, zo_csF room_1 691 3 1 6 zX0_begin_w), (691, zo_ist 693 5), (693, zo_ald 694 2), (694, zo_ald 695 0), (695, zo_ild 697 4), (697, zo_c 698 (vi 1)), (698, zo_iadd 699), (699, zo_sld n sc 700), (700, zo_ald 701 0), (701, zo_ild 703 4), (703, zo_c 704 (vi 2)), (704, zo_iadd 705), (705, zo_sld n sc 706), (706, zo_cvFp room_1 709 3 8 0 0 zX9_begin_w), (709, zo_ald 710 2), (710, zo_cvFp room_1 713 1 8 0 0 zX9_thrown_w), (713, zo_ild 715 5), (715, zo_ceq false false 718 720), (718, zo_c 719 (vi 0)), (719, zo_zret true), (720, zo_goto 1766), (723, zo_ald 724 1), (724, zo_ald 725 0), (725, zo_ild 727 4), (727, zo_c 728 (vi 1)), (728, zo_iadd 729), (729, zo_sld n sc 730), (730, zo_ald 731 3), (731, zo_csF room_1 734 3 1 6 zX0_stands_w), (734, zo_ist 736 5), (736, zo_ald 737 2), (737, zo_ald 738 0), (738, zo_ild 740 4), (740, zo_c 741 (vi 1)), (741, zo_iadd 742), (742, zo_sld n sc 743), (743, zo_cvFp room_1 746 2 8 0 0 zX9_stands_w), (746, zo_ist 748 6), (748, zo_ald 749 2), (749, zo_cvFp room_1 752 1 8 0 0 zX9_thrown_w), (752, zo_ild 754 5), (754, zo_ceq false false 757 759), (757, zo_c 758 (vi 0)), (758, zo_zret true), (759, zo_ild 761 5), (761, zo_ifne false 764 776), (764, zo_ald 765 3), (765, zo_c 766 (vi 0)), (766, zo_lalp 767), (767, zo_ild 769 6), (769, zo_i2l 770), (770, zo_lcmp 771), (771, zo_ifeq false 774 776), (774, zo_c 775 (vi 0)), (775, zo_zret true), (776, zo_goto 1766), (779, zo_ald 780 1), (780, zo_ald 781 0), (781, zo_ild 783 4), (783, zo_c 784 (vi 1)), (784, zo_iadd 785), (785, zo_sld n sc 786), (786, zo_ald 787 0), (787, zo_ild 789 4), (789, zo_c 790 (vi 2)), (790, zo_iadd 791), (791, zo_sld n sc 792), (792, zo_ald 793 3), (793, zo_csF room_1 796 4 3 18 zX0_rally_w), (796, zo_ist 798 5), (798, zo_ald 799 2), (799, zo_ald 800 0), (800, zo_ild 802 4), (802, zo_c 803 (vi 1)), (803, zo_iadd 804), (804, zo_sld n sc 805), (805, zo_ald 806 0), (806, zo_ild 808 4), (808, zo_c 809 (vi 2)), (809, zo_iadd 810), (810, zo_sld n sc 811), (811, zo_cvFp room_1 814 3 8 0 0 zX9_rally_w), (814, zo_ist 816 6), (816, zo_ald 817 2), (817, zo_cvFp room_1 820 1 8 0 0 zX9_thrown_w), (820, zo_ild 822 5), (822, zo_ceq false false 825 827), (825, zo_c 826 (vi 0)), (826, zo_zret true), (827, zo_ild 829 5), (829, zo_ifne false 832 844), (832, zo_ald 833 3), (833, zo_c 834 (vi 0)), (834, zo_lalp 835), (835, zo_ild 837 6), (837, zo_i2l 838), (838, zo_lcmp 839), (839, zo_ifeq false 842 844), (842, zo_c 843 (vi 0)), (843, zo_zret true), (844, zo_goto 1766), (847, zo_ald 848 1), (848, zo_ald 849 0), (849, zo_ild 851 4), (851, zo_c 852 (vi 1)), (852, zo_iadd 853), (853, zo_sld n sc 854), (854, zo_ald 855 3), (855, zo_csF room_1 858 3 2 12 zX0_bisque_w), (858, zo_ist 860 5), (860, zo_ald 861 2), (861, zo_ald 862 0), (862, zo_ild 864 4), (864, zo_c 865 (vi 1)), (865, zo_iadd 866), (866, zo_sld n sc 867), (867, zo_cvFp room_1 870 2 8 0 0 zX9_bisque_w), (870, zo_ist 872 6), (872, zo_ald 873 2), (873, zo_cvFp room_1 876 1 8 0 0 zX9_thrown_w), (876, zo_ild 878 5), (878, zo_ceq false false 881 883), (881, zo_c 882 (vi 0)), (882, zo_zret true), (883, zo_ild 885 5), (885, zo_ifne false 888 907), (888, zo_ald 889 3), (889, zo_c 890 (vi 0)), (890, zo_lalp 891), (891, zo_ild 893 6), (893, zo_ifeq false 896 900), (896, zo_c 897 (vl 1)), (897, zo_goto 901), (900, zo_c 901 (vl 0)), (901, zo_lcmp 902), (902, zo_ifeq false 905 907), (905, zo_c 906 (vi 0)), (906, zo_zret true), (907, zo_goto 1766), (910, zo_ald 911 1), (911, zo_ald 912 0), (912, zo_ild 914 4), (914, zo_c 915 (vi 1)), (915, zo_iadd 916), (916, zo_sld n sc 917), (917, zo_ald 918 0), (918, zo_ild 920 4), (920, zo_c 921 (vi 2)), (921, zo_iadd 922), (922, zo_sld n sc 923), (923, zo_ald 924 3), (924, zo_csF room_1 927 4 3 18 zX0_chance_w), (927, zo_ist 929 5), (929, zo_ald 930 2), (930, zo_ald 931 0), (931, zo_ild 933 4), (933, zo_c 934 (vi 1)), (934, zo_iadd 935), (935, zo_sld n sc 936), (936, zo_ald 937 0), (937, zo_ild 939 4), (939, zo_c 940 (vi 2)), (940, zo_iadd 941), (941, zo_sld n sc 942), (942, zo_cvFp room_1 945 3 8 0 0 zX9_chance_w), (945, zo_ist 947 6), (947, zo_ald 948 2), (948, zo_cvFp room_1 951 1 8 0 0 zX9_thrown_w), (951, zo_ild 953 5), (953, zo_ceq false false 956 958), (956, zo_c 957 (vi 0)), (957, zo_zret true), (958, zo_ild 960 5), (960, zo_ifne false 963 975), (963, zo_ald 964 3), (964, zo_c 965 (vi 0)), (965, zo_lalp 966), (966, zo_ild 968 6), (968, zo_i2l 969), (969, zo_lcmp 970), (970, zo_ifeq false 973 975), (973, zo_c 974 (vi 0)), (974, zo_zret true), (975, zo_goto 1766), (978, zo_ald 979 1), (979, zo_ald 980 0), (980, zo_ild 982 4), (982, zo_c 983 (vi 1)), (983, zo_iadd 984), (984, zo_sld n sc 985), (985, zo_ald 986 0), (986, zo_ild 988 4), (988, zo_c 989 (vi 2)), (989, zo_iadd 990), (990, zo_sld n sc 991), (991, zo_ald 992 0), (992, zo_ild 994 4), (994, zo_c 995 (vi 3)), (995, zo_iadd 996), (996, zo_sld n sc 997), (997, zo_ifeq false 1000 1004), (1000, zo_c 1001 (vi 1)), (1001, zo_goto 1005), (1004, zo_c 1005 (vi 0)), (1005, zo_ald 1006 3), (1006, zo_csF room_1 1009 5 3 18 zX0_best_w), (1009, zo_ist 1011 5), (1011, zo_ald 1012 2), (1012, zo_ald 1013 0), (1013, zo_ild 1015 4), (1015, zo_c 1016 (vi 1)), (1016, zo_iadd 1017), (1017, zo_sld n sc 1018), (1018, zo_ald 1019 0), (1019, zo_ild 1021 4), (1021, zo_c 1022 (vi 2)), (1022, zo_iadd 1023), (1023, zo_sld n sc 1024), (1024, zo_ald 1025 0), (1025, zo_ild 1027 4), (1027, zo_c 1028 (vi 3)), (1028, zo_iadd 1029), (1029, zo_sld n sc 1030), (1030, zo_ifeq false 1033 1037), (1033, zo_c 1034 (vi 1)), (1034, zo_goto 1038), (1037, zo_c 1038 (vi 0)), (1038, zo_cvFp room_1 1041 4 8 0 0 zX9_best_w), (1041, zo_ist 1043 6), (1043, zo_ald 1044 2), (1044, zo_cvFp room_1 1047 1 8 0 0 zX9_thrown_w), (1047, zo_ild 1049 5), (1049, zo_ceq false false 1052 1054), (1052, zo_c 1053 (vi 0)), (1053, zo_zret true), (1054, zo_ild 1056 5), (1056, zo_ifne false 1059 1071), (1059, zo_ald 1060 3), (1060, zo_c 1061 (vi 0)), (1061, zo_lalp 1062), (1062, zo_ild 1064 6), (1064, zo_i2l 1065), (1065, zo_lcmp 1066), (1066, zo_ifeq false 1069 1071), (1069, zo_c 1070 (vi 0)), (1070, zo_zret true), (1071, zo_goto 1766), (1074, zo_ald 1075 1), (1075, zo_ald 1076 0), (1076, zo_ild 1078 4), (1078, zo_c 1079 (vi 1)), (1079, zo_iadd 1080), (1080, zo_sld n sc 1081), (1081, zo_ald 1082 0), (1082, zo_ild 1084 4), (1084, zo_c 1085 (vi 2)), (1085, zo_iadd 1086), (1086, zo_sld n sc 1087), (1087, zo_ald 1088 0), (1088, zo_ild 1090 4), (1090, zo_c 1091 (vi 3)), (1091, zo_iadd 1092), (1092, zo_sld n sc 1093), (1093, zo_ald 1094 3), (1094, zo_csF room_1 1097 5 4 24 zX0_saves_w), (1097, zo_ist 1099 5), (1099, zo_ald 1100 2), (1100, zo_ald 1101 0), (1101, zo_ild 1103 4), (1103, zo_c 1104 (vi 1)), (1104, zo_iadd 1105), (1105, zo_sld n sc 1106), (1106, zo_ald 1107 0), (1107, zo_ild 1109 4), (1109, zo_c 1110 (vi 2)), (1110, zo_iadd 1111), (1111, zo_sld n sc 1112), (1112, zo_ald 1113 0), (1113, zo_ild 1115 4), (1115, zo_c 1116 (vi 3)), (1116, zo_iadd 1117), (1117, zo_sld n sc 1118), (1118, zo_cvFp room_1 1121 4 8 0 0 zX9_saves_w), (1121, zo_ist 1123 6), (1123, zo_ald 1124 2), (1124, zo_cvFp room_1 1127 1 8 0 0 zX9_thrown_w), (1127, zo_ild 1129 5), (1129, zo_ceq false false 1132 1134), (1132, zo_c 1133 (vi 0)), (1133, zo_zret true), (1134, zo_ild 1136 5), (1136, zo_ifne false 1139 1151), (1139, zo_ald 1140 3), (1140, zo_c 1141 (vi 0)), (1141, zo_lalp 1142), (1142, zo_ild 1144 6), (1144, zo_i2l 1145), (1145, zo_lcmp 1146), (1146, zo_ifeq false 1149 1151), (1149, zo_c 1150 (vi 0)), (1150, zo_zret true), (1151, zo_goto 1766), (1154, zo_ald 1155 1), (1155, zo_ald 1156 0), (1156, zo_ild 1158 4), (1158, zo_c 1159 (vi 1)), (1159, zo_iadd 1160), (1160, zo_sld n sc 1161), (1161, zo_ald 1162 0), (1162, zo_ild 1164 4), (1164, zo_c 1165 (vi 2)), (1165, zo_iadd 1166), (1166, zo_sld n sc 1167), (1167, zo_ald 1168 0), (1168, zo_ild 1170 4), (1170, zo_c 1171 (vi 3)), (1171, zo_iadd 1172), (1172, zo_sld n sc 1173), (1173, zo_ald 1174 3), (1174, zo_csF room_1 1177 5 4 24 zX0_worth_w), (1177, zo_ist 1179 5), (1179, zo_ald 1180 2), (1180, zo_ald 1181 0), (1181, zo_ild 1183 4), (1183, zo_c 1184 (vi 1)), (1184, zo_iadd 1185), (1185, zo_sld n sc 1186), (1186, zo_ald 1187 0), (1187, zo_ild 1189 4), (1189, zo_c 1190 (vi 2)), (1190, zo_iadd 1191), (1191, zo_sld n sc 1192), (1192, zo_ald 1193 0), (1193, zo_ild 1195 4), (1195, zo_c 1196 (vi 3)), (1196, zo_iadd 1197), (1197, zo_sld n sc 1198), (1198, zo_cvFp room_1 1201 4 8 0 0 zX9_worth_w), (1201, zo_ist 1203 6), (1203, zo_ald 1204 2), (1204, zo_cvFp room_1 1207 1 8 0 0 zX9_thrown_w), (1207, zo_ild 1209 5), (1209, zo_ceq false false 1212 1214), (1212, zo_c 1213 (vi 0)), (1213, zo_zret true), (1214, zo_ild 1216 5), (1216, zo_ifne false 1219 1231), (1219, zo_ald 1220 3), (1220, zo_c 1221 (vi 0)), (1221, zo_lalp 1222), (1222, zo_ild 1224 6), (1224, zo_i2l 1225), (1225, zo_lcmp 1226), (1226, zo_ifeq false 1229 1231), (1229, zo_c 1230 (vi 0)), (1230, zo_zret true), (1231, zo_goto 1766), (1234, zo_ald 1235 1), (1235, zo_ald 1236 0), (1236, zo_ild 1238 4), (1238, zo_c 1239 (vi 1)), (1239, zo_iadd 1240), (1240, zo_sld n sc 1241), (1241, zo_ald 1242 0), (1242, zo_ild 1244 4), (1244, zo_c 1245 (vi 2)), (1245, zo_iadd 1246), (1246, zo_sld n sc 1247), (1247, zo_ald 1248 3), (1248, zo_csF room_1 1251 4 3 18 zX0_set_w), (1251, zo_ist 1253 5), (1253, zo_ald 1254 2), (1254, zo_ald 1255 0), (1255, zo_ild 1257 4), (1257, zo_c 1258 (vi 1)), (1258, zo_iadd 1259), (1259, zo_sld n sc 1260), (1260, zo_ald 1261 0), (1261, zo_ild 1263 4), (1263, zo_c 1264 (vi 2)), (1264, zo_iadd 1265), (1265, zo_sld n sc 1266), (1266, zo_cvFp room_1 1269 3 8 0 0 zX9_set_w), (1269, zo_ist 1271 6), (1271, zo_ald 1272 2), (1272, zo_cvFp room_1 1275 1 8 0 0 zX9_thrown_w), (1275, zo_ild 1277 5), (1277, zo_ceq false false 1280 1282), (1280, zo_c 1281 (vi 0)), (1281, zo_zret true), (1282, zo_ild 1284 5), (1284, zo_ifne false 1287 1299), (1287, zo_ald 1288 3), (1288, zo_c 1289 (vi 0)), (1289, zo_lalp 1290), (1290, zo_ild 1292 6), (1292, zo_i2l 1293), (1293, zo_lcmp 1294), (1294, zo_ifeq false 1297 1299), (1297, zo_c 1298 (vi 0)), (1298, zo_zret true), (1299, zo_goto 1766), (1302, zo_ald 1303 1), (1303, zo_ald 1304 0), (1304, zo_ild 1306 4), (1306, zo_c 1307 (vi 1)), (1307, zo_iadd 1308), (1308, zo_sld n sc 1309), (1309, zo_ald 1310 0), (1310, zo_ild 1312 4), (1312, zo_c 1313 (vi 2)), (1313, zo_iadd 1314), (1314, zo_sld n sc 1315), (1315, zo_ald 1316 0), (1316, zo_ild 1318 4), (1318, zo_c 1319 (vi 3)), (1319, zo_iadd 1320), (1320, zo_sld n sc 1321), (1321, zo_ald 1322 0), (1322, zo_ild 1324 4), (1324, zo_c 1325 (vi 4)), (1325, zo_iadd 1326), (1326, zo_sld n sc 1327), (1327, zo_ald 1328 3), (1328, zo_csF room_1 1331 6 4 24 zX0_ways_w), (1331, zo_ist 1333 5), (1333, zo_ald 1334 2), (1334, zo_ald 1335 0), (1335, zo_ild 1337 4), (1337, zo_c 1338 (vi 1)), (1338, zo_iadd 1339), (1339, zo_sld n sc 1340), (1340, zo_ald 1341 0), (1341, zo_ild 1343 4), (1343, zo_c 1344 (vi 2)), (1344, zo_iadd 1345), (1345, zo_sld n sc 1346), (1346, zo_ald 1347 0), (1347, zo_ild 1349 4), (1349, zo_c 1350 (vi 3)), (1350, zo_iadd 1351), (1351, zo_sld n sc 1352), (1352, zo_ald 1353 0), (1353, zo_ild 1355 4), (1355, zo_c 1356 (vi 4)), (1356, zo_iadd 1357), (1357, zo_sld n sc 1358), (1358, zo_cvFp room_1 1361 5 8 0 0 zX9_ways_w), (1361, zo_ist 1363 6), (1363, zo_ald 1364 2), (1364, zo_cvFp room_1 1367 1 8 0 0 zX9_thrown_w), (1367, zo_ild 1369 5), (1369, zo_ceq false false 1372 1374), (1372, zo_c 1373 (vi 0)), (1373, zo_zret true), (1374, zo_ild 1376 5), (1376, zo_ifne false 1379 1391), (1379, zo_ald 1380 3), (1380, zo_c 1381 (vi 0)), (1381, zo_lalp 1382), (1382, zo_ild 1384 6), (1384, zo_i2l 1385), (1385, zo_lcmp 1386), (1386, zo_ifeq false 1389 1391), (1389, zo_c 1390 (vi 0)), (1390, zo_zret true), (1391, zo_goto 1766), (1394, zo_ald 1395 1), (1395, zo_ald 1396 0), (1396, zo_ild 1398 4), (1398, zo_c 1399 (vi 1)), (1399, zo_iadd 1400), (1400, zo_sld n sc 1401), (1401, zo_ald 1402 0), (1402, zo_ild 1404 4), (1404, zo_c 1405 (vi 2)), (1405, zo_iadd 1406), (1406, zo_sld n sc 1407), (1407, zo_ald 1408 3), (1408, zo_csF room_1 1411 4 2 12 zX0_even_w), (1411, zo_ist 1413 5), (1413, zo_ald 1414 2), (1414, zo_ald 1415 0), (1415, zo_ild 1417 4), (1417, zo_c 1418 (vi 1)), (1418, zo_iadd 1419), (1419, zo_sld n sc 1420), (1420, zo_ald 1421 0), (1421, zo_ild 1423 4), (1423, zo_c 1424 (vi 2)), (1424, zo_iadd 1425), (1425, zo_sld n sc 1426), (1426, zo_cvFp room_1 1429 3 8 0 0 zX9_even_w), (1429, zo_ist 1431 6), (1431, zo_ald 1432 2), (1432, zo_cvFp room_1 1435 1 8 0 0 zX9_thrown_w), (1435, zo_ild 1437 5), (1437, zo_ceq false false 1440 1442), (1440, zo_c 1441 (vi 0)), (1441, zo_zret true), (1442, zo_ild 1444 5), (1444, zo_ifne false 1447 1459), (1447, zo_ald 1448 3), (1448, zo_c 1449 (vi 0)), (1449, zo_lalp 1450), (1450, zo_ild 1452 6), (1452, zo_i2l 1453), (1453, zo_lcmp 1454), (1454, zo_ifeq false 1457 1459), (1457, zo_c 1458 (vi 0)), (1458, zo_zret true), (1459, zo_goto 1766), (1462, zo_ald 1463 1), (1463, zo_ald 1464 0), (1464, zo_ild 1466 4), (1466, zo_c 1467 (vi 1)), (1467, zo_iadd 1468), (1468, zo_sld n sc 1469), (1469, zo_ald 1470 3), (1470, zo_csF room_1 1473 3 2 12 zX0_log_w), (1473, zo_ist 1475 5), (1475, zo_ald 1476 2), (1476, zo_ald 1477 0), (1477, zo_ild 1479 4), (1479, zo_c 1480 (vi 1)), (1480, zo_iadd 1481), (1481, zo_sld n sc 1482), (1482, zo_cvFp room_1 1485 2 8 0 0 zX9_log_w), (1485, zo_ist 1487 6), (1487, zo_ald 1488 2), (1488, zo_cvFp room_1 1491 1 8 0 0 zX9_thrown_w), (1491, zo_ild 1493 5), (1493, zo_ceq false false 1496 1498), (1496, zo_c 1497 (vi 0)), (1497, zo_zret true), (1498, zo_ild 1500 5), (1500, zo_ifne false 1503 1515), (1503, zo_ald 1504 3), (1504, zo_c 1505 (vi 0)), (1505, zo_lalp 1506), (1506, zo_ild 1508 6), (1508, zo_i2l 1509), (1509, zo_lcmp 1510), (1510, zo_ifeq false 1513 1515), (1513, zo_c 1514 (vi 0)), (1514, zo_zret true), (1515, zo_goto 1766), (1518, zo_ald 1519 1), (1519, zo_ald 1520 0), (1520, zo_ild 1522 4), (1522, zo_c 1523 (vi 1)), (1523, zo_iadd 1524), (1524, zo_sld n sc 1525), (1525, zo_ald 1526 0), (1526, zo_ild 1528 4), (1528, zo_c 1529 (vi 2)), (1529, zo_iadd 1530), (1530, zo_sld n sc 1531), (1531, zo_ald 1532 0), (1532, zo_ild 1534 4), (1534, zo_c 1535 (vi 3)), (1535, zo_iadd 1536), (1536, zo_sld n sc 1537), (1537, zo_ald 1538 0), (1538, zo_ild 1540 4), (1540, zo_c 1541 (vi 4)), (1541, zo_iadd 1542), (1542, zo_sld n sc 1543), (1543, zo_ald 1544 0), (1544, zo_ild 1546 4), (1546, zo_c 1547 (vi 5)), (1547, zo_iadd 1548), (1548, zo_sld n sc 1549), (1549, zo_ifeq false 1552 1556), (1552, zo_c 1553 (vi 1)), (1553, zo_goto 1557), (1556, zo_c 1557 (vi 0)), (1557, zo_ald 1558 3), (1558, zo_csF room_1 1561 7 1 6 zX0_mends_w), (1561, zo_ist 1563 5), (1563, zo_ald 1564 2), (1564, zo_ald 1565 0), (1565, zo_ild 1567 4), (1567, zo_c 1568 (vi 1)), (1568, zo_iadd 1569), (1569, zo_sld n sc 1570), (1570, zo_ald 1571 0), (1571, zo_ild 1573 4), (1573, zo_c 1574 (vi 2)), (1574, zo_iadd 1575), (1575, zo_sld n sc 1576), (1576, zo_ald 1577 0), (1577, zo_ild 1579 4), (1579, zo_c 1580 (vi 3)), (1580, zo_iadd 1581), (1581, zo_sld n sc 1582), (1582, zo_ald 1583 0), (1583, zo_ild 1585 4), (1585, zo_c 1586 (vi 4)), (1586, zo_iadd 1587), (1587, zo_sld n sc 1588), (1588, zo_ald 1589 0), (1589, zo_ild 1591 4), (1591, zo_c 1592 (vi 5)), (1592, zo_iadd 1593), (1593, zo_sld n sc 1594), (1594, zo_ifeq false 1597 1601), (1597, zo_c 1598 (vi 1)), (1598, zo_goto 1602), (1601, zo_c 1602 (vi 0)), (1602, zo_cvFp room_1 1605 6 8 0 0 zX9_mends_w), (1605, zo_lst 1607 6), (1607, zo_ald 1608 2), (1608, zo_cvFp room_1 1611 1 8 0 0 zX9_thrown_w), (1611, zo_ild 1613 5), (1613, zo_ceq false false 1616 1618), (1616, zo_c 1617 (vi 0)), (1617, zo_zret true), (1618, zo_ild 1620 5), (1620, zo_ifne false 1623 1634), (1623, zo_ald 1624 3), (1624, zo_c 1625 (vi 0)), (1625, zo_lalp 1626), (1626, zo_lld 1628 6), (1628, zo_lcmp 1629), (1629, zo_ifeq false 1632 1634), (1632, zo_c 1633 (vi 0)), (1633, zo_zret true), (1634, zo_goto 1766), (1637, zo_ald 1638 1), (1638, zo_ald 1639 0), (1639, zo_ild 1641 4), (1641, zo_c 1642 (vi 1)), (1642, zo_iadd 1643), (1643, zo_sld n sc 1644), (1644, zo_ald 1645 0), (1645, zo_ild 1647 4), (1647, zo_c 1648 (vi 2)), (1648, zo_iadd 1649), (1649, zo_sld n sc 1650), (1650, zo_ald 1651 0), (1651, zo_ild 1653 4), (1653, zo_c 1654 (vi 3)), (1654, zo_iadd 1655), (1655, zo_sld n sc 1656), (1656, zo_ald 1657 3), (1657, zo_csF room_1 1660 5 2 12 zX0_play_w), (1660, zo_ist 1662 5), (1662, zo_ald 1663 2), (1663, zo_ald 1664 0), (1664, zo_ild 1666 4), (1666, zo_c 1667 (vi 1)), (1667, zo_iadd 1668), (1668, zo_sld n sc 1669), (1669, zo_ald 1670 0), (1670, zo_ild 1672 4), (1672, zo_c 1673 (vi 2)), (1673, zo_iadd 1674), (1674, zo_sld n sc 1675), (1675, zo_ald 1676 0), (1676, zo_ild 1678 4), (1678, zo_c 1679 (vi 3)), (1679, zo_iadd 1680), (1680, zo_sld n sc 1681), (1681, zo_cvFp room_1 1684 4 8 0 0 zX9_play_w), (1684, zo_ist 1686 6), (1686, zo_ald 1687 2), (1687, zo_cvFp room_1 1690 1 8 0 0 zX9_thrown_w), (1690, zo_ild 1692 5), (1692, zo_ceq false false 1695 1697), (1695, zo_c 1696 (vi 0)), (1696, zo_zret true), (1697, zo_ild 1699 5), (1699, zo_ifne false 1702 1714), (1702, zo_ald 1703 3), (1703, zo_c 1704 (vi 0)), (1704, zo_lalp 1705), (1705, zo_ild 1707 6), (1707, zo_i2l 1708), (1708, zo_lcmp 1709), (1709, zo_ifeq false 1712 1714), (1712, zo_c 1713 (vi 0)), (1713, zo_zret true), (1714, zo_goto 1766), (1717, zo_ald 1718 1), (1718, zo_cvFp room_1 1721 1 0 26 260 zX1_image_w), (1721, zo_ald 1722 2), (1722, zo_cvFp room_1 1725 1 8 0 0 zX9_image_w), (1725, zo_goto 1766), (1728, zo_ald 1729 1), (1729, zo_cvFp room_1 1732 1 0 26 260 zX1_back_w), (1732, zo_ald 1733 2), (1733, zo_cvFp room_1 1736 1 8 0 0 zX9_back_w), (1736, zo_ceq false false 1739 1766), (1739, zo_c 1740 (vi 0)), (1740, zo_zret true), (1741, zo_ald 1742 1), (1742, zo_ald 1743 0), (1743, zo_ild 1745 4), (1745, zo_c 1746 (vi 1)), (1746, zo_iadd 1747), (1747, zo_sld n sc 1748), (1748, zo_cvFp room_1 1751 2 0 0 0 zX1_count_w), (1751, zo_ald 1752 2), (1752, zo_ald 1753 0), (1753, zo_ild 1755 4), (1755, zo_c 1756 (vi 1)), (1756, zo_iadd 1757), (1757, zo_sld n sc 1758), (1758, zo_cvFp room_1 1761 2 8 0 0 zX9_count_w), (1761, zo_ceq false false 1764 1766), (1764, zo_c 1765 (vi 0)), (1765, zo_zret true), (1766, zo_inc 1769 4 6), (1769, zo_goto 23), (1772, zo_c 1773 (vi 1)), (1773, zo_zret true)]
theorem ztL_law (n : Nat) (sc : Nat → Int) {C : mm_C} (G : mm_G C RL cL_law (some .boolean) 8 room_1) (hnh : mm_nh C) (hs : lw_scr C n sc) : zz_OKs C (zpL_law n sc) :=
  ⟨zz_of (ok_new G (ci := 0) (RX1, TX1, 19) rfl rfl q127 q128 q82 (by decide) dL_law_0 rfl) (z_new _ _ _ _),
   zz_of (ok_dup G dL_law_3 rfl) (z_dup _),
   zz_of (ok_caliF G (hnh.q 4) (zmX1_init _ G.hst) q129 q130 q82 q131 rfl (by decide +kernel) ⟨Nat.le_of_ble_eq_true rfl, Nat.le_of_ble_eq_true rfl⟩ dL_law_4 rfl) (z_ciF _ _ _ _ _ _),
   zz_of (ok_astore_n G dL_law_7 rfl rfl (by decide)) (z_ast _ _),
   zz_of (ok_new G (ci := 8) (RX9, TX9, 32) rfl rfl q1798 q1799 q93 (by decide) dL_law_8 rfl) (z_new _ _ _ _),
   zz_of (ok_dup G dL_law_11 rfl) (z_dup _),
   zz_of (ok_caliF G (hnh.q 12) (zmX9_init _ G.hst) q1800 q1801 q93 q1802 rfl (by decide +kernel) ⟨Nat.le_of_ble_eq_true rfl, Nat.le_of_ble_eq_true rfl⟩ dL_law_12 rfl) (z_ciF _ _ _ _ _ _),
   zz_of (ok_astore_n G dL_law_15 rfl rfl (by decide)) (z_ast _ _),
   zz_of (ok_iconst G (v := 1) dL_law_16 (by decide) rfl) (z_cn 17 1),
   zz_of (ok_newa G (t := 3) (ty := .long) rfl rfl q398 rfl (by decide) (by decide) (fun h => h) (fun M h n j ad => by rw [mm_al_ea]; rfl) dL_law_17 rfl) (z_newa _ _ _ _),
   zz_of (ok_astore_n G dL_law_19 rfl rfl (by decide)) (z_ast _ _),
   zz_of (ok_iconst G (v := 0) dL_law_20 (by decide) rfl) (z_cn 21 0),
   zz_of (ok_istore G dL_law_21 rfl (by decide)) (z_ist _ _),
   zz_of (ok_iload G dL_law_23 rfl) (z_ild _ _),
   zz_of (ok_aload_n G dL_law_25 rfl rfl) (z_ald _ _),
   ok_slen G hs dL_law_26 rfl,
   zz_of (ok_bipush G (v := 6) dL_law_27 (by decide) rfl) (z_cn 29 6),
   zz_of (ok_isub G dL_law_29 rfl) (z_isub _),
   zz_of (ok_cgt G dL_law_30 rfl rfl) (z_cgt _ _ _ _),
   zz_of (ok_aload_n G dL_law_33 rfl rfl) (z_ald _ _),
   zz_of (ok_iload G dL_law_34 rfl) (z_ild _ _),
   ok_sld G hs dL_law_36 rfl,
   zz_of (ok_bipush G (v := 31) dL_law_37 (by decide) rfl) (z_cn 39 31),
   zz_of (ok_iand G dL_law_39 rfl) (z_iand _),
   zz_of (ok_tsw G (l := [(0, 164), (1, 237), (2, 262), (3, 306), (4, 350), (5, 363), (6, 443), (7, 511), (8, 567), (9, 627), (10, 675), (11, 723), (12, 779), (13, 847), (14, 910), (15, 978), (16, 1074), (17, 1154), (18, 1234), (19, 1302), (20, 1394), (21, 1462), (22, 1518), (23, 1637), (24, 1717), (25, 1728), (26, 1741)]) (d := 1766) dL_law_40 (mm_tswo (by decide) (by decide +kernel)) (mm_tswi (by decide +kernel))) (z_sw _ _ _),
   zz_of (ok_aload_n G dL_law_164 rfl rfl) (z_ald _ _),
   zz_of (ok_aload_n G dL_law_165 rfl rfl) (z_ald _ _),
   zz_of (ok_iload G dL_law_166 rfl) (z_ild _ _),
   zz_of (ok_iconst G (v := 1) dL_law_168 (by decide) rfl) (z_cn 169 1),
   zz_of (ok_iadd G dL_law_169 rfl) (z_iadd _),
   ok_sld G hs dL_law_170 rfl,
   zz_of (ok_aload_n G dL_law_171 rfl rfl) (z_ald _ _),
   zz_of (ok_iload G dL_law_172 rfl) (z_ild _ _),
   zz_of (ok_iconst G (v := 2) dL_law_174 (by decide) rfl) (z_cn 175 2),
   zz_of (ok_iadd G dL_law_175 rfl) (z_iadd _),
   ok_sld G hs dL_law_176 rfl,
   zz_of (ok_aload_n G dL_law_177 rfl rfl) (z_ald _ _),
   zz_of (ok_iload G dL_law_178 rfl) (z_ild _ _),
   zz_of (ok_iconst G (v := 3) dL_law_180 (by decide) rfl) (z_cn 181 3),
   zz_of (ok_iadd G dL_law_181 rfl) (z_iadd _),
   ok_sld G hs dL_law_182 rfl,
   zz_of (ok_aload_n G dL_law_183 rfl rfl) (z_ald _ _),
   zz_of (ok_iload G dL_law_184 rfl) (z_ild _ _),
   zz_of (ok_iconst G (v := 4) dL_law_186 (by decide) rfl) (z_cn 187 4),
   zz_of (ok_iadd G dL_law_187 rfl) (z_iadd _),
   ok_sld G hs dL_law_188 rfl,
   zz_of (ok_aload_n G dL_law_189 rfl rfl) (z_ald _ _),
   zz_of (ok_iload G dL_law_190 rfl) (z_ild _ _),
   zz_of (ok_iconst G (v := 5) dL_law_192 (by decide) rfl) (z_cn 193 5),
   zz_of (ok_iadd G dL_law_193 rfl) (z_iadd _),
   ok_sld G hs dL_law_194 rfl,
   zz_of (ok_calvF G (hnh.q 195) (zmX1_feed_w _ G.hst) (RX1, TX1, 19) rfl q469 q470 q471 q82 q472 (by decide +kernel) ⟨Nat.le_of_ble_eq_true rfl, Nat.le_of_ble_eq_true rfl⟩ dL_law_195 rfl) (z_cvFp _ _ _ _ _ _ _),
   zz_of (ok_aload_n G dL_law_198 rfl rfl) (z_ald _ _),
   zz_of (ok_aload_n G dL_law_199 rfl rfl) (z_ald _ _),
   zz_of (ok_iload G dL_law_200 rfl) (z_ild _ _),
   zz_of (ok_iconst G (v := 1) dL_law_202 (by decide) rfl) (z_cn 203 1),
   zz_of (ok_iadd G dL_law_203 rfl) (z_iadd _),
   ok_sld G hs dL_law_204 rfl,
   zz_of (ok_aload_n G dL_law_205 rfl rfl) (z_ald _ _),
   zz_of (ok_iload G dL_law_206 rfl) (z_ild _ _),
   zz_of (ok_iconst G (v := 2) dL_law_208 (by decide) rfl) (z_cn 209 2),
   zz_of (ok_iadd G dL_law_209 rfl) (z_iadd _),
   ok_sld G hs dL_law_210 rfl,
   zz_of (ok_aload_n G dL_law_211 rfl rfl) (z_ald _ _),
   zz_of (ok_iload G dL_law_212 rfl) (z_ild _ _),
   zz_of (ok_iconst G (v := 3) dL_law_214 (by decide) rfl) (z_cn 215 3),
   zz_of (ok_iadd G dL_law_215 rfl) (z_iadd _),
   ok_sld G hs dL_law_216 rfl,
   zz_of (ok_aload_n G dL_law_217 rfl rfl) (z_ald _ _),
   zz_of (ok_iload G dL_law_218 rfl) (z_ild _ _),
   zz_of (ok_iconst G (v := 4) dL_law_220 (by decide) rfl) (z_cn 221 4),
   zz_of (ok_iadd G dL_law_221 rfl) (z_iadd _),
   ok_sld G hs dL_law_222 rfl,
   zz_of (ok_aload_n G dL_law_223 rfl rfl) (z_ald _ _),
   zz_of (ok_iload G dL_law_224 rfl) (z_ild _ _),
   zz_of (ok_iconst G (v := 5) dL_law_226 (by decide) rfl) (z_cn 227 5),
   zz_of (ok_iadd G dL_law_227 rfl) (z_iadd _),
   ok_sld G hs dL_law_228 rfl,
   zz_of (ok_calvF G (hnh.q 229) (zmX9_feed_w _ G.hst) (RX9, TX9, 32) rfl q1906 q1907 q1908 q93 q1909 (by decide +kernel) ⟨Nat.le_of_ble_eq_true rfl, Nat.le_of_ble_eq_true rfl⟩ dL_law_229 rfl) (z_cvFp _ _ _ _ _ _ _),
   zz_of (ok_ceq G dL_law_232 rfl rfl) (z_ceq _ _ _ _),
   zz_of (ok_iconst G (v := 0) dL_law_235 (by decide) rfl) (z_cn 236 0),
   zz_of (ok_zret G dL_law_236) (z_zret _),
   zz_of (ok_aload_n G dL_law_237 rfl rfl) (z_ald _ _),
   zz_of (ok_aload_n G dL_law_238 rfl rfl) (z_ald _ _),
   zz_of (ok_iload G dL_law_239 rfl) (z_ild _ _),
   zz_of (ok_iconst G (v := 1) dL_law_241 (by decide) rfl) (z_cn 242 1),
   zz_of (ok_iadd G dL_law_242 rfl) (z_iadd _),
   ok_sld G hs dL_law_243 rfl,
   zz_of (ok_calvF G (hnh.q 244) (zmX1_end_w _ G.hst) (RX1, TX1, 19) rfl q477 q478 q479 q82 q480 (by decide +kernel) ⟨Nat.le_of_ble_eq_true rfl, Nat.le_of_ble_eq_true rfl⟩ dL_law_244 rfl) (z_cvFp _ _ _ _ _ _ _),
   zz_of (ok_aload_n G dL_law_247 rfl rfl) (z_ald _ _),
   zz_of (ok_aload_n G dL_law_248 rfl rfl) (z_ald _ _),
   zz_of (ok_iload G dL_law_249 rfl) (z_ild _ _),
   zz_of (ok_iconst G (v := 1) dL_law_251 (by decide) rfl) (z_cn 252 1),
   zz_of (ok_iadd G dL_law_252 rfl) (z_iadd _),
   ok_sld G hs dL_law_253 rfl,
   zz_of (ok_calvF G (hnh.q 254) (zmX9_end_w _ G.hst) (RX9, TX9, 32) rfl q1910 q1911 q1912 q93 q1913 (by decide +kernel) ⟨Nat.le_of_ble_eq_true rfl, Nat.le_of_ble_eq_true rfl⟩ dL_law_254 rfl) (z_cvFp _ _ _ _ _ _ _),
   zz_of (ok_ceq G dL_law_257 rfl rfl) (z_ceq _ _ _ _),
   zz_of (ok_iconst G (v := 0) dL_law_260 (by decide) rfl) (z_cn 261 0),
   zz_of (ok_zret G dL_law_261) (z_zret _),
   zz_of (ok_aload_n G dL_law_262 rfl rfl) (z_ald _ _),
   zz_of (ok_aload_n G dL_law_263 rfl rfl) (z_ald _ _),
   zz_of (ok_calsFW G (hnh.q 264) (zmX0_court_w _ G.hst) q595 q596 q81 q597 (by decide +kernel) ⟨Nat.le_of_ble_eq_true rfl, Nat.le_of_ble_eq_true rfl⟩ dL_law_264 rfl) (z_csF _ _ _ _ _ _),
   zz_of (ok_istore G dL_law_267 rfl (by decide)) (z_ist _ _),
   zz_of (ok_aload_n G dL_law_269 rfl rfl) (z_ald _ _),
   zz_of (ok_calvF G (hnh.q 270) (zmX9_court_w _ G.hst) (RX9, TX9, 32) rfl q1917 q1918 q1919 q93 q1920 (by decide +kernel) ⟨Nat.le_of_ble_eq_true rfl, Nat.le_of_ble_eq_true rfl⟩ dL_law_270 rfl) (z_cvFp _ _ _ _ _ _ _),
   zz_of (ok_istore G dL_law_273 rfl (by decide)) (z_ist _ _),
   zz_of (ok_aload_n G dL_law_275 rfl rfl) (z_ald _ _),
   zz_of (ok_calvF G (hnh.q 276) (zmX9_thrown_w _ G.hst) (RX9, TX9, 32) rfl q1902 q1903 q1904 q93 q1905 (by decide +kernel) ⟨Nat.le_of_ble_eq_true rfl, Nat.le_of_ble_eq_true rfl⟩ dL_law_276 rfl) (z_cvFp _ _ _ _ _ _ _),
   zz_of (ok_iload G dL_law_279 rfl) (z_ild _ _),
   zz_of (ok_ceq G dL_law_281 rfl rfl) (z_ceq _ _ _ _),
   zz_of (ok_iconst G (v := 0) dL_law_284 (by decide) rfl) (z_cn 285 0),
   zz_of (ok_zret G dL_law_285) (z_zret _),
   zz_of (ok_iload G dL_law_286 rfl) (z_ild _ _),
   zz_of (ok_ifne G dL_law_288 rfl rfl) (z_ifne _ _ _),
   zz_of (ok_aload_n G dL_law_291 rfl rfl) (z_ald _ _),
   zz_of (ok_iconst G (v := 0) dL_law_292 (by decide) rfl) (z_cn 293 0),
   zz_of (ok_lald G dL_law_293 rfl) (z_lalp _),
   zz_of (ok_iload G dL_law_294 rfl) (z_ild _ _),
   zz_of (ok_i2l G dL_law_296 rfl) (z_i2l _),
   zz_of (ok_lcmp G dL_law_297 rfl) (z_lcmp _),
   zz_of (ok_ifeq G dL_law_298 rfl rfl) (z_ifeq _ _ _),
   zz_of (ok_iconst G (v := 0) dL_law_301 (by decide) rfl) (z_cn 302 0),
   zz_of (ok_zret G dL_law_302) (z_zret _),
   zz_of (ok_goto G dL_law_303 rfl) (z_goto _),
   zz_of (ok_aload_n G dL_law_306 rfl rfl) (z_ald _ _),
   zz_of (ok_aload_n G dL_law_307 rfl rfl) (z_ald _ _),
   zz_of (ok_calsFW G (hnh.q 308) (zmX0_rule_w _ G.hst) q1106 q1107 q81 q1108 (by decide +kernel) ⟨Nat.le_of_ble_eq_true rfl, Nat.le_of_ble_eq_true rfl⟩ dL_law_308 rfl) (z_csF _ _ _ _ _ _),
   zz_of (ok_istore G dL_law_311 rfl (by decide)) (z_ist _ _),
   zz_of (ok_aload_n G dL_law_313 rfl rfl) (z_ald _ _),
   zz_of (ok_calvF G (hnh.q 314) (zmX9_rule_w _ G.hst) (RX9, TX9, 32) rfl q2011 q2012 q2013 q93 q2014 (by decide +kernel) ⟨Nat.le_of_ble_eq_true rfl, Nat.le_of_ble_eq_true rfl⟩ dL_law_314 rfl) (z_cvFp _ _ _ _ _ _ _),
   zz_of (ok_istore G dL_law_317 rfl (by decide)) (z_ist _ _),
   zz_of (ok_aload_n G dL_law_319 rfl rfl) (z_ald _ _),
   zz_of (ok_calvF G (hnh.q 320) (zmX9_thrown_w _ G.hst) (RX9, TX9, 32) rfl q1902 q1903 q1904 q93 q1905 (by decide +kernel) ⟨Nat.le_of_ble_eq_true rfl, Nat.le_of_ble_eq_true rfl⟩ dL_law_320 rfl) (z_cvFp _ _ _ _ _ _ _),
   zz_of (ok_iload G dL_law_323 rfl) (z_ild _ _),
   zz_of (ok_ceq G dL_law_325 rfl rfl) (z_ceq _ _ _ _),
   zz_of (ok_iconst G (v := 0) dL_law_328 (by decide) rfl) (z_cn 329 0),
   zz_of (ok_zret G dL_law_329) (z_zret _),
   zz_of (ok_iload G dL_law_330 rfl) (z_ild _ _),
   zz_of (ok_ifne G dL_law_332 rfl rfl) (z_ifne _ _ _),
   zz_of (ok_aload_n G dL_law_335 rfl rfl) (z_ald _ _),
   zz_of (ok_iconst G (v := 0) dL_law_336 (by decide) rfl) (z_cn 337 0),
   zz_of (ok_lald G dL_law_337 rfl) (z_lalp _),
   zz_of (ok_iload G dL_law_338 rfl) (z_ild _ _),
   zz_of (ok_i2l G dL_law_340 rfl) (z_i2l _),
   zz_of (ok_lcmp G dL_law_341 rfl) (z_lcmp _),
   zz_of (ok_ifeq G dL_law_342 rfl rfl) (z_ifeq _ _ _),
   zz_of (ok_iconst G (v := 0) dL_law_345 (by decide) rfl) (z_cn 346 0),
   zz_of (ok_zret G dL_law_346) (z_zret _),
   zz_of (ok_goto G dL_law_347 rfl) (z_goto _),
   zz_of (ok_aload_n G dL_law_350 rfl rfl) (z_ald _ _),
   zz_of (ok_calvF G (hnh.q 351) (zmX1_fault_w _ G.hst) (RX1, TX1, 19) rfl q485 q486 q487 q82 q488 (by decide +kernel) ⟨Nat.le_of_ble_eq_true rfl, Nat.le_of_ble_eq_true rfl⟩ dL_law_351 rfl) (z_cvFp _ _ _ _ _ _ _),
   zz_of (ok_aload_n G dL_law_354 rfl rfl) (z_ald _ _),
   zz_of (ok_calvF G (hnh.q 355) (zmX9_fault_w _ G.hst) (RX9, TX9, 32) rfl q2015 q2016 q2017 q93 q2018 (by decide +kernel) ⟨Nat.le_of_ble_eq_true rfl, Nat.le_of_ble_eq_true rfl⟩ dL_law_355 rfl) (z_cvFp _ _ _ _ _ _ _),
   zz_of (ok_ceq G dL_law_358 rfl rfl) (z_ceq _ _ _ _),
   zz_of (ok_iconst G (v := 0) dL_law_361 (by decide) rfl) (z_cn 362 0),
   zz_of (ok_zret G dL_law_362) (z_zret _),
   zz_of (ok_aload_n G dL_law_363 rfl rfl) (z_ald _ _),
   zz_of (ok_aload_n G dL_law_364 rfl rfl) (z_ald _ _),
   zz_of (ok_iload G dL_law_365 rfl) (z_ild _ _),
   zz_of (ok_iconst G (v := 1) dL_law_367 (by decide) rfl) (z_cn 368 1),
   zz_of (ok_iadd G dL_law_368 rfl) (z_iadd _),
   ok_sld G hs dL_law_369 rfl,
   zz_of (ok_aload_n G dL_law_370 rfl rfl) (z_ald _ _),
   zz_of (ok_iload G dL_law_371 rfl) (z_ild _ _),
   zz_of (ok_iconst G (v := 2) dL_law_373 (by decide) rfl) (z_cn 374 2),
   zz_of (ok_iadd G dL_law_374 rfl) (z_iadd _),
   ok_sld G hs dL_law_375 rfl,
   zz_of (ok_aload_n G dL_law_376 rfl rfl) (z_ald _ _),
   zz_of (ok_iload G dL_law_377 rfl) (z_ild _ _),
   zz_of (ok_iconst G (v := 3) dL_law_379 (by decide) rfl) (z_cn 380 3),
   zz_of (ok_iadd G dL_law_380 rfl) (z_iadd _),
   ok_sld G hs dL_law_381 rfl,
   zz_of (ok_aload_n G dL_law_382 rfl rfl) (z_ald _ _),
   zz_of (ok_calsFW G (hnh.q 383) (zmX0_look_w _ G.hst) q1296 q1297 q81 q1298 (by decide +kernel) ⟨Nat.le_of_ble_eq_true rfl, Nat.le_of_ble_eq_true rfl⟩ dL_law_383 rfl) (z_csF _ _ _ _ _ _),
   zz_of (ok_istore G dL_law_386 rfl (by decide)) (z_ist _ _),
   zz_of (ok_aload_n G dL_law_388 rfl rfl) (z_ald _ _),
   zz_of (ok_aload_n G dL_law_389 rfl rfl) (z_ald _ _),
   zz_of (ok_iload G dL_law_390 rfl) (z_ild _ _),
   zz_of (ok_iconst G (v := 1) dL_law_392 (by decide) rfl) (z_cn 393 1),
   zz_of (ok_iadd G dL_law_393 rfl) (z_iadd _),
   ok_sld G hs dL_law_394 rfl,
   zz_of (ok_aload_n G dL_law_395 rfl rfl) (z_ald _ _),
   zz_of (ok_iload G dL_law_396 rfl) (z_ild _ _),
   zz_of (ok_iconst G (v := 2) dL_law_398 (by decide) rfl) (z_cn 399 2),
   zz_of (ok_iadd G dL_law_399 rfl) (z_iadd _),
   ok_sld G hs dL_law_400 rfl,
   zz_of (ok_aload_n G dL_law_401 rfl rfl) (z_ald _ _),
   zz_of (ok_iload G dL_law_402 rfl) (z_ild _ _),
   zz_of (ok_iconst G (v := 3) dL_law_404 (by decide) rfl) (z_cn 405 3),
   zz_of (ok_iadd G dL_law_405 rfl) (z_iadd _),
   ok_sld G hs dL_law_406 rfl,
   zz_of (ok_calvF G (hnh.q 407) (zmX9_look_w _ G.hst) (RX9, TX9, 32) rfl q2019 q2020 q2021 q93 q2022 (by decide +kernel) ⟨Nat.le_of_ble_eq_true rfl, Nat.le_of_ble_eq_true rfl⟩ dL_law_407 rfl) (z_cvFp _ _ _ _ _ _ _),
   zz_of (ok_istore G dL_law_410 rfl (by decide)) (z_ist _ _),
   zz_of (ok_aload_n G dL_law_412 rfl rfl) (z_ald _ _),
   zz_of (ok_calvF G (hnh.q 413) (zmX9_thrown_w _ G.hst) (RX9, TX9, 32) rfl q1902 q1903 q1904 q93 q1905 (by decide +kernel) ⟨Nat.le_of_ble_eq_true rfl, Nat.le_of_ble_eq_true rfl⟩ dL_law_413 rfl) (z_cvFp _ _ _ _ _ _ _),
   zz_of (ok_iload G dL_law_416 rfl) (z_ild _ _),
   zz_of (ok_ceq G dL_law_418 rfl rfl) (z_ceq _ _ _ _),
   zz_of (ok_iconst G (v := 0) dL_law_421 (by decide) rfl) (z_cn 422 0),
   zz_of (ok_zret G dL_law_422) (z_zret _),
   zz_of (ok_iload G dL_law_423 rfl) (z_ild _ _),
   zz_of (ok_ifne G dL_law_425 rfl rfl) (z_ifne _ _ _),
   zz_of (ok_aload_n G dL_law_428 rfl rfl) (z_ald _ _),
   zz_of (ok_iconst G (v := 0) dL_law_429 (by decide) rfl) (z_cn 430 0),
   zz_of (ok_lald G dL_law_430 rfl) (z_lalp _),
   zz_of (ok_iload G dL_law_431 rfl) (z_ild _ _),
   zz_of (ok_i2l G dL_law_433 rfl) (z_i2l _),
   zz_of (ok_lcmp G dL_law_434 rfl) (z_lcmp _),
   zz_of (ok_ifeq G dL_law_435 rfl rfl) (z_ifeq _ _ _),
   zz_of (ok_iconst G (v := 0) dL_law_438 (by decide) rfl) (z_cn 439 0),
   zz_of (ok_zret G dL_law_439) (z_zret _),
   zz_of (ok_goto G dL_law_440 rfl) (z_goto _),
   zz_of (ok_aload_n G dL_law_443 rfl rfl) (z_ald _ _),
   zz_of (ok_aload_n G dL_law_444 rfl rfl) (z_ald _ _),
   zz_of (ok_iload G dL_law_445 rfl) (z_ild _ _),
   zz_of (ok_iconst G (v := 1) dL_law_447 (by decide) rfl) (z_cn 448 1),
   zz_of (ok_iadd G dL_law_448 rfl) (z_iadd _),
   ok_sld G hs dL_law_449 rfl,
   zz_of (ok_aload_n G dL_law_450 rfl rfl) (z_ald _ _),
   zz_of (ok_iload G dL_law_451 rfl) (z_ild _ _),
   zz_of (ok_iconst G (v := 2) dL_law_453 (by decide) rfl) (z_cn 454 2),
   zz_of (ok_iadd G dL_law_454 rfl) (z_iadd _),
   ok_sld G hs dL_law_455 rfl,
   zz_of (ok_aload_n G dL_law_456 rfl rfl) (z_ald _ _),
   zz_of (ok_calsFW G (hnh.q 457) (zmX0_plays_w _ G.hst) q1360 q1361 q81 q1362 (by decide +kernel) ⟨Nat.le_of_ble_eq_true rfl, Nat.le_of_ble_eq_true rfl⟩ dL_law_457 rfl) (z_csF _ _ _ _ _ _),
   zz_of (ok_istore G dL_law_460 rfl (by decide)) (z_ist _ _),
   zz_of (ok_aload_n G dL_law_462 rfl rfl) (z_ald _ _),
   zz_of (ok_aload_n G dL_law_463 rfl rfl) (z_ald _ _),
   zz_of (ok_iload G dL_law_464 rfl) (z_ild _ _),
   zz_of (ok_iconst G (v := 1) dL_law_466 (by decide) rfl) (z_cn 467 1),
   zz_of (ok_iadd G dL_law_467 rfl) (z_iadd _),
   ok_sld G hs dL_law_468 rfl,
   zz_of (ok_aload_n G dL_law_469 rfl rfl) (z_ald _ _),
   zz_of (ok_iload G dL_law_470 rfl) (z_ild _ _),
   zz_of (ok_iconst G (v := 2) dL_law_472 (by decide) rfl) (z_cn 473 2),
   zz_of (ok_iadd G dL_law_473 rfl) (z_iadd _),
   ok_sld G hs dL_law_474 rfl,
   zz_of (ok_calvF G (hnh.q 475) (zmX9_plays_w _ G.hst) (RX9, TX9, 32) rfl q2023 q2024 q2025 q93 q2026 (by decide +kernel) ⟨Nat.le_of_ble_eq_true rfl, Nat.le_of_ble_eq_true rfl⟩ dL_law_475 rfl) (z_cvFp _ _ _ _ _ _ _),
   zz_of (ok_istore G dL_law_478 rfl (by decide)) (z_ist _ _),
   zz_of (ok_aload_n G dL_law_480 rfl rfl) (z_ald _ _),
   zz_of (ok_calvF G (hnh.q 481) (zmX9_thrown_w _ G.hst) (RX9, TX9, 32) rfl q1902 q1903 q1904 q93 q1905 (by decide +kernel) ⟨Nat.le_of_ble_eq_true rfl, Nat.le_of_ble_eq_true rfl⟩ dL_law_481 rfl) (z_cvFp _ _ _ _ _ _ _),
   zz_of (ok_iload G dL_law_484 rfl) (z_ild _ _),
   zz_of (ok_ceq G dL_law_486 rfl rfl) (z_ceq _ _ _ _),
   zz_of (ok_iconst G (v := 0) dL_law_489 (by decide) rfl) (z_cn 490 0),
   zz_of (ok_zret G dL_law_490) (z_zret _),
   zz_of (ok_iload G dL_law_491 rfl) (z_ild _ _),
   zz_of (ok_ifne G dL_law_493 rfl rfl) (z_ifne _ _ _),
   zz_of (ok_aload_n G dL_law_496 rfl rfl) (z_ald _ _),
   zz_of (ok_iconst G (v := 0) dL_law_497 (by decide) rfl) (z_cn 498 0),
   zz_of (ok_lald G dL_law_498 rfl) (z_lalp _),
   zz_of (ok_iload G dL_law_499 rfl) (z_ild _ _),
   zz_of (ok_i2l G dL_law_501 rfl) (z_i2l _),
   zz_of (ok_lcmp G dL_law_502 rfl) (z_lcmp _),
   zz_of (ok_ifeq G dL_law_503 rfl rfl) (z_ifeq _ _ _),
   zz_of (ok_iconst G (v := 0) dL_law_506 (by decide) rfl) (z_cn 507 0),
   zz_of (ok_zret G dL_law_507) (z_zret _),
   zz_of (ok_goto G dL_law_508 rfl) (z_goto _),
   zz_of (ok_aload_n G dL_law_511 rfl rfl) (z_ald _ _),
   zz_of (ok_aload_n G dL_law_512 rfl rfl) (z_ald _ _),
   zz_of (ok_iload G dL_law_513 rfl) (z_ild _ _),
   zz_of (ok_iconst G (v := 1) dL_law_515 (by decide) rfl) (z_cn 516 1),
   zz_of (ok_iadd G dL_law_516 rfl) (z_iadd _),
   ok_sld G hs dL_law_517 rfl,
   zz_of (ok_aload_n G dL_law_518 rfl rfl) (z_ald _ _),
   zz_of (ok_calsFW G (hnh.q 519) (zmX0_style_w _ G.hst) q1370 q1371 q81 q1372 (by decide +kernel) ⟨Nat.le_of_ble_eq_true rfl, Nat.le_of_ble_eq_true rfl⟩ dL_law_519 rfl) (z_csF _ _ _ _ _ _),
   zz_of (ok_istore G dL_law_522 rfl (by decide)) (z_ist _ _),
   zz_of (ok_aload_n G dL_law_524 rfl rfl) (z_ald _ _),
   zz_of (ok_aload_n G dL_law_525 rfl rfl) (z_ald _ _),
   zz_of (ok_iload G dL_law_526 rfl) (z_ild _ _),
   zz_of (ok_iconst G (v := 1) dL_law_528 (by decide) rfl) (z_cn 529 1),
   zz_of (ok_iadd G dL_law_529 rfl) (z_iadd _),
   ok_sld G hs dL_law_530 rfl,
   zz_of (ok_calvF G (hnh.q 531) (zmX9_style_w _ G.hst) (RX9, TX9, 32) rfl q2030 q2031 q2032 q93 q2033 (by decide +kernel) ⟨Nat.le_of_ble_eq_true rfl, Nat.le_of_ble_eq_true rfl⟩ dL_law_531 rfl) (z_cvFp _ _ _ _ _ _ _),
   zz_of (ok_istore G dL_law_534 rfl (by decide)) (z_ist _ _),
   zz_of (ok_aload_n G dL_law_536 rfl rfl) (z_ald _ _),
   zz_of (ok_calvF G (hnh.q 537) (zmX9_thrown_w _ G.hst) (RX9, TX9, 32) rfl q1902 q1903 q1904 q93 q1905 (by decide +kernel) ⟨Nat.le_of_ble_eq_true rfl, Nat.le_of_ble_eq_true rfl⟩ dL_law_537 rfl) (z_cvFp _ _ _ _ _ _ _),
   zz_of (ok_iload G dL_law_540 rfl) (z_ild _ _),
   zz_of (ok_ceq G dL_law_542 rfl rfl) (z_ceq _ _ _ _),
   zz_of (ok_iconst G (v := 0) dL_law_545 (by decide) rfl) (z_cn 546 0),
   zz_of (ok_zret G dL_law_546) (z_zret _),
   zz_of (ok_iload G dL_law_547 rfl) (z_ild _ _),
   zz_of (ok_ifne G dL_law_549 rfl rfl) (z_ifne _ _ _),
   zz_of (ok_aload_n G dL_law_552 rfl rfl) (z_ald _ _),
   zz_of (ok_iconst G (v := 0) dL_law_553 (by decide) rfl) (z_cn 554 0),
   zz_of (ok_lald G dL_law_554 rfl) (z_lalp _),
   zz_of (ok_iload G dL_law_555 rfl) (z_ild _ _),
   zz_of (ok_i2l G dL_law_557 rfl) (z_i2l _),
   zz_of (ok_lcmp G dL_law_558 rfl) (z_lcmp _),
   zz_of (ok_ifeq G dL_law_559 rfl rfl) (z_ifeq _ _ _),
   zz_of (ok_iconst G (v := 0) dL_law_562 (by decide) rfl) (z_cn 563 0),
   zz_of (ok_zret G dL_law_563) (z_zret _),
   zz_of (ok_goto G dL_law_564 rfl) (z_goto _),
   zz_of (ok_aload_n G dL_law_567 rfl rfl) (z_ald _ _),
   zz_of (ok_aload_n G dL_law_568 rfl rfl) (z_ald _ _),
   zz_of (ok_iload G dL_law_569 rfl) (z_ild _ _),
   zz_of (ok_iconst G (v := 1) dL_law_571 (by decide) rfl) (z_cn 572 1),
   zz_of (ok_iadd G dL_law_572 rfl) (z_iadd _),
   ok_sld G hs dL_law_573 rfl,
   zz_of (ok_aload_n G dL_law_574 rfl rfl) (z_ald _ _),
   zz_of (ok_iload G dL_law_575 rfl) (z_ild _ _),
   zz_of (ok_iconst G (v := 2) dL_law_577 (by decide) rfl) (z_cn 578 2),
   zz_of (ok_iadd G dL_law_578 rfl) (z_iadd _),
   ok_sld G hs dL_law_579 rfl,
   zz_of (ok_aload_n G dL_law_580 rfl rfl) (z_ald _ _),
   zz_of (ok_iload G dL_law_581 rfl) (z_ild _ _),
   zz_of (ok_iconst G (v := 3) dL_law_583 (by decide) rfl) (z_cn 584 3),
   zz_of (ok_iadd G dL_law_584 rfl) (z_iadd _),
   ok_sld G hs dL_law_585 rfl,
   zz_of (ok_calsFW G (hnh.q 586) (zmX0_score_w _ G.hst) q1464 q1465 q81 q1466 (by decide +kernel) ⟨Nat.le_of_ble_eq_true rfl, Nat.le_of_ble_eq_true rfl⟩ dL_law_586 rfl) (z_csF _ _ _ _ _ _),
   zz_of (ok_istore G dL_law_589 rfl (by decide)) (z_ist _ _),
   zz_of (ok_aload_n G dL_law_591 rfl rfl) (z_ald _ _),
   zz_of (ok_aload_n G dL_law_592 rfl rfl) (z_ald _ _),
   zz_of (ok_iload G dL_law_593 rfl) (z_ild _ _),
   zz_of (ok_iconst G (v := 1) dL_law_595 (by decide) rfl) (z_cn 596 1),
   zz_of (ok_iadd G dL_law_596 rfl) (z_iadd _),
   ok_sld G hs dL_law_597 rfl,
   zz_of (ok_aload_n G dL_law_598 rfl rfl) (z_ald _ _),
   zz_of (ok_iload G dL_law_599 rfl) (z_ild _ _),
   zz_of (ok_iconst G (v := 2) dL_law_601 (by decide) rfl) (z_cn 602 2),
   zz_of (ok_iadd G dL_law_602 rfl) (z_iadd _),
   ok_sld G hs dL_law_603 rfl,
   zz_of (ok_aload_n G dL_law_604 rfl rfl) (z_ald _ _),
   zz_of (ok_iload G dL_law_605 rfl) (z_ild _ _),
   zz_of (ok_iconst G (v := 3) dL_law_607 (by decide) rfl) (z_cn 608 3),
   zz_of (ok_iadd G dL_law_608 rfl) (z_iadd _),
   ok_sld G hs dL_law_609 rfl,
   zz_of (ok_calvF G (hnh.q 610) (zmX9_score_w _ G.hst) (RX9, TX9, 32) rfl q2042 q2043 q2044 q93 q2045 (by decide +kernel) ⟨Nat.le_of_ble_eq_true rfl, Nat.le_of_ble_eq_true rfl⟩ dL_law_610 rfl) (z_cvFp _ _ _ _ _ _ _),
   zz_of (ok_aload_n G dL_law_613 rfl rfl) (z_ald _ _),
   zz_of (ok_calvF G (hnh.q 614) (zmX9_thrown_w _ G.hst) (RX9, TX9, 32) rfl q1902 q1903 q1904 q93 q1905 (by decide +kernel) ⟨Nat.le_of_ble_eq_true rfl, Nat.le_of_ble_eq_true rfl⟩ dL_law_614 rfl) (z_cvFp _ _ _ _ _ _ _),
   zz_of (ok_iload G dL_law_617 rfl) (z_ild _ _),
   zz_of (ok_ceq G dL_law_619 rfl rfl) (z_ceq _ _ _ _),
   zz_of (ok_iconst G (v := 0) dL_law_622 (by decide) rfl) (z_cn 623 0),
   zz_of (ok_zret G dL_law_623) (z_zret _),
   zz_of (ok_goto G dL_law_624 rfl) (z_goto _),
   zz_of (ok_aload_n G dL_law_627 rfl rfl) (z_ald _ _),
   zz_of (ok_aload_n G dL_law_628 rfl rfl) (z_ald _ _),
   zz_of (ok_iload G dL_law_629 rfl) (z_ild _ _),
   zz_of (ok_iconst G (v := 1) dL_law_631 (by decide) rfl) (z_cn 632 1),
   zz_of (ok_iadd G dL_law_632 rfl) (z_iadd _),
   ok_sld G hs dL_law_633 rfl,
   zz_of (ok_aload_n G dL_law_634 rfl rfl) (z_ald _ _),
   zz_of (ok_iload G dL_law_635 rfl) (z_ild _ _),
   zz_of (ok_iconst G (v := 2) dL_law_637 (by decide) rfl) (z_cn 638 2),
   zz_of (ok_iadd G dL_law_638 rfl) (z_iadd _),
   ok_sld G hs dL_law_639 rfl,
   zz_of (ok_calsFW G (hnh.q 640) (zmX0_games_w _ G.hst) q1477 q1478 q81 q1479 (by decide +kernel) ⟨Nat.le_of_ble_eq_true rfl, Nat.le_of_ble_eq_true rfl⟩ dL_law_640 rfl) (z_csF _ _ _ _ _ _),
   zz_of (ok_istore G dL_law_643 rfl (by decide)) (z_ist _ _),
   zz_of (ok_aload_n G dL_law_645 rfl rfl) (z_ald _ _),
   zz_of (ok_aload_n G dL_law_646 rfl rfl) (z_ald _ _),
   zz_of (ok_iload G dL_law_647 rfl) (z_ild _ _),
   zz_of (ok_iconst G (v := 1) dL_law_649 (by decide) rfl) (z_cn 650 1),
   zz_of (ok_iadd G dL_law_650 rfl) (z_iadd _),
   ok_sld G hs dL_law_651 rfl,
   zz_of (ok_aload_n G dL_law_652 rfl rfl) (z_ald _ _),
   zz_of (ok_iload G dL_law_653 rfl) (z_ild _ _),
   zz_of (ok_iconst G (v := 2) dL_law_655 (by decide) rfl) (z_cn 656 2),
   zz_of (ok_iadd G dL_law_656 rfl) (z_iadd _),
   ok_sld G hs dL_law_657 rfl,
   zz_of (ok_calvF G (hnh.q 658) (zmX9_games_w _ G.hst) (RX9, TX9, 32) rfl q2046 q2047 q2048 q93 q2049 (by decide +kernel) ⟨Nat.le_of_ble_eq_true rfl, Nat.le_of_ble_eq_true rfl⟩ dL_law_658 rfl) (z_cvFp _ _ _ _ _ _ _),
   zz_of (ok_aload_n G dL_law_661 rfl rfl) (z_ald _ _),
   zz_of (ok_calvF G (hnh.q 662) (zmX9_thrown_w _ G.hst) (RX9, TX9, 32) rfl q1902 q1903 q1904 q93 q1905 (by decide +kernel) ⟨Nat.le_of_ble_eq_true rfl, Nat.le_of_ble_eq_true rfl⟩ dL_law_662 rfl) (z_cvFp _ _ _ _ _ _ _),
   zz_of (ok_iload G dL_law_665 rfl) (z_ild _ _),
   zz_of (ok_ceq G dL_law_667 rfl rfl) (z_ceq _ _ _ _),
   zz_of (ok_iconst G (v := 0) dL_law_670 (by decide) rfl) (z_cn 671 0),
   zz_of (ok_zret G dL_law_671) (z_zret _),
   zz_of (ok_goto G dL_law_672 rfl) (z_goto _),
   zz_of (ok_aload_n G dL_law_675 rfl rfl) (z_ald _ _),
   zz_of (ok_aload_n G dL_law_676 rfl rfl) (z_ald _ _),
   zz_of (ok_iload G dL_law_677 rfl) (z_ild _ _),
   zz_of (ok_iconst G (v := 1) dL_law_679 (by decide) rfl) (z_cn 680 1),
   zz_of (ok_iadd G dL_law_680 rfl) (z_iadd _),
   ok_sld G hs dL_law_681 rfl,
   zz_of (ok_aload_n G dL_law_682 rfl rfl) (z_ald _ _),
   zz_of (ok_iload G dL_law_683 rfl) (z_ild _ _),
   zz_of (ok_iconst G (v := 2) dL_law_685 (by decide) rfl) (z_cn 686 2),
   zz_of (ok_iadd G dL_law_686 rfl) (z_iadd _),
   ok_sld G hs dL_law_687 rfl,
   zz_of (ok_calsFW G (hnh.q 688) (zmX0_begin_w _ G.hst) q1484 q1485 q81 q1486 (by decide +kernel) ⟨Nat.le_of_ble_eq_true rfl, Nat.le_of_ble_eq_true rfl⟩ dL_law_688 rfl) (z_csF _ _ _ _ _ _),
   zz_of (ok_istore G dL_law_691 rfl (by decide)) (z_ist _ _),
   zz_of (ok_aload_n G dL_law_693 rfl rfl) (z_ald _ _),
   zz_of (ok_aload_n G dL_law_694 rfl rfl) (z_ald _ _),
   zz_of (ok_iload G dL_law_695 rfl) (z_ild _ _),
   zz_of (ok_iconst G (v := 1) dL_law_697 (by decide) rfl) (z_cn 698 1),
   zz_of (ok_iadd G dL_law_698 rfl) (z_iadd _),
   ok_sld G hs dL_law_699 rfl,
   zz_of (ok_aload_n G dL_law_700 rfl rfl) (z_ald _ _),
   zz_of (ok_iload G dL_law_701 rfl) (z_ild _ _),
   zz_of (ok_iconst G (v := 2) dL_law_703 (by decide) rfl) (z_cn 704 2),
   zz_of (ok_iadd G dL_law_704 rfl) (z_iadd _),
   ok_sld G hs dL_law_705 rfl,
   zz_of (ok_calvF G (hnh.q 706) (zmX9_begin_w _ G.hst) (RX9, TX9, 32) rfl q2050 q2051 q2052 q93 q2053 (by decide +kernel) ⟨Nat.le_of_ble_eq_true rfl, Nat.le_of_ble_eq_true rfl⟩ dL_law_706 rfl) (z_cvFp _ _ _ _ _ _ _),
   zz_of (ok_aload_n G dL_law_709 rfl rfl) (z_ald _ _),
   zz_of (ok_calvF G (hnh.q 710) (zmX9_thrown_w _ G.hst) (RX9, TX9, 32) rfl q1902 q1903 q1904 q93 q1905 (by decide +kernel) ⟨Nat.le_of_ble_eq_true rfl, Nat.le_of_ble_eq_true rfl⟩ dL_law_710 rfl) (z_cvFp _ _ _ _ _ _ _),
   zz_of (ok_iload G dL_law_713 rfl) (z_ild _ _),
   zz_of (ok_ceq G dL_law_715 rfl rfl) (z_ceq _ _ _ _),
   zz_of (ok_iconst G (v := 0) dL_law_718 (by decide) rfl) (z_cn 719 0),
   zz_of (ok_zret G dL_law_719) (z_zret _),
   zz_of (ok_goto G dL_law_720 rfl) (z_goto _),
   zz_of (ok_aload_n G dL_law_723 rfl rfl) (z_ald _ _),
   zz_of (ok_aload_n G dL_law_724 rfl rfl) (z_ald _ _),
   zz_of (ok_iload G dL_law_725 rfl) (z_ild _ _),
   zz_of (ok_iconst G (v := 1) dL_law_727 (by decide) rfl) (z_cn 728 1),
   zz_of (ok_iadd G dL_law_728 rfl) (z_iadd _),
   ok_sld G hs dL_law_729 rfl,
   zz_of (ok_aload_n G dL_law_730 rfl rfl) (z_ald _ _),
   zz_of (ok_calsFW G (hnh.q 731) (zmX0_stands_w _ G.hst) q1491 q1492 q81 q1493 (by decide +kernel) ⟨Nat.le_of_ble_eq_true rfl, Nat.le_of_ble_eq_true rfl⟩ dL_law_731 rfl) (z_csF _ _ _ _ _ _),
   zz_of (ok_istore G dL_law_734 rfl (by decide)) (z_ist _ _),
   zz_of (ok_aload_n G dL_law_736 rfl rfl) (z_ald _ _),
   zz_of (ok_aload_n G dL_law_737 rfl rfl) (z_ald _ _),
   zz_of (ok_iload G dL_law_738 rfl) (z_ild _ _),
   zz_of (ok_iconst G (v := 1) dL_law_740 (by decide) rfl) (z_cn 741 1),
   zz_of (ok_iadd G dL_law_741 rfl) (z_iadd _),
   ok_sld G hs dL_law_742 rfl,
   zz_of (ok_calvF G (hnh.q 743) (zmX9_stands_w _ G.hst) (RX9, TX9, 32) rfl q2054 q2055 q2056 q93 q2057 (by decide +kernel) ⟨Nat.le_of_ble_eq_true rfl, Nat.le_of_ble_eq_true rfl⟩ dL_law_743 rfl) (z_cvFp _ _ _ _ _ _ _),
   zz_of (ok_istore G dL_law_746 rfl (by decide)) (z_ist _ _),
   zz_of (ok_aload_n G dL_law_748 rfl rfl) (z_ald _ _),
   zz_of (ok_calvF G (hnh.q 749) (zmX9_thrown_w _ G.hst) (RX9, TX9, 32) rfl q1902 q1903 q1904 q93 q1905 (by decide +kernel) ⟨Nat.le_of_ble_eq_true rfl, Nat.le_of_ble_eq_true rfl⟩ dL_law_749 rfl) (z_cvFp _ _ _ _ _ _ _),
   zz_of (ok_iload G dL_law_752 rfl) (z_ild _ _),
   zz_of (ok_ceq G dL_law_754 rfl rfl) (z_ceq _ _ _ _),
   zz_of (ok_iconst G (v := 0) dL_law_757 (by decide) rfl) (z_cn 758 0),
   zz_of (ok_zret G dL_law_758) (z_zret _),
   zz_of (ok_iload G dL_law_759 rfl) (z_ild _ _),
   zz_of (ok_ifne G dL_law_761 rfl rfl) (z_ifne _ _ _),
   zz_of (ok_aload_n G dL_law_764 rfl rfl) (z_ald _ _),
   zz_of (ok_iconst G (v := 0) dL_law_765 (by decide) rfl) (z_cn 766 0),
   zz_of (ok_lald G dL_law_766 rfl) (z_lalp _),
   zz_of (ok_iload G dL_law_767 rfl) (z_ild _ _),
   zz_of (ok_i2l G dL_law_769 rfl) (z_i2l _),
   zz_of (ok_lcmp G dL_law_770 rfl) (z_lcmp _),
   zz_of (ok_ifeq G dL_law_771 rfl rfl) (z_ifeq _ _ _),
   zz_of (ok_iconst G (v := 0) dL_law_774 (by decide) rfl) (z_cn 775 0),
   zz_of (ok_zret G dL_law_775) (z_zret _),
   zz_of (ok_goto G dL_law_776 rfl) (z_goto _),
   zz_of (ok_aload_n G dL_law_779 rfl rfl) (z_ald _ _),
   zz_of (ok_aload_n G dL_law_780 rfl rfl) (z_ald _ _),
   zz_of (ok_iload G dL_law_781 rfl) (z_ild _ _),
   zz_of (ok_iconst G (v := 1) dL_law_783 (by decide) rfl) (z_cn 784 1),
   zz_of (ok_iadd G dL_law_784 rfl) (z_iadd _),
   ok_sld G hs dL_law_785 rfl,
   zz_of (ok_aload_n G dL_law_786 rfl rfl) (z_ald _ _),
   zz_of (ok_iload G dL_law_787 rfl) (z_ild _ _),
   zz_of (ok_iconst G (v := 2) dL_law_789 (by decide) rfl) (z_cn 790 2),
   zz_of (ok_iadd G dL_law_790 rfl) (z_iadd _),
   ok_sld G hs dL_law_791 rfl,
   zz_of (ok_aload_n G dL_law_792 rfl rfl) (z_ald _ _),
   zz_of (ok_calsFW G (hnh.q 793) (zmX0_rally_w _ G.hst) q1510 q1511 q81 q1512 (by decide +kernel) ⟨Nat.le_of_ble_eq_true rfl, Nat.le_of_ble_eq_true rfl⟩ dL_law_793 rfl) (z_csF _ _ _ _ _ _),
   zz_of (ok_istore G dL_law_796 rfl (by decide)) (z_ist _ _),
   zz_of (ok_aload_n G dL_law_798 rfl rfl) (z_ald _ _),
   zz_of (ok_aload_n G dL_law_799 rfl rfl) (z_ald _ _),
   zz_of (ok_iload G dL_law_800 rfl) (z_ild _ _),
   zz_of (ok_iconst G (v := 1) dL_law_802 (by decide) rfl) (z_cn 803 1),
   zz_of (ok_iadd G dL_law_803 rfl) (z_iadd _),
   ok_sld G hs dL_law_804 rfl,
   zz_of (ok_aload_n G dL_law_805 rfl rfl) (z_ald _ _),
   zz_of (ok_iload G dL_law_806 rfl) (z_ild _ _),
   zz_of (ok_iconst G (v := 2) dL_law_808 (by decide) rfl) (z_cn 809 2),
   zz_of (ok_iadd G dL_law_809 rfl) (z_iadd _),
   ok_sld G hs dL_law_810 rfl,
   zz_of (ok_calvF G (hnh.q 811) (zmX9_rally_w _ G.hst) (RX9, TX9, 32) rfl q2066 q2067 q2068 q93 q2069 (by decide +kernel) ⟨Nat.le_of_ble_eq_true rfl, Nat.le_of_ble_eq_true rfl⟩ dL_law_811 rfl) (z_cvFp _ _ _ _ _ _ _),
   zz_of (ok_istore G dL_law_814 rfl (by decide)) (z_ist _ _),
   zz_of (ok_aload_n G dL_law_816 rfl rfl) (z_ald _ _),
   zz_of (ok_calvF G (hnh.q 817) (zmX9_thrown_w _ G.hst) (RX9, TX9, 32) rfl q1902 q1903 q1904 q93 q1905 (by decide +kernel) ⟨Nat.le_of_ble_eq_true rfl, Nat.le_of_ble_eq_true rfl⟩ dL_law_817 rfl) (z_cvFp _ _ _ _ _ _ _),
   zz_of (ok_iload G dL_law_820 rfl) (z_ild _ _),
   zz_of (ok_ceq G dL_law_822 rfl rfl) (z_ceq _ _ _ _),
   zz_of (ok_iconst G (v := 0) dL_law_825 (by decide) rfl) (z_cn 826 0),
   zz_of (ok_zret G dL_law_826) (z_zret _),
   zz_of (ok_iload G dL_law_827 rfl) (z_ild _ _),
   zz_of (ok_ifne G dL_law_829 rfl rfl) (z_ifne _ _ _),
   zz_of (ok_aload_n G dL_law_832 rfl rfl) (z_ald _ _),
   zz_of (ok_iconst G (v := 0) dL_law_833 (by decide) rfl) (z_cn 834 0),
   zz_of (ok_lald G dL_law_834 rfl) (z_lalp _),
   zz_of (ok_iload G dL_law_835 rfl) (z_ild _ _),
   zz_of (ok_i2l G dL_law_837 rfl) (z_i2l _),
   zz_of (ok_lcmp G dL_law_838 rfl) (z_lcmp _),
   zz_of (ok_ifeq G dL_law_839 rfl rfl) (z_ifeq _ _ _),
   zz_of (ok_iconst G (v := 0) dL_law_842 (by decide) rfl) (z_cn 843 0),
   zz_of (ok_zret G dL_law_843) (z_zret _),
   zz_of (ok_goto G dL_law_844 rfl) (z_goto _),
   zz_of (ok_aload_n G dL_law_847 rfl rfl) (z_ald _ _),
   zz_of (ok_aload_n G dL_law_848 rfl rfl) (z_ald _ _),
   zz_of (ok_iload G dL_law_849 rfl) (z_ild _ _),
   zz_of (ok_iconst G (v := 1) dL_law_851 (by decide) rfl) (z_cn 852 1),
   zz_of (ok_iadd G dL_law_852 rfl) (z_iadd _),
   ok_sld G hs dL_law_853 rfl,
   zz_of (ok_aload_n G dL_law_854 rfl rfl) (z_ald _ _),
   zz_of (ok_calsFW G (hnh.q 855) (zmX0_bisque_w _ G.hst) q1557 q1558 q81 q1559 (by decide +kernel) ⟨Nat.le_of_ble_eq_true rfl, Nat.le_of_ble_eq_true rfl⟩ dL_law_855 rfl) (z_csF _ _ _ _ _ _),
   zz_of (ok_istore G dL_law_858 rfl (by decide)) (z_ist _ _),
   zz_of (ok_aload_n G dL_law_860 rfl rfl) (z_ald _ _),
   zz_of (ok_aload_n G dL_law_861 rfl rfl) (z_ald _ _),
   zz_of (ok_iload G dL_law_862 rfl) (z_ild _ _),
   zz_of (ok_iconst G (v := 1) dL_law_864 (by decide) rfl) (z_cn 865 1),
   zz_of (ok_iadd G dL_law_865 rfl) (z_iadd _),
   ok_sld G hs dL_law_866 rfl,
   zz_of (ok_calvF G (hnh.q 867) (zmX9_bisque_w _ G.hst) (RX9, TX9, 32) rfl q2094 q2095 q2096 q93 q2097 (by decide +kernel) ⟨Nat.le_of_ble_eq_true rfl, Nat.le_of_ble_eq_true rfl⟩ dL_law_867 rfl) (z_cvFp _ _ _ _ _ _ _),
   zz_of (ok_istore G dL_law_870 rfl (by decide)) (z_ist _ _),
   zz_of (ok_aload_n G dL_law_872 rfl rfl) (z_ald _ _),
   zz_of (ok_calvF G (hnh.q 873) (zmX9_thrown_w _ G.hst) (RX9, TX9, 32) rfl q1902 q1903 q1904 q93 q1905 (by decide +kernel) ⟨Nat.le_of_ble_eq_true rfl, Nat.le_of_ble_eq_true rfl⟩ dL_law_873 rfl) (z_cvFp _ _ _ _ _ _ _),
   zz_of (ok_iload G dL_law_876 rfl) (z_ild _ _),
   zz_of (ok_ceq G dL_law_878 rfl rfl) (z_ceq _ _ _ _),
   zz_of (ok_iconst G (v := 0) dL_law_881 (by decide) rfl) (z_cn 882 0),
   zz_of (ok_zret G dL_law_882) (z_zret _),
   zz_of (ok_iload G dL_law_883 rfl) (z_ild _ _),
   zz_of (ok_ifne G dL_law_885 rfl rfl) (z_ifne _ _ _),
   zz_of (ok_aload_n G dL_law_888 rfl rfl) (z_ald _ _),
   zz_of (ok_iconst G (v := 0) dL_law_889 (by decide) rfl) (z_cn 890 0),
   zz_of (ok_lald G dL_law_890 rfl) (z_lalp _),
   zz_of (ok_iload G dL_law_891 rfl) (z_ild _ _),
   zz_of (ok_ifeq G dL_law_893 rfl rfl) (z_ifeq _ _ _),
   zz_of (ok_lconst G (v := 1) dL_law_896 (by decide) rfl) (z_cl 897 1),
   zz_of (ok_goto G dL_law_897 rfl) (z_goto _),
   zz_of (ok_lconst G (v := 0) dL_law_900 (by decide) rfl) (z_cl 901 0),
   zz_of (ok_lcmp G dL_law_901 rfl) (z_lcmp _),
   zz_of (ok_ifeq G dL_law_902 rfl rfl) (z_ifeq _ _ _),
   zz_of (ok_iconst G (v := 0) dL_law_905 (by decide) rfl) (z_cn 906 0),
   zz_of (ok_zret G dL_law_906) (z_zret _),
   zz_of (ok_goto G dL_law_907 rfl) (z_goto _),
   zz_of (ok_aload_n G dL_law_910 rfl rfl) (z_ald _ _),
   zz_of (ok_aload_n G dL_law_911 rfl rfl) (z_ald _ _),
   zz_of (ok_iload G dL_law_912 rfl) (z_ild _ _),
   zz_of (ok_iconst G (v := 1) dL_law_914 (by decide) rfl) (z_cn 915 1),
   zz_of (ok_iadd G dL_law_915 rfl) (z_iadd _),
   ok_sld G hs dL_law_916 rfl,
   zz_of (ok_aload_n G dL_law_917 rfl rfl) (z_ald _ _),
   zz_of (ok_iload G dL_law_918 rfl) (z_ild _ _),
   zz_of (ok_iconst G (v := 2) dL_law_920 (by decide) rfl) (z_cn 921 2),
   zz_of (ok_iadd G dL_law_921 rfl) (z_iadd _),
   ok_sld G hs dL_law_922 rfl,
   zz_of (ok_aload_n G dL_law_923 rfl rfl) (z_ald _ _),
   zz_of (ok_calsFW G (hnh.q 924) (zmX0_chance_w _ G.hst) q1568 q1569 q81 q1570 (by decide +kernel) ⟨Nat.le_of_ble_eq_true rfl, Nat.le_of_ble_eq_true rfl⟩ dL_law_924 rfl) (z_csF _ _ _ _ _ _),
   zz_of (ok_istore G dL_law_927 rfl (by decide)) (z_ist _ _),
   zz_of (ok_aload_n G dL_law_929 rfl rfl) (z_ald _ _),
   zz_of (ok_aload_n G dL_law_930 rfl rfl) (z_ald _ _),
   zz_of (ok_iload G dL_law_931 rfl) (z_ild _ _),
   zz_of (ok_iconst G (v := 1) dL_law_933 (by decide) rfl) (z_cn 934 1),
   zz_of (ok_iadd G dL_law_934 rfl) (z_iadd _),
   ok_sld G hs dL_law_935 rfl,
   zz_of (ok_aload_n G dL_law_936 rfl rfl) (z_ald _ _),
   zz_of (ok_iload G dL_law_937 rfl) (z_ild _ _),
   zz_of (ok_iconst G (v := 2) dL_law_939 (by decide) rfl) (z_cn 940 2),
   zz_of (ok_iadd G dL_law_940 rfl) (z_iadd _),
   ok_sld G hs dL_law_941 rfl,
   zz_of (ok_calvF G (hnh.q 942) (zmX9_chance_w _ G.hst) (RX9, TX9, 32) rfl q2102 q2103 q2104 q93 q2105 (by decide +kernel) ⟨Nat.le_of_ble_eq_true rfl, Nat.le_of_ble_eq_true rfl⟩ dL_law_942 rfl) (z_cvFp _ _ _ _ _ _ _),
   zz_of (ok_istore G dL_law_945 rfl (by decide)) (z_ist _ _),
   zz_of (ok_aload_n G dL_law_947 rfl rfl) (z_ald _ _),
   zz_of (ok_calvF G (hnh.q 948) (zmX9_thrown_w _ G.hst) (RX9, TX9, 32) rfl q1902 q1903 q1904 q93 q1905 (by decide +kernel) ⟨Nat.le_of_ble_eq_true rfl, Nat.le_of_ble_eq_true rfl⟩ dL_law_948 rfl) (z_cvFp _ _ _ _ _ _ _),
   zz_of (ok_iload G dL_law_951 rfl) (z_ild _ _),
   zz_of (ok_ceq G dL_law_953 rfl rfl) (z_ceq _ _ _ _),
   zz_of (ok_iconst G (v := 0) dL_law_956 (by decide) rfl) (z_cn 957 0),
   zz_of (ok_zret G dL_law_957) (z_zret _),
   zz_of (ok_iload G dL_law_958 rfl) (z_ild _ _),
   zz_of (ok_ifne G dL_law_960 rfl rfl) (z_ifne _ _ _),
   zz_of (ok_aload_n G dL_law_963 rfl rfl) (z_ald _ _),
   zz_of (ok_iconst G (v := 0) dL_law_964 (by decide) rfl) (z_cn 965 0),
   zz_of (ok_lald G dL_law_965 rfl) (z_lalp _),
   zz_of (ok_iload G dL_law_966 rfl) (z_ild _ _),
   zz_of (ok_i2l G dL_law_968 rfl) (z_i2l _),
   zz_of (ok_lcmp G dL_law_969 rfl) (z_lcmp _),
   zz_of (ok_ifeq G dL_law_970 rfl rfl) (z_ifeq _ _ _),
   zz_of (ok_iconst G (v := 0) dL_law_973 (by decide) rfl) (z_cn 974 0),
   zz_of (ok_zret G dL_law_974) (z_zret _),
   zz_of (ok_goto G dL_law_975 rfl) (z_goto _),
   zz_of (ok_aload_n G dL_law_978 rfl rfl) (z_ald _ _),
   zz_of (ok_aload_n G dL_law_979 rfl rfl) (z_ald _ _),
   zz_of (ok_iload G dL_law_980 rfl) (z_ild _ _),
   zz_of (ok_iconst G (v := 1) dL_law_982 (by decide) rfl) (z_cn 983 1),
   zz_of (ok_iadd G dL_law_983 rfl) (z_iadd _),
   ok_sld G hs dL_law_984 rfl,
   zz_of (ok_aload_n G dL_law_985 rfl rfl) (z_ald _ _),
   zz_of (ok_iload G dL_law_986 rfl) (z_ild _ _),
   zz_of (ok_iconst G (v := 2) dL_law_988 (by decide) rfl) (z_cn 989 2),
   zz_of (ok_iadd G dL_law_989 rfl) (z_iadd _),
   ok_sld G hs dL_law_990 rfl,
   zz_of (ok_aload_n G dL_law_991 rfl rfl) (z_ald _ _),
   zz_of (ok_iload G dL_law_992 rfl) (z_ild _ _),
   zz_of (ok_iconst G (v := 3) dL_law_994 (by decide) rfl) (z_cn 995 3),
   zz_of (ok_iadd G dL_law_995 rfl) (z_iadd _),
   ok_sld G hs dL_law_996 rfl,
   zz_of (ok_ifeq G dL_law_997 rfl rfl) (z_ifeq _ _ _),
   zz_of (ok_iconst G (v := 1) dL_law_1000 (by decide) rfl) (z_cn 1001 1),
   zz_of (ok_goto G dL_law_1001 rfl) (z_goto _),
   zz_of (ok_iconst G (v := 0) dL_law_1004 (by decide) rfl) (z_cn 1005 0),
   zz_of (ok_aload_n G dL_law_1005 rfl rfl) (z_ald _ _),
   zz_of (ok_calsFW G (hnh.q 1006) (zmX0_best_w _ G.hst) q1647 q1648 q81 q1649 (by decide +kernel) ⟨Nat.le_of_ble_eq_true rfl, Nat.le_of_ble_eq_true rfl⟩ dL_law_1006 rfl) (z_csF _ _ _ _ _ _),
   zz_of (ok_istore G dL_law_1009 rfl (by decide)) (z_ist _ _),
   zz_of (ok_aload_n G dL_law_1011 rfl rfl) (z_ald _ _),
   zz_of (ok_aload_n G dL_law_1012 rfl rfl) (z_ald _ _),
   zz_of (ok_iload G dL_law_1013 rfl) (z_ild _ _),
   zz_of (ok_iconst G (v := 1) dL_law_1015 (by decide) rfl) (z_cn 1016 1),
   zz_of (ok_iadd G dL_law_1016 rfl) (z_iadd _),
   ok_sld G hs dL_law_1017 rfl,
   zz_of (ok_aload_n G dL_law_1018 rfl rfl) (z_ald _ _),
   zz_of (ok_iload G dL_law_1019 rfl) (z_ild _ _),
   zz_of (ok_iconst G (v := 2) dL_law_1021 (by decide) rfl) (z_cn 1022 2),
   zz_of (ok_iadd G dL_law_1022 rfl) (z_iadd _),
   ok_sld G hs dL_law_1023 rfl,
   zz_of (ok_aload_n G dL_law_1024 rfl rfl) (z_ald _ _),
   zz_of (ok_iload G dL_law_1025 rfl) (z_ild _ _),
   zz_of (ok_iconst G (v := 3) dL_law_1027 (by decide) rfl) (z_cn 1028 3),
   zz_of (ok_iadd G dL_law_1028 rfl) (z_iadd _),
   ok_sld G hs dL_law_1029 rfl,
   zz_of (ok_ifeq G dL_law_1030 rfl rfl) (z_ifeq _ _ _),
   zz_of (ok_iconst G (v := 1) dL_law_1033 (by decide) rfl) (z_cn 1034 1),
   zz_of (ok_goto G dL_law_1034 rfl) (z_goto _),
   zz_of (ok_iconst G (v := 0) dL_law_1037 (by decide) rfl) (z_cn 1038 0),
   zz_of (ok_calvF G (hnh.q 1038) (zmX9_best_w _ G.hst) (RX9, TX9, 32) rfl q2143 q2144 q2145 q93 q2146 (by decide +kernel) ⟨Nat.le_of_ble_eq_true rfl, Nat.le_of_ble_eq_true rfl⟩ dL_law_1038 rfl) (z_cvFp _ _ _ _ _ _ _),
   zz_of (ok_istore G dL_law_1041 rfl (by decide)) (z_ist _ _),
   zz_of (ok_aload_n G dL_law_1043 rfl rfl) (z_ald _ _),
   zz_of (ok_calvF G (hnh.q 1044) (zmX9_thrown_w _ G.hst) (RX9, TX9, 32) rfl q1902 q1903 q1904 q93 q1905 (by decide +kernel) ⟨Nat.le_of_ble_eq_true rfl, Nat.le_of_ble_eq_true rfl⟩ dL_law_1044 rfl) (z_cvFp _ _ _ _ _ _ _),
   zz_of (ok_iload G dL_law_1047 rfl) (z_ild _ _),
   zz_of (ok_ceq G dL_law_1049 rfl rfl) (z_ceq _ _ _ _),
   zz_of (ok_iconst G (v := 0) dL_law_1052 (by decide) rfl) (z_cn 1053 0),
   zz_of (ok_zret G dL_law_1053) (z_zret _),
   zz_of (ok_iload G dL_law_1054 rfl) (z_ild _ _),
   zz_of (ok_ifne G dL_law_1056 rfl rfl) (z_ifne _ _ _),
   zz_of (ok_aload_n G dL_law_1059 rfl rfl) (z_ald _ _),
   zz_of (ok_iconst G (v := 0) dL_law_1060 (by decide) rfl) (z_cn 1061 0),
   zz_of (ok_lald G dL_law_1061 rfl) (z_lalp _),
   zz_of (ok_iload G dL_law_1062 rfl) (z_ild _ _),
   zz_of (ok_i2l G dL_law_1064 rfl) (z_i2l _),
   zz_of (ok_lcmp G dL_law_1065 rfl) (z_lcmp _),
   zz_of (ok_ifeq G dL_law_1066 rfl rfl) (z_ifeq _ _ _),
   zz_of (ok_iconst G (v := 0) dL_law_1069 (by decide) rfl) (z_cn 1070 0),
   zz_of (ok_zret G dL_law_1070) (z_zret _),
   zz_of (ok_goto G dL_law_1071 rfl) (z_goto _),
   zz_of (ok_aload_n G dL_law_1074 rfl rfl) (z_ald _ _),
   zz_of (ok_aload_n G dL_law_1075 rfl rfl) (z_ald _ _),
   zz_of (ok_iload G dL_law_1076 rfl) (z_ild _ _),
   zz_of (ok_iconst G (v := 1) dL_law_1078 (by decide) rfl) (z_cn 1079 1),
   zz_of (ok_iadd G dL_law_1079 rfl) (z_iadd _),
   ok_sld G hs dL_law_1080 rfl,
   zz_of (ok_aload_n G dL_law_1081 rfl rfl) (z_ald _ _),
   zz_of (ok_iload G dL_law_1082 rfl) (z_ild _ _),
   zz_of (ok_iconst G (v := 2) dL_law_1084 (by decide) rfl) (z_cn 1085 2),
   zz_of (ok_iadd G dL_law_1085 rfl) (z_iadd _),
   ok_sld G hs dL_law_1086 rfl,
   zz_of (ok_aload_n G dL_law_1087 rfl rfl) (z_ald _ _),
   zz_of (ok_iload G dL_law_1088 rfl) (z_ild _ _),
   zz_of (ok_iconst G (v := 3) dL_law_1090 (by decide) rfl) (z_cn 1091 3),
   zz_of (ok_iadd G dL_law_1091 rfl) (z_iadd _),
   ok_sld G hs dL_law_1092 rfl,
   zz_of (ok_aload_n G dL_law_1093 rfl rfl) (z_ald _ _),
   zz_of (ok_calsFW G (hnh.q 1094) (zmX0_saves_w _ G.hst) q1656 q1657 q81 q1658 (by decide +kernel) ⟨Nat.le_of_ble_eq_true rfl, Nat.le_of_ble_eq_true rfl⟩ dL_law_1094 rfl) (z_csF _ _ _ _ _ _),
   zz_of (ok_istore G dL_law_1097 rfl (by decide)) (z_ist _ _),
   zz_of (ok_aload_n G dL_law_1099 rfl rfl) (z_ald _ _),
   zz_of (ok_aload_n G dL_law_1100 rfl rfl) (z_ald _ _),
   zz_of (ok_iload G dL_law_1101 rfl) (z_ild _ _),
   zz_of (ok_iconst G (v := 1) dL_law_1103 (by decide) rfl) (z_cn 1104 1),
   zz_of (ok_iadd G dL_law_1104 rfl) (z_iadd _),
   ok_sld G hs dL_law_1105 rfl,
   zz_of (ok_aload_n G dL_law_1106 rfl rfl) (z_ald _ _),
   zz_of (ok_iload G dL_law_1107 rfl) (z_ild _ _),
   zz_of (ok_iconst G (v := 2) dL_law_1109 (by decide) rfl) (z_cn 1110 2),
   zz_of (ok_iadd G dL_law_1110 rfl) (z_iadd _),
   ok_sld G hs dL_law_1111 rfl,
   zz_of (ok_aload_n G dL_law_1112 rfl rfl) (z_ald _ _),
   zz_of (ok_iload G dL_law_1113 rfl) (z_ild _ _),
   zz_of (ok_iconst G (v := 3) dL_law_1115 (by decide) rfl) (z_cn 1116 3),
   zz_of (ok_iadd G dL_law_1116 rfl) (z_iadd _),
   ok_sld G hs dL_law_1117 rfl,
   zz_of (ok_calvF G (hnh.q 1118) (zmX9_saves_w _ G.hst) (RX9, TX9, 32) rfl q2147 q2148 q2149 q93 q2150 (by decide +kernel) ⟨Nat.le_of_ble_eq_true rfl, Nat.le_of_ble_eq_true rfl⟩ dL_law_1118 rfl) (z_cvFp _ _ _ _ _ _ _),
   zz_of (ok_istore G dL_law_1121 rfl (by decide)) (z_ist _ _),
   zz_of (ok_aload_n G dL_law_1123 rfl rfl) (z_ald _ _),
   zz_of (ok_calvF G (hnh.q 1124) (zmX9_thrown_w _ G.hst) (RX9, TX9, 32) rfl q1902 q1903 q1904 q93 q1905 (by decide +kernel) ⟨Nat.le_of_ble_eq_true rfl, Nat.le_of_ble_eq_true rfl⟩ dL_law_1124 rfl) (z_cvFp _ _ _ _ _ _ _),
   zz_of (ok_iload G dL_law_1127 rfl) (z_ild _ _),
   zz_of (ok_ceq G dL_law_1129 rfl rfl) (z_ceq _ _ _ _),
   zz_of (ok_iconst G (v := 0) dL_law_1132 (by decide) rfl) (z_cn 1133 0),
   zz_of (ok_zret G dL_law_1133) (z_zret _),
   zz_of (ok_iload G dL_law_1134 rfl) (z_ild _ _),
   zz_of (ok_ifne G dL_law_1136 rfl rfl) (z_ifne _ _ _),
   zz_of (ok_aload_n G dL_law_1139 rfl rfl) (z_ald _ _),
   zz_of (ok_iconst G (v := 0) dL_law_1140 (by decide) rfl) (z_cn 1141 0),
   zz_of (ok_lald G dL_law_1141 rfl) (z_lalp _),
   zz_of (ok_iload G dL_law_1142 rfl) (z_ild _ _),
   zz_of (ok_i2l G dL_law_1144 rfl) (z_i2l _),
   zz_of (ok_lcmp G dL_law_1145 rfl) (z_lcmp _),
   zz_of (ok_ifeq G dL_law_1146 rfl rfl) (z_ifeq _ _ _),
   zz_of (ok_iconst G (v := 0) dL_law_1149 (by decide) rfl) (z_cn 1150 0),
   zz_of (ok_zret G dL_law_1150) (z_zret _),
   zz_of (ok_goto G dL_law_1151 rfl) (z_goto _),
   zz_of (ok_aload_n G dL_law_1154 rfl rfl) (z_ald _ _),
   zz_of (ok_aload_n G dL_law_1155 rfl rfl) (z_ald _ _),
   zz_of (ok_iload G dL_law_1156 rfl) (z_ild _ _),
   zz_of (ok_iconst G (v := 1) dL_law_1158 (by decide) rfl) (z_cn 1159 1),
   zz_of (ok_iadd G dL_law_1159 rfl) (z_iadd _),
   ok_sld G hs dL_law_1160 rfl,
   zz_of (ok_aload_n G dL_law_1161 rfl rfl) (z_ald _ _),
   zz_of (ok_iload G dL_law_1162 rfl) (z_ild _ _),
   zz_of (ok_iconst G (v := 2) dL_law_1164 (by decide) rfl) (z_cn 1165 2),
   zz_of (ok_iadd G dL_law_1165 rfl) (z_iadd _),
   ok_sld G hs dL_law_1166 rfl,
   zz_of (ok_aload_n G dL_law_1167 rfl rfl) (z_ald _ _),
   zz_of (ok_iload G dL_law_1168 rfl) (z_ild _ _),
   zz_of (ok_iconst G (v := 3) dL_law_1170 (by decide) rfl) (z_cn 1171 3),
   zz_of (ok_iadd G dL_law_1171 rfl) (z_iadd _),
   ok_sld G hs dL_law_1172 rfl,
   zz_of (ok_aload_n G dL_law_1173 rfl rfl) (z_ald _ _),
   zz_of (ok_calsFW G (hnh.q 1174) (zmX0_worth_w _ G.hst) q1681 q1682 q81 q1683 (by decide +kernel) ⟨Nat.le_of_ble_eq_true rfl, Nat.le_of_ble_eq_true rfl⟩ dL_law_1174 rfl) (z_csF _ _ _ _ _ _),
   zz_of (ok_istore G dL_law_1177 rfl (by decide)) (z_ist _ _),
   zz_of (ok_aload_n G dL_law_1179 rfl rfl) (z_ald _ _),
   zz_of (ok_aload_n G dL_law_1180 rfl rfl) (z_ald _ _),
   zz_of (ok_iload G dL_law_1181 rfl) (z_ild _ _),
   zz_of (ok_iconst G (v := 1) dL_law_1183 (by decide) rfl) (z_cn 1184 1),
   zz_of (ok_iadd G dL_law_1184 rfl) (z_iadd _),
   ok_sld G hs dL_law_1185 rfl,
   zz_of (ok_aload_n G dL_law_1186 rfl rfl) (z_ald _ _),
   zz_of (ok_iload G dL_law_1187 rfl) (z_ild _ _),
   zz_of (ok_iconst G (v := 2) dL_law_1189 (by decide) rfl) (z_cn 1190 2),
   zz_of (ok_iadd G dL_law_1190 rfl) (z_iadd _),
   ok_sld G hs dL_law_1191 rfl,
   zz_of (ok_aload_n G dL_law_1192 rfl rfl) (z_ald _ _),
   zz_of (ok_iload G dL_law_1193 rfl) (z_ild _ _),
   zz_of (ok_iconst G (v := 3) dL_law_1195 (by decide) rfl) (z_cn 1196 3),
   zz_of (ok_iadd G dL_law_1196 rfl) (z_iadd _),
   ok_sld G hs dL_law_1197 rfl,
   zz_of (ok_calvF G (hnh.q 1198) (zmX9_worth_w _ G.hst) (RX9, TX9, 32) rfl q2152 q2153 q2154 q93 q2155 (by decide +kernel) ⟨Nat.le_of_ble_eq_true rfl, Nat.le_of_ble_eq_true rfl⟩ dL_law_1198 rfl) (z_cvFp _ _ _ _ _ _ _),
   zz_of (ok_istore G dL_law_1201 rfl (by decide)) (z_ist _ _),
   zz_of (ok_aload_n G dL_law_1203 rfl rfl) (z_ald _ _),
   zz_of (ok_calvF G (hnh.q 1204) (zmX9_thrown_w _ G.hst) (RX9, TX9, 32) rfl q1902 q1903 q1904 q93 q1905 (by decide +kernel) ⟨Nat.le_of_ble_eq_true rfl, Nat.le_of_ble_eq_true rfl⟩ dL_law_1204 rfl) (z_cvFp _ _ _ _ _ _ _),
   zz_of (ok_iload G dL_law_1207 rfl) (z_ild _ _),
   zz_of (ok_ceq G dL_law_1209 rfl rfl) (z_ceq _ _ _ _),
   zz_of (ok_iconst G (v := 0) dL_law_1212 (by decide) rfl) (z_cn 1213 0),
   zz_of (ok_zret G dL_law_1213) (z_zret _),
   zz_of (ok_iload G dL_law_1214 rfl) (z_ild _ _),
   zz_of (ok_ifne G dL_law_1216 rfl rfl) (z_ifne _ _ _),
   zz_of (ok_aload_n G dL_law_1219 rfl rfl) (z_ald _ _),
   zz_of (ok_iconst G (v := 0) dL_law_1220 (by decide) rfl) (z_cn 1221 0),
   zz_of (ok_lald G dL_law_1221 rfl) (z_lalp _),
   zz_of (ok_iload G dL_law_1222 rfl) (z_ild _ _),
   zz_of (ok_i2l G dL_law_1224 rfl) (z_i2l _),
   zz_of (ok_lcmp G dL_law_1225 rfl) (z_lcmp _),
   zz_of (ok_ifeq G dL_law_1226 rfl rfl) (z_ifeq _ _ _),
   zz_of (ok_iconst G (v := 0) dL_law_1229 (by decide) rfl) (z_cn 1230 0),
   zz_of (ok_zret G dL_law_1230) (z_zret _),
   zz_of (ok_goto G dL_law_1231 rfl) (z_goto _),
   zz_of (ok_aload_n G dL_law_1234 rfl rfl) (z_ald _ _),
   zz_of (ok_aload_n G dL_law_1235 rfl rfl) (z_ald _ _),
   zz_of (ok_iload G dL_law_1236 rfl) (z_ild _ _),
   zz_of (ok_iconst G (v := 1) dL_law_1238 (by decide) rfl) (z_cn 1239 1),
   zz_of (ok_iadd G dL_law_1239 rfl) (z_iadd _),
   ok_sld G hs dL_law_1240 rfl,
   zz_of (ok_aload_n G dL_law_1241 rfl rfl) (z_ald _ _),
   zz_of (ok_iload G dL_law_1242 rfl) (z_ild _ _),
   zz_of (ok_iconst G (v := 2) dL_law_1244 (by decide) rfl) (z_cn 1245 2),
   zz_of (ok_iadd G dL_law_1245 rfl) (z_iadd _),
   ok_sld G hs dL_law_1246 rfl,
   zz_of (ok_aload_n G dL_law_1247 rfl rfl) (z_ald _ _),
   zz_of (ok_calsFW G (hnh.q 1248) (zmX0_set_w _ G.hst) q1689 q1690 q81 q1691 (by decide +kernel) ⟨Nat.le_of_ble_eq_true rfl, Nat.le_of_ble_eq_true rfl⟩ dL_law_1248 rfl) (z_csF _ _ _ _ _ _),
   zz_of (ok_istore G dL_law_1251 rfl (by decide)) (z_ist _ _),
   zz_of (ok_aload_n G dL_law_1253 rfl rfl) (z_ald _ _),
   zz_of (ok_aload_n G dL_law_1254 rfl rfl) (z_ald _ _),
   zz_of (ok_iload G dL_law_1255 rfl) (z_ild _ _),
   zz_of (ok_iconst G (v := 1) dL_law_1257 (by decide) rfl) (z_cn 1258 1),
   zz_of (ok_iadd G dL_law_1258 rfl) (z_iadd _),
   ok_sld G hs dL_law_1259 rfl,
   zz_of (ok_aload_n G dL_law_1260 rfl rfl) (z_ald _ _),
   zz_of (ok_iload G dL_law_1261 rfl) (z_ild _ _),
   zz_of (ok_iconst G (v := 2) dL_law_1263 (by decide) rfl) (z_cn 1264 2),
   zz_of (ok_iadd G dL_law_1264 rfl) (z_iadd _),
   ok_sld G hs dL_law_1265 rfl,
   zz_of (ok_calvF G (hnh.q 1266) (zmX9_set_w _ G.hst) (RX9, TX9, 32) rfl q2157 q2158 q2159 q93 q2160 (by decide +kernel) ⟨Nat.le_of_ble_eq_true rfl, Nat.le_of_ble_eq_true rfl⟩ dL_law_1266 rfl) (z_cvFp _ _ _ _ _ _ _),
   zz_of (ok_istore G dL_law_1269 rfl (by decide)) (z_ist _ _),
   zz_of (ok_aload_n G dL_law_1271 rfl rfl) (z_ald _ _),
   zz_of (ok_calvF G (hnh.q 1272) (zmX9_thrown_w _ G.hst) (RX9, TX9, 32) rfl q1902 q1903 q1904 q93 q1905 (by decide +kernel) ⟨Nat.le_of_ble_eq_true rfl, Nat.le_of_ble_eq_true rfl⟩ dL_law_1272 rfl) (z_cvFp _ _ _ _ _ _ _),
   zz_of (ok_iload G dL_law_1275 rfl) (z_ild _ _),
   zz_of (ok_ceq G dL_law_1277 rfl rfl) (z_ceq _ _ _ _),
   zz_of (ok_iconst G (v := 0) dL_law_1280 (by decide) rfl) (z_cn 1281 0),
   zz_of (ok_zret G dL_law_1281) (z_zret _),
   zz_of (ok_iload G dL_law_1282 rfl) (z_ild _ _),
   zz_of (ok_ifne G dL_law_1284 rfl rfl) (z_ifne _ _ _),
   zz_of (ok_aload_n G dL_law_1287 rfl rfl) (z_ald _ _),
   zz_of (ok_iconst G (v := 0) dL_law_1288 (by decide) rfl) (z_cn 1289 0),
   zz_of (ok_lald G dL_law_1289 rfl) (z_lalp _),
   zz_of (ok_iload G dL_law_1290 rfl) (z_ild _ _),
   zz_of (ok_i2l G dL_law_1292 rfl) (z_i2l _),
   zz_of (ok_lcmp G dL_law_1293 rfl) (z_lcmp _),
   zz_of (ok_ifeq G dL_law_1294 rfl rfl) (z_ifeq _ _ _),
   zz_of (ok_iconst G (v := 0) dL_law_1297 (by decide) rfl) (z_cn 1298 0),
   zz_of (ok_zret G dL_law_1298) (z_zret _),
   zz_of (ok_goto G dL_law_1299 rfl) (z_goto _),
   zz_of (ok_aload_n G dL_law_1302 rfl rfl) (z_ald _ _),
   zz_of (ok_aload_n G dL_law_1303 rfl rfl) (z_ald _ _),
   zz_of (ok_iload G dL_law_1304 rfl) (z_ild _ _),
   zz_of (ok_iconst G (v := 1) dL_law_1306 (by decide) rfl) (z_cn 1307 1),
   zz_of (ok_iadd G dL_law_1307 rfl) (z_iadd _),
   ok_sld G hs dL_law_1308 rfl,
   zz_of (ok_aload_n G dL_law_1309 rfl rfl) (z_ald _ _),
   zz_of (ok_iload G dL_law_1310 rfl) (z_ild _ _),
   zz_of (ok_iconst G (v := 2) dL_law_1312 (by decide) rfl) (z_cn 1313 2),
   zz_of (ok_iadd G dL_law_1313 rfl) (z_iadd _),
   ok_sld G hs dL_law_1314 rfl,
   zz_of (ok_aload_n G dL_law_1315 rfl rfl) (z_ald _ _),
   zz_of (ok_iload G dL_law_1316 rfl) (z_ild _ _),
   zz_of (ok_iconst G (v := 3) dL_law_1318 (by decide) rfl) (z_cn 1319 3),
   zz_of (ok_iadd G dL_law_1319 rfl) (z_iadd _),
   ok_sld G hs dL_law_1320 rfl,
   zz_of (ok_aload_n G dL_law_1321 rfl rfl) (z_ald _ _),
   zz_of (ok_iload G dL_law_1322 rfl) (z_ild _ _),
   zz_of (ok_iconst G (v := 4) dL_law_1324 (by decide) rfl) (z_cn 1325 4),
   zz_of (ok_iadd G dL_law_1325 rfl) (z_iadd _),
   ok_sld G hs dL_law_1326 rfl,
   zz_of (ok_aload_n G dL_law_1327 rfl rfl) (z_ald _ _),
   zz_of (ok_calsFW G (hnh.q 1328) (zmX0_ways_w _ G.hst) q1711 q1712 q81 q1713 (by decide +kernel) ⟨Nat.le_of_ble_eq_true rfl, Nat.le_of_ble_eq_true rfl⟩ dL_law_1328 rfl) (z_csF _ _ _ _ _ _),
   zz_of (ok_istore G dL_law_1331 rfl (by decide)) (z_ist _ _),
   zz_of (ok_aload_n G dL_law_1333 rfl rfl) (z_ald _ _),
   zz_of (ok_aload_n G dL_law_1334 rfl rfl) (z_ald _ _),
   zz_of (ok_iload G dL_law_1335 rfl) (z_ild _ _),
   zz_of (ok_iconst G (v := 1) dL_law_1337 (by decide) rfl) (z_cn 1338 1),
   zz_of (ok_iadd G dL_law_1338 rfl) (z_iadd _),
   ok_sld G hs dL_law_1339 rfl,
   zz_of (ok_aload_n G dL_law_1340 rfl rfl) (z_ald _ _),
   zz_of (ok_iload G dL_law_1341 rfl) (z_ild _ _),
   zz_of (ok_iconst G (v := 2) dL_law_1343 (by decide) rfl) (z_cn 1344 2),
   zz_of (ok_iadd G dL_law_1344 rfl) (z_iadd _),
   ok_sld G hs dL_law_1345 rfl,
   zz_of (ok_aload_n G dL_law_1346 rfl rfl) (z_ald _ _),
   zz_of (ok_iload G dL_law_1347 rfl) (z_ild _ _),
   zz_of (ok_iconst G (v := 3) dL_law_1349 (by decide) rfl) (z_cn 1350 3),
   zz_of (ok_iadd G dL_law_1350 rfl) (z_iadd _),
   ok_sld G hs dL_law_1351 rfl,
   zz_of (ok_aload_n G dL_law_1352 rfl rfl) (z_ald _ _),
   zz_of (ok_iload G dL_law_1353 rfl) (z_ild _ _),
   zz_of (ok_iconst G (v := 4) dL_law_1355 (by decide) rfl) (z_cn 1356 4),
   zz_of (ok_iadd G dL_law_1356 rfl) (z_iadd _),
   ok_sld G hs dL_law_1357 rfl,
   zz_of (ok_calvF G (hnh.q 1358) (zmX9_ways_w _ G.hst) (RX9, TX9, 32) rfl q2169 q2170 q2171 q93 q2172 (by decide +kernel) ⟨Nat.le_of_ble_eq_true rfl, Nat.le_of_ble_eq_true rfl⟩ dL_law_1358 rfl) (z_cvFp _ _ _ _ _ _ _),
   zz_of (ok_istore G dL_law_1361 rfl (by decide)) (z_ist _ _),
   zz_of (ok_aload_n G dL_law_1363 rfl rfl) (z_ald _ _),
   zz_of (ok_calvF G (hnh.q 1364) (zmX9_thrown_w _ G.hst) (RX9, TX9, 32) rfl q1902 q1903 q1904 q93 q1905 (by decide +kernel) ⟨Nat.le_of_ble_eq_true rfl, Nat.le_of_ble_eq_true rfl⟩ dL_law_1364 rfl) (z_cvFp _ _ _ _ _ _ _),
   zz_of (ok_iload G dL_law_1367 rfl) (z_ild _ _),
   zz_of (ok_ceq G dL_law_1369 rfl rfl) (z_ceq _ _ _ _),
   zz_of (ok_iconst G (v := 0) dL_law_1372 (by decide) rfl) (z_cn 1373 0),
   zz_of (ok_zret G dL_law_1373) (z_zret _),
   zz_of (ok_iload G dL_law_1374 rfl) (z_ild _ _),
   zz_of (ok_ifne G dL_law_1376 rfl rfl) (z_ifne _ _ _),
   zz_of (ok_aload_n G dL_law_1379 rfl rfl) (z_ald _ _),
   zz_of (ok_iconst G (v := 0) dL_law_1380 (by decide) rfl) (z_cn 1381 0),
   zz_of (ok_lald G dL_law_1381 rfl) (z_lalp _),
   zz_of (ok_iload G dL_law_1382 rfl) (z_ild _ _),
   zz_of (ok_i2l G dL_law_1384 rfl) (z_i2l _),
   zz_of (ok_lcmp G dL_law_1385 rfl) (z_lcmp _),
   zz_of (ok_ifeq G dL_law_1386 rfl rfl) (z_ifeq _ _ _),
   zz_of (ok_iconst G (v := 0) dL_law_1389 (by decide) rfl) (z_cn 1390 0),
   zz_of (ok_zret G dL_law_1390) (z_zret _),
   zz_of (ok_goto G dL_law_1391 rfl) (z_goto _),
   zz_of (ok_aload_n G dL_law_1394 rfl rfl) (z_ald _ _),
   zz_of (ok_aload_n G dL_law_1395 rfl rfl) (z_ald _ _),
   zz_of (ok_iload G dL_law_1396 rfl) (z_ild _ _),
   zz_of (ok_iconst G (v := 1) dL_law_1398 (by decide) rfl) (z_cn 1399 1),
   zz_of (ok_iadd G dL_law_1399 rfl) (z_iadd _),
   ok_sld G hs dL_law_1400 rfl,
   zz_of (ok_aload_n G dL_law_1401 rfl rfl) (z_ald _ _),
   zz_of (ok_iload G dL_law_1402 rfl) (z_ild _ _),
   zz_of (ok_iconst G (v := 2) dL_law_1404 (by decide) rfl) (z_cn 1405 2),
   zz_of (ok_iadd G dL_law_1405 rfl) (z_iadd _),
   ok_sld G hs dL_law_1406 rfl,
   zz_of (ok_aload_n G dL_law_1407 rfl rfl) (z_ald _ _),
   zz_of (ok_calsFW G (hnh.q 1408) (zmX0_even_w _ G.hst) q1718 q1719 q81 q1720 (by decide +kernel) ⟨Nat.le_of_ble_eq_true rfl, Nat.le_of_ble_eq_true rfl⟩ dL_law_1408 rfl) (z_csF _ _ _ _ _ _),
   zz_of (ok_istore G dL_law_1411 rfl (by decide)) (z_ist _ _),
   zz_of (ok_aload_n G dL_law_1413 rfl rfl) (z_ald _ _),
   zz_of (ok_aload_n G dL_law_1414 rfl rfl) (z_ald _ _),
   zz_of (ok_iload G dL_law_1415 rfl) (z_ild _ _),
   zz_of (ok_iconst G (v := 1) dL_law_1417 (by decide) rfl) (z_cn 1418 1),
   zz_of (ok_iadd G dL_law_1418 rfl) (z_iadd _),
   ok_sld G hs dL_law_1419 rfl,
   zz_of (ok_aload_n G dL_law_1420 rfl rfl) (z_ald _ _),
   zz_of (ok_iload G dL_law_1421 rfl) (z_ild _ _),
   zz_of (ok_iconst G (v := 2) dL_law_1423 (by decide) rfl) (z_cn 1424 2),
   zz_of (ok_iadd G dL_law_1424 rfl) (z_iadd _),
   ok_sld G hs dL_law_1425 rfl,
   zz_of (ok_calvF G (hnh.q 1426) (zmX9_even_w _ G.hst) (RX9, TX9, 32) rfl q2173 q2174 q2175 q93 q2176 (by decide +kernel) ⟨Nat.le_of_ble_eq_true rfl, Nat.le_of_ble_eq_true rfl⟩ dL_law_1426 rfl) (z_cvFp _ _ _ _ _ _ _),
   zz_of (ok_istore G dL_law_1429 rfl (by decide)) (z_ist _ _),
   zz_of (ok_aload_n G dL_law_1431 rfl rfl) (z_ald _ _),
   zz_of (ok_calvF G (hnh.q 1432) (zmX9_thrown_w _ G.hst) (RX9, TX9, 32) rfl q1902 q1903 q1904 q93 q1905 (by decide +kernel) ⟨Nat.le_of_ble_eq_true rfl, Nat.le_of_ble_eq_true rfl⟩ dL_law_1432 rfl) (z_cvFp _ _ _ _ _ _ _),
   zz_of (ok_iload G dL_law_1435 rfl) (z_ild _ _),
   zz_of (ok_ceq G dL_law_1437 rfl rfl) (z_ceq _ _ _ _),
   zz_of (ok_iconst G (v := 0) dL_law_1440 (by decide) rfl) (z_cn 1441 0),
   zz_of (ok_zret G dL_law_1441) (z_zret _),
   zz_of (ok_iload G dL_law_1442 rfl) (z_ild _ _),
   zz_of (ok_ifne G dL_law_1444 rfl rfl) (z_ifne _ _ _),
   zz_of (ok_aload_n G dL_law_1447 rfl rfl) (z_ald _ _),
   zz_of (ok_iconst G (v := 0) dL_law_1448 (by decide) rfl) (z_cn 1449 0),
   zz_of (ok_lald G dL_law_1449 rfl) (z_lalp _),
   zz_of (ok_iload G dL_law_1450 rfl) (z_ild _ _),
   zz_of (ok_i2l G dL_law_1452 rfl) (z_i2l _),
   zz_of (ok_lcmp G dL_law_1453 rfl) (z_lcmp _),
   zz_of (ok_ifeq G dL_law_1454 rfl rfl) (z_ifeq _ _ _),
   zz_of (ok_iconst G (v := 0) dL_law_1457 (by decide) rfl) (z_cn 1458 0),
   zz_of (ok_zret G dL_law_1458) (z_zret _),
   zz_of (ok_goto G dL_law_1459 rfl) (z_goto _),
   zz_of (ok_aload_n G dL_law_1462 rfl rfl) (z_ald _ _),
   zz_of (ok_aload_n G dL_law_1463 rfl rfl) (z_ald _ _),
   zz_of (ok_iload G dL_law_1464 rfl) (z_ild _ _),
   zz_of (ok_iconst G (v := 1) dL_law_1466 (by decide) rfl) (z_cn 1467 1),
   zz_of (ok_iadd G dL_law_1467 rfl) (z_iadd _),
   ok_sld G hs dL_law_1468 rfl,
   zz_of (ok_aload_n G dL_law_1469 rfl rfl) (z_ald _ _),
   zz_of (ok_calsFW G (hnh.q 1470) (zmX0_log_w _ G.hst) q1731 q1732 q81 q1733 (by decide +kernel) ⟨Nat.le_of_ble_eq_true rfl, Nat.le_of_ble_eq_true rfl⟩ dL_law_1470 rfl) (z_csF _ _ _ _ _ _),
   zz_of (ok_istore G dL_law_1473 rfl (by decide)) (z_ist _ _),
   zz_of (ok_aload_n G dL_law_1475 rfl rfl) (z_ald _ _),
   zz_of (ok_aload_n G dL_law_1476 rfl rfl) (z_ald _ _),
   zz_of (ok_iload G dL_law_1477 rfl) (z_ild _ _),
   zz_of (ok_iconst G (v := 1) dL_law_1479 (by decide) rfl) (z_cn 1480 1),
   zz_of (ok_iadd G dL_law_1480 rfl) (z_iadd _),
   ok_sld G hs dL_law_1481 rfl,
   zz_of (ok_calvF G (hnh.q 1482) (zmX9_log_w _ G.hst) (RX9, TX9, 32) rfl q2179 q2180 q2181 q93 q2182 (by decide +kernel) ⟨Nat.le_of_ble_eq_true rfl, Nat.le_of_ble_eq_true rfl⟩ dL_law_1482 rfl) (z_cvFp _ _ _ _ _ _ _),
   zz_of (ok_istore G dL_law_1485 rfl (by decide)) (z_ist _ _),
   zz_of (ok_aload_n G dL_law_1487 rfl rfl) (z_ald _ _),
   zz_of (ok_calvF G (hnh.q 1488) (zmX9_thrown_w _ G.hst) (RX9, TX9, 32) rfl q1902 q1903 q1904 q93 q1905 (by decide +kernel) ⟨Nat.le_of_ble_eq_true rfl, Nat.le_of_ble_eq_true rfl⟩ dL_law_1488 rfl) (z_cvFp _ _ _ _ _ _ _),
   zz_of (ok_iload G dL_law_1491 rfl) (z_ild _ _),
   zz_of (ok_ceq G dL_law_1493 rfl rfl) (z_ceq _ _ _ _),
   zz_of (ok_iconst G (v := 0) dL_law_1496 (by decide) rfl) (z_cn 1497 0),
   zz_of (ok_zret G dL_law_1497) (z_zret _),
   zz_of (ok_iload G dL_law_1498 rfl) (z_ild _ _),
   zz_of (ok_ifne G dL_law_1500 rfl rfl) (z_ifne _ _ _),
   zz_of (ok_aload_n G dL_law_1503 rfl rfl) (z_ald _ _),
   zz_of (ok_iconst G (v := 0) dL_law_1504 (by decide) rfl) (z_cn 1505 0),
   zz_of (ok_lald G dL_law_1505 rfl) (z_lalp _),
   zz_of (ok_iload G dL_law_1506 rfl) (z_ild _ _),
   zz_of (ok_i2l G dL_law_1508 rfl) (z_i2l _),
   zz_of (ok_lcmp G dL_law_1509 rfl) (z_lcmp _),
   zz_of (ok_ifeq G dL_law_1510 rfl rfl) (z_ifeq _ _ _),
   zz_of (ok_iconst G (v := 0) dL_law_1513 (by decide) rfl) (z_cn 1514 0),
   zz_of (ok_zret G dL_law_1514) (z_zret _),
   zz_of (ok_goto G dL_law_1515 rfl) (z_goto _),
   zz_of (ok_aload_n G dL_law_1518 rfl rfl) (z_ald _ _),
   zz_of (ok_aload_n G dL_law_1519 rfl rfl) (z_ald _ _),
   zz_of (ok_iload G dL_law_1520 rfl) (z_ild _ _),
   zz_of (ok_iconst G (v := 1) dL_law_1522 (by decide) rfl) (z_cn 1523 1),
   zz_of (ok_iadd G dL_law_1523 rfl) (z_iadd _),
   ok_sld G hs dL_law_1524 rfl,
   zz_of (ok_aload_n G dL_law_1525 rfl rfl) (z_ald _ _),
   zz_of (ok_iload G dL_law_1526 rfl) (z_ild _ _),
   zz_of (ok_iconst G (v := 2) dL_law_1528 (by decide) rfl) (z_cn 1529 2),
   zz_of (ok_iadd G dL_law_1529 rfl) (z_iadd _),
   ok_sld G hs dL_law_1530 rfl,
   zz_of (ok_aload_n G dL_law_1531 rfl rfl) (z_ald _ _),
   zz_of (ok_iload G dL_law_1532 rfl) (z_ild _ _),
   zz_of (ok_iconst G (v := 3) dL_law_1534 (by decide) rfl) (z_cn 1535 3),
   zz_of (ok_iadd G dL_law_1535 rfl) (z_iadd _),
   ok_sld G hs dL_law_1536 rfl,
   zz_of (ok_aload_n G dL_law_1537 rfl rfl) (z_ald _ _),
   zz_of (ok_iload G dL_law_1538 rfl) (z_ild _ _),
   zz_of (ok_iconst G (v := 4) dL_law_1540 (by decide) rfl) (z_cn 1541 4),
   zz_of (ok_iadd G dL_law_1541 rfl) (z_iadd _),
   ok_sld G hs dL_law_1542 rfl,
   zz_of (ok_aload_n G dL_law_1543 rfl rfl) (z_ald _ _),
   zz_of (ok_iload G dL_law_1544 rfl) (z_ild _ _),
   zz_of (ok_iconst G (v := 5) dL_law_1546 (by decide) rfl) (z_cn 1547 5),
   zz_of (ok_iadd G dL_law_1547 rfl) (z_iadd _),
   ok_sld G hs dL_law_1548 rfl,
   zz_of (ok_ifeq G dL_law_1549 rfl rfl) (z_ifeq _ _ _),
   zz_of (ok_iconst G (v := 1) dL_law_1552 (by decide) rfl) (z_cn 1553 1),
   zz_of (ok_goto G dL_law_1553 rfl) (z_goto _),
   zz_of (ok_iconst G (v := 0) dL_law_1556 (by decide) rfl) (z_cn 1557 0),
   zz_of (ok_aload_n G dL_law_1557 rfl rfl) (z_ald _ _),
   zz_of (ok_calsFW G (hnh.q 1558) (zmX0_mends_w _ G.hst) q1742 q1743 q81 q1744 (by decide +kernel) ⟨Nat.le_of_ble_eq_true rfl, Nat.le_of_ble_eq_true rfl⟩ dL_law_1558 rfl) (z_csF _ _ _ _ _ _),
   zz_of (ok_istore G dL_law_1561 rfl (by decide)) (z_ist _ _),
   zz_of (ok_aload_n G dL_law_1563 rfl rfl) (z_ald _ _),
   zz_of (ok_aload_n G dL_law_1564 rfl rfl) (z_ald _ _),
   zz_of (ok_iload G dL_law_1565 rfl) (z_ild _ _),
   zz_of (ok_iconst G (v := 1) dL_law_1567 (by decide) rfl) (z_cn 1568 1),
   zz_of (ok_iadd G dL_law_1568 rfl) (z_iadd _),
   ok_sld G hs dL_law_1569 rfl,
   zz_of (ok_aload_n G dL_law_1570 rfl rfl) (z_ald _ _),
   zz_of (ok_iload G dL_law_1571 rfl) (z_ild _ _),
   zz_of (ok_iconst G (v := 2) dL_law_1573 (by decide) rfl) (z_cn 1574 2),
   zz_of (ok_iadd G dL_law_1574 rfl) (z_iadd _),
   ok_sld G hs dL_law_1575 rfl,
   zz_of (ok_aload_n G dL_law_1576 rfl rfl) (z_ald _ _),
   zz_of (ok_iload G dL_law_1577 rfl) (z_ild _ _),
   zz_of (ok_iconst G (v := 3) dL_law_1579 (by decide) rfl) (z_cn 1580 3),
   zz_of (ok_iadd G dL_law_1580 rfl) (z_iadd _),
   ok_sld G hs dL_law_1581 rfl,
   zz_of (ok_aload_n G dL_law_1582 rfl rfl) (z_ald _ _),
   zz_of (ok_iload G dL_law_1583 rfl) (z_ild _ _),
   zz_of (ok_iconst G (v := 4) dL_law_1585 (by decide) rfl) (z_cn 1586 4),
   zz_of (ok_iadd G dL_law_1586 rfl) (z_iadd _),
   ok_sld G hs dL_law_1587 rfl,
   zz_of (ok_aload_n G dL_law_1588 rfl rfl) (z_ald _ _),
   zz_of (ok_iload G dL_law_1589 rfl) (z_ild _ _),
   zz_of (ok_iconst G (v := 5) dL_law_1591 (by decide) rfl) (z_cn 1592 5),
   zz_of (ok_iadd G dL_law_1592 rfl) (z_iadd _),
   ok_sld G hs dL_law_1593 rfl,
   zz_of (ok_ifeq G dL_law_1594 rfl rfl) (z_ifeq _ _ _),
   zz_of (ok_iconst G (v := 1) dL_law_1597 (by decide) rfl) (z_cn 1598 1),
   zz_of (ok_goto G dL_law_1598 rfl) (z_goto _),
   zz_of (ok_iconst G (v := 0) dL_law_1601 (by decide) rfl) (z_cn 1602 0),
   zz_of (ok_calvF G (hnh.q 1602) (zmX9_mends_w _ G.hst) (RX9, TX9, 32) rfl q2191 q2192 q2193 q93 q2194 (by decide +kernel) ⟨Nat.le_of_ble_eq_true rfl, Nat.le_of_ble_eq_true rfl⟩ dL_law_1602 rfl) (z_cvFp _ _ _ _ _ _ _),
   zz_of (ok_lstore G dL_law_1605 rfl (by decide)) (z_lst _ _),
   zz_of (ok_aload_n G dL_law_1607 rfl rfl) (z_ald _ _),
   zz_of (ok_calvF G (hnh.q 1608) (zmX9_thrown_w _ G.hst) (RX9, TX9, 32) rfl q1902 q1903 q1904 q93 q1905 (by decide +kernel) ⟨Nat.le_of_ble_eq_true rfl, Nat.le_of_ble_eq_true rfl⟩ dL_law_1608 rfl) (z_cvFp _ _ _ _ _ _ _),
   zz_of (ok_iload G dL_law_1611 rfl) (z_ild _ _),
   zz_of (ok_ceq G dL_law_1613 rfl rfl) (z_ceq _ _ _ _),
   zz_of (ok_iconst G (v := 0) dL_law_1616 (by decide) rfl) (z_cn 1617 0),
   zz_of (ok_zret G dL_law_1617) (z_zret _),
   zz_of (ok_iload G dL_law_1618 rfl) (z_ild _ _),
   zz_of (ok_ifne G dL_law_1620 rfl rfl) (z_ifne _ _ _),
   zz_of (ok_aload_n G dL_law_1623 rfl rfl) (z_ald _ _),
   zz_of (ok_iconst G (v := 0) dL_law_1624 (by decide) rfl) (z_cn 1625 0),
   zz_of (ok_lald G dL_law_1625 rfl) (z_lalp _),
   zz_of (ok_lload G dL_law_1626 rfl) (z_lld _ _),
   zz_of (ok_lcmp G dL_law_1628 rfl) (z_lcmp _),
   zz_of (ok_ifeq G dL_law_1629 rfl rfl) (z_ifeq _ _ _),
   zz_of (ok_iconst G (v := 0) dL_law_1632 (by decide) rfl) (z_cn 1633 0),
   zz_of (ok_zret G dL_law_1633) (z_zret _),
   zz_of (ok_goto G dL_law_1634 rfl) (z_goto _),
   zz_of (ok_aload_n G dL_law_1637 rfl rfl) (z_ald _ _),
   zz_of (ok_aload_n G dL_law_1638 rfl rfl) (z_ald _ _),
   zz_of (ok_iload G dL_law_1639 rfl) (z_ild _ _),
   zz_of (ok_iconst G (v := 1) dL_law_1641 (by decide) rfl) (z_cn 1642 1),
   zz_of (ok_iadd G dL_law_1642 rfl) (z_iadd _),
   ok_sld G hs dL_law_1643 rfl,
   zz_of (ok_aload_n G dL_law_1644 rfl rfl) (z_ald _ _),
   zz_of (ok_iload G dL_law_1645 rfl) (z_ild _ _),
   zz_of (ok_iconst G (v := 2) dL_law_1647 (by decide) rfl) (z_cn 1648 2),
   zz_of (ok_iadd G dL_law_1648 rfl) (z_iadd _),
   ok_sld G hs dL_law_1649 rfl,
   zz_of (ok_aload_n G dL_law_1650 rfl rfl) (z_ald _ _),
   zz_of (ok_iload G dL_law_1651 rfl) (z_ild _ _),
   zz_of (ok_iconst G (v := 3) dL_law_1653 (by decide) rfl) (z_cn 1654 3),
   zz_of (ok_iadd G dL_law_1654 rfl) (z_iadd _),
   ok_sld G hs dL_law_1655 rfl,
   zz_of (ok_aload_n G dL_law_1656 rfl rfl) (z_ald _ _),
   zz_of (ok_calsFW G (hnh.q 1657) (zmX0_play_w _ G.hst) q1786 q1787 q81 q1788 (by decide +kernel) ⟨Nat.le_of_ble_eq_true rfl, Nat.le_of_ble_eq_true rfl⟩ dL_law_1657 rfl) (z_csF _ _ _ _ _ _),
   zz_of (ok_istore G dL_law_1660 rfl (by decide)) (z_ist _ _),
   zz_of (ok_aload_n G dL_law_1662 rfl rfl) (z_ald _ _),
   zz_of (ok_aload_n G dL_law_1663 rfl rfl) (z_ald _ _),
   zz_of (ok_iload G dL_law_1664 rfl) (z_ild _ _),
   zz_of (ok_iconst G (v := 1) dL_law_1666 (by decide) rfl) (z_cn 1667 1),
   zz_of (ok_iadd G dL_law_1667 rfl) (z_iadd _),
   ok_sld G hs dL_law_1668 rfl,
   zz_of (ok_aload_n G dL_law_1669 rfl rfl) (z_ald _ _),
   zz_of (ok_iload G dL_law_1670 rfl) (z_ild _ _),
   zz_of (ok_iconst G (v := 2) dL_law_1672 (by decide) rfl) (z_cn 1673 2),
   zz_of (ok_iadd G dL_law_1673 rfl) (z_iadd _),
   ok_sld G hs dL_law_1674 rfl,
   zz_of (ok_aload_n G dL_law_1675 rfl rfl) (z_ald _ _),
   zz_of (ok_iload G dL_law_1676 rfl) (z_ild _ _),
   zz_of (ok_iconst G (v := 3) dL_law_1678 (by decide) rfl) (z_cn 1679 3),
   zz_of (ok_iadd G dL_law_1679 rfl) (z_iadd _),
   ok_sld G hs dL_law_1680 rfl,
   zz_of (ok_calvF G (hnh.q 1681) (zmX9_play_w _ G.hst) (RX9, TX9, 32) rfl q2208 q2209 q2210 q93 q2211 (by decide +kernel) ⟨Nat.le_of_ble_eq_true rfl, Nat.le_of_ble_eq_true rfl⟩ dL_law_1681 rfl) (z_cvFp _ _ _ _ _ _ _),
   zz_of (ok_istore G dL_law_1684 rfl (by decide)) (z_ist _ _),
   zz_of (ok_aload_n G dL_law_1686 rfl rfl) (z_ald _ _),
   zz_of (ok_calvF G (hnh.q 1687) (zmX9_thrown_w _ G.hst) (RX9, TX9, 32) rfl q1902 q1903 q1904 q93 q1905 (by decide +kernel) ⟨Nat.le_of_ble_eq_true rfl, Nat.le_of_ble_eq_true rfl⟩ dL_law_1687 rfl) (z_cvFp _ _ _ _ _ _ _),
   zz_of (ok_iload G dL_law_1690 rfl) (z_ild _ _),
   zz_of (ok_ceq G dL_law_1692 rfl rfl) (z_ceq _ _ _ _),
   zz_of (ok_iconst G (v := 0) dL_law_1695 (by decide) rfl) (z_cn 1696 0),
   zz_of (ok_zret G dL_law_1696) (z_zret _),
   zz_of (ok_iload G dL_law_1697 rfl) (z_ild _ _),
   zz_of (ok_ifne G dL_law_1699 rfl rfl) (z_ifne _ _ _),
   zz_of (ok_aload_n G dL_law_1702 rfl rfl) (z_ald _ _),
   zz_of (ok_iconst G (v := 0) dL_law_1703 (by decide) rfl) (z_cn 1704 0),
   zz_of (ok_lald G dL_law_1704 rfl) (z_lalp _),
   zz_of (ok_iload G dL_law_1705 rfl) (z_ild _ _),
   zz_of (ok_i2l G dL_law_1707 rfl) (z_i2l _),
   zz_of (ok_lcmp G dL_law_1708 rfl) (z_lcmp _),
   zz_of (ok_ifeq G dL_law_1709 rfl rfl) (z_ifeq _ _ _),
   zz_of (ok_iconst G (v := 0) dL_law_1712 (by decide) rfl) (z_cn 1713 0),
   zz_of (ok_zret G dL_law_1713) (z_zret _),
   zz_of (ok_goto G dL_law_1714 rfl) (z_goto _),
   zz_of (ok_aload_n G dL_law_1717 rfl rfl) (z_ald _ _),
   zz_of (ok_calvF G (hnh.q 1718) (zmX1_image_w _ G.hst) (RX1, TX1, 19) rfl q489 q490 q491 q82 q492 (by decide +kernel) ⟨Nat.le_of_ble_eq_true rfl, Nat.le_of_ble_eq_true rfl⟩ dL_law_1718 rfl) (z_cvFp _ _ _ _ _ _ _),
   zz_of (ok_aload_n G dL_law_1721 rfl rfl) (z_ald _ _),
   zz_of (ok_calvF G (hnh.q 1722) (zmX9_image_w _ G.hst) (RX9, TX9, 32) rfl q2213 q2214 q2215 q93 q2216 (by decide +kernel) ⟨Nat.le_of_ble_eq_true rfl, Nat.le_of_ble_eq_true rfl⟩ dL_law_1722 rfl) (z_cvFp _ _ _ _ _ _ _),
   zz_of (ok_goto G dL_law_1725 rfl) (z_goto _),
   zz_of (ok_aload_n G dL_law_1728 rfl rfl) (z_ald _ _),
   zz_of (ok_calvF G (hnh.q 1729) (zmX1_back_w _ G.hst) (RX1, TX1, 19) rfl q583 q584 q585 q82 q586 (by decide +kernel) ⟨Nat.le_of_ble_eq_true rfl, Nat.le_of_ble_eq_true rfl⟩ dL_law_1729 rfl) (z_cvFp _ _ _ _ _ _ _),
   zz_of (ok_aload_n G dL_law_1732 rfl rfl) (z_ald _ _),
   zz_of (ok_calvF G (hnh.q 1733) (zmX9_back_w _ G.hst) (RX9, TX9, 32) rfl q2217 q2218 q2219 q93 q2220 (by decide +kernel) ⟨Nat.le_of_ble_eq_true rfl, Nat.le_of_ble_eq_true rfl⟩ dL_law_1733 rfl) (z_cvFp _ _ _ _ _ _ _),
   zz_of (ok_ceq G dL_law_1736 rfl rfl) (z_ceq _ _ _ _),
   zz_of (ok_iconst G (v := 0) dL_law_1739 (by decide) rfl) (z_cn 1740 0),
   zz_of (ok_zret G dL_law_1740) (z_zret _),
   zz_of (ok_aload_n G dL_law_1741 rfl rfl) (z_ald _ _),
   zz_of (ok_aload_n G dL_law_1742 rfl rfl) (z_ald _ _),
   zz_of (ok_iload G dL_law_1743 rfl) (z_ild _ _),
   zz_of (ok_iconst G (v := 1) dL_law_1745 (by decide) rfl) (z_cn 1746 1),
   zz_of (ok_iadd G dL_law_1746 rfl) (z_iadd _),
   ok_sld G hs dL_law_1747 rfl,
   zz_of (ok_calvF G (hnh.q 1748) (zmX1_count_w _ G.hst) (RX1, TX1, 19) rfl q587 q588 q589 q82 q590 (by decide +kernel) ⟨Nat.le_of_ble_eq_true rfl, Nat.le_of_ble_eq_true rfl⟩ dL_law_1748 rfl) (z_cvFp _ _ _ _ _ _ _),
   zz_of (ok_aload_n G dL_law_1751 rfl rfl) (z_ald _ _),
   zz_of (ok_aload_n G dL_law_1752 rfl rfl) (z_ald _ _),
   zz_of (ok_iload G dL_law_1753 rfl) (z_ild _ _),
   zz_of (ok_iconst G (v := 1) dL_law_1755 (by decide) rfl) (z_cn 1756 1),
   zz_of (ok_iadd G dL_law_1756 rfl) (z_iadd _),
   ok_sld G hs dL_law_1757 rfl,
   zz_of (ok_calvF G (hnh.q 1758) (zmX9_count_w _ G.hst) (RX9, TX9, 32) rfl q2221 q2222 q2223 q93 q2224 (by decide +kernel) ⟨Nat.le_of_ble_eq_true rfl, Nat.le_of_ble_eq_true rfl⟩ dL_law_1758 rfl) (z_cvFp _ _ _ _ _ _ _),
   zz_of (ok_ceq G dL_law_1761 rfl rfl) (z_ceq _ _ _ _),
   zz_of (ok_iconst G (v := 0) dL_law_1764 (by decide) rfl) (z_cn 1765 0),
   zz_of (ok_zret G dL_law_1765) (z_zret _),
   zz_of (ok_iinc G (v := 6) dL_law_1766 (by decide) rfl (by decide)) (z_incn 1769 4 6),
   zz_of (ok_goto G dL_law_1769 rfl) (z_goto _),
   zz_of (ok_iconst G (v := 1) dL_law_1772 (by decide) rfl) (z_cn 1773 1),
   zz_of (ok_zret G dL_law_1773) (z_zret _), trivial⟩

theorem zwL_law_23 {Q : Option zv → zz_M → Prop} {X : Nat → zz_M → Prop} {Mi : mm_M} {n : Nat} {sc : Nat → Int} {M : zz_M} {u_ v_ : Nat} {x4 : Int} (h : R32 x4 ∧ (R32 ((n : Int) - 6) ∧ ((((n : Int) - 6) < x4 → (u_ ≤ 1076108 ∧ v_ ≤ 5861636) ∧ (Q (some (vi 1)) M)) ∧ (¬ ((n : Int) - 6) < x4 → (0 ≤ x4 ∧ x4 < (n : Int)) ∧ (R32 (zand (sc x4.toNat) 31) ∧ (((zand (sc x4.toNat) 31) = 0 → zz_Jv Mi (zpL_law n sc) (zz_retP Q X 1076108 5861636) 164 [some (vr 1500), some (vr 100), some (vr 0), some (vr 51), some (vi x4), none, none, none] [] M (u_, v_)) ∧ ((zand (sc x4.toNat) 31) ≠ 0 → ((zand (sc x4.toNat) 31) = 1 → zz_Jv Mi (zpL_law n sc) (zz_retP Q X 1076108 5861636) 237 [some (vr 1500), some (vr 100), some (vr 0), some (vr 51), some (vi x4), none, none, none] [] M (u_, v_)) ∧ ((zand (sc x4.toNat) 31) ≠ 1 → ((zand (sc x4.toNat) 31) = 2 → zz_Jv Mi (zpL_law n sc) (zz_retP Q X 1076108 5861636) 262 [some (vr 1500), some (vr 100), some (vr 0), some (vr 51), some (vi x4), none, none, none] [] M (u_, v_)) ∧ ((zand (sc x4.toNat) 31) ≠ 2 → ((zand (sc x4.toNat) 31) = 3 → zz_Jv Mi (zpL_law n sc) (zz_retP Q X 1076108 5861636) 306 [some (vr 1500), some (vr 100), some (vr 0), some (vr 51), some (vi x4), none, none, none] [] M (u_, v_)) ∧ ((zand (sc x4.toNat) 31) ≠ 3 → ((zand (sc x4.toNat) 31) = 4 → zz_Jv Mi (zpL_law n sc) (zz_retP Q X 1076108 5861636) 350 [some (vr 1500), some (vr 100), some (vr 0), some (vr 51), some (vi x4), none, none, none] [] M (u_, v_)) ∧ ((zand (sc x4.toNat) 31) ≠ 4 → ((zand (sc x4.toNat) 31) = 5 → zz_Jv Mi (zpL_law n sc) (zz_retP Q X 1076108 5861636) 363 [some (vr 1500), some (vr 100), some (vr 0), some (vr 51), some (vi x4), none, none, none] [] M (u_, v_)) ∧ ((zand (sc x4.toNat) 31) ≠ 5 → ((zand (sc x4.toNat) 31) = 6 → zz_Jv Mi (zpL_law n sc) (zz_retP Q X 1076108 5861636) 443 [some (vr 1500), some (vr 100), some (vr 0), some (vr 51), some (vi x4), none, none, none] [] M (u_, v_)) ∧ ((zand (sc x4.toNat) 31) ≠ 6 → ((zand (sc x4.toNat) 31) = 7 → zz_Jv Mi (zpL_law n sc) (zz_retP Q X 1076108 5861636) 511 [some (vr 1500), some (vr 100), some (vr 0), some (vr 51), some (vi x4), none, none, none] [] M (u_, v_)) ∧ ((zand (sc x4.toNat) 31) ≠ 7 → ((zand (sc x4.toNat) 31) = 8 → zz_Jv Mi (zpL_law n sc) (zz_retP Q X 1076108 5861636) 567 [some (vr 1500), some (vr 100), some (vr 0), some (vr 51), some (vi x4), none, none, none] [] M (u_, v_)) ∧ ((zand (sc x4.toNat) 31) ≠ 8 → ((zand (sc x4.toNat) 31) = 9 → zz_Jv Mi (zpL_law n sc) (zz_retP Q X 1076108 5861636) 627 [some (vr 1500), some (vr 100), some (vr 0), some (vr 51), some (vi x4), none, none, none] [] M (u_, v_)) ∧ ((zand (sc x4.toNat) 31) ≠ 9 → ((zand (sc x4.toNat) 31) = 10 → zz_Jv Mi (zpL_law n sc) (zz_retP Q X 1076108 5861636) 675 [some (vr 1500), some (vr 100), some (vr 0), some (vr 51), some (vi x4), none, none, none] [] M (u_, v_)) ∧ ((zand (sc x4.toNat) 31) ≠ 10 → ((zand (sc x4.toNat) 31) = 11 → zz_Jv Mi (zpL_law n sc) (zz_retP Q X 1076108 5861636) 723 [some (vr 1500), some (vr 100), some (vr 0), some (vr 51), some (vi x4), none, none, none] [] M (u_, v_)) ∧ ((zand (sc x4.toNat) 31) ≠ 11 → ((zand (sc x4.toNat) 31) = 12 → zz_Jv Mi (zpL_law n sc) (zz_retP Q X 1076108 5861636) 779 [some (vr 1500), some (vr 100), some (vr 0), some (vr 51), some (vi x4), none, none, none] [] M (u_, v_)) ∧ ((zand (sc x4.toNat) 31) ≠ 12 → ((zand (sc x4.toNat) 31) = 13 → zz_Jv Mi (zpL_law n sc) (zz_retP Q X 1076108 5861636) 847 [some (vr 1500), some (vr 100), some (vr 0), some (vr 51), some (vi x4), none, none, none] [] M (u_, v_)) ∧ ((zand (sc x4.toNat) 31) ≠ 13 → ((zand (sc x4.toNat) 31) = 14 → zz_Jv Mi (zpL_law n sc) (zz_retP Q X 1076108 5861636) 910 [some (vr 1500), some (vr 100), some (vr 0), some (vr 51), some (vi x4), none, none, none] [] M (u_, v_)) ∧ ((zand (sc x4.toNat) 31) ≠ 14 → ((zand (sc x4.toNat) 31) = 15 → zz_Jv Mi (zpL_law n sc) (zz_retP Q X 1076108 5861636) 978 [some (vr 1500), some (vr 100), some (vr 0), some (vr 51), some (vi x4), none, none, none] [] M (u_, v_)) ∧ ((zand (sc x4.toNat) 31) ≠ 15 → ((zand (sc x4.toNat) 31) = 16 → zz_Jv Mi (zpL_law n sc) (zz_retP Q X 1076108 5861636) 1074 [some (vr 1500), some (vr 100), some (vr 0), some (vr 51), some (vi x4), none, none, none] [] M (u_, v_)) ∧ ((zand (sc x4.toNat) 31) ≠ 16 → ((zand (sc x4.toNat) 31) = 17 → zz_Jv Mi (zpL_law n sc) (zz_retP Q X 1076108 5861636) 1154 [some (vr 1500), some (vr 100), some (vr 0), some (vr 51), some (vi x4), none, none, none] [] M (u_, v_)) ∧ ((zand (sc x4.toNat) 31) ≠ 17 → ((zand (sc x4.toNat) 31) = 18 → zz_Jv Mi (zpL_law n sc) (zz_retP Q X 1076108 5861636) 1234 [some (vr 1500), some (vr 100), some (vr 0), some (vr 51), some (vi x4), none, none, none] [] M (u_, v_)) ∧ ((zand (sc x4.toNat) 31) ≠ 18 → ((zand (sc x4.toNat) 31) = 19 → zz_Jv Mi (zpL_law n sc) (zz_retP Q X 1076108 5861636) 1302 [some (vr 1500), some (vr 100), some (vr 0), some (vr 51), some (vi x4), none, none, none] [] M (u_, v_)) ∧ ((zand (sc x4.toNat) 31) ≠ 19 → ((zand (sc x4.toNat) 31) = 20 → zz_Jv Mi (zpL_law n sc) (zz_retP Q X 1076108 5861636) 1394 [some (vr 1500), some (vr 100), some (vr 0), some (vr 51), some (vi x4), none, none, none] [] M (u_, v_)) ∧ ((zand (sc x4.toNat) 31) ≠ 20 → ((zand (sc x4.toNat) 31) = 21 → zz_Jv Mi (zpL_law n sc) (zz_retP Q X 1076108 5861636) 1462 [some (vr 1500), some (vr 100), some (vr 0), some (vr 51), some (vi x4), none, none, none] [] M (u_, v_)) ∧ ((zand (sc x4.toNat) 31) ≠ 21 → ((zand (sc x4.toNat) 31) = 22 → zz_Jv Mi (zpL_law n sc) (zz_retP Q X 1076108 5861636) 1518 [some (vr 1500), some (vr 100), some (vr 0), some (vr 51), some (vi x4), none, none, none] [] M (u_, v_)) ∧ ((zand (sc x4.toNat) 31) ≠ 22 → ((zand (sc x4.toNat) 31) = 23 → zz_Jv Mi (zpL_law n sc) (zz_retP Q X 1076108 5861636) 1637 [some (vr 1500), some (vr 100), some (vr 0), some (vr 51), some (vi x4), none, none, none] [] M (u_, v_)) ∧ ((zand (sc x4.toNat) 31) ≠ 23 → ((zand (sc x4.toNat) 31) = 24 → zz_Jv Mi (zpL_law n sc) (zz_retP Q X 1076108 5861636) 1717 [some (vr 1500), some (vr 100), some (vr 0), some (vr 51), some (vi x4), none, none, none] [] M (u_, v_)) ∧ ((zand (sc x4.toNat) 31) ≠ 24 → ((zand (sc x4.toNat) 31) = 25 → zz_Jv Mi (zpL_law n sc) (zz_retP Q X 1076108 5861636) 1728 [some (vr 1500), some (vr 100), some (vr 0), some (vr 51), some (vi x4), none, none, none] [] M (u_, v_)) ∧ ((zand (sc x4.toNat) 31) ≠ 25 → ((zand (sc x4.toNat) 31) = 26 → zz_Jv Mi (zpL_law n sc) (zz_retP Q X 1076108 5861636) 1741 [some (vr 1500), some (vr 100), some (vr 0), some (vr 51), some (vi x4), none, none, none] [] M (u_, v_)) ∧ ((zand (sc x4.toNat) 31) ≠ 26 → zz_Jv Mi (zpL_law n sc) (zz_retP Q X 1076108 5861636) 1766 [some (vr 1500), some (vr 100), some (vr 0), some (vr 51), some (vi x4), none, none, none] [] M (u_, v_)))))))))))))))))))))))))))))))))) : zz_Jv Mi (zpL_law n sc) (zz_retP Q X 1076108 5861636) 23 [some (vr 1500), some (vr 100), some (vr 0), some (vr 51), some (vi x4), none, none, none] [] M (u_, v_) := zz_Jv.go [(23, [5, 6, 7]), (164, [5, 6, 7]), (237, [5, 6, 7]), (262, [5, 6, 7]), (267, [5, 6, 7]), (306, [5, 6, 7]), (350, [5, 6, 7]), (363, [5, 6, 7]), (443, [5, 6, 7]), (511, [5, 6, 7]), (567, [5, 6, 7]), (627, [5, 6, 7]), (675, [5, 6, 7]), (723, [5, 6, 7]), (779, [5, 6, 7]), (847, [5, 6, 7]), (910, [5, 6, 7]), (978, [5, 6, 7]), (1074, [5, 6, 7]), (1154, [5, 6, 7]), (1234, [5, 6, 7]), (1302, [5, 6, 7]), (1394, [5, 6, 7]), (1462, [5, 6, 7]), (1518, [5, 6, 7]), (1637, [5, 6, 7]), (1717, [5, 6, 7]), (1728, [5, 6, 7]), (1732, [5, 6, 7]), (1741, [5, 6, 7]), (1766, [5, 6, 7])] 400 h
theorem zwL_law_164 {Q : Option zv → zz_M → Prop} {X : Nat → zz_M → Prop} {Mi : mm_M} {n : Nat} {sc : Nat → Int} {M : zz_M} {u_ v_ : Nat} {x4 : Int} (h : (0 ≤ (x4 + 1) ∧ (x4 + 1) < (n : Int)) ∧ ((0 ≤ (x4 + 2) ∧ (x4 + 2) < (n : Int)) ∧ ((0 ≤ (x4 + 3) ∧ (x4 + 3) < (n : Int)) ∧ ((0 ≤ (x4 + 4) ∧ (x4 + 4) < (n : Int)) ∧ ((0 ≤ (x4 + 5) ∧ (x4 + 5) < (n : Int)) ∧ ((zsh M 100 = (1, 0) ∨ zsh M 100 = (17, 0)) ∧ (u_ + 1 ≤ 1076108 ∧ v_ + 5 ≤ 5861636) ∧ (∃ (n_1 : Nat) (x_1 m_1 : aS), LI n_1 x_1 m_1 M ∧ AI x_1 ∧ R32 (sc ((x4 + 1).toNat)) ∧ R32 (sc ((x4 + 2).toNat)) ∧ R32 (sc ((x4 + 3).toNat)) ∧ R32 (sc ((x4 + 4).toNat)) ∧ R32 (sc ((x4 + 5).toNat)) ∧ (∀ (S_1 L_1 : Nat → Nat → Int) (P_1 : Nat → Nat → Option Nat) (f_1 : Nat → Nat × Nat), LI n_1 (sm0 x_1 (sc ((x4 + 1).toNat)) (sc ((x4 + 2).toNat)) (sc ((x4 + 3).toNat)) (sc ((x4 + 4).toNat)) (sc ((x4 + 5).toNat))).2.2 m_1 ((M.1.1, f_1), S_1, L_1, P_1) → (sm0 x_1 (sc ((x4 + 1).toNat)) (sc ((x4 + 2).toNat)) (sc ((x4 + 3).toNat)) (sc ((x4 + 4).toNat)) (sc ((x4 + 5).toNat))).1 = 0 → ((0 ≤ (x4 + 1) ∧ (x4 + 1) < (n : Int)) ∧ ((0 ≤ (x4 + 2) ∧ (x4 + 2) < (n : Int)) ∧ ((0 ≤ (x4 + 3) ∧ (x4 + 3) < (n : Int)) ∧ ((0 ≤ (x4 + 4) ∧ (x4 + 4) < (n : Int)) ∧ ((0 ≤ (x4 + 5) ∧ (x4 + 5) < (n : Int)) ∧ ((zsh ((M.1.1, f_1), S_1, L_1, P_1) 0 = (1, 8) ∨ zsh ((M.1.1, f_1), S_1, L_1, P_1) 0 = (17, 8)) ∧ (u_ + 1 + 0 ≤ 1076108 ∧ v_ + 5 + 0 ≤ 5861636) ∧ (∃ (n_2 : Nat) (k_2 x_2 : aS), LI n_2 k_2 x_2 ((M.1.1, f_1), S_1, L_1, P_1) ∧ AI x_2 ∧ R32 (sc ((x4 + 1).toNat)) ∧ R32 (sc ((x4 + 2).toNat)) ∧ R32 (sc ((x4 + 3).toNat)) ∧ R32 (sc ((x4 + 4).toNat)) ∧ R32 (sc ((x4 + 5).toNat)) ∧ (∀ (S_2 L_2 : Nat → Nat → Int) (P_2 : Nat → Nat → Option Nat) (f_2 : Nat → Nat × Nat) (v_2 : Int), LI n_2 k_2 (sm0 x_2 (sc ((x4 + 1).toNat)) (sc ((x4 + 2).toNat)) (sc ((x4 + 3).toNat)) (sc ((x4 + 4).toNat)) (sc ((x4 + 5).toNat))).2.2 ((((M.1.1, f_1), S_1, L_1, P_1).1.1, f_2), S_2, L_2, P_2) → S_2 0 0 = (sm0 x_2 (sc ((x4 + 1).toNat)) (sc ((x4 + 2).toNat)) (sc ((x4 + 3).toNat)) (sc ((x4 + 4).toNat)) (sc ((x4 + 5).toNat))).1 → L_2 51 = L_1 51 → ((sm0 x_2 (sc ((x4 + 1).toNat)) (sc ((x4 + 2).toNat)) (sc ((x4 + 3).toNat)) (sc ((x4 + 4).toNat)) (sc ((x4 + 5).toNat))).1 = 0 → nz v_2 = nz (sm0 x_2 (sc ((x4 + 1).toNat)) (sc ((x4 + 2).toNat)) (sc ((x4 + 3).toNat)) (sc ((x4 + 4).toNat)) (sc ((x4 + 5).toNat))).2.1) → (R32 (nz (sm0 x_1 (sc ((x4 + 1).toNat)) (sc ((x4 + 2).toNat)) (sc ((x4 + 3).toNat)) (sc ((x4 + 4).toNat)) (sc ((x4 + 5).toNat))).2.1) ∧ (R32 (nz v_2) ∧ (((nz (sm0 x_1 (sc ((x4 + 1).toNat)) (sc ((x4 + 2).toNat)) (sc ((x4 + 3).toNat)) (sc ((x4 + 4).toNat)) (sc ((x4 + 5).toNat))).2.1) = (nz v_2) → zz_Jv Mi (zpL_law n sc) (zz_retP Q X 1076108 5861636) 1766 [some (vr 1500), some (vr 100), some (vr 0), some (vr 51), some (vi x4), none, none, none] [] ((M.1.1, f_2), S_2, L_2, P_2) (u_ + 1 + 0, v_ + 5 + 0)) ∧ (¬ (nz (sm0 x_1 (sc ((x4 + 1).toNat)) (sc ((x4 + 2).toNat)) (sc ((x4 + 3).toNat)) (sc ((x4 + 4).toNat)) (sc ((x4 + 5).toNat))).2.1) = (nz v_2) → (u_ + 1 + 0 ≤ 1076108 ∧ v_ + 5 + 0 ≤ 5861636) ∧ (Q (some (vi 0)) ((M.1.1, f_2), S_2, L_2, P_2)))))))))))))))))))))) : zz_Jv Mi (zpL_law n sc) (zz_retP Q X 1076108 5861636) 164 [some (vr 1500), some (vr 100), some (vr 0), some (vr 51), some (vi x4), none, none, none] [] M (u_, v_) := zz_Jv.go [(23, [5, 6, 7]), (164, [5, 6, 7]), (237, [5, 6, 7]), (262, [5, 6, 7]), (267, [5, 6, 7]), (306, [5, 6, 7]), (350, [5, 6, 7]), (363, [5, 6, 7]), (443, [5, 6, 7]), (511, [5, 6, 7]), (567, [5, 6, 7]), (627, [5, 6, 7]), (675, [5, 6, 7]), (723, [5, 6, 7]), (779, [5, 6, 7]), (847, [5, 6, 7]), (910, [5, 6, 7]), (978, [5, 6, 7]), (1074, [5, 6, 7]), (1154, [5, 6, 7]), (1234, [5, 6, 7]), (1302, [5, 6, 7]), (1394, [5, 6, 7]), (1462, [5, 6, 7]), (1518, [5, 6, 7]), (1637, [5, 6, 7]), (1717, [5, 6, 7]), (1728, [5, 6, 7]), (1732, [5, 6, 7]), (1741, [5, 6, 7]), (1766, [5, 6, 7])] 400 h
theorem zwL_law_237 {Q : Option zv → zz_M → Prop} {X : Nat → zz_M → Prop} {Mi : mm_M} {n : Nat} {sc : Nat → Int} {M : zz_M} {u_ v_ : Nat} {x4 : Int} (h : (0 ≤ (x4 + 1) ∧ (x4 + 1) < (n : Int)) ∧ ((zsh M 100 = (1, 0) ∨ zsh M 100 = (17, 0)) ∧ (u_ + 0 ≤ 1076108 ∧ v_ + 0 ≤ 5861636) ∧ (∃ (n_1 : Nat) (x_1 m_1 : aS), LI n_1 x_1 m_1 M ∧ AI x_1 ∧ R32 (sc ((x4 + 1).toNat)) ∧ (∀ (S_1 L_1 : Nat → Nat → Int) (P_1 : Nat → Nat → Option Nat) (f_1 : Nat → Nat × Nat), LI n_1 (sm1 x_1 (sc ((x4 + 1).toNat))).2.2 m_1 ((M.1.1, f_1), S_1, L_1, P_1) → (sm1 x_1 (sc ((x4 + 1).toNat))).1 = 0 → ((0 ≤ (x4 + 1) ∧ (x4 + 1) < (n : Int)) ∧ ((zsh ((M.1.1, f_1), S_1, L_1, P_1) 0 = (1, 8) ∨ zsh ((M.1.1, f_1), S_1, L_1, P_1) 0 = (17, 8)) ∧ (u_ + 0 + 0 ≤ 1076108 ∧ v_ + 0 + 0 ≤ 5861636) ∧ (∃ (n_2 : Nat) (k_2 x_2 : aS), LI n_2 k_2 x_2 ((M.1.1, f_1), S_1, L_1, P_1) ∧ AI x_2 ∧ R32 (sc ((x4 + 1).toNat)) ∧ (∀ (S_2 L_2 : Nat → Nat → Int) (P_2 : Nat → Nat → Option Nat) (f_2 : Nat → Nat × Nat) (v_2 : Int), LI n_2 k_2 (sm1 x_2 (sc ((x4 + 1).toNat))).2.2 ((((M.1.1, f_1), S_1, L_1, P_1).1.1, f_2), S_2, L_2, P_2) → S_2 0 0 = (sm1 x_2 (sc ((x4 + 1).toNat))).1 → L_2 51 = L_1 51 → ((sm1 x_2 (sc ((x4 + 1).toNat))).1 = 0 → nz v_2 = nz (sm1 x_2 (sc ((x4 + 1).toNat))).2.1) → (R32 (nz (sm1 x_1 (sc ((x4 + 1).toNat))).2.1) ∧ (R32 (nz v_2) ∧ (((nz (sm1 x_1 (sc ((x4 + 1).toNat))).2.1) = (nz v_2) → zz_Jv Mi (zpL_law n sc) (zz_retP Q X 1076108 5861636) 1766 [some (vr 1500), some (vr 100), some (vr 0), some (vr 51), some (vi x4), none, none, none] [] ((M.1.1, f_2), S_2, L_2, P_2) (u_ + 0 + 0, v_ + 0 + 0)) ∧ (¬ (nz (sm1 x_1 (sc ((x4 + 1).toNat))).2.1) = (nz v_2) → (u_ + 0 + 0 ≤ 1076108 ∧ v_ + 0 + 0 ≤ 5861636) ∧ (Q (some (vi 0)) ((M.1.1, f_2), S_2, L_2, P_2)))))))))))))) : zz_Jv Mi (zpL_law n sc) (zz_retP Q X 1076108 5861636) 237 [some (vr 1500), some (vr 100), some (vr 0), some (vr 51), some (vi x4), none, none, none] [] M (u_, v_) := zz_Jv.go [(23, [5, 6, 7]), (164, [5, 6, 7]), (237, [5, 6, 7]), (262, [5, 6, 7]), (267, [5, 6, 7]), (306, [5, 6, 7]), (350, [5, 6, 7]), (363, [5, 6, 7]), (443, [5, 6, 7]), (511, [5, 6, 7]), (567, [5, 6, 7]), (627, [5, 6, 7]), (675, [5, 6, 7]), (723, [5, 6, 7]), (779, [5, 6, 7]), (847, [5, 6, 7]), (910, [5, 6, 7]), (978, [5, 6, 7]), (1074, [5, 6, 7]), (1154, [5, 6, 7]), (1234, [5, 6, 7]), (1302, [5, 6, 7]), (1394, [5, 6, 7]), (1462, [5, 6, 7]), (1518, [5, 6, 7]), (1637, [5, 6, 7]), (1717, [5, 6, 7]), (1728, [5, 6, 7]), (1732, [5, 6, 7]), (1741, [5, 6, 7]), (1766, [5, 6, 7])] 400 h
theorem zwL_law_262 {Q : Option zv → zz_M → Prop} {X : Nat → zz_M → Prop} {Mi : mm_M} {n : Nat} {sc : Nat → Int} {M : zz_M} {u_ v_ : Nat} {x4 : Int} (h : (u_ + 342 ≤ 1076108 ∧ v_ + 28900 ≤ 5861636) ∧ (∃ (n_1 : Nat) (x_1 m_1 : aS), LI n_1 x_1 m_1 M ∧ AI x_1 ∧ (∀ (S_1 L_1 : Nat → Nat → Int) (P_1 : Nat → Nat → Option Nat) (f_1 : Nat → Nat × Nat), (LI n_1 (sm2 x_1).2.2 m_1 ((M.1.1, f_1), S_1, L_1, P_1) ∨ LI3 n_1 (sm2 x_1).2.2 m_1 ((M.1.1, f_1), S_1, L_1, P_1)) → R32 (sm2 x_1).1 → ((sm2 x_1).1 = 0 → L_1 51 0 = nz (sm2 x_1).2.1) → (zz_Jv Mi (zpL_law n sc) (zz_retP Q X 1076108 5861636) 267 [some (vr 1500), some (vr 100), some (vr 0), some (vr 51), some (vi x4), none, none, none] [vi ((sm2 x_1).1)] ((M.1.1, f_1), S_1, L_1, P_1) (u_ + 342, v_ + 28900))))) : zz_Jv Mi (zpL_law n sc) (zz_retP Q X 1076108 5861636) 262 [some (vr 1500), some (vr 100), some (vr 0), some (vr 51), some (vi x4), none, none, none] [] M (u_, v_) := zz_Jv.go [(23, [5, 6, 7]), (164, [5, 6, 7]), (237, [5, 6, 7]), (262, [5, 6, 7]), (267, [5, 6, 7]), (306, [5, 6, 7]), (350, [5, 6, 7]), (363, [5, 6, 7]), (443, [5, 6, 7]), (511, [5, 6, 7]), (567, [5, 6, 7]), (627, [5, 6, 7]), (675, [5, 6, 7]), (723, [5, 6, 7]), (779, [5, 6, 7]), (847, [5, 6, 7]), (910, [5, 6, 7]), (978, [5, 6, 7]), (1074, [5, 6, 7]), (1154, [5, 6, 7]), (1234, [5, 6, 7]), (1302, [5, 6, 7]), (1394, [5, 6, 7]), (1462, [5, 6, 7]), (1518, [5, 6, 7]), (1637, [5, 6, 7]), (1717, [5, 6, 7]), (1728, [5, 6, 7]), (1732, [5, 6, 7]), (1741, [5, 6, 7]), (1766, [5, 6, 7])] 400 h
theorem zwL_law_267 {Q : Option zv → zz_M → Prop} {X : Nat → zz_M → Prop} {Mi : mm_M} {n : Nat} {sc : Nat → Int} {M : zz_M} {u_ v_ : Nat} {x4 : Int} {t0 : Int} (h : (zsh M 0 = (1, 8) ∨ zsh M 0 = (17, 8)) ∧ (u_ + 0 ≤ 1076108 ∧ v_ + 0 ≤ 5861636) ∧ (∃ (n_1 : Nat) (k_1 x_1 : aS), LI n_1 k_1 x_1 M ∧ AI x_1 ∧ (∀ (S_1 L_1 : Nat → Nat → Int) (P_1 : Nat → Nat → Option Nat) (f_1 : Nat → Nat × Nat) (v_1 : Int), LI n_1 k_1 (sm2 x_1).2.2 ((M.1.1, f_1), S_1, L_1, P_1) → S_1 0 0 = (sm2 x_1).1 → L_1 51 = M.2.2.1 51 → ((sm2 x_1).1 = 0 → nz v_1 = nz (sm2 x_1).2.1) → ((zsh ((M.1.1, f_1), S_1, L_1, P_1) 0 = (1, 8) ∨ zsh ((M.1.1, f_1), S_1, L_1, P_1) 0 = (17, 8)) ∧ (u_ + 0 + 0 ≤ 1076108 ∧ v_ + 0 + 0 ≤ 5861636) ∧ (∃ (n_2 : Nat) (k_2 x_2 : aS), LI n_2 k_2 x_2 ((M.1.1, f_1), S_1, L_1, P_1) ∧ R32 (S_1 0 0) ∧ (∀ (S_2 L_2 : Nat → Nat → Int) (P_2 : Nat → Nat → Option Nat) (f_2 : Nat → Nat × Nat), LI n_2 k_2 x_2 ((((M.1.1, f_1), S_1, L_1, P_1).1.1, f_2), S_2, L_2, P_2) → S_2 0 0 = S_1 0 0 → L_2 51 = L_1 51 → (R32 (S_1 0 0) ∧ (R32 t0 ∧ (((S_1 0 0) = t0 → R32 t0 ∧ ((¬ t0 = 0 → zz_Jv Mi (zpL_law n sc) (zz_retP Q X 1076108 5861636) 1766 [some (vr 1500), some (vr 100), some (vr 0), some (vr 51), some (vi x4), none, none, none] [] ((M.1.1, f_2), S_2, L_2, P_2) (u_ + 0 + 0, v_ + 0 + 0)) ∧ (t0 = 0 → ∃ n_ : Nat, zsh ((M.1.1, f_2), S_2, L_2, P_2) 51 = (3, n_) ∧ (n_ : Int) ≤ 2147483647 ∧ (0 ≤ (0 : Int) ∧ 0 < (n_ : Int)) ∧ (R32 (nz v_1) ∧ (R64 (L_2 51 ((0 : Int).toNat)) ∧ R64 (nz v_1) ∧ (R32 (zcmp (L_2 51 ((0 : Int).toNat)) (nz v_1)) ∧ (((zcmp (L_2 51 ((0 : Int).toNat)) (nz v_1)) = 0 → zz_Jv Mi (zpL_law n sc) (zz_retP Q X 1076108 5861636) 1766 [some (vr 1500), some (vr 100), some (vr 0), some (vr 51), some (vi x4), none, none, none] [] ((M.1.1, f_2), S_2, L_2, P_2) (u_ + 0 + 0, v_ + 0 + 0)) ∧ (¬ (zcmp (L_2 51 ((0 : Int).toNat)) (nz v_1)) = 0 → (u_ + 0 + 0 ≤ 1076108 ∧ v_ + 0 + 0 ≤ 5861636) ∧ (Q (some (vi 0)) ((M.1.1, f_2), S_2, L_2, P_2)))))))))) ∧ (¬ (S_1 0 0) = t0 → (u_ + 0 + 0 ≤ 1076108 ∧ v_ + 0 + 0 ≤ 5861636) ∧ (Q (some (vi 0)) ((M.1.1, f_2), S_2, L_2, P_2)))))))))))) : zz_Jv Mi (zpL_law n sc) (zz_retP Q X 1076108 5861636) 267 [some (vr 1500), some (vr 100), some (vr 0), some (vr 51), some (vi x4), none, none, none] [vi t0] M (u_, v_) := zz_Jv.go [(23, [5, 6, 7]), (164, [5, 6, 7]), (237, [5, 6, 7]), (262, [5, 6, 7]), (267, [5, 6, 7]), (306, [5, 6, 7]), (350, [5, 6, 7]), (363, [5, 6, 7]), (443, [5, 6, 7]), (511, [5, 6, 7]), (567, [5, 6, 7]), (627, [5, 6, 7]), (675, [5, 6, 7]), (723, [5, 6, 7]), (779, [5, 6, 7]), (847, [5, 6, 7]), (910, [5, 6, 7]), (978, [5, 6, 7]), (1074, [5, 6, 7]), (1154, [5, 6, 7]), (1234, [5, 6, 7]), (1302, [5, 6, 7]), (1394, [5, 6, 7]), (1462, [5, 6, 7]), (1518, [5, 6, 7]), (1637, [5, 6, 7]), (1717, [5, 6, 7]), (1728, [5, 6, 7]), (1732, [5, 6, 7]), (1741, [5, 6, 7]), (1766, [5, 6, 7])] 400 h
theorem zwL_law_306 {Q : Option zv → zz_M → Prop} {X : Nat → zz_M → Prop} {Mi : mm_M} {n : Nat} {sc : Nat → Int} {M : zz_M} {u_ v_ : Nat} {x4 : Int} (h : (u_ + 10110 ≤ 1076108 ∧ v_ + 57020 ≤ 5861636) ∧ (∃ (n_1 : Nat) (x_1 m_1 : aS), LI n_1 x_1 m_1 M ∧ AI x_1 ∧ (∀ (S_1 L_1 : Nat → Nat → Int) (P_1 : Nat → Nat → Option Nat) (f_1 : Nat → Nat × Nat), LI n_1 (sm3 x_1).2.2 m_1 ((M.1.1, f_1), S_1, L_1, P_1) → R32 (sm3 x_1).1 → ((sm3 x_1).1 = 0 → L_1 51 0 = nz (sm3 x_1).2.1) → ((zsh ((M.1.1, f_1), S_1, L_1, P_1) 0 = (1, 8) ∨ zsh ((M.1.1, f_1), S_1, L_1, P_1) 0 = (17, 8)) ∧ (u_ + 10110 + 0 ≤ 1076108 ∧ v_ + 57020 + 0 ≤ 5861636) ∧ (∃ (n_2 : Nat) (k_2 x_2 : aS), LI n_2 k_2 x_2 ((M.1.1, f_1), S_1, L_1, P_1) ∧ AI x_2 ∧ (∀ (S_2 L_2 : Nat → Nat → Int) (P_2 : Nat → Nat → Option Nat) (f_2 : Nat → Nat × Nat) (v_2 : Int), LI n_2 k_2 (sm3 x_2).2.2 ((((M.1.1, f_1), S_1, L_1, P_1).1.1, f_2), S_2, L_2, P_2) → S_2 0 0 = (sm3 x_2).1 → L_2 51 = L_1 51 → ((sm3 x_2).1 = 0 → nz v_2 = nz (sm3 x_2).2.1) → ((zsh ((M.1.1, f_2), S_2, L_2, P_2) 0 = (1, 8) ∨ zsh ((M.1.1, f_2), S_2, L_2, P_2) 0 = (17, 8)) ∧ (u_ + 10110 + 0 + 0 ≤ 1076108 ∧ v_ + 57020 + 0 + 0 ≤ 5861636) ∧ (∃ (n_3 : Nat) (k_3 x_3 : aS), LI n_3 k_3 x_3 ((M.1.1, f_2), S_2, L_2, P_2) ∧ R32 (S_2 0 0) ∧ (∀ (S_3 L_3 : Nat → Nat → Int) (P_3 : Nat → Nat → Option Nat) (f_3 : Nat → Nat × Nat), LI n_3 k_3 x_3 ((((M.1.1, f_2), S_2, L_2, P_2).1.1, f_3), S_3, L_3, P_3) → S_3 0 0 = S_2 0 0 → L_3 51 = L_2 51 → (R32 (S_2 0 0) ∧ (R32 ((sm3 x_1).1) ∧ (((S_2 0 0) = ((sm3 x_1).1) → R32 ((sm3 x_1).1) ∧ ((¬ ((sm3 x_1).1) = 0 → zz_Jv Mi (zpL_law n sc) (zz_retP Q X 1076108 5861636) 1766 [some (vr 1500), some (vr 100), some (vr 0), some (vr 51), some (vi x4), none, none, none] [] ((M.1.1, f_3), S_3, L_3, P_3) (u_ + 10110 + 0 + 0, v_ + 57020 + 0 + 0)) ∧ (((sm3 x_1).1) = 0 → ∃ n_ : Nat, zsh ((M.1.1, f_3), S_3, L_3, P_3) 51 = (3, n_) ∧ (n_ : Int) ≤ 2147483647 ∧ (0 ≤ (0 : Int) ∧ 0 < (n_ : Int)) ∧ (R32 (nz v_2) ∧ (R64 (L_3 51 ((0 : Int).toNat)) ∧ R64 (nz v_2) ∧ (R32 (zcmp (L_3 51 ((0 : Int).toNat)) (nz v_2)) ∧ (((zcmp (L_3 51 ((0 : Int).toNat)) (nz v_2)) = 0 → zz_Jv Mi (zpL_law n sc) (zz_retP Q X 1076108 5861636) 1766 [some (vr 1500), some (vr 100), some (vr 0), some (vr 51), some (vi x4), none, none, none] [] ((M.1.1, f_3), S_3, L_3, P_3) (u_ + 10110 + 0 + 0, v_ + 57020 + 0 + 0)) ∧ (¬ (zcmp (L_3 51 ((0 : Int).toNat)) (nz v_2)) = 0 → (u_ + 10110 + 0 + 0 ≤ 1076108 ∧ v_ + 57020 + 0 + 0 ≤ 5861636) ∧ (Q (some (vi 0)) ((M.1.1, f_3), S_3, L_3, P_3)))))))))) ∧ (¬ (S_2 0 0) = ((sm3 x_1).1) → (u_ + 10110 + 0 + 0 ≤ 1076108 ∧ v_ + 57020 + 0 + 0 ≤ 5861636) ∧ (Q (some (vi 0)) ((M.1.1, f_3), S_3, L_3, P_3))))))))))))))) : zz_Jv Mi (zpL_law n sc) (zz_retP Q X 1076108 5861636) 306 [some (vr 1500), some (vr 100), some (vr 0), some (vr 51), some (vi x4), none, none, none] [] M (u_, v_) := zz_Jv.go [(23, [5, 6, 7]), (164, [5, 6, 7]), (237, [5, 6, 7]), (262, [5, 6, 7]), (267, [5, 6, 7]), (306, [5, 6, 7]), (350, [5, 6, 7]), (363, [5, 6, 7]), (443, [5, 6, 7]), (511, [5, 6, 7]), (567, [5, 6, 7]), (627, [5, 6, 7]), (675, [5, 6, 7]), (723, [5, 6, 7]), (779, [5, 6, 7]), (847, [5, 6, 7]), (910, [5, 6, 7]), (978, [5, 6, 7]), (1074, [5, 6, 7]), (1154, [5, 6, 7]), (1234, [5, 6, 7]), (1302, [5, 6, 7]), (1394, [5, 6, 7]), (1462, [5, 6, 7]), (1518, [5, 6, 7]), (1637, [5, 6, 7]), (1717, [5, 6, 7]), (1728, [5, 6, 7]), (1732, [5, 6, 7]), (1741, [5, 6, 7]), (1766, [5, 6, 7])] 400 h
theorem zwL_law_350 {Q : Option zv → zz_M → Prop} {X : Nat → zz_M → Prop} {Mi : mm_M} {n : Nat} {sc : Nat → Int} {M : zz_M} {u_ v_ : Nat} {x4 : Int} (h : (zsh M 100 = (1, 0) ∨ zsh M 100 = (17, 0)) ∧ (u_ + 0 ≤ 1076108 ∧ v_ + 0 ≤ 5861636) ∧ (∃ (n_1 : Nat) (x_1 m_1 : aS), LI n_1 x_1 m_1 M ∧ AI x_1 ∧ (∀ (S_1 L_1 : Nat → Nat → Int) (P_1 : Nat → Nat → Option Nat) (f_1 : Nat → Nat × Nat), LI n_1 (sm4 x_1).2.2 m_1 ((M.1.1, f_1), S_1, L_1, P_1) → (sm4 x_1).1 = 0 → ((zsh ((M.1.1, f_1), S_1, L_1, P_1) 0 = (1, 8) ∨ zsh ((M.1.1, f_1), S_1, L_1, P_1) 0 = (17, 8)) ∧ (u_ + 0 + 0 ≤ 1076108 ∧ v_ + 0 + 0 ≤ 5861636) ∧ (∃ (n_2 : Nat) (k_2 x_2 : aS), LI n_2 k_2 x_2 ((M.1.1, f_1), S_1, L_1, P_1) ∧ AI x_2 ∧ (∀ (S_2 L_2 : Nat → Nat → Int) (P_2 : Nat → Nat → Option Nat) (f_2 : Nat → Nat × Nat) (v_2 : Int), LI n_2 k_2 (sm4 x_2).2.2 ((((M.1.1, f_1), S_1, L_1, P_1).1.1, f_2), S_2, L_2, P_2) → S_2 0 0 = (sm4 x_2).1 → L_2 51 = L_1 51 → ((sm4 x_2).1 = 0 → nz v_2 = nz (sm4 x_2).2.1) → (R32 (nz (sm4 x_1).2.1) ∧ (R32 (nz v_2) ∧ (((nz (sm4 x_1).2.1) = (nz v_2) → zz_Jv Mi (zpL_law n sc) (zz_retP Q X 1076108 5861636) 1766 [some (vr 1500), some (vr 100), some (vr 0), some (vr 51), some (vi x4), none, none, none] [] ((M.1.1, f_2), S_2, L_2, P_2) (u_ + 0 + 0, v_ + 0 + 0)) ∧ (¬ (nz (sm4 x_1).2.1) = (nz v_2) → (u_ + 0 + 0 ≤ 1076108 ∧ v_ + 0 + 0 ≤ 5861636) ∧ (Q (some (vi 0)) ((M.1.1, f_2), S_2, L_2, P_2)))))))))))) : zz_Jv Mi (zpL_law n sc) (zz_retP Q X 1076108 5861636) 350 [some (vr 1500), some (vr 100), some (vr 0), some (vr 51), some (vi x4), none, none, none] [] M (u_, v_) := zz_Jv.go [(23, [5, 6, 7]), (164, [5, 6, 7]), (237, [5, 6, 7]), (262, [5, 6, 7]), (267, [5, 6, 7]), (306, [5, 6, 7]), (350, [5, 6, 7]), (363, [5, 6, 7]), (443, [5, 6, 7]), (511, [5, 6, 7]), (567, [5, 6, 7]), (627, [5, 6, 7]), (675, [5, 6, 7]), (723, [5, 6, 7]), (779, [5, 6, 7]), (847, [5, 6, 7]), (910, [5, 6, 7]), (978, [5, 6, 7]), (1074, [5, 6, 7]), (1154, [5, 6, 7]), (1234, [5, 6, 7]), (1302, [5, 6, 7]), (1394, [5, 6, 7]), (1462, [5, 6, 7]), (1518, [5, 6, 7]), (1637, [5, 6, 7]), (1717, [5, 6, 7]), (1728, [5, 6, 7]), (1732, [5, 6, 7]), (1741, [5, 6, 7]), (1766, [5, 6, 7])] 400 h
theorem zwL_law_363 {Q : Option zv → zz_M → Prop} {X : Nat → zz_M → Prop} {Mi : mm_M} {n : Nat} {sc : Nat → Int} {M : zz_M} {u_ v_ : Nat} {x4 : Int} (h : (0 ≤ (x4 + 1) ∧ (x4 + 1) < (n : Int)) ∧ ((0 ≤ (x4 + 2) ∧ (x4 + 2) < (n : Int)) ∧ ((0 ≤ (x4 + 3) ∧ (x4 + 3) < (n : Int)) ∧ ((u_ + 3 ≤ 1076108 ∧ v_ + 18 ≤ 5861636) ∧ (∃ (n_1 : Nat) (x_1 m_1 : aS), LI n_1 x_1 m_1 M ∧ AI x_1 ∧ R32 (sc ((x4 + 1).toNat)) ∧ R32 (sc ((x4 + 2).toNat)) ∧ R32 (sc ((x4 + 3).toNat)) ∧ (∀ (S_1 L_1 : Nat → Nat → Int) (P_1 : Nat → Nat → Option Nat) (f_1 : Nat → Nat × Nat), LI n_1 (sm5 x_1 (sc ((x4 + 1).toNat)) (sc ((x4 + 2).toNat)) (sc ((x4 + 3).toNat))).2.2 m_1 ((M.1.1, f_1), S_1, L_1, P_1) → R32 (sm5 x_1 (sc ((x4 + 1).toNat)) (sc ((x4 + 2).toNat)) (sc ((x4 + 3).toNat))).1 → ((sm5 x_1 (sc ((x4 + 1).toNat)) (sc ((x4 + 2).toNat)) (sc ((x4 + 3).toNat))).1 = 0 → L_1 51 0 = nz (sm5 x_1 (sc ((x4 + 1).toNat)) (sc ((x4 + 2).toNat)) (sc ((x4 + 3).toNat))).2.1) → ((0 ≤ (x4 + 1) ∧ (x4 + 1) < (n : Int)) ∧ ((0 ≤ (x4 + 2) ∧ (x4 + 2) < (n : Int)) ∧ ((0 ≤ (x4 + 3) ∧ (x4 + 3) < (n : Int)) ∧ ((zsh ((M.1.1, f_1), S_1, L_1, P_1) 0 = (1, 8) ∨ zsh ((M.1.1, f_1), S_1, L_1, P_1) 0 = (17, 8)) ∧ (u_ + 3 + 0 ≤ 1076108 ∧ v_ + 18 + 0 ≤ 5861636) ∧ (∃ (n_2 : Nat) (k_2 x_2 : aS), LI n_2 k_2 x_2 ((M.1.1, f_1), S_1, L_1, P_1) ∧ AI x_2 ∧ R32 (sc ((x4 + 1).toNat)) ∧ R32 (sc ((x4 + 2).toNat)) ∧ R32 (sc ((x4 + 3).toNat)) ∧ (∀ (S_2 L_2 : Nat → Nat → Int) (P_2 : Nat → Nat → Option Nat) (f_2 : Nat → Nat × Nat) (v_2 : Int), LI n_2 k_2 (sm5 x_2 (sc ((x4 + 1).toNat)) (sc ((x4 + 2).toNat)) (sc ((x4 + 3).toNat))).2.2 ((((M.1.1, f_1), S_1, L_1, P_1).1.1, f_2), S_2, L_2, P_2) → S_2 0 0 = (sm5 x_2 (sc ((x4 + 1).toNat)) (sc ((x4 + 2).toNat)) (sc ((x4 + 3).toNat))).1 → L_2 51 = L_1 51 → ((sm5 x_2 (sc ((x4 + 1).toNat)) (sc ((x4 + 2).toNat)) (sc ((x4 + 3).toNat))).1 = 0 → nz v_2 = nz (sm5 x_2 (sc ((x4 + 1).toNat)) (sc ((x4 + 2).toNat)) (sc ((x4 + 3).toNat))).2.1) → ((zsh ((M.1.1, f_2), S_2, L_2, P_2) 0 = (1, 8) ∨ zsh ((M.1.1, f_2), S_2, L_2, P_2) 0 = (17, 8)) ∧ (u_ + 3 + 0 + 0 ≤ 1076108 ∧ v_ + 18 + 0 + 0 ≤ 5861636) ∧ (∃ (n_3 : Nat) (k_3 x_3 : aS), LI n_3 k_3 x_3 ((M.1.1, f_2), S_2, L_2, P_2) ∧ R32 (S_2 0 0) ∧ (∀ (S_3 L_3 : Nat → Nat → Int) (P_3 : Nat → Nat → Option Nat) (f_3 : Nat → Nat × Nat), LI n_3 k_3 x_3 ((((M.1.1, f_2), S_2, L_2, P_2).1.1, f_3), S_3, L_3, P_3) → S_3 0 0 = S_2 0 0 → L_3 51 = L_2 51 → (R32 (S_2 0 0) ∧ (R32 ((sm5 x_1 (sc ((x4 + 1).toNat)) (sc ((x4 + 2).toNat)) (sc ((x4 + 3).toNat))).1) ∧ (((S_2 0 0) = ((sm5 x_1 (sc ((x4 + 1).toNat)) (sc ((x4 + 2).toNat)) (sc ((x4 + 3).toNat))).1) → R32 ((sm5 x_1 (sc ((x4 + 1).toNat)) (sc ((x4 + 2).toNat)) (sc ((x4 + 3).toNat))).1) ∧ ((¬ ((sm5 x_1 (sc ((x4 + 1).toNat)) (sc ((x4 + 2).toNat)) (sc ((x4 + 3).toNat))).1) = 0 → zz_Jv Mi (zpL_law n sc) (zz_retP Q X 1076108 5861636) 1766 [some (vr 1500), some (vr 100), some (vr 0), some (vr 51), some (vi x4), none, none, none] [] ((M.1.1, f_3), S_3, L_3, P_3) (u_ + 3 + 0 + 0, v_ + 18 + 0 + 0)) ∧ (((sm5 x_1 (sc ((x4 + 1).toNat)) (sc ((x4 + 2).toNat)) (sc ((x4 + 3).toNat))).1) = 0 → ∃ n_ : Nat, zsh ((M.1.1, f_3), S_3, L_3, P_3) 51 = (3, n_) ∧ (n_ : Int) ≤ 2147483647 ∧ (0 ≤ (0 : Int) ∧ 0 < (n_ : Int)) ∧ (R32 (nz v_2) ∧ (R64 (L_3 51 ((0 : Int).toNat)) ∧ R64 (nz v_2) ∧ (R32 (zcmp (L_3 51 ((0 : Int).toNat)) (nz v_2)) ∧ (((zcmp (L_3 51 ((0 : Int).toNat)) (nz v_2)) = 0 → zz_Jv Mi (zpL_law n sc) (zz_retP Q X 1076108 5861636) 1766 [some (vr 1500), some (vr 100), some (vr 0), some (vr 51), some (vi x4), none, none, none] [] ((M.1.1, f_3), S_3, L_3, P_3) (u_ + 3 + 0 + 0, v_ + 18 + 0 + 0)) ∧ (¬ (zcmp (L_3 51 ((0 : Int).toNat)) (nz v_2)) = 0 → (u_ + 3 + 0 + 0 ≤ 1076108 ∧ v_ + 18 + 0 + 0 ≤ 5861636) ∧ (Q (some (vi 0)) ((M.1.1, f_3), S_3, L_3, P_3)))))))))) ∧ (¬ (S_2 0 0) = ((sm5 x_1 (sc ((x4 + 1).toNat)) (sc ((x4 + 2).toNat)) (sc ((x4 + 3).toNat))).1) → (u_ + 3 + 0 + 0 ≤ 1076108 ∧ v_ + 18 + 0 + 0 ≤ 5861636) ∧ (Q (some (vi 0)) ((M.1.1, f_3), S_3, L_3, P_3))))))))))))))))))))) : zz_Jv Mi (zpL_law n sc) (zz_retP Q X 1076108 5861636) 363 [some (vr 1500), some (vr 100), some (vr 0), some (vr 51), some (vi x4), none, none, none] [] M (u_, v_) := zz_Jv.go [(23, [5, 6, 7]), (164, [5, 6, 7]), (237, [5, 6, 7]), (262, [5, 6, 7]), (267, [5, 6, 7]), (306, [5, 6, 7]), (350, [5, 6, 7]), (363, [5, 6, 7]), (443, [5, 6, 7]), (511, [5, 6, 7]), (567, [5, 6, 7]), (627, [5, 6, 7]), (675, [5, 6, 7]), (723, [5, 6, 7]), (779, [5, 6, 7]), (847, [5, 6, 7]), (910, [5, 6, 7]), (978, [5, 6, 7]), (1074, [5, 6, 7]), (1154, [5, 6, 7]), (1234, [5, 6, 7]), (1302, [5, 6, 7]), (1394, [5, 6, 7]), (1462, [5, 6, 7]), (1518, [5, 6, 7]), (1637, [5, 6, 7]), (1717, [5, 6, 7]), (1728, [5, 6, 7]), (1732, [5, 6, 7]), (1741, [5, 6, 7]), (1766, [5, 6, 7])] 400 h
theorem zwL_law_443 {Q : Option zv → zz_M → Prop} {X : Nat → zz_M → Prop} {Mi : mm_M} {n : Nat} {sc : Nat → Int} {M : zz_M} {u_ v_ : Nat} {x4 : Int} (h : (0 ≤ (x4 + 1) ∧ (x4 + 1) < (n : Int)) ∧ ((0 ≤ (x4 + 2) ∧ (x4 + 2) < (n : Int)) ∧ ((u_ + 2 ≤ 1076108 ∧ v_ + 12 ≤ 5861636) ∧ (∃ (n_1 : Nat) (x_1 m_1 : aS), LI n_1 x_1 m_1 M ∧ AI x_1 ∧ R32 (sc ((x4 + 1).toNat)) ∧ R32 (sc ((x4 + 2).toNat)) ∧ (∀ (S_1 L_1 : Nat → Nat → Int) (P_1 : Nat → Nat → Option Nat) (f_1 : Nat → Nat × Nat), LI n_1 (sm6 x_1 (sc ((x4 + 1).toNat)) (sc ((x4 + 2).toNat))).2.2 m_1 ((M.1.1, f_1), S_1, L_1, P_1) → R32 (sm6 x_1 (sc ((x4 + 1).toNat)) (sc ((x4 + 2).toNat))).1 → ((sm6 x_1 (sc ((x4 + 1).toNat)) (sc ((x4 + 2).toNat))).1 = 0 → L_1 51 0 = nz (sm6 x_1 (sc ((x4 + 1).toNat)) (sc ((x4 + 2).toNat))).2.1) → ((0 ≤ (x4 + 1) ∧ (x4 + 1) < (n : Int)) ∧ ((0 ≤ (x4 + 2) ∧ (x4 + 2) < (n : Int)) ∧ ((zsh ((M.1.1, f_1), S_1, L_1, P_1) 0 = (1, 8) ∨ zsh ((M.1.1, f_1), S_1, L_1, P_1) 0 = (17, 8)) ∧ (u_ + 2 + 0 ≤ 1076108 ∧ v_ + 12 + 0 ≤ 5861636) ∧ (∃ (n_2 : Nat) (k_2 x_2 : aS), LI n_2 k_2 x_2 ((M.1.1, f_1), S_1, L_1, P_1) ∧ AI x_2 ∧ R32 (sc ((x4 + 1).toNat)) ∧ R32 (sc ((x4 + 2).toNat)) ∧ (∀ (S_2 L_2 : Nat → Nat → Int) (P_2 : Nat → Nat → Option Nat) (f_2 : Nat → Nat × Nat) (v_2 : Int), LI n_2 k_2 (sm6 x_2 (sc ((x4 + 1).toNat)) (sc ((x4 + 2).toNat))).2.2 ((((M.1.1, f_1), S_1, L_1, P_1).1.1, f_2), S_2, L_2, P_2) → S_2 0 0 = (sm6 x_2 (sc ((x4 + 1).toNat)) (sc ((x4 + 2).toNat))).1 → L_2 51 = L_1 51 → ((sm6 x_2 (sc ((x4 + 1).toNat)) (sc ((x4 + 2).toNat))).1 = 0 → nz v_2 = nz (sm6 x_2 (sc ((x4 + 1).toNat)) (sc ((x4 + 2).toNat))).2.1) → ((zsh ((M.1.1, f_2), S_2, L_2, P_2) 0 = (1, 8) ∨ zsh ((M.1.1, f_2), S_2, L_2, P_2) 0 = (17, 8)) ∧ (u_ + 2 + 0 + 0 ≤ 1076108 ∧ v_ + 12 + 0 + 0 ≤ 5861636) ∧ (∃ (n_3 : Nat) (k_3 x_3 : aS), LI n_3 k_3 x_3 ((M.1.1, f_2), S_2, L_2, P_2) ∧ R32 (S_2 0 0) ∧ (∀ (S_3 L_3 : Nat → Nat → Int) (P_3 : Nat → Nat → Option Nat) (f_3 : Nat → Nat × Nat), LI n_3 k_3 x_3 ((((M.1.1, f_2), S_2, L_2, P_2).1.1, f_3), S_3, L_3, P_3) → S_3 0 0 = S_2 0 0 → L_3 51 = L_2 51 → (R32 (S_2 0 0) ∧ (R32 ((sm6 x_1 (sc ((x4 + 1).toNat)) (sc ((x4 + 2).toNat))).1) ∧ (((S_2 0 0) = ((sm6 x_1 (sc ((x4 + 1).toNat)) (sc ((x4 + 2).toNat))).1) → R32 ((sm6 x_1 (sc ((x4 + 1).toNat)) (sc ((x4 + 2).toNat))).1) ∧ ((¬ ((sm6 x_1 (sc ((x4 + 1).toNat)) (sc ((x4 + 2).toNat))).1) = 0 → zz_Jv Mi (zpL_law n sc) (zz_retP Q X 1076108 5861636) 1766 [some (vr 1500), some (vr 100), some (vr 0), some (vr 51), some (vi x4), none, none, none] [] ((M.1.1, f_3), S_3, L_3, P_3) (u_ + 2 + 0 + 0, v_ + 12 + 0 + 0)) ∧ (((sm6 x_1 (sc ((x4 + 1).toNat)) (sc ((x4 + 2).toNat))).1) = 0 → ∃ n_ : Nat, zsh ((M.1.1, f_3), S_3, L_3, P_3) 51 = (3, n_) ∧ (n_ : Int) ≤ 2147483647 ∧ (0 ≤ (0 : Int) ∧ 0 < (n_ : Int)) ∧ (R32 (nz v_2) ∧ (R64 (L_3 51 ((0 : Int).toNat)) ∧ R64 (nz v_2) ∧ (R32 (zcmp (L_3 51 ((0 : Int).toNat)) (nz v_2)) ∧ (((zcmp (L_3 51 ((0 : Int).toNat)) (nz v_2)) = 0 → zz_Jv Mi (zpL_law n sc) (zz_retP Q X 1076108 5861636) 1766 [some (vr 1500), some (vr 100), some (vr 0), some (vr 51), some (vi x4), none, none, none] [] ((M.1.1, f_3), S_3, L_3, P_3) (u_ + 2 + 0 + 0, v_ + 12 + 0 + 0)) ∧ (¬ (zcmp (L_3 51 ((0 : Int).toNat)) (nz v_2)) = 0 → (u_ + 2 + 0 + 0 ≤ 1076108 ∧ v_ + 12 + 0 + 0 ≤ 5861636) ∧ (Q (some (vi 0)) ((M.1.1, f_3), S_3, L_3, P_3)))))))))) ∧ (¬ (S_2 0 0) = ((sm6 x_1 (sc ((x4 + 1).toNat)) (sc ((x4 + 2).toNat))).1) → (u_ + 2 + 0 + 0 ≤ 1076108 ∧ v_ + 12 + 0 + 0 ≤ 5861636) ∧ (Q (some (vi 0)) ((M.1.1, f_3), S_3, L_3, P_3))))))))))))))))))) : zz_Jv Mi (zpL_law n sc) (zz_retP Q X 1076108 5861636) 443 [some (vr 1500), some (vr 100), some (vr 0), some (vr 51), some (vi x4), none, none, none] [] M (u_, v_) := zz_Jv.go [(23, [5, 6, 7]), (164, [5, 6, 7]), (237, [5, 6, 7]), (262, [5, 6, 7]), (267, [5, 6, 7]), (306, [5, 6, 7]), (350, [5, 6, 7]), (363, [5, 6, 7]), (443, [5, 6, 7]), (511, [5, 6, 7]), (567, [5, 6, 7]), (627, [5, 6, 7]), (675, [5, 6, 7]), (723, [5, 6, 7]), (779, [5, 6, 7]), (847, [5, 6, 7]), (910, [5, 6, 7]), (978, [5, 6, 7]), (1074, [5, 6, 7]), (1154, [5, 6, 7]), (1234, [5, 6, 7]), (1302, [5, 6, 7]), (1394, [5, 6, 7]), (1462, [5, 6, 7]), (1518, [5, 6, 7]), (1637, [5, 6, 7]), (1717, [5, 6, 7]), (1728, [5, 6, 7]), (1732, [5, 6, 7]), (1741, [5, 6, 7]), (1766, [5, 6, 7])] 400 h
theorem zwL_law_511 {Q : Option zv → zz_M → Prop} {X : Nat → zz_M → Prop} {Mi : mm_M} {n : Nat} {sc : Nat → Int} {M : zz_M} {u_ v_ : Nat} {x4 : Int} (h : (0 ≤ (x4 + 1) ∧ (x4 + 1) < (n : Int)) ∧ ((u_ + 1 ≤ 1076108 ∧ v_ + 6 ≤ 5861636) ∧ (∃ (n_1 : Nat) (x_1 m_1 : aS), LI n_1 x_1 m_1 M ∧ AI x_1 ∧ R32 (sc ((x4 + 1).toNat)) ∧ (∀ (S_1 L_1 : Nat → Nat → Int) (P_1 : Nat → Nat → Option Nat) (f_1 : Nat → Nat × Nat), LI n_1 (sm7 x_1 (sc ((x4 + 1).toNat))).2.2 m_1 ((M.1.1, f_1), S_1, L_1, P_1) → R32 (sm7 x_1 (sc ((x4 + 1).toNat))).1 → ((sm7 x_1 (sc ((x4 + 1).toNat))).1 = 0 → L_1 51 0 = nz (sm7 x_1 (sc ((x4 + 1).toNat))).2.1) → ((0 ≤ (x4 + 1) ∧ (x4 + 1) < (n : Int)) ∧ ((zsh ((M.1.1, f_1), S_1, L_1, P_1) 0 = (1, 8) ∨ zsh ((M.1.1, f_1), S_1, L_1, P_1) 0 = (17, 8)) ∧ (u_ + 1 + 0 ≤ 1076108 ∧ v_ + 6 + 0 ≤ 5861636) ∧ (∃ (n_2 : Nat) (k_2 x_2 : aS), LI n_2 k_2 x_2 ((M.1.1, f_1), S_1, L_1, P_1) ∧ AI x_2 ∧ R32 (sc ((x4 + 1).toNat)) ∧ (∀ (S_2 L_2 : Nat → Nat → Int) (P_2 : Nat → Nat → Option Nat) (f_2 : Nat → Nat × Nat) (v_2 : Int), LI n_2 k_2 (sm7 x_2 (sc ((x4 + 1).toNat))).2.2 ((((M.1.1, f_1), S_1, L_1, P_1).1.1, f_2), S_2, L_2, P_2) → S_2 0 0 = (sm7 x_2 (sc ((x4 + 1).toNat))).1 → L_2 51 = L_1 51 → ((sm7 x_2 (sc ((x4 + 1).toNat))).1 = 0 → nz v_2 = nz (sm7 x_2 (sc ((x4 + 1).toNat))).2.1) → ((zsh ((M.1.1, f_2), S_2, L_2, P_2) 0 = (1, 8) ∨ zsh ((M.1.1, f_2), S_2, L_2, P_2) 0 = (17, 8)) ∧ (u_ + 1 + 0 + 0 ≤ 1076108 ∧ v_ + 6 + 0 + 0 ≤ 5861636) ∧ (∃ (n_3 : Nat) (k_3 x_3 : aS), LI n_3 k_3 x_3 ((M.1.1, f_2), S_2, L_2, P_2) ∧ R32 (S_2 0 0) ∧ (∀ (S_3 L_3 : Nat → Nat → Int) (P_3 : Nat → Nat → Option Nat) (f_3 : Nat → Nat × Nat), LI n_3 k_3 x_3 ((((M.1.1, f_2), S_2, L_2, P_2).1.1, f_3), S_3, L_3, P_3) → S_3 0 0 = S_2 0 0 → L_3 51 = L_2 51 → (R32 (S_2 0 0) ∧ (R32 ((sm7 x_1 (sc ((x4 + 1).toNat))).1) ∧ (((S_2 0 0) = ((sm7 x_1 (sc ((x4 + 1).toNat))).1) → R32 ((sm7 x_1 (sc ((x4 + 1).toNat))).1) ∧ ((¬ ((sm7 x_1 (sc ((x4 + 1).toNat))).1) = 0 → zz_Jv Mi (zpL_law n sc) (zz_retP Q X 1076108 5861636) 1766 [some (vr 1500), some (vr 100), some (vr 0), some (vr 51), some (vi x4), none, none, none] [] ((M.1.1, f_3), S_3, L_3, P_3) (u_ + 1 + 0 + 0, v_ + 6 + 0 + 0)) ∧ (((sm7 x_1 (sc ((x4 + 1).toNat))).1) = 0 → ∃ n_ : Nat, zsh ((M.1.1, f_3), S_3, L_3, P_3) 51 = (3, n_) ∧ (n_ : Int) ≤ 2147483647 ∧ (0 ≤ (0 : Int) ∧ 0 < (n_ : Int)) ∧ (R32 (nz v_2) ∧ (R64 (L_3 51 ((0 : Int).toNat)) ∧ R64 (nz v_2) ∧ (R32 (zcmp (L_3 51 ((0 : Int).toNat)) (nz v_2)) ∧ (((zcmp (L_3 51 ((0 : Int).toNat)) (nz v_2)) = 0 → zz_Jv Mi (zpL_law n sc) (zz_retP Q X 1076108 5861636) 1766 [some (vr 1500), some (vr 100), some (vr 0), some (vr 51), some (vi x4), none, none, none] [] ((M.1.1, f_3), S_3, L_3, P_3) (u_ + 1 + 0 + 0, v_ + 6 + 0 + 0)) ∧ (¬ (zcmp (L_3 51 ((0 : Int).toNat)) (nz v_2)) = 0 → (u_ + 1 + 0 + 0 ≤ 1076108 ∧ v_ + 6 + 0 + 0 ≤ 5861636) ∧ (Q (some (vi 0)) ((M.1.1, f_3), S_3, L_3, P_3)))))))))) ∧ (¬ (S_2 0 0) = ((sm7 x_1 (sc ((x4 + 1).toNat))).1) → (u_ + 1 + 0 + 0 ≤ 1076108 ∧ v_ + 6 + 0 + 0 ≤ 5861636) ∧ (Q (some (vi 0)) ((M.1.1, f_3), S_3, L_3, P_3))))))))))))))))) : zz_Jv Mi (zpL_law n sc) (zz_retP Q X 1076108 5861636) 511 [some (vr 1500), some (vr 100), some (vr 0), some (vr 51), some (vi x4), none, none, none] [] M (u_, v_) := zz_Jv.go [(23, [5, 6, 7]), (164, [5, 6, 7]), (237, [5, 6, 7]), (262, [5, 6, 7]), (267, [5, 6, 7]), (306, [5, 6, 7]), (350, [5, 6, 7]), (363, [5, 6, 7]), (443, [5, 6, 7]), (511, [5, 6, 7]), (567, [5, 6, 7]), (627, [5, 6, 7]), (675, [5, 6, 7]), (723, [5, 6, 7]), (779, [5, 6, 7]), (847, [5, 6, 7]), (910, [5, 6, 7]), (978, [5, 6, 7]), (1074, [5, 6, 7]), (1154, [5, 6, 7]), (1234, [5, 6, 7]), (1302, [5, 6, 7]), (1394, [5, 6, 7]), (1462, [5, 6, 7]), (1518, [5, 6, 7]), (1637, [5, 6, 7]), (1717, [5, 6, 7]), (1728, [5, 6, 7]), (1732, [5, 6, 7]), (1741, [5, 6, 7]), (1766, [5, 6, 7])] 400 h
theorem zwL_law_567 {Q : Option zv → zz_M → Prop} {X : Nat → zz_M → Prop} {Mi : mm_M} {n : Nat} {sc : Nat → Int} {M : zz_M} {u_ v_ : Nat} {x4 : Int} (h : (0 ≤ (x4 + 1) ∧ (x4 + 1) < (n : Int)) ∧ ((0 ≤ (x4 + 2) ∧ (x4 + 2) < (n : Int)) ∧ ((0 ≤ (x4 + 3) ∧ (x4 + 3) < (n : Int)) ∧ ((u_ + 2 ≤ 1076108 ∧ v_ + 12 ≤ 5861636) ∧ (∃ (n_1 : Nat) (x_1 m_1 : aS), LI n_1 x_1 m_1 M ∧ AI x_1 ∧ R32 (sc ((x4 + 1).toNat)) ∧ R32 (sc ((x4 + 2).toNat)) ∧ R32 (sc ((x4 + 3).toNat)) ∧ (∀ (S_1 L_1 : Nat → Nat → Int) (P_1 : Nat → Nat → Option Nat) (f_1 : Nat → Nat × Nat), LI n_1 (sm8 x_1 (sc ((x4 + 1).toNat)) (sc ((x4 + 2).toNat)) (sc ((x4 + 3).toNat))).2.2 m_1 ((M.1.1, f_1), S_1, L_1, P_1) → R32 (sm8 x_1 (sc ((x4 + 1).toNat)) (sc ((x4 + 2).toNat)) (sc ((x4 + 3).toNat))).1 → ((0 ≤ (x4 + 1) ∧ (x4 + 1) < (n : Int)) ∧ ((0 ≤ (x4 + 2) ∧ (x4 + 2) < (n : Int)) ∧ ((0 ≤ (x4 + 3) ∧ (x4 + 3) < (n : Int)) ∧ ((zsh ((M.1.1, f_1), S_1, L_1, P_1) 0 = (1, 8) ∨ zsh ((M.1.1, f_1), S_1, L_1, P_1) 0 = (17, 8)) ∧ (u_ + 2 + 0 ≤ 1076108 ∧ v_ + 12 + 0 ≤ 5861636) ∧ (∃ (n_2 : Nat) (k_2 x_2 : aS), LI n_2 k_2 x_2 ((M.1.1, f_1), S_1, L_1, P_1) ∧ AI x_2 ∧ R32 (sc ((x4 + 1).toNat)) ∧ R32 (sc ((x4 + 2).toNat)) ∧ R32 (sc ((x4 + 3).toNat)) ∧ (∀ (S_2 L_2 : Nat → Nat → Int) (P_2 : Nat → Nat → Option Nat) (f_2 : Nat → Nat × Nat), LI n_2 k_2 (sm8 x_2 (sc ((x4 + 1).toNat)) (sc ((x4 + 2).toNat)) (sc ((x4 + 3).toNat))).2.2 ((((M.1.1, f_1), S_1, L_1, P_1).1.1, f_2), S_2, L_2, P_2) → S_2 0 0 = (sm8 x_2 (sc ((x4 + 1).toNat)) (sc ((x4 + 2).toNat)) (sc ((x4 + 3).toNat))).1 → L_2 51 = L_1 51 → ((zsh ((M.1.1, f_2), S_2, L_2, P_2) 0 = (1, 8) ∨ zsh ((M.1.1, f_2), S_2, L_2, P_2) 0 = (17, 8)) ∧ (u_ + 2 + 0 + 0 ≤ 1076108 ∧ v_ + 12 + 0 + 0 ≤ 5861636) ∧ (∃ (n_3 : Nat) (k_3 x_3 : aS), LI n_3 k_3 x_3 ((M.1.1, f_2), S_2, L_2, P_2) ∧ R32 (S_2 0 0) ∧ (∀ (S_3 L_3 : Nat → Nat → Int) (P_3 : Nat → Nat → Option Nat) (f_3 : Nat → Nat × Nat), LI n_3 k_3 x_3 ((((M.1.1, f_2), S_2, L_2, P_2).1.1, f_3), S_3, L_3, P_3) → S_3 0 0 = S_2 0 0 → L_3 51 = L_2 51 → (R32 (S_2 0 0) ∧ (R32 ((sm8 x_1 (sc ((x4 + 1).toNat)) (sc ((x4 + 2).toNat)) (sc ((x4 + 3).toNat))).1) ∧ (((S_2 0 0) = ((sm8 x_1 (sc ((x4 + 1).toNat)) (sc ((x4 + 2).toNat)) (sc ((x4 + 3).toNat))).1) → zz_Jv Mi (zpL_law n sc) (zz_retP Q X 1076108 5861636) 1766 [some (vr 1500), some (vr 100), some (vr 0), some (vr 51), some (vi x4), none, none, none] [] ((M.1.1, f_3), S_3, L_3, P_3) (u_ + 2 + 0 + 0, v_ + 12 + 0 + 0)) ∧ (¬ (S_2 0 0) = ((sm8 x_1 (sc ((x4 + 1).toNat)) (sc ((x4 + 2).toNat)) (sc ((x4 + 3).toNat))).1) → (u_ + 2 + 0 + 0 ≤ 1076108 ∧ v_ + 12 + 0 + 0 ≤ 5861636) ∧ (Q (some (vi 0)) ((M.1.1, f_3), S_3, L_3, P_3))))))))))))))))))))) : zz_Jv Mi (zpL_law n sc) (zz_retP Q X 1076108 5861636) 567 [some (vr 1500), some (vr 100), some (vr 0), some (vr 51), some (vi x4), none, none, none] [] M (u_, v_) := zz_Jv.go [(23, [5, 6, 7]), (164, [5, 6, 7]), (237, [5, 6, 7]), (262, [5, 6, 7]), (267, [5, 6, 7]), (306, [5, 6, 7]), (350, [5, 6, 7]), (363, [5, 6, 7]), (443, [5, 6, 7]), (511, [5, 6, 7]), (567, [5, 6, 7]), (627, [5, 6, 7]), (675, [5, 6, 7]), (723, [5, 6, 7]), (779, [5, 6, 7]), (847, [5, 6, 7]), (910, [5, 6, 7]), (978, [5, 6, 7]), (1074, [5, 6, 7]), (1154, [5, 6, 7]), (1234, [5, 6, 7]), (1302, [5, 6, 7]), (1394, [5, 6, 7]), (1462, [5, 6, 7]), (1518, [5, 6, 7]), (1637, [5, 6, 7]), (1717, [5, 6, 7]), (1728, [5, 6, 7]), (1732, [5, 6, 7]), (1741, [5, 6, 7]), (1766, [5, 6, 7])] 400 h
theorem zwL_law_627 {Q : Option zv → zz_M → Prop} {X : Nat → zz_M → Prop} {Mi : mm_M} {n : Nat} {sc : Nat → Int} {M : zz_M} {u_ v_ : Nat} {x4 : Int} (h : (0 ≤ (x4 + 1) ∧ (x4 + 1) < (n : Int)) ∧ ((0 ≤ (x4 + 2) ∧ (x4 + 2) < (n : Int)) ∧ ((u_ + 1 ≤ 1076108 ∧ v_ + 6 ≤ 5861636) ∧ (∃ (n_1 : Nat) (x_1 m_1 : aS), LI n_1 x_1 m_1 M ∧ AI x_1 ∧ R32 (sc ((x4 + 1).toNat)) ∧ R32 (sc ((x4 + 2).toNat)) ∧ (∀ (S_1 L_1 : Nat → Nat → Int) (P_1 : Nat → Nat → Option Nat) (f_1 : Nat → Nat × Nat), LI n_1 (sm9 x_1 (sc ((x4 + 1).toNat)) (sc ((x4 + 2).toNat))).2.2 m_1 ((M.1.1, f_1), S_1, L_1, P_1) → R32 (sm9 x_1 (sc ((x4 + 1).toNat)) (sc ((x4 + 2).toNat))).1 → ((0 ≤ (x4 + 1) ∧ (x4 + 1) < (n : Int)) ∧ ((0 ≤ (x4 + 2) ∧ (x4 + 2) < (n : Int)) ∧ ((zsh ((M.1.1, f_1), S_1, L_1, P_1) 0 = (1, 8) ∨ zsh ((M.1.1, f_1), S_1, L_1, P_1) 0 = (17, 8)) ∧ (u_ + 1 + 0 ≤ 1076108 ∧ v_ + 6 + 0 ≤ 5861636) ∧ (∃ (n_2 : Nat) (k_2 x_2 : aS), LI n_2 k_2 x_2 ((M.1.1, f_1), S_1, L_1, P_1) ∧ AI x_2 ∧ R32 (sc ((x4 + 1).toNat)) ∧ R32 (sc ((x4 + 2).toNat)) ∧ (∀ (S_2 L_2 : Nat → Nat → Int) (P_2 : Nat → Nat → Option Nat) (f_2 : Nat → Nat × Nat), LI n_2 k_2 (sm9 x_2 (sc ((x4 + 1).toNat)) (sc ((x4 + 2).toNat))).2.2 ((((M.1.1, f_1), S_1, L_1, P_1).1.1, f_2), S_2, L_2, P_2) → S_2 0 0 = (sm9 x_2 (sc ((x4 + 1).toNat)) (sc ((x4 + 2).toNat))).1 → L_2 51 = L_1 51 → ((zsh ((M.1.1, f_2), S_2, L_2, P_2) 0 = (1, 8) ∨ zsh ((M.1.1, f_2), S_2, L_2, P_2) 0 = (17, 8)) ∧ (u_ + 1 + 0 + 0 ≤ 1076108 ∧ v_ + 6 + 0 + 0 ≤ 5861636) ∧ (∃ (n_3 : Nat) (k_3 x_3 : aS), LI n_3 k_3 x_3 ((M.1.1, f_2), S_2, L_2, P_2) ∧ R32 (S_2 0 0) ∧ (∀ (S_3 L_3 : Nat → Nat → Int) (P_3 : Nat → Nat → Option Nat) (f_3 : Nat → Nat × Nat), LI n_3 k_3 x_3 ((((M.1.1, f_2), S_2, L_2, P_2).1.1, f_3), S_3, L_3, P_3) → S_3 0 0 = S_2 0 0 → L_3 51 = L_2 51 → (R32 (S_2 0 0) ∧ (R32 ((sm9 x_1 (sc ((x4 + 1).toNat)) (sc ((x4 + 2).toNat))).1) ∧ (((S_2 0 0) = ((sm9 x_1 (sc ((x4 + 1).toNat)) (sc ((x4 + 2).toNat))).1) → zz_Jv Mi (zpL_law n sc) (zz_retP Q X 1076108 5861636) 1766 [some (vr 1500), some (vr 100), some (vr 0), some (vr 51), some (vi x4), none, none, none] [] ((M.1.1, f_3), S_3, L_3, P_3) (u_ + 1 + 0 + 0, v_ + 6 + 0 + 0)) ∧ (¬ (S_2 0 0) = ((sm9 x_1 (sc ((x4 + 1).toNat)) (sc ((x4 + 2).toNat))).1) → (u_ + 1 + 0 + 0 ≤ 1076108 ∧ v_ + 6 + 0 + 0 ≤ 5861636) ∧ (Q (some (vi 0)) ((M.1.1, f_3), S_3, L_3, P_3))))))))))))))))))) : zz_Jv Mi (zpL_law n sc) (zz_retP Q X 1076108 5861636) 627 [some (vr 1500), some (vr 100), some (vr 0), some (vr 51), some (vi x4), none, none, none] [] M (u_, v_) := zz_Jv.go [(23, [5, 6, 7]), (164, [5, 6, 7]), (237, [5, 6, 7]), (262, [5, 6, 7]), (267, [5, 6, 7]), (306, [5, 6, 7]), (350, [5, 6, 7]), (363, [5, 6, 7]), (443, [5, 6, 7]), (511, [5, 6, 7]), (567, [5, 6, 7]), (627, [5, 6, 7]), (675, [5, 6, 7]), (723, [5, 6, 7]), (779, [5, 6, 7]), (847, [5, 6, 7]), (910, [5, 6, 7]), (978, [5, 6, 7]), (1074, [5, 6, 7]), (1154, [5, 6, 7]), (1234, [5, 6, 7]), (1302, [5, 6, 7]), (1394, [5, 6, 7]), (1462, [5, 6, 7]), (1518, [5, 6, 7]), (1637, [5, 6, 7]), (1717, [5, 6, 7]), (1728, [5, 6, 7]), (1732, [5, 6, 7]), (1741, [5, 6, 7]), (1766, [5, 6, 7])] 400 h
theorem zwL_law_675 {Q : Option zv → zz_M → Prop} {X : Nat → zz_M → Prop} {Mi : mm_M} {n : Nat} {sc : Nat → Int} {M : zz_M} {u_ v_ : Nat} {x4 : Int} (h : (0 ≤ (x4 + 1) ∧ (x4 + 1) < (n : Int)) ∧ ((0 ≤ (x4 + 2) ∧ (x4 + 2) < (n : Int)) ∧ ((u_ + 1 ≤ 1076108 ∧ v_ + 6 ≤ 5861636) ∧ (∃ (n_1 : Nat) (x_1 m_1 : aS), LI n_1 x_1 m_1 M ∧ AI x_1 ∧ R32 (sc ((x4 + 1).toNat)) ∧ R32 (sc ((x4 + 2).toNat)) ∧ (∀ (S_1 L_1 : Nat → Nat → Int) (P_1 : Nat → Nat → Option Nat) (f_1 : Nat → Nat × Nat), LI n_1 (sm10 x_1 (sc ((x4 + 1).toNat)) (sc ((x4 + 2).toNat))).2.2 m_1 ((M.1.1, f_1), S_1, L_1, P_1) → R32 (sm10 x_1 (sc ((x4 + 1).toNat)) (sc ((x4 + 2).toNat))).1 → ((0 ≤ (x4 + 1) ∧ (x4 + 1) < (n : Int)) ∧ ((0 ≤ (x4 + 2) ∧ (x4 + 2) < (n : Int)) ∧ ((zsh ((M.1.1, f_1), S_1, L_1, P_1) 0 = (1, 8) ∨ zsh ((M.1.1, f_1), S_1, L_1, P_1) 0 = (17, 8)) ∧ (u_ + 1 + 0 ≤ 1076108 ∧ v_ + 6 + 0 ≤ 5861636) ∧ (∃ (n_2 : Nat) (k_2 x_2 : aS), LI n_2 k_2 x_2 ((M.1.1, f_1), S_1, L_1, P_1) ∧ AI x_2 ∧ R32 (sc ((x4 + 1).toNat)) ∧ R32 (sc ((x4 + 2).toNat)) ∧ (∀ (S_2 L_2 : Nat → Nat → Int) (P_2 : Nat → Nat → Option Nat) (f_2 : Nat → Nat × Nat), LI n_2 k_2 (sm10 x_2 (sc ((x4 + 1).toNat)) (sc ((x4 + 2).toNat))).2.2 ((((M.1.1, f_1), S_1, L_1, P_1).1.1, f_2), S_2, L_2, P_2) → S_2 0 0 = (sm10 x_2 (sc ((x4 + 1).toNat)) (sc ((x4 + 2).toNat))).1 → L_2 51 = L_1 51 → ((zsh ((M.1.1, f_2), S_2, L_2, P_2) 0 = (1, 8) ∨ zsh ((M.1.1, f_2), S_2, L_2, P_2) 0 = (17, 8)) ∧ (u_ + 1 + 0 + 0 ≤ 1076108 ∧ v_ + 6 + 0 + 0 ≤ 5861636) ∧ (∃ (n_3 : Nat) (k_3 x_3 : aS), LI n_3 k_3 x_3 ((M.1.1, f_2), S_2, L_2, P_2) ∧ R32 (S_2 0 0) ∧ (∀ (S_3 L_3 : Nat → Nat → Int) (P_3 : Nat → Nat → Option Nat) (f_3 : Nat → Nat × Nat), LI n_3 k_3 x_3 ((((M.1.1, f_2), S_2, L_2, P_2).1.1, f_3), S_3, L_3, P_3) → S_3 0 0 = S_2 0 0 → L_3 51 = L_2 51 → (R32 (S_2 0 0) ∧ (R32 ((sm10 x_1 (sc ((x4 + 1).toNat)) (sc ((x4 + 2).toNat))).1) ∧ (((S_2 0 0) = ((sm10 x_1 (sc ((x4 + 1).toNat)) (sc ((x4 + 2).toNat))).1) → zz_Jv Mi (zpL_law n sc) (zz_retP Q X 1076108 5861636) 1766 [some (vr 1500), some (vr 100), some (vr 0), some (vr 51), some (vi x4), none, none, none] [] ((M.1.1, f_3), S_3, L_3, P_3) (u_ + 1 + 0 + 0, v_ + 6 + 0 + 0)) ∧ (¬ (S_2 0 0) = ((sm10 x_1 (sc ((x4 + 1).toNat)) (sc ((x4 + 2).toNat))).1) → (u_ + 1 + 0 + 0 ≤ 1076108 ∧ v_ + 6 + 0 + 0 ≤ 5861636) ∧ (Q (some (vi 0)) ((M.1.1, f_3), S_3, L_3, P_3))))))))))))))))))) : zz_Jv Mi (zpL_law n sc) (zz_retP Q X 1076108 5861636) 675 [some (vr 1500), some (vr 100), some (vr 0), some (vr 51), some (vi x4), none, none, none] [] M (u_, v_) := zz_Jv.go [(23, [5, 6, 7]), (164, [5, 6, 7]), (237, [5, 6, 7]), (262, [5, 6, 7]), (267, [5, 6, 7]), (306, [5, 6, 7]), (350, [5, 6, 7]), (363, [5, 6, 7]), (443, [5, 6, 7]), (511, [5, 6, 7]), (567, [5, 6, 7]), (627, [5, 6, 7]), (675, [5, 6, 7]), (723, [5, 6, 7]), (779, [5, 6, 7]), (847, [5, 6, 7]), (910, [5, 6, 7]), (978, [5, 6, 7]), (1074, [5, 6, 7]), (1154, [5, 6, 7]), (1234, [5, 6, 7]), (1302, [5, 6, 7]), (1394, [5, 6, 7]), (1462, [5, 6, 7]), (1518, [5, 6, 7]), (1637, [5, 6, 7]), (1717, [5, 6, 7]), (1728, [5, 6, 7]), (1732, [5, 6, 7]), (1741, [5, 6, 7]), (1766, [5, 6, 7])] 400 h
theorem zwL_law_723 {Q : Option zv → zz_M → Prop} {X : Nat → zz_M → Prop} {Mi : mm_M} {n : Nat} {sc : Nat → Int} {M : zz_M} {u_ v_ : Nat} {x4 : Int} (h : (0 ≤ (x4 + 1) ∧ (x4 + 1) < (n : Int)) ∧ ((u_ + 1 ≤ 1076108 ∧ v_ + 6 ≤ 5861636) ∧ (∃ (n_1 : Nat) (x_1 m_1 : aS), LI n_1 x_1 m_1 M ∧ AI x_1 ∧ R32 (sc ((x4 + 1).toNat)) ∧ (∀ (S_1 L_1 : Nat → Nat → Int) (P_1 : Nat → Nat → Option Nat) (f_1 : Nat → Nat × Nat), LI n_1 (sm11 x_1 (sc ((x4 + 1).toNat))).2.2 m_1 ((M.1.1, f_1), S_1, L_1, P_1) → R32 (sm11 x_1 (sc ((x4 + 1).toNat))).1 → ((sm11 x_1 (sc ((x4 + 1).toNat))).1 = 0 → L_1 51 0 = nz (sm11 x_1 (sc ((x4 + 1).toNat))).2.1) → ((0 ≤ (x4 + 1) ∧ (x4 + 1) < (n : Int)) ∧ ((zsh ((M.1.1, f_1), S_1, L_1, P_1) 0 = (1, 8) ∨ zsh ((M.1.1, f_1), S_1, L_1, P_1) 0 = (17, 8)) ∧ (u_ + 1 + 0 ≤ 1076108 ∧ v_ + 6 + 0 ≤ 5861636) ∧ (∃ (n_2 : Nat) (k_2 x_2 : aS), LI n_2 k_2 x_2 ((M.1.1, f_1), S_1, L_1, P_1) ∧ AI x_2 ∧ R32 (sc ((x4 + 1).toNat)) ∧ (∀ (S_2 L_2 : Nat → Nat → Int) (P_2 : Nat → Nat → Option Nat) (f_2 : Nat → Nat × Nat) (v_2 : Int), LI n_2 k_2 (sm11 x_2 (sc ((x4 + 1).toNat))).2.2 ((((M.1.1, f_1), S_1, L_1, P_1).1.1, f_2), S_2, L_2, P_2) → S_2 0 0 = (sm11 x_2 (sc ((x4 + 1).toNat))).1 → L_2 51 = L_1 51 → ((sm11 x_2 (sc ((x4 + 1).toNat))).1 = 0 → nz v_2 = nz (sm11 x_2 (sc ((x4 + 1).toNat))).2.1) → ((zsh ((M.1.1, f_2), S_2, L_2, P_2) 0 = (1, 8) ∨ zsh ((M.1.1, f_2), S_2, L_2, P_2) 0 = (17, 8)) ∧ (u_ + 1 + 0 + 0 ≤ 1076108 ∧ v_ + 6 + 0 + 0 ≤ 5861636) ∧ (∃ (n_3 : Nat) (k_3 x_3 : aS), LI n_3 k_3 x_3 ((M.1.1, f_2), S_2, L_2, P_2) ∧ R32 (S_2 0 0) ∧ (∀ (S_3 L_3 : Nat → Nat → Int) (P_3 : Nat → Nat → Option Nat) (f_3 : Nat → Nat × Nat), LI n_3 k_3 x_3 ((((M.1.1, f_2), S_2, L_2, P_2).1.1, f_3), S_3, L_3, P_3) → S_3 0 0 = S_2 0 0 → L_3 51 = L_2 51 → (R32 (S_2 0 0) ∧ (R32 ((sm11 x_1 (sc ((x4 + 1).toNat))).1) ∧ (((S_2 0 0) = ((sm11 x_1 (sc ((x4 + 1).toNat))).1) → R32 ((sm11 x_1 (sc ((x4 + 1).toNat))).1) ∧ ((¬ ((sm11 x_1 (sc ((x4 + 1).toNat))).1) = 0 → zz_Jv Mi (zpL_law n sc) (zz_retP Q X 1076108 5861636) 1766 [some (vr 1500), some (vr 100), some (vr 0), some (vr 51), some (vi x4), none, none, none] [] ((M.1.1, f_3), S_3, L_3, P_3) (u_ + 1 + 0 + 0, v_ + 6 + 0 + 0)) ∧ (((sm11 x_1 (sc ((x4 + 1).toNat))).1) = 0 → ∃ n_ : Nat, zsh ((M.1.1, f_3), S_3, L_3, P_3) 51 = (3, n_) ∧ (n_ : Int) ≤ 2147483647 ∧ (0 ≤ (0 : Int) ∧ 0 < (n_ : Int)) ∧ (R32 (nz v_2) ∧ (R64 (L_3 51 ((0 : Int).toNat)) ∧ R64 (nz v_2) ∧ (R32 (zcmp (L_3 51 ((0 : Int).toNat)) (nz v_2)) ∧ (((zcmp (L_3 51 ((0 : Int).toNat)) (nz v_2)) = 0 → zz_Jv Mi (zpL_law n sc) (zz_retP Q X 1076108 5861636) 1766 [some (vr 1500), some (vr 100), some (vr 0), some (vr 51), some (vi x4), none, none, none] [] ((M.1.1, f_3), S_3, L_3, P_3) (u_ + 1 + 0 + 0, v_ + 6 + 0 + 0)) ∧ (¬ (zcmp (L_3 51 ((0 : Int).toNat)) (nz v_2)) = 0 → (u_ + 1 + 0 + 0 ≤ 1076108 ∧ v_ + 6 + 0 + 0 ≤ 5861636) ∧ (Q (some (vi 0)) ((M.1.1, f_3), S_3, L_3, P_3)))))))))) ∧ (¬ (S_2 0 0) = ((sm11 x_1 (sc ((x4 + 1).toNat))).1) → (u_ + 1 + 0 + 0 ≤ 1076108 ∧ v_ + 6 + 0 + 0 ≤ 5861636) ∧ (Q (some (vi 0)) ((M.1.1, f_3), S_3, L_3, P_3))))))))))))))))) : zz_Jv Mi (zpL_law n sc) (zz_retP Q X 1076108 5861636) 723 [some (vr 1500), some (vr 100), some (vr 0), some (vr 51), some (vi x4), none, none, none] [] M (u_, v_) := zz_Jv.go [(23, [5, 6, 7]), (164, [5, 6, 7]), (237, [5, 6, 7]), (262, [5, 6, 7]), (267, [5, 6, 7]), (306, [5, 6, 7]), (350, [5, 6, 7]), (363, [5, 6, 7]), (443, [5, 6, 7]), (511, [5, 6, 7]), (567, [5, 6, 7]), (627, [5, 6, 7]), (675, [5, 6, 7]), (723, [5, 6, 7]), (779, [5, 6, 7]), (847, [5, 6, 7]), (910, [5, 6, 7]), (978, [5, 6, 7]), (1074, [5, 6, 7]), (1154, [5, 6, 7]), (1234, [5, 6, 7]), (1302, [5, 6, 7]), (1394, [5, 6, 7]), (1462, [5, 6, 7]), (1518, [5, 6, 7]), (1637, [5, 6, 7]), (1717, [5, 6, 7]), (1728, [5, 6, 7]), (1732, [5, 6, 7]), (1741, [5, 6, 7]), (1766, [5, 6, 7])] 400 h
theorem zwL_law_779 {Q : Option zv → zz_M → Prop} {X : Nat → zz_M → Prop} {Mi : mm_M} {n : Nat} {sc : Nat → Int} {M : zz_M} {u_ v_ : Nat} {x4 : Int} (h : (0 ≤ (x4 + 1) ∧ (x4 + 1) < (n : Int)) ∧ ((0 ≤ (x4 + 2) ∧ (x4 + 2) < (n : Int)) ∧ ((u_ + 3 ≤ 1076108 ∧ v_ + 18 ≤ 5861636) ∧ (∃ (n_1 : Nat) (x_1 m_1 : aS), LI n_1 x_1 m_1 M ∧ AI x_1 ∧ R32 (sc ((x4 + 1).toNat)) ∧ R32 (sc ((x4 + 2).toNat)) ∧ (∀ (S_1 L_1 : Nat → Nat → Int) (P_1 : Nat → Nat → Option Nat) (f_1 : Nat → Nat × Nat), LI n_1 (sm12 x_1 (sc ((x4 + 1).toNat)) (sc ((x4 + 2).toNat))).2.2 m_1 ((M.1.1, f_1), S_1, L_1, P_1) → R32 (sm12 x_1 (sc ((x4 + 1).toNat)) (sc ((x4 + 2).toNat))).1 → ((sm12 x_1 (sc ((x4 + 1).toNat)) (sc ((x4 + 2).toNat))).1 = 0 → L_1 51 0 = nz (sm12 x_1 (sc ((x4 + 1).toNat)) (sc ((x4 + 2).toNat))).2.1) → ((0 ≤ (x4 + 1) ∧ (x4 + 1) < (n : Int)) ∧ ((0 ≤ (x4 + 2) ∧ (x4 + 2) < (n : Int)) ∧ ((zsh ((M.1.1, f_1), S_1, L_1, P_1) 0 = (1, 8) ∨ zsh ((M.1.1, f_1), S_1, L_1, P_1) 0 = (17, 8)) ∧ (u_ + 3 + 0 ≤ 1076108 ∧ v_ + 18 + 0 ≤ 5861636) ∧ (∃ (n_2 : Nat) (k_2 x_2 : aS), LI n_2 k_2 x_2 ((M.1.1, f_1), S_1, L_1, P_1) ∧ AI x_2 ∧ R32 (sc ((x4 + 1).toNat)) ∧ R32 (sc ((x4 + 2).toNat)) ∧ (∀ (S_2 L_2 : Nat → Nat → Int) (P_2 : Nat → Nat → Option Nat) (f_2 : Nat → Nat × Nat) (v_2 : Int), LI n_2 k_2 (sm12 x_2 (sc ((x4 + 1).toNat)) (sc ((x4 + 2).toNat))).2.2 ((((M.1.1, f_1), S_1, L_1, P_1).1.1, f_2), S_2, L_2, P_2) → S_2 0 0 = (sm12 x_2 (sc ((x4 + 1).toNat)) (sc ((x4 + 2).toNat))).1 → L_2 51 = L_1 51 → ((sm12 x_2 (sc ((x4 + 1).toNat)) (sc ((x4 + 2).toNat))).1 = 0 → nz v_2 = nz (sm12 x_2 (sc ((x4 + 1).toNat)) (sc ((x4 + 2).toNat))).2.1) → ((zsh ((M.1.1, f_2), S_2, L_2, P_2) 0 = (1, 8) ∨ zsh ((M.1.1, f_2), S_2, L_2, P_2) 0 = (17, 8)) ∧ (u_ + 3 + 0 + 0 ≤ 1076108 ∧ v_ + 18 + 0 + 0 ≤ 5861636) ∧ (∃ (n_3 : Nat) (k_3 x_3 : aS), LI n_3 k_3 x_3 ((M.1.1, f_2), S_2, L_2, P_2) ∧ R32 (S_2 0 0) ∧ (∀ (S_3 L_3 : Nat → Nat → Int) (P_3 : Nat → Nat → Option Nat) (f_3 : Nat → Nat × Nat), LI n_3 k_3 x_3 ((((M.1.1, f_2), S_2, L_2, P_2).1.1, f_3), S_3, L_3, P_3) → S_3 0 0 = S_2 0 0 → L_3 51 = L_2 51 → (R32 (S_2 0 0) ∧ (R32 ((sm12 x_1 (sc ((x4 + 1).toNat)) (sc ((x4 + 2).toNat))).1) ∧ (((S_2 0 0) = ((sm12 x_1 (sc ((x4 + 1).toNat)) (sc ((x4 + 2).toNat))).1) → R32 ((sm12 x_1 (sc ((x4 + 1).toNat)) (sc ((x4 + 2).toNat))).1) ∧ ((¬ ((sm12 x_1 (sc ((x4 + 1).toNat)) (sc ((x4 + 2).toNat))).1) = 0 → zz_Jv Mi (zpL_law n sc) (zz_retP Q X 1076108 5861636) 1766 [some (vr 1500), some (vr 100), some (vr 0), some (vr 51), some (vi x4), none, none, none] [] ((M.1.1, f_3), S_3, L_3, P_3) (u_ + 3 + 0 + 0, v_ + 18 + 0 + 0)) ∧ (((sm12 x_1 (sc ((x4 + 1).toNat)) (sc ((x4 + 2).toNat))).1) = 0 → ∃ n_ : Nat, zsh ((M.1.1, f_3), S_3, L_3, P_3) 51 = (3, n_) ∧ (n_ : Int) ≤ 2147483647 ∧ (0 ≤ (0 : Int) ∧ 0 < (n_ : Int)) ∧ (R32 (nz v_2) ∧ (R64 (L_3 51 ((0 : Int).toNat)) ∧ R64 (nz v_2) ∧ (R32 (zcmp (L_3 51 ((0 : Int).toNat)) (nz v_2)) ∧ (((zcmp (L_3 51 ((0 : Int).toNat)) (nz v_2)) = 0 → zz_Jv Mi (zpL_law n sc) (zz_retP Q X 1076108 5861636) 1766 [some (vr 1500), some (vr 100), some (vr 0), some (vr 51), some (vi x4), none, none, none] [] ((M.1.1, f_3), S_3, L_3, P_3) (u_ + 3 + 0 + 0, v_ + 18 + 0 + 0)) ∧ (¬ (zcmp (L_3 51 ((0 : Int).toNat)) (nz v_2)) = 0 → (u_ + 3 + 0 + 0 ≤ 1076108 ∧ v_ + 18 + 0 + 0 ≤ 5861636) ∧ (Q (some (vi 0)) ((M.1.1, f_3), S_3, L_3, P_3)))))))))) ∧ (¬ (S_2 0 0) = ((sm12 x_1 (sc ((x4 + 1).toNat)) (sc ((x4 + 2).toNat))).1) → (u_ + 3 + 0 + 0 ≤ 1076108 ∧ v_ + 18 + 0 + 0 ≤ 5861636) ∧ (Q (some (vi 0)) ((M.1.1, f_3), S_3, L_3, P_3))))))))))))))))))) : zz_Jv Mi (zpL_law n sc) (zz_retP Q X 1076108 5861636) 779 [some (vr 1500), some (vr 100), some (vr 0), some (vr 51), some (vi x4), none, none, none] [] M (u_, v_) := zz_Jv.go [(23, [5, 6, 7]), (164, [5, 6, 7]), (237, [5, 6, 7]), (262, [5, 6, 7]), (267, [5, 6, 7]), (306, [5, 6, 7]), (350, [5, 6, 7]), (363, [5, 6, 7]), (443, [5, 6, 7]), (511, [5, 6, 7]), (567, [5, 6, 7]), (627, [5, 6, 7]), (675, [5, 6, 7]), (723, [5, 6, 7]), (779, [5, 6, 7]), (847, [5, 6, 7]), (910, [5, 6, 7]), (978, [5, 6, 7]), (1074, [5, 6, 7]), (1154, [5, 6, 7]), (1234, [5, 6, 7]), (1302, [5, 6, 7]), (1394, [5, 6, 7]), (1462, [5, 6, 7]), (1518, [5, 6, 7]), (1637, [5, 6, 7]), (1717, [5, 6, 7]), (1728, [5, 6, 7]), (1732, [5, 6, 7]), (1741, [5, 6, 7]), (1766, [5, 6, 7])] 400 h
theorem zwL_law_847 {Q : Option zv → zz_M → Prop} {X : Nat → zz_M → Prop} {Mi : mm_M} {n : Nat} {sc : Nat → Int} {M : zz_M} {u_ v_ : Nat} {x4 : Int} (h : (0 ≤ (x4 + 1) ∧ (x4 + 1) < (n : Int)) ∧ ((u_ + 2 ≤ 1076108 ∧ v_ + 12 ≤ 5861636) ∧ (∃ (n_1 : Nat) (x_1 m_1 : aS), LI n_1 x_1 m_1 M ∧ AI x_1 ∧ R32 (sc ((x4 + 1).toNat)) ∧ (∀ (S_1 L_1 : Nat → Nat → Int) (P_1 : Nat → Nat → Option Nat) (f_1 : Nat → Nat × Nat), LI n_1 (sm13 x_1 (sc ((x4 + 1).toNat))).2.2 m_1 ((M.1.1, f_1), S_1, L_1, P_1) → R32 (sm13 x_1 (sc ((x4 + 1).toNat))).1 → ((sm13 x_1 (sc ((x4 + 1).toNat))).1 = 0 → L_1 51 0 = nz (sm13 x_1 (sc ((x4 + 1).toNat))).2.1) → ((0 ≤ (x4 + 1) ∧ (x4 + 1) < (n : Int)) ∧ ((zsh ((M.1.1, f_1), S_1, L_1, P_1) 0 = (1, 8) ∨ zsh ((M.1.1, f_1), S_1, L_1, P_1) 0 = (17, 8)) ∧ (u_ + 2 + 0 ≤ 1076108 ∧ v_ + 12 + 0 ≤ 5861636) ∧ (∃ (n_2 : Nat) (k_2 x_2 : aS), LI n_2 k_2 x_2 ((M.1.1, f_1), S_1, L_1, P_1) ∧ AI x_2 ∧ R32 (sc ((x4 + 1).toNat)) ∧ (∀ (S_2 L_2 : Nat → Nat → Int) (P_2 : Nat → Nat → Option Nat) (f_2 : Nat → Nat × Nat) (v_2 : Int), LI n_2 k_2 (sm13 x_2 (sc ((x4 + 1).toNat))).2.2 ((((M.1.1, f_1), S_1, L_1, P_1).1.1, f_2), S_2, L_2, P_2) → S_2 0 0 = (sm13 x_2 (sc ((x4 + 1).toNat))).1 → L_2 51 = L_1 51 → ((sm13 x_2 (sc ((x4 + 1).toNat))).1 = 0 → nz v_2 = nz (sm13 x_2 (sc ((x4 + 1).toNat))).2.1) → ((zsh ((M.1.1, f_2), S_2, L_2, P_2) 0 = (1, 8) ∨ zsh ((M.1.1, f_2), S_2, L_2, P_2) 0 = (17, 8)) ∧ (u_ + 2 + 0 + 0 ≤ 1076108 ∧ v_ + 12 + 0 + 0 ≤ 5861636) ∧ (∃ (n_3 : Nat) (k_3 x_3 : aS), LI n_3 k_3 x_3 ((M.1.1, f_2), S_2, L_2, P_2) ∧ R32 (S_2 0 0) ∧ (∀ (S_3 L_3 : Nat → Nat → Int) (P_3 : Nat → Nat → Option Nat) (f_3 : Nat → Nat × Nat), LI n_3 k_3 x_3 ((((M.1.1, f_2), S_2, L_2, P_2).1.1, f_3), S_3, L_3, P_3) → S_3 0 0 = S_2 0 0 → L_3 51 = L_2 51 → (R32 (S_2 0 0) ∧ (R32 ((sm13 x_1 (sc ((x4 + 1).toNat))).1) ∧ (((S_2 0 0) = ((sm13 x_1 (sc ((x4 + 1).toNat))).1) → R32 ((sm13 x_1 (sc ((x4 + 1).toNat))).1) ∧ ((¬ ((sm13 x_1 (sc ((x4 + 1).toNat))).1) = 0 → zz_Jv Mi (zpL_law n sc) (zz_retP Q X 1076108 5861636) 1766 [some (vr 1500), some (vr 100), some (vr 0), some (vr 51), some (vi x4), none, none, none] [] ((M.1.1, f_3), S_3, L_3, P_3) (u_ + 2 + 0 + 0, v_ + 12 + 0 + 0)) ∧ (((sm13 x_1 (sc ((x4 + 1).toNat))).1) = 0 → ∃ n_ : Nat, zsh ((M.1.1, f_3), S_3, L_3, P_3) 51 = (3, n_) ∧ (n_ : Int) ≤ 2147483647 ∧ (0 ≤ (0 : Int) ∧ 0 < (n_ : Int)) ∧ (R32 (nz v_2) ∧ (((nz v_2) = 0 → R64 (L_3 51 ((0 : Int).toNat)) ∧ R64 0 ∧ (R32 (zcmp (L_3 51 ((0 : Int).toNat)) 0) ∧ (((zcmp (L_3 51 ((0 : Int).toNat)) 0) = 0 → zz_Jv Mi (zpL_law n sc) (zz_retP Q X 1076108 5861636) 1766 [some (vr 1500), some (vr 100), some (vr 0), some (vr 51), some (vi x4), none, none, none] [] ((M.1.1, f_3), S_3, L_3, P_3) (u_ + 2 + 0 + 0, v_ + 12 + 0 + 0)) ∧ (¬ (zcmp (L_3 51 ((0 : Int).toNat)) 0) = 0 → (u_ + 2 + 0 + 0 ≤ 1076108 ∧ v_ + 12 + 0 + 0 ≤ 5861636) ∧ (Q (some (vi 0)) ((M.1.1, f_3), S_3, L_3, P_3)))))) ∧ (¬ (nz v_2) = 0 → R64 (L_3 51 ((0 : Int).toNat)) ∧ R64 1 ∧ (R32 (zcmp (L_3 51 ((0 : Int).toNat)) 1) ∧ (((zcmp (L_3 51 ((0 : Int).toNat)) 1) = 0 → zz_Jv Mi (zpL_law n sc) (zz_retP Q X 1076108 5861636) 1766 [some (vr 1500), some (vr 100), some (vr 0), some (vr 51), some (vi x4), none, none, none] [] ((M.1.1, f_3), S_3, L_3, P_3) (u_ + 2 + 0 + 0, v_ + 12 + 0 + 0)) ∧ (¬ (zcmp (L_3 51 ((0 : Int).toNat)) 1) = 0 → (u_ + 2 + 0 + 0 ≤ 1076108 ∧ v_ + 12 + 0 + 0 ≤ 5861636) ∧ (Q (some (vi 0)) ((M.1.1, f_3), S_3, L_3, P_3))))))))))) ∧ (¬ (S_2 0 0) = ((sm13 x_1 (sc ((x4 + 1).toNat))).1) → (u_ + 2 + 0 + 0 ≤ 1076108 ∧ v_ + 12 + 0 + 0 ≤ 5861636) ∧ (Q (some (vi 0)) ((M.1.1, f_3), S_3, L_3, P_3))))))))))))))))) : zz_Jv Mi (zpL_law n sc) (zz_retP Q X 1076108 5861636) 847 [some (vr 1500), some (vr 100), some (vr 0), some (vr 51), some (vi x4), none, none, none] [] M (u_, v_) := zz_Jv.go [(23, [5, 6, 7]), (164, [5, 6, 7]), (237, [5, 6, 7]), (262, [5, 6, 7]), (267, [5, 6, 7]), (306, [5, 6, 7]), (350, [5, 6, 7]), (363, [5, 6, 7]), (443, [5, 6, 7]), (511, [5, 6, 7]), (567, [5, 6, 7]), (627, [5, 6, 7]), (675, [5, 6, 7]), (723, [5, 6, 7]), (779, [5, 6, 7]), (847, [5, 6, 7]), (910, [5, 6, 7]), (978, [5, 6, 7]), (1074, [5, 6, 7]), (1154, [5, 6, 7]), (1234, [5, 6, 7]), (1302, [5, 6, 7]), (1394, [5, 6, 7]), (1462, [5, 6, 7]), (1518, [5, 6, 7]), (1637, [5, 6, 7]), (1717, [5, 6, 7]), (1728, [5, 6, 7]), (1732, [5, 6, 7]), (1741, [5, 6, 7]), (1766, [5, 6, 7])] 400 h
theorem zwL_law_910 {Q : Option zv → zz_M → Prop} {X : Nat → zz_M → Prop} {Mi : mm_M} {n : Nat} {sc : Nat → Int} {M : zz_M} {u_ v_ : Nat} {x4 : Int} (h : (0 ≤ (x4 + 1) ∧ (x4 + 1) < (n : Int)) ∧ ((0 ≤ (x4 + 2) ∧ (x4 + 2) < (n : Int)) ∧ ((u_ + 3 ≤ 1076108 ∧ v_ + 18 ≤ 5861636) ∧ (∃ (n_1 : Nat) (x_1 m_1 : aS), LI n_1 x_1 m_1 M ∧ AI x_1 ∧ R32 (sc ((x4 + 1).toNat)) ∧ R32 (sc ((x4 + 2).toNat)) ∧ (∀ (S_1 L_1 : Nat → Nat → Int) (P_1 : Nat → Nat → Option Nat) (f_1 : Nat → Nat × Nat), LI n_1 (sm14 x_1 (sc ((x4 + 1).toNat)) (sc ((x4 + 2).toNat))).2.2 m_1 ((M.1.1, f_1), S_1, L_1, P_1) → R32 (sm14 x_1 (sc ((x4 + 1).toNat)) (sc ((x4 + 2).toNat))).1 → ((sm14 x_1 (sc ((x4 + 1).toNat)) (sc ((x4 + 2).toNat))).1 = 0 → L_1 51 0 = nz (sm14 x_1 (sc ((x4 + 1).toNat)) (sc ((x4 + 2).toNat))).2.1) → ((0 ≤ (x4 + 1) ∧ (x4 + 1) < (n : Int)) ∧ ((0 ≤ (x4 + 2) ∧ (x4 + 2) < (n : Int)) ∧ ((zsh ((M.1.1, f_1), S_1, L_1, P_1) 0 = (1, 8) ∨ zsh ((M.1.1, f_1), S_1, L_1, P_1) 0 = (17, 8)) ∧ (u_ + 3 + 0 ≤ 1076108 ∧ v_ + 18 + 0 ≤ 5861636) ∧ (∃ (n_2 : Nat) (k_2 x_2 : aS), LI n_2 k_2 x_2 ((M.1.1, f_1), S_1, L_1, P_1) ∧ AI x_2 ∧ R32 (sc ((x4 + 1).toNat)) ∧ R32 (sc ((x4 + 2).toNat)) ∧ (∀ (S_2 L_2 : Nat → Nat → Int) (P_2 : Nat → Nat → Option Nat) (f_2 : Nat → Nat × Nat) (v_2 : Int), LI n_2 k_2 (sm14 x_2 (sc ((x4 + 1).toNat)) (sc ((x4 + 2).toNat))).2.2 ((((M.1.1, f_1), S_1, L_1, P_1).1.1, f_2), S_2, L_2, P_2) → S_2 0 0 = (sm14 x_2 (sc ((x4 + 1).toNat)) (sc ((x4 + 2).toNat))).1 → L_2 51 = L_1 51 → ((sm14 x_2 (sc ((x4 + 1).toNat)) (sc ((x4 + 2).toNat))).1 = 0 → nz v_2 = nz (sm14 x_2 (sc ((x4 + 1).toNat)) (sc ((x4 + 2).toNat))).2.1) → ((zsh ((M.1.1, f_2), S_2, L_2, P_2) 0 = (1, 8) ∨ zsh ((M.1.1, f_2), S_2, L_2, P_2) 0 = (17, 8)) ∧ (u_ + 3 + 0 + 0 ≤ 1076108 ∧ v_ + 18 + 0 + 0 ≤ 5861636) ∧ (∃ (n_3 : Nat) (k_3 x_3 : aS), LI n_3 k_3 x_3 ((M.1.1, f_2), S_2, L_2, P_2) ∧ R32 (S_2 0 0) ∧ (∀ (S_3 L_3 : Nat → Nat → Int) (P_3 : Nat → Nat → Option Nat) (f_3 : Nat → Nat × Nat), LI n_3 k_3 x_3 ((((M.1.1, f_2), S_2, L_2, P_2).1.1, f_3), S_3, L_3, P_3) → S_3 0 0 = S_2 0 0 → L_3 51 = L_2 51 → (R32 (S_2 0 0) ∧ (R32 ((sm14 x_1 (sc ((x4 + 1).toNat)) (sc ((x4 + 2).toNat))).1) ∧ (((S_2 0 0) = ((sm14 x_1 (sc ((x4 + 1).toNat)) (sc ((x4 + 2).toNat))).1) → R32 ((sm14 x_1 (sc ((x4 + 1).toNat)) (sc ((x4 + 2).toNat))).1) ∧ ((¬ ((sm14 x_1 (sc ((x4 + 1).toNat)) (sc ((x4 + 2).toNat))).1) = 0 → zz_Jv Mi (zpL_law n sc) (zz_retP Q X 1076108 5861636) 1766 [some (vr 1500), some (vr 100), some (vr 0), some (vr 51), some (vi x4), none, none, none] [] ((M.1.1, f_3), S_3, L_3, P_3) (u_ + 3 + 0 + 0, v_ + 18 + 0 + 0)) ∧ (((sm14 x_1 (sc ((x4 + 1).toNat)) (sc ((x4 + 2).toNat))).1) = 0 → ∃ n_ : Nat, zsh ((M.1.1, f_3), S_3, L_3, P_3) 51 = (3, n_) ∧ (n_ : Int) ≤ 2147483647 ∧ (0 ≤ (0 : Int) ∧ 0 < (n_ : Int)) ∧ (R32 (nz v_2) ∧ (R64 (L_3 51 ((0 : Int).toNat)) ∧ R64 (nz v_2) ∧ (R32 (zcmp (L_3 51 ((0 : Int).toNat)) (nz v_2)) ∧ (((zcmp (L_3 51 ((0 : Int).toNat)) (nz v_2)) = 0 → zz_Jv Mi (zpL_law n sc) (zz_retP Q X 1076108 5861636) 1766 [some (vr 1500), some (vr 100), some (vr 0), some (vr 51), some (vi x4), none, none, none] [] ((M.1.1, f_3), S_3, L_3, P_3) (u_ + 3 + 0 + 0, v_ + 18 + 0 + 0)) ∧ (¬ (zcmp (L_3 51 ((0 : Int).toNat)) (nz v_2)) = 0 → (u_ + 3 + 0 + 0 ≤ 1076108 ∧ v_ + 18 + 0 + 0 ≤ 5861636) ∧ (Q (some (vi 0)) ((M.1.1, f_3), S_3, L_3, P_3)))))))))) ∧ (¬ (S_2 0 0) = ((sm14 x_1 (sc ((x4 + 1).toNat)) (sc ((x4 + 2).toNat))).1) → (u_ + 3 + 0 + 0 ≤ 1076108 ∧ v_ + 18 + 0 + 0 ≤ 5861636) ∧ (Q (some (vi 0)) ((M.1.1, f_3), S_3, L_3, P_3))))))))))))))))))) : zz_Jv Mi (zpL_law n sc) (zz_retP Q X 1076108 5861636) 910 [some (vr 1500), some (vr 100), some (vr 0), some (vr 51), some (vi x4), none, none, none] [] M (u_, v_) := zz_Jv.go [(23, [5, 6, 7]), (164, [5, 6, 7]), (237, [5, 6, 7]), (262, [5, 6, 7]), (267, [5, 6, 7]), (306, [5, 6, 7]), (350, [5, 6, 7]), (363, [5, 6, 7]), (443, [5, 6, 7]), (511, [5, 6, 7]), (567, [5, 6, 7]), (627, [5, 6, 7]), (675, [5, 6, 7]), (723, [5, 6, 7]), (779, [5, 6, 7]), (847, [5, 6, 7]), (910, [5, 6, 7]), (978, [5, 6, 7]), (1074, [5, 6, 7]), (1154, [5, 6, 7]), (1234, [5, 6, 7]), (1302, [5, 6, 7]), (1394, [5, 6, 7]), (1462, [5, 6, 7]), (1518, [5, 6, 7]), (1637, [5, 6, 7]), (1717, [5, 6, 7]), (1728, [5, 6, 7]), (1732, [5, 6, 7]), (1741, [5, 6, 7]), (1766, [5, 6, 7])] 400 h
theorem zwL_law_978 {Q : Option zv → zz_M → Prop} {X : Nat → zz_M → Prop} {Mi : mm_M} {n : Nat} {sc : Nat → Int} {M : zz_M} {u_ v_ : Nat} {x4 : Int} (h : (0 ≤ (x4 + 1) ∧ (x4 + 1) < (n : Int)) ∧ ((0 ≤ (x4 + 2) ∧ (x4 + 2) < (n : Int)) ∧ ((0 ≤ (x4 + 3) ∧ (x4 + 3) < (n : Int)) ∧ (R32 (sc ((x4 + 3).toNat)) ∧ (((sc ((x4 + 3).toNat)) = 0 → (u_ + 3 ≤ 1076108 ∧ v_ + 18 ≤ 5861636) ∧ (∃ (n_1 : Nat) (x_1 m_1 : aS), LI n_1 x_1 m_1 M ∧ AI x_1 ∧ R32 (sc ((x4 + 1).toNat)) ∧ R32 (sc ((x4 + 2).toNat)) ∧ ((0 : Int) = 0 ∨ (0 : Int) = 1) ∧ (∀ (S_1 L_1 : Nat → Nat → Int) (P_1 : Nat → Nat → Option Nat) (f_1 : Nat → Nat × Nat), LI n_1 (sm15 x_1 (sc ((x4 + 1).toNat)) (sc ((x4 + 2).toNat)) (0 : Int)).2.2 m_1 ((M.1.1, f_1), S_1, L_1, P_1) → R32 (sm15 x_1 (sc ((x4 + 1).toNat)) (sc ((x4 + 2).toNat)) (0 : Int)).1 → ((sm15 x_1 (sc ((x4 + 1).toNat)) (sc ((x4 + 2).toNat)) (0 : Int)).1 = 0 → L_1 51 0 = nz (sm15 x_1 (sc ((x4 + 1).toNat)) (sc ((x4 + 2).toNat)) (0 : Int)).2.1) → ((0 ≤ (x4 + 1) ∧ (x4 + 1) < (n : Int)) ∧ ((0 ≤ (x4 + 2) ∧ (x4 + 2) < (n : Int)) ∧ ((0 ≤ (x4 + 3) ∧ (x4 + 3) < (n : Int)) ∧ (R32 (sc ((x4 + 3).toNat)) ∧ (((sc ((x4 + 3).toNat)) = 0 → (zsh ((M.1.1, f_1), S_1, L_1, P_1) 0 = (1, 8) ∨ zsh ((M.1.1, f_1), S_1, L_1, P_1) 0 = (17, 8)) ∧ (u_ + 3 + 0 ≤ 1076108 ∧ v_ + 18 + 0 ≤ 5861636) ∧ (∃ (n_2 : Nat) (k_2 x_2 : aS), LI n_2 k_2 x_2 ((M.1.1, f_1), S_1, L_1, P_1) ∧ AI x_2 ∧ R32 (sc ((x4 + 1).toNat)) ∧ R32 (sc ((x4 + 2).toNat)) ∧ ((0 : Int) = 0 ∨ (0 : Int) = 1) ∧ (∀ (S_2 L_2 : Nat → Nat → Int) (P_2 : Nat → Nat → Option Nat) (f_2 : Nat → Nat × Nat) (v_2 : Int), LI n_2 k_2 (sm15 x_2 (sc ((x4 + 1).toNat)) (sc ((x4 + 2).toNat)) (0 : Int)).2.2 ((((M.1.1, f_1), S_1, L_1, P_1).1.1, f_2), S_2, L_2, P_2) → S_2 0 0 = (sm15 x_2 (sc ((x4 + 1).toNat)) (sc ((x4 + 2).toNat)) (0 : Int)).1 → L_2 51 = L_1 51 → ((sm15 x_2 (sc ((x4 + 1).toNat)) (sc ((x4 + 2).toNat)) (0 : Int)).1 = 0 → nz v_2 = nz (sm15 x_2 (sc ((x4 + 1).toNat)) (sc ((x4 + 2).toNat)) (0 : Int)).2.1) → ((zsh ((M.1.1, f_2), S_2, L_2, P_2) 0 = (1, 8) ∨ zsh ((M.1.1, f_2), S_2, L_2, P_2) 0 = (17, 8)) ∧ (u_ + 3 + 0 + 0 ≤ 1076108 ∧ v_ + 18 + 0 + 0 ≤ 5861636) ∧ (∃ (n_3 : Nat) (k_3 x_3 : aS), LI n_3 k_3 x_3 ((M.1.1, f_2), S_2, L_2, P_2) ∧ R32 (S_2 0 0) ∧ (∀ (S_3 L_3 : Nat → Nat → Int) (P_3 : Nat → Nat → Option Nat) (f_3 : Nat → Nat × Nat), LI n_3 k_3 x_3 ((((M.1.1, f_2), S_2, L_2, P_2).1.1, f_3), S_3, L_3, P_3) → S_3 0 0 = S_2 0 0 → L_3 51 = L_2 51 → (R32 (S_2 0 0) ∧ (R32 ((sm15 x_1 (sc ((x4 + 1).toNat)) (sc ((x4 + 2).toNat)) (0 : Int)).1) ∧ (((S_2 0 0) = ((sm15 x_1 (sc ((x4 + 1).toNat)) (sc ((x4 + 2).toNat)) (0 : Int)).1) → R32 ((sm15 x_1 (sc ((x4 + 1).toNat)) (sc ((x4 + 2).toNat)) (0 : Int)).1) ∧ ((¬ ((sm15 x_1 (sc ((x4 + 1).toNat)) (sc ((x4 + 2).toNat)) (0 : Int)).1) = 0 → zz_Jv Mi (zpL_law n sc) (zz_retP Q X 1076108 5861636) 1766 [some (vr 1500), some (vr 100), some (vr 0), some (vr 51), some (vi x4), none, none, none] [] ((M.1.1, f_3), S_3, L_3, P_3) (u_ + 3 + 0 + 0, v_ + 18 + 0 + 0)) ∧ (((sm15 x_1 (sc ((x4 + 1).toNat)) (sc ((x4 + 2).toNat)) (0 : Int)).1) = 0 → ∃ n_ : Nat, zsh ((M.1.1, f_3), S_3, L_3, P_3) 51 = (3, n_) ∧ (n_ : Int) ≤ 2147483647 ∧ (0 ≤ (0 : Int) ∧ 0 < (n_ : Int)) ∧ (R32 (nz v_2) ∧ (R64 (L_3 51 ((0 : Int).toNat)) ∧ R64 (nz v_2) ∧ (R32 (zcmp (L_3 51 ((0 : Int).toNat)) (nz v_2)) ∧ (((zcmp (L_3 51 ((0 : Int).toNat)) (nz v_2)) = 0 → zz_Jv Mi (zpL_law n sc) (zz_retP Q X 1076108 5861636) 1766 [some (vr 1500), some (vr 100), some (vr 0), some (vr 51), some (vi x4), none, none, none] [] ((M.1.1, f_3), S_3, L_3, P_3) (u_ + 3 + 0 + 0, v_ + 18 + 0 + 0)) ∧ (¬ (zcmp (L_3 51 ((0 : Int).toNat)) (nz v_2)) = 0 → (u_ + 3 + 0 + 0 ≤ 1076108 ∧ v_ + 18 + 0 + 0 ≤ 5861636) ∧ (Q (some (vi 0)) ((M.1.1, f_3), S_3, L_3, P_3)))))))))) ∧ (¬ (S_2 0 0) = ((sm15 x_1 (sc ((x4 + 1).toNat)) (sc ((x4 + 2).toNat)) (0 : Int)).1) → (u_ + 3 + 0 + 0 ≤ 1076108 ∧ v_ + 18 + 0 + 0 ≤ 5861636) ∧ (Q (some (vi 0)) ((M.1.1, f_3), S_3, L_3, P_3)))))))))))) ∧ (¬ (sc ((x4 + 3).toNat)) = 0 → (zsh ((M.1.1, f_1), S_1, L_1, P_1) 0 = (1, 8) ∨ zsh ((M.1.1, f_1), S_1, L_1, P_1) 0 = (17, 8)) ∧ (u_ + 3 + 0 ≤ 1076108 ∧ v_ + 18 + 0 ≤ 5861636) ∧ (∃ (n_4 : Nat) (k_4 x_4 : aS), LI n_4 k_4 x_4 ((M.1.1, f_1), S_1, L_1, P_1) ∧ AI x_4 ∧ R32 (sc ((x4 + 1).toNat)) ∧ R32 (sc ((x4 + 2).toNat)) ∧ ((1 : Int) = 0 ∨ (1 : Int) = 1) ∧ (∀ (S_4 L_4 : Nat → Nat → Int) (P_4 : Nat → Nat → Option Nat) (f_4 : Nat → Nat × Nat) (v_4 : Int), LI n_4 k_4 (sm15 x_4 (sc ((x4 + 1).toNat)) (sc ((x4 + 2).toNat)) (1 : Int)).2.2 ((((M.1.1, f_1), S_1, L_1, P_1).1.1, f_4), S_4, L_4, P_4) → S_4 0 0 = (sm15 x_4 (sc ((x4 + 1).toNat)) (sc ((x4 + 2).toNat)) (1 : Int)).1 → L_4 51 = L_1 51 → ((sm15 x_4 (sc ((x4 + 1).toNat)) (sc ((x4 + 2).toNat)) (1 : Int)).1 = 0 → nz v_4 = nz (sm15 x_4 (sc ((x4 + 1).toNat)) (sc ((x4 + 2).toNat)) (1 : Int)).2.1) → ((zsh ((M.1.1, f_4), S_4, L_4, P_4) 0 = (1, 8) ∨ zsh ((M.1.1, f_4), S_4, L_4, P_4) 0 = (17, 8)) ∧ (u_ + 3 + 0 + 0 ≤ 1076108 ∧ v_ + 18 + 0 + 0 ≤ 5861636) ∧ (∃ (n_5 : Nat) (k_5 x_5 : aS), LI n_5 k_5 x_5 ((M.1.1, f_4), S_4, L_4, P_4) ∧ R32 (S_4 0 0) ∧ (∀ (S_5 L_5 : Nat → Nat → Int) (P_5 : Nat → Nat → Option Nat) (f_5 : Nat → Nat × Nat), LI n_5 k_5 x_5 ((((M.1.1, f_4), S_4, L_4, P_4).1.1, f_5), S_5, L_5, P_5) → S_5 0 0 = S_4 0 0 → L_5 51 = L_4 51 → (R32 (S_4 0 0) ∧ (R32 ((sm15 x_1 (sc ((x4 + 1).toNat)) (sc ((x4 + 2).toNat)) (0 : Int)).1) ∧ (((S_4 0 0) = ((sm15 x_1 (sc ((x4 + 1).toNat)) (sc ((x4 + 2).toNat)) (0 : Int)).1) → R32 ((sm15 x_1 (sc ((x4 + 1).toNat)) (sc ((x4 + 2).toNat)) (0 : Int)).1) ∧ ((¬ ((sm15 x_1 (sc ((x4 + 1).toNat)) (sc ((x4 + 2).toNat)) (0 : Int)).1) = 0 → zz_Jv Mi (zpL_law n sc) (zz_retP Q X 1076108 5861636) 1766 [some (vr 1500), some (vr 100), some (vr 0), some (vr 51), some (vi x4), none, none, none] [] ((M.1.1, f_5), S_5, L_5, P_5) (u_ + 3 + 0 + 0, v_ + 18 + 0 + 0)) ∧ (((sm15 x_1 (sc ((x4 + 1).toNat)) (sc ((x4 + 2).toNat)) (0 : Int)).1) = 0 → ∃ n_ : Nat, zsh ((M.1.1, f_5), S_5, L_5, P_5) 51 = (3, n_) ∧ (n_ : Int) ≤ 2147483647 ∧ (0 ≤ (0 : Int) ∧ 0 < (n_ : Int)) ∧ (R32 (nz v_4) ∧ (R64 (L_5 51 ((0 : Int).toNat)) ∧ R64 (nz v_4) ∧ (R32 (zcmp (L_5 51 ((0 : Int).toNat)) (nz v_4)) ∧ (((zcmp (L_5 51 ((0 : Int).toNat)) (nz v_4)) = 0 → zz_Jv Mi (zpL_law n sc) (zz_retP Q X 1076108 5861636) 1766 [some (vr 1500), some (vr 100), some (vr 0), some (vr 51), some (vi x4), none, none, none] [] ((M.1.1, f_5), S_5, L_5, P_5) (u_ + 3 + 0 + 0, v_ + 18 + 0 + 0)) ∧ (¬ (zcmp (L_5 51 ((0 : Int).toNat)) (nz v_4)) = 0 → (u_ + 3 + 0 + 0 ≤ 1076108 ∧ v_ + 18 + 0 + 0 ≤ 5861636) ∧ (Q (some (vi 0)) ((M.1.1, f_5), S_5, L_5, P_5)))))))))) ∧ (¬ (S_4 0 0) = ((sm15 x_1 (sc ((x4 + 1).toNat)) (sc ((x4 + 2).toNat)) (0 : Int)).1) → (u_ + 3 + 0 + 0 ≤ 1076108 ∧ v_ + 18 + 0 + 0 ≤ 5861636) ∧ (Q (some (vi 0)) ((M.1.1, f_5), S_5, L_5, P_5)))))))))))))))))))) ∧ (¬ (sc ((x4 + 3).toNat)) = 0 → (u_ + 3 ≤ 1076108 ∧ v_ + 18 ≤ 5861636) ∧ (∃ (n_6 : Nat) (x_6 m_6 : aS), LI n_6 x_6 m_6 M ∧ AI x_6 ∧ R32 (sc ((x4 + 1).toNat)) ∧ R32 (sc ((x4 + 2).toNat)) ∧ ((1 : Int) = 0 ∨ (1 : Int) = 1) ∧ (∀ (S_6 L_6 : Nat → Nat → Int) (P_6 : Nat → Nat → Option Nat) (f_6 : Nat → Nat × Nat), LI n_6 (sm15 x_6 (sc ((x4 + 1).toNat)) (sc ((x4 + 2).toNat)) (1 : Int)).2.2 m_6 ((M.1.1, f_6), S_6, L_6, P_6) → R32 (sm15 x_6 (sc ((x4 + 1).toNat)) (sc ((x4 + 2).toNat)) (1 : Int)).1 → ((sm15 x_6 (sc ((x4 + 1).toNat)) (sc ((x4 + 2).toNat)) (1 : Int)).1 = 0 → L_6 51 0 = nz (sm15 x_6 (sc ((x4 + 1).toNat)) (sc ((x4 + 2).toNat)) (1 : Int)).2.1) → ((0 ≤ (x4 + 1) ∧ (x4 + 1) < (n : Int)) ∧ ((0 ≤ (x4 + 2) ∧ (x4 + 2) < (n : Int)) ∧ ((0 ≤ (x4 + 3) ∧ (x4 + 3) < (n : Int)) ∧ (R32 (sc ((x4 + 3).toNat)) ∧ (((sc ((x4 + 3).toNat)) = 0 → (zsh ((M.1.1, f_6), S_6, L_6, P_6) 0 = (1, 8) ∨ zsh ((M.1.1, f_6), S_6, L_6, P_6) 0 = (17, 8)) ∧ (u_ + 3 + 0 ≤ 1076108 ∧ v_ + 18 + 0 ≤ 5861636) ∧ (∃ (n_7 : Nat) (k_7 x_7 : aS), LI n_7 k_7 x_7 ((M.1.1, f_6), S_6, L_6, P_6) ∧ AI x_7 ∧ R32 (sc ((x4 + 1).toNat)) ∧ R32 (sc ((x4 + 2).toNat)) ∧ ((0 : Int) = 0 ∨ (0 : Int) = 1) ∧ (∀ (S_7 L_7 : Nat → Nat → Int) (P_7 : Nat → Nat → Option Nat) (f_7 : Nat → Nat × Nat) (v_7 : Int), LI n_7 k_7 (sm15 x_7 (sc ((x4 + 1).toNat)) (sc ((x4 + 2).toNat)) (0 : Int)).2.2 ((((M.1.1, f_6), S_6, L_6, P_6).1.1, f_7), S_7, L_7, P_7) → S_7 0 0 = (sm15 x_7 (sc ((x4 + 1).toNat)) (sc ((x4 + 2).toNat)) (0 : Int)).1 → L_7 51 = L_6 51 → ((sm15 x_7 (sc ((x4 + 1).toNat)) (sc ((x4 + 2).toNat)) (0 : Int)).1 = 0 → nz v_7 = nz (sm15 x_7 (sc ((x4 + 1).toNat)) (sc ((x4 + 2).toNat)) (0 : Int)).2.1) → ((zsh ((M.1.1, f_7), S_7, L_7, P_7) 0 = (1, 8) ∨ zsh ((M.1.1, f_7), S_7, L_7, P_7) 0 = (17, 8)) ∧ (u_ + 3 + 0 + 0 ≤ 1076108 ∧ v_ + 18 + 0 + 0 ≤ 5861636) ∧ (∃ (n_8 : Nat) (k_8 x_8 : aS), LI n_8 k_8 x_8 ((M.1.1, f_7), S_7, L_7, P_7) ∧ R32 (S_7 0 0) ∧ (∀ (S_8 L_8 : Nat → Nat → Int) (P_8 : Nat → Nat → Option Nat) (f_8 : Nat → Nat × Nat), LI n_8 k_8 x_8 ((((M.1.1, f_7), S_7, L_7, P_7).1.1, f_8), S_8, L_8, P_8) → S_8 0 0 = S_7 0 0 → L_8 51 = L_7 51 → (R32 (S_7 0 0) ∧ (R32 ((sm15 x_6 (sc ((x4 + 1).toNat)) (sc ((x4 + 2).toNat)) (1 : Int)).1) ∧ (((S_7 0 0) = ((sm15 x_6 (sc ((x4 + 1).toNat)) (sc ((x4 + 2).toNat)) (1 : Int)).1) → R32 ((sm15 x_6 (sc ((x4 + 1).toNat)) (sc ((x4 + 2).toNat)) (1 : Int)).1) ∧ ((¬ ((sm15 x_6 (sc ((x4 + 1).toNat)) (sc ((x4 + 2).toNat)) (1 : Int)).1) = 0 → zz_Jv Mi (zpL_law n sc) (zz_retP Q X 1076108 5861636) 1766 [some (vr 1500), some (vr 100), some (vr 0), some (vr 51), some (vi x4), none, none, none] [] ((M.1.1, f_8), S_8, L_8, P_8) (u_ + 3 + 0 + 0, v_ + 18 + 0 + 0)) ∧ (((sm15 x_6 (sc ((x4 + 1).toNat)) (sc ((x4 + 2).toNat)) (1 : Int)).1) = 0 → ∃ n_ : Nat, zsh ((M.1.1, f_8), S_8, L_8, P_8) 51 = (3, n_) ∧ (n_ : Int) ≤ 2147483647 ∧ (0 ≤ (0 : Int) ∧ 0 < (n_ : Int)) ∧ (R32 (nz v_7) ∧ (R64 (L_8 51 ((0 : Int).toNat)) ∧ R64 (nz v_7) ∧ (R32 (zcmp (L_8 51 ((0 : Int).toNat)) (nz v_7)) ∧ (((zcmp (L_8 51 ((0 : Int).toNat)) (nz v_7)) = 0 → zz_Jv Mi (zpL_law n sc) (zz_retP Q X 1076108 5861636) 1766 [some (vr 1500), some (vr 100), some (vr 0), some (vr 51), some (vi x4), none, none, none] [] ((M.1.1, f_8), S_8, L_8, P_8) (u_ + 3 + 0 + 0, v_ + 18 + 0 + 0)) ∧ (¬ (zcmp (L_8 51 ((0 : Int).toNat)) (nz v_7)) = 0 → (u_ + 3 + 0 + 0 ≤ 1076108 ∧ v_ + 18 + 0 + 0 ≤ 5861636) ∧ (Q (some (vi 0)) ((M.1.1, f_8), S_8, L_8, P_8)))))))))) ∧ (¬ (S_7 0 0) = ((sm15 x_6 (sc ((x4 + 1).toNat)) (sc ((x4 + 2).toNat)) (1 : Int)).1) → (u_ + 3 + 0 + 0 ≤ 1076108 ∧ v_ + 18 + 0 + 0 ≤ 5861636) ∧ (Q (some (vi 0)) ((M.1.1, f_8), S_8, L_8, P_8)))))))))))) ∧ (¬ (sc ((x4 + 3).toNat)) = 0 → (zsh ((M.1.1, f_6), S_6, L_6, P_6) 0 = (1, 8) ∨ zsh ((M.1.1, f_6), S_6, L_6, P_6) 0 = (17, 8)) ∧ (u_ + 3 + 0 ≤ 1076108 ∧ v_ + 18 + 0 ≤ 5861636) ∧ (∃ (n_9 : Nat) (k_9 x_9 : aS), LI n_9 k_9 x_9 ((M.1.1, f_6), S_6, L_6, P_6) ∧ AI x_9 ∧ R32 (sc ((x4 + 1).toNat)) ∧ R32 (sc ((x4 + 2).toNat)) ∧ ((1 : Int) = 0 ∨ (1 : Int) = 1) ∧ (∀ (S_9 L_9 : Nat → Nat → Int) (P_9 : Nat → Nat → Option Nat) (f_9 : Nat → Nat × Nat) (v_9 : Int), LI n_9 k_9 (sm15 x_9 (sc ((x4 + 1).toNat)) (sc ((x4 + 2).toNat)) (1 : Int)).2.2 ((((M.1.1, f_6), S_6, L_6, P_6).1.1, f_9), S_9, L_9, P_9) → S_9 0 0 = (sm15 x_9 (sc ((x4 + 1).toNat)) (sc ((x4 + 2).toNat)) (1 : Int)).1 → L_9 51 = L_6 51 → ((sm15 x_9 (sc ((x4 + 1).toNat)) (sc ((x4 + 2).toNat)) (1 : Int)).1 = 0 → nz v_9 = nz (sm15 x_9 (sc ((x4 + 1).toNat)) (sc ((x4 + 2).toNat)) (1 : Int)).2.1) → ((zsh ((M.1.1, f_9), S_9, L_9, P_9) 0 = (1, 8) ∨ zsh ((M.1.1, f_9), S_9, L_9, P_9) 0 = (17, 8)) ∧ (u_ + 3 + 0 + 0 ≤ 1076108 ∧ v_ + 18 + 0 + 0 ≤ 5861636) ∧ (∃ (n_10 : Nat) (k_10 x_10 : aS), LI n_10 k_10 x_10 ((M.1.1, f_9), S_9, L_9, P_9) ∧ R32 (S_9 0 0) ∧ (∀ (S_10 L_10 : Nat → Nat → Int) (P_10 : Nat → Nat → Option Nat) (f_10 : Nat → Nat × Nat), LI n_10 k_10 x_10 ((((M.1.1, f_9), S_9, L_9, P_9).1.1, f_10), S_10, L_10, P_10) → S_10 0 0 = S_9 0 0 → L_10 51 = L_9 51 → (R32 (S_9 0 0) ∧ (R32 ((sm15 x_6 (sc ((x4 + 1).toNat)) (sc ((x4 + 2).toNat)) (1 : Int)).1) ∧ (((S_9 0 0) = ((sm15 x_6 (sc ((x4 + 1).toNat)) (sc ((x4 + 2).toNat)) (1 : Int)).1) → R32 ((sm15 x_6 (sc ((x4 + 1).toNat)) (sc ((x4 + 2).toNat)) (1 : Int)).1) ∧ ((¬ ((sm15 x_6 (sc ((x4 + 1).toNat)) (sc ((x4 + 2).toNat)) (1 : Int)).1) = 0 → zz_Jv Mi (zpL_law n sc) (zz_retP Q X 1076108 5861636) 1766 [some (vr 1500), some (vr 100), some (vr 0), some (vr 51), some (vi x4), none, none, none] [] ((M.1.1, f_10), S_10, L_10, P_10) (u_ + 3 + 0 + 0, v_ + 18 + 0 + 0)) ∧ (((sm15 x_6 (sc ((x4 + 1).toNat)) (sc ((x4 + 2).toNat)) (1 : Int)).1) = 0 → ∃ n_ : Nat, zsh ((M.1.1, f_10), S_10, L_10, P_10) 51 = (3, n_) ∧ (n_ : Int) ≤ 2147483647 ∧ (0 ≤ (0 : Int) ∧ 0 < (n_ : Int)) ∧ (R32 (nz v_9) ∧ (R64 (L_10 51 ((0 : Int).toNat)) ∧ R64 (nz v_9) ∧ (R32 (zcmp (L_10 51 ((0 : Int).toNat)) (nz v_9)) ∧ (((zcmp (L_10 51 ((0 : Int).toNat)) (nz v_9)) = 0 → zz_Jv Mi (zpL_law n sc) (zz_retP Q X 1076108 5861636) 1766 [some (vr 1500), some (vr 100), some (vr 0), some (vr 51), some (vi x4), none, none, none] [] ((M.1.1, f_10), S_10, L_10, P_10) (u_ + 3 + 0 + 0, v_ + 18 + 0 + 0)) ∧ (¬ (zcmp (L_10 51 ((0 : Int).toNat)) (nz v_9)) = 0 → (u_ + 3 + 0 + 0 ≤ 1076108 ∧ v_ + 18 + 0 + 0 ≤ 5861636) ∧ (Q (some (vi 0)) ((M.1.1, f_10), S_10, L_10, P_10)))))))))) ∧ (¬ (S_9 0 0) = ((sm15 x_6 (sc ((x4 + 1).toNat)) (sc ((x4 + 2).toNat)) (1 : Int)).1) → (u_ + 3 + 0 + 0 ≤ 1076108 ∧ v_ + 18 + 0 + 0 ≤ 5861636) ∧ (Q (some (vi 0)) ((M.1.1, f_10), S_10, L_10, P_10))))))))))))))))))))))))) : zz_Jv Mi (zpL_law n sc) (zz_retP Q X 1076108 5861636) 978 [some (vr 1500), some (vr 100), some (vr 0), some (vr 51), some (vi x4), none, none, none] [] M (u_, v_) := zz_Jv.go [(23, [5, 6, 7]), (164, [5, 6, 7]), (237, [5, 6, 7]), (262, [5, 6, 7]), (267, [5, 6, 7]), (306, [5, 6, 7]), (350, [5, 6, 7]), (363, [5, 6, 7]), (443, [5, 6, 7]), (511, [5, 6, 7]), (567, [5, 6, 7]), (627, [5, 6, 7]), (675, [5, 6, 7]), (723, [5, 6, 7]), (779, [5, 6, 7]), (847, [5, 6, 7]), (910, [5, 6, 7]), (978, [5, 6, 7]), (1074, [5, 6, 7]), (1154, [5, 6, 7]), (1234, [5, 6, 7]), (1302, [5, 6, 7]), (1394, [5, 6, 7]), (1462, [5, 6, 7]), (1518, [5, 6, 7]), (1637, [5, 6, 7]), (1717, [5, 6, 7]), (1728, [5, 6, 7]), (1732, [5, 6, 7]), (1741, [5, 6, 7]), (1766, [5, 6, 7])] 400 h
theorem zwL_law_1074 {Q : Option zv → zz_M → Prop} {X : Nat → zz_M → Prop} {Mi : mm_M} {n : Nat} {sc : Nat → Int} {M : zz_M} {u_ v_ : Nat} {x4 : Int} (h : (0 ≤ (x4 + 1) ∧ (x4 + 1) < (n : Int)) ∧ ((0 ≤ (x4 + 2) ∧ (x4 + 2) < (n : Int)) ∧ ((0 ≤ (x4 + 3) ∧ (x4 + 3) < (n : Int)) ∧ ((u_ + 4 ≤ 1076108 ∧ v_ + 24 ≤ 5861636) ∧ (∃ (n_1 : Nat) (x_1 m_1 : aS), LI n_1 x_1 m_1 M ∧ AI x_1 ∧ R32 (sc ((x4 + 1).toNat)) ∧ R32 (sc ((x4 + 2).toNat)) ∧ R32 (sc ((x4 + 3).toNat)) ∧ (∀ (S_1 L_1 : Nat → Nat → Int) (P_1 : Nat → Nat → Option Nat) (f_1 : Nat → Nat × Nat), LI n_1 (sm16 x_1 (sc ((x4 + 1).toNat)) (sc ((x4 + 2).toNat)) (sc ((x4 + 3).toNat))).2.2 m_1 ((M.1.1, f_1), S_1, L_1, P_1) → R32 (sm16 x_1 (sc ((x4 + 1).toNat)) (sc ((x4 + 2).toNat)) (sc ((x4 + 3).toNat))).1 → ((sm16 x_1 (sc ((x4 + 1).toNat)) (sc ((x4 + 2).toNat)) (sc ((x4 + 3).toNat))).1 = 0 → L_1 51 0 = nz (sm16 x_1 (sc ((x4 + 1).toNat)) (sc ((x4 + 2).toNat)) (sc ((x4 + 3).toNat))).2.1) → ((0 ≤ (x4 + 1) ∧ (x4 + 1) < (n : Int)) ∧ ((0 ≤ (x4 + 2) ∧ (x4 + 2) < (n : Int)) ∧ ((0 ≤ (x4 + 3) ∧ (x4 + 3) < (n : Int)) ∧ ((zsh ((M.1.1, f_1), S_1, L_1, P_1) 0 = (1, 8) ∨ zsh ((M.1.1, f_1), S_1, L_1, P_1) 0 = (17, 8)) ∧ (u_ + 4 + 0 ≤ 1076108 ∧ v_ + 24 + 0 ≤ 5861636) ∧ (∃ (n_2 : Nat) (k_2 x_2 : aS), LI n_2 k_2 x_2 ((M.1.1, f_1), S_1, L_1, P_1) ∧ AI x_2 ∧ R32 (sc ((x4 + 1).toNat)) ∧ R32 (sc ((x4 + 2).toNat)) ∧ R32 (sc ((x4 + 3).toNat)) ∧ (∀ (S_2 L_2 : Nat → Nat → Int) (P_2 : Nat → Nat → Option Nat) (f_2 : Nat → Nat × Nat) (v_2 : Int), LI n_2 k_2 (sm16 x_2 (sc ((x4 + 1).toNat)) (sc ((x4 + 2).toNat)) (sc ((x4 + 3).toNat))).2.2 ((((M.1.1, f_1), S_1, L_1, P_1).1.1, f_2), S_2, L_2, P_2) → S_2 0 0 = (sm16 x_2 (sc ((x4 + 1).toNat)) (sc ((x4 + 2).toNat)) (sc ((x4 + 3).toNat))).1 → L_2 51 = L_1 51 → ((sm16 x_2 (sc ((x4 + 1).toNat)) (sc ((x4 + 2).toNat)) (sc ((x4 + 3).toNat))).1 = 0 → nz v_2 = nz (sm16 x_2 (sc ((x4 + 1).toNat)) (sc ((x4 + 2).toNat)) (sc ((x4 + 3).toNat))).2.1) → ((zsh ((M.1.1, f_2), S_2, L_2, P_2) 0 = (1, 8) ∨ zsh ((M.1.1, f_2), S_2, L_2, P_2) 0 = (17, 8)) ∧ (u_ + 4 + 0 + 0 ≤ 1076108 ∧ v_ + 24 + 0 + 0 ≤ 5861636) ∧ (∃ (n_3 : Nat) (k_3 x_3 : aS), LI n_3 k_3 x_3 ((M.1.1, f_2), S_2, L_2, P_2) ∧ R32 (S_2 0 0) ∧ (∀ (S_3 L_3 : Nat → Nat → Int) (P_3 : Nat → Nat → Option Nat) (f_3 : Nat → Nat × Nat), LI n_3 k_3 x_3 ((((M.1.1, f_2), S_2, L_2, P_2).1.1, f_3), S_3, L_3, P_3) → S_3 0 0 = S_2 0 0 → L_3 51 = L_2 51 → (R32 (S_2 0 0) ∧ (R32 ((sm16 x_1 (sc ((x4 + 1).toNat)) (sc ((x4 + 2).toNat)) (sc ((x4 + 3).toNat))).1) ∧ (((S_2 0 0) = ((sm16 x_1 (sc ((x4 + 1).toNat)) (sc ((x4 + 2).toNat)) (sc ((x4 + 3).toNat))).1) → R32 ((sm16 x_1 (sc ((x4 + 1).toNat)) (sc ((x4 + 2).toNat)) (sc ((x4 + 3).toNat))).1) ∧ ((¬ ((sm16 x_1 (sc ((x4 + 1).toNat)) (sc ((x4 + 2).toNat)) (sc ((x4 + 3).toNat))).1) = 0 → zz_Jv Mi (zpL_law n sc) (zz_retP Q X 1076108 5861636) 1766 [some (vr 1500), some (vr 100), some (vr 0), some (vr 51), some (vi x4), none, none, none] [] ((M.1.1, f_3), S_3, L_3, P_3) (u_ + 4 + 0 + 0, v_ + 24 + 0 + 0)) ∧ (((sm16 x_1 (sc ((x4 + 1).toNat)) (sc ((x4 + 2).toNat)) (sc ((x4 + 3).toNat))).1) = 0 → ∃ n_ : Nat, zsh ((M.1.1, f_3), S_3, L_3, P_3) 51 = (3, n_) ∧ (n_ : Int) ≤ 2147483647 ∧ (0 ≤ (0 : Int) ∧ 0 < (n_ : Int)) ∧ (R32 (nz v_2) ∧ (R64 (L_3 51 ((0 : Int).toNat)) ∧ R64 (nz v_2) ∧ (R32 (zcmp (L_3 51 ((0 : Int).toNat)) (nz v_2)) ∧ (((zcmp (L_3 51 ((0 : Int).toNat)) (nz v_2)) = 0 → zz_Jv Mi (zpL_law n sc) (zz_retP Q X 1076108 5861636) 1766 [some (vr 1500), some (vr 100), some (vr 0), some (vr 51), some (vi x4), none, none, none] [] ((M.1.1, f_3), S_3, L_3, P_3) (u_ + 4 + 0 + 0, v_ + 24 + 0 + 0)) ∧ (¬ (zcmp (L_3 51 ((0 : Int).toNat)) (nz v_2)) = 0 → (u_ + 4 + 0 + 0 ≤ 1076108 ∧ v_ + 24 + 0 + 0 ≤ 5861636) ∧ (Q (some (vi 0)) ((M.1.1, f_3), S_3, L_3, P_3)))))))))) ∧ (¬ (S_2 0 0) = ((sm16 x_1 (sc ((x4 + 1).toNat)) (sc ((x4 + 2).toNat)) (sc ((x4 + 3).toNat))).1) → (u_ + 4 + 0 + 0 ≤ 1076108 ∧ v_ + 24 + 0 + 0 ≤ 5861636) ∧ (Q (some (vi 0)) ((M.1.1, f_3), S_3, L_3, P_3))))))))))))))))))))) : zz_Jv Mi (zpL_law n sc) (zz_retP Q X 1076108 5861636) 1074 [some (vr 1500), some (vr 100), some (vr 0), some (vr 51), some (vi x4), none, none, none] [] M (u_, v_) := zz_Jv.go [(23, [5, 6, 7]), (164, [5, 6, 7]), (237, [5, 6, 7]), (262, [5, 6, 7]), (267, [5, 6, 7]), (306, [5, 6, 7]), (350, [5, 6, 7]), (363, [5, 6, 7]), (443, [5, 6, 7]), (511, [5, 6, 7]), (567, [5, 6, 7]), (627, [5, 6, 7]), (675, [5, 6, 7]), (723, [5, 6, 7]), (779, [5, 6, 7]), (847, [5, 6, 7]), (910, [5, 6, 7]), (978, [5, 6, 7]), (1074, [5, 6, 7]), (1154, [5, 6, 7]), (1234, [5, 6, 7]), (1302, [5, 6, 7]), (1394, [5, 6, 7]), (1462, [5, 6, 7]), (1518, [5, 6, 7]), (1637, [5, 6, 7]), (1717, [5, 6, 7]), (1728, [5, 6, 7]), (1732, [5, 6, 7]), (1741, [5, 6, 7]), (1766, [5, 6, 7])] 400 h
theorem zwL_law_1154 {Q : Option zv → zz_M → Prop} {X : Nat → zz_M → Prop} {Mi : mm_M} {n : Nat} {sc : Nat → Int} {M : zz_M} {u_ v_ : Nat} {x4 : Int} (h : (0 ≤ (x4 + 1) ∧ (x4 + 1) < (n : Int)) ∧ ((0 ≤ (x4 + 2) ∧ (x4 + 2) < (n : Int)) ∧ ((0 ≤ (x4 + 3) ∧ (x4 + 3) < (n : Int)) ∧ ((u_ + 4 ≤ 1076108 ∧ v_ + 24 ≤ 5861636) ∧ (∃ (n_1 : Nat) (x_1 m_1 : aS), LI n_1 x_1 m_1 M ∧ AI x_1 ∧ R32 (sc ((x4 + 1).toNat)) ∧ R32 (sc ((x4 + 2).toNat)) ∧ R32 (sc ((x4 + 3).toNat)) ∧ (∀ (S_1 L_1 : Nat → Nat → Int) (P_1 : Nat → Nat → Option Nat) (f_1 : Nat → Nat × Nat), LI n_1 (sm17 x_1 (sc ((x4 + 1).toNat)) (sc ((x4 + 2).toNat)) (sc ((x4 + 3).toNat))).2.2 m_1 ((M.1.1, f_1), S_1, L_1, P_1) → R32 (sm17 x_1 (sc ((x4 + 1).toNat)) (sc ((x4 + 2).toNat)) (sc ((x4 + 3).toNat))).1 → ((sm17 x_1 (sc ((x4 + 1).toNat)) (sc ((x4 + 2).toNat)) (sc ((x4 + 3).toNat))).1 = 0 → L_1 51 0 = nz (sm17 x_1 (sc ((x4 + 1).toNat)) (sc ((x4 + 2).toNat)) (sc ((x4 + 3).toNat))).2.1) → ((0 ≤ (x4 + 1) ∧ (x4 + 1) < (n : Int)) ∧ ((0 ≤ (x4 + 2) ∧ (x4 + 2) < (n : Int)) ∧ ((0 ≤ (x4 + 3) ∧ (x4 + 3) < (n : Int)) ∧ ((zsh ((M.1.1, f_1), S_1, L_1, P_1) 0 = (1, 8) ∨ zsh ((M.1.1, f_1), S_1, L_1, P_1) 0 = (17, 8)) ∧ (u_ + 4 + 0 ≤ 1076108 ∧ v_ + 24 + 0 ≤ 5861636) ∧ (∃ (n_2 : Nat) (k_2 x_2 : aS), LI n_2 k_2 x_2 ((M.1.1, f_1), S_1, L_1, P_1) ∧ AI x_2 ∧ R32 (sc ((x4 + 1).toNat)) ∧ R32 (sc ((x4 + 2).toNat)) ∧ R32 (sc ((x4 + 3).toNat)) ∧ (∀ (S_2 L_2 : Nat → Nat → Int) (P_2 : Nat → Nat → Option Nat) (f_2 : Nat → Nat × Nat) (v_2 : Int), LI n_2 k_2 (sm17 x_2 (sc ((x4 + 1).toNat)) (sc ((x4 + 2).toNat)) (sc ((x4 + 3).toNat))).2.2 ((((M.1.1, f_1), S_1, L_1, P_1).1.1, f_2), S_2, L_2, P_2) → S_2 0 0 = (sm17 x_2 (sc ((x4 + 1).toNat)) (sc ((x4 + 2).toNat)) (sc ((x4 + 3).toNat))).1 → L_2 51 = L_1 51 → ((sm17 x_2 (sc ((x4 + 1).toNat)) (sc ((x4 + 2).toNat)) (sc ((x4 + 3).toNat))).1 = 0 → nz v_2 = nz (sm17 x_2 (sc ((x4 + 1).toNat)) (sc ((x4 + 2).toNat)) (sc ((x4 + 3).toNat))).2.1) → ((zsh ((M.1.1, f_2), S_2, L_2, P_2) 0 = (1, 8) ∨ zsh ((M.1.1, f_2), S_2, L_2, P_2) 0 = (17, 8)) ∧ (u_ + 4 + 0 + 0 ≤ 1076108 ∧ v_ + 24 + 0 + 0 ≤ 5861636) ∧ (∃ (n_3 : Nat) (k_3 x_3 : aS), LI n_3 k_3 x_3 ((M.1.1, f_2), S_2, L_2, P_2) ∧ R32 (S_2 0 0) ∧ (∀ (S_3 L_3 : Nat → Nat → Int) (P_3 : Nat → Nat → Option Nat) (f_3 : Nat → Nat × Nat), LI n_3 k_3 x_3 ((((M.1.1, f_2), S_2, L_2, P_2).1.1, f_3), S_3, L_3, P_3) → S_3 0 0 = S_2 0 0 → L_3 51 = L_2 51 → (R32 (S_2 0 0) ∧ (R32 ((sm17 x_1 (sc ((x4 + 1).toNat)) (sc ((x4 + 2).toNat)) (sc ((x4 + 3).toNat))).1) ∧ (((S_2 0 0) = ((sm17 x_1 (sc ((x4 + 1).toNat)) (sc ((x4 + 2).toNat)) (sc ((x4 + 3).toNat))).1) → R32 ((sm17 x_1 (sc ((x4 + 1).toNat)) (sc ((x4 + 2).toNat)) (sc ((x4 + 3).toNat))).1) ∧ ((¬ ((sm17 x_1 (sc ((x4 + 1).toNat)) (sc ((x4 + 2).toNat)) (sc ((x4 + 3).toNat))).1) = 0 → zz_Jv Mi (zpL_law n sc) (zz_retP Q X 1076108 5861636) 1766 [some (vr 1500), some (vr 100), some (vr 0), some (vr 51), some (vi x4), none, none, none] [] ((M.1.1, f_3), S_3, L_3, P_3) (u_ + 4 + 0 + 0, v_ + 24 + 0 + 0)) ∧ (((sm17 x_1 (sc ((x4 + 1).toNat)) (sc ((x4 + 2).toNat)) (sc ((x4 + 3).toNat))).1) = 0 → ∃ n_ : Nat, zsh ((M.1.1, f_3), S_3, L_3, P_3) 51 = (3, n_) ∧ (n_ : Int) ≤ 2147483647 ∧ (0 ≤ (0 : Int) ∧ 0 < (n_ : Int)) ∧ (R32 (nz v_2) ∧ (R64 (L_3 51 ((0 : Int).toNat)) ∧ R64 (nz v_2) ∧ (R32 (zcmp (L_3 51 ((0 : Int).toNat)) (nz v_2)) ∧ (((zcmp (L_3 51 ((0 : Int).toNat)) (nz v_2)) = 0 → zz_Jv Mi (zpL_law n sc) (zz_retP Q X 1076108 5861636) 1766 [some (vr 1500), some (vr 100), some (vr 0), some (vr 51), some (vi x4), none, none, none] [] ((M.1.1, f_3), S_3, L_3, P_3) (u_ + 4 + 0 + 0, v_ + 24 + 0 + 0)) ∧ (¬ (zcmp (L_3 51 ((0 : Int).toNat)) (nz v_2)) = 0 → (u_ + 4 + 0 + 0 ≤ 1076108 ∧ v_ + 24 + 0 + 0 ≤ 5861636) ∧ (Q (some (vi 0)) ((M.1.1, f_3), S_3, L_3, P_3)))))))))) ∧ (¬ (S_2 0 0) = ((sm17 x_1 (sc ((x4 + 1).toNat)) (sc ((x4 + 2).toNat)) (sc ((x4 + 3).toNat))).1) → (u_ + 4 + 0 + 0 ≤ 1076108 ∧ v_ + 24 + 0 + 0 ≤ 5861636) ∧ (Q (some (vi 0)) ((M.1.1, f_3), S_3, L_3, P_3))))))))))))))))))))) : zz_Jv Mi (zpL_law n sc) (zz_retP Q X 1076108 5861636) 1154 [some (vr 1500), some (vr 100), some (vr 0), some (vr 51), some (vi x4), none, none, none] [] M (u_, v_) := zz_Jv.go [(23, [5, 6, 7]), (164, [5, 6, 7]), (237, [5, 6, 7]), (262, [5, 6, 7]), (267, [5, 6, 7]), (306, [5, 6, 7]), (350, [5, 6, 7]), (363, [5, 6, 7]), (443, [5, 6, 7]), (511, [5, 6, 7]), (567, [5, 6, 7]), (627, [5, 6, 7]), (675, [5, 6, 7]), (723, [5, 6, 7]), (779, [5, 6, 7]), (847, [5, 6, 7]), (910, [5, 6, 7]), (978, [5, 6, 7]), (1074, [5, 6, 7]), (1154, [5, 6, 7]), (1234, [5, 6, 7]), (1302, [5, 6, 7]), (1394, [5, 6, 7]), (1462, [5, 6, 7]), (1518, [5, 6, 7]), (1637, [5, 6, 7]), (1717, [5, 6, 7]), (1728, [5, 6, 7]), (1732, [5, 6, 7]), (1741, [5, 6, 7]), (1766, [5, 6, 7])] 400 h
theorem zwL_law_1234 {Q : Option zv → zz_M → Prop} {X : Nat → zz_M → Prop} {Mi : mm_M} {n : Nat} {sc : Nat → Int} {M : zz_M} {u_ v_ : Nat} {x4 : Int} (h : (0 ≤ (x4 + 1) ∧ (x4 + 1) < (n : Int)) ∧ ((0 ≤ (x4 + 2) ∧ (x4 + 2) < (n : Int)) ∧ ((u_ + 3 ≤ 1076108 ∧ v_ + 18 ≤ 5861636) ∧ (∃ (n_1 : Nat) (x_1 m_1 : aS), LI n_1 x_1 m_1 M ∧ AI x_1 ∧ R32 (sc ((x4 + 1).toNat)) ∧ R32 (sc ((x4 + 2).toNat)) ∧ (∀ (S_1 L_1 : Nat → Nat → Int) (P_1 : Nat → Nat → Option Nat) (f_1 : Nat → Nat × Nat), LI n_1 (sm18 x_1 (sc ((x4 + 1).toNat)) (sc ((x4 + 2).toNat))).2.2 m_1 ((M.1.1, f_1), S_1, L_1, P_1) → R32 (sm18 x_1 (sc ((x4 + 1).toNat)) (sc ((x4 + 2).toNat))).1 → ((sm18 x_1 (sc ((x4 + 1).toNat)) (sc ((x4 + 2).toNat))).1 = 0 → L_1 51 0 = nz (sm18 x_1 (sc ((x4 + 1).toNat)) (sc ((x4 + 2).toNat))).2.1) → ((0 ≤ (x4 + 1) ∧ (x4 + 1) < (n : Int)) ∧ ((0 ≤ (x4 + 2) ∧ (x4 + 2) < (n : Int)) ∧ ((zsh ((M.1.1, f_1), S_1, L_1, P_1) 0 = (1, 8) ∨ zsh ((M.1.1, f_1), S_1, L_1, P_1) 0 = (17, 8)) ∧ (u_ + 3 + 0 ≤ 1076108 ∧ v_ + 18 + 0 ≤ 5861636) ∧ (∃ (n_2 : Nat) (k_2 x_2 : aS), LI n_2 k_2 x_2 ((M.1.1, f_1), S_1, L_1, P_1) ∧ AI x_2 ∧ R32 (sc ((x4 + 1).toNat)) ∧ R32 (sc ((x4 + 2).toNat)) ∧ (∀ (S_2 L_2 : Nat → Nat → Int) (P_2 : Nat → Nat → Option Nat) (f_2 : Nat → Nat × Nat) (v_2 : Int), LI n_2 k_2 (sm18 x_2 (sc ((x4 + 1).toNat)) (sc ((x4 + 2).toNat))).2.2 ((((M.1.1, f_1), S_1, L_1, P_1).1.1, f_2), S_2, L_2, P_2) → S_2 0 0 = (sm18 x_2 (sc ((x4 + 1).toNat)) (sc ((x4 + 2).toNat))).1 → L_2 51 = L_1 51 → ((sm18 x_2 (sc ((x4 + 1).toNat)) (sc ((x4 + 2).toNat))).1 = 0 → nz v_2 = nz (sm18 x_2 (sc ((x4 + 1).toNat)) (sc ((x4 + 2).toNat))).2.1) → ((zsh ((M.1.1, f_2), S_2, L_2, P_2) 0 = (1, 8) ∨ zsh ((M.1.1, f_2), S_2, L_2, P_2) 0 = (17, 8)) ∧ (u_ + 3 + 0 + 0 ≤ 1076108 ∧ v_ + 18 + 0 + 0 ≤ 5861636) ∧ (∃ (n_3 : Nat) (k_3 x_3 : aS), LI n_3 k_3 x_3 ((M.1.1, f_2), S_2, L_2, P_2) ∧ R32 (S_2 0 0) ∧ (∀ (S_3 L_3 : Nat → Nat → Int) (P_3 : Nat → Nat → Option Nat) (f_3 : Nat → Nat × Nat), LI n_3 k_3 x_3 ((((M.1.1, f_2), S_2, L_2, P_2).1.1, f_3), S_3, L_3, P_3) → S_3 0 0 = S_2 0 0 → L_3 51 = L_2 51 → (R32 (S_2 0 0) ∧ (R32 ((sm18 x_1 (sc ((x4 + 1).toNat)) (sc ((x4 + 2).toNat))).1) ∧ (((S_2 0 0) = ((sm18 x_1 (sc ((x4 + 1).toNat)) (sc ((x4 + 2).toNat))).1) → R32 ((sm18 x_1 (sc ((x4 + 1).toNat)) (sc ((x4 + 2).toNat))).1) ∧ ((¬ ((sm18 x_1 (sc ((x4 + 1).toNat)) (sc ((x4 + 2).toNat))).1) = 0 → zz_Jv Mi (zpL_law n sc) (zz_retP Q X 1076108 5861636) 1766 [some (vr 1500), some (vr 100), some (vr 0), some (vr 51), some (vi x4), none, none, none] [] ((M.1.1, f_3), S_3, L_3, P_3) (u_ + 3 + 0 + 0, v_ + 18 + 0 + 0)) ∧ (((sm18 x_1 (sc ((x4 + 1).toNat)) (sc ((x4 + 2).toNat))).1) = 0 → ∃ n_ : Nat, zsh ((M.1.1, f_3), S_3, L_3, P_3) 51 = (3, n_) ∧ (n_ : Int) ≤ 2147483647 ∧ (0 ≤ (0 : Int) ∧ 0 < (n_ : Int)) ∧ (R32 (nz v_2) ∧ (R64 (L_3 51 ((0 : Int).toNat)) ∧ R64 (nz v_2) ∧ (R32 (zcmp (L_3 51 ((0 : Int).toNat)) (nz v_2)) ∧ (((zcmp (L_3 51 ((0 : Int).toNat)) (nz v_2)) = 0 → zz_Jv Mi (zpL_law n sc) (zz_retP Q X 1076108 5861636) 1766 [some (vr 1500), some (vr 100), some (vr 0), some (vr 51), some (vi x4), none, none, none] [] ((M.1.1, f_3), S_3, L_3, P_3) (u_ + 3 + 0 + 0, v_ + 18 + 0 + 0)) ∧ (¬ (zcmp (L_3 51 ((0 : Int).toNat)) (nz v_2)) = 0 → (u_ + 3 + 0 + 0 ≤ 1076108 ∧ v_ + 18 + 0 + 0 ≤ 5861636) ∧ (Q (some (vi 0)) ((M.1.1, f_3), S_3, L_3, P_3)))))))))) ∧ (¬ (S_2 0 0) = ((sm18 x_1 (sc ((x4 + 1).toNat)) (sc ((x4 + 2).toNat))).1) → (u_ + 3 + 0 + 0 ≤ 1076108 ∧ v_ + 18 + 0 + 0 ≤ 5861636) ∧ (Q (some (vi 0)) ((M.1.1, f_3), S_3, L_3, P_3))))))))))))))))))) : zz_Jv Mi (zpL_law n sc) (zz_retP Q X 1076108 5861636) 1234 [some (vr 1500), some (vr 100), some (vr 0), some (vr 51), some (vi x4), none, none, none] [] M (u_, v_) := zz_Jv.go [(23, [5, 6, 7]), (164, [5, 6, 7]), (237, [5, 6, 7]), (262, [5, 6, 7]), (267, [5, 6, 7]), (306, [5, 6, 7]), (350, [5, 6, 7]), (363, [5, 6, 7]), (443, [5, 6, 7]), (511, [5, 6, 7]), (567, [5, 6, 7]), (627, [5, 6, 7]), (675, [5, 6, 7]), (723, [5, 6, 7]), (779, [5, 6, 7]), (847, [5, 6, 7]), (910, [5, 6, 7]), (978, [5, 6, 7]), (1074, [5, 6, 7]), (1154, [5, 6, 7]), (1234, [5, 6, 7]), (1302, [5, 6, 7]), (1394, [5, 6, 7]), (1462, [5, 6, 7]), (1518, [5, 6, 7]), (1637, [5, 6, 7]), (1717, [5, 6, 7]), (1728, [5, 6, 7]), (1732, [5, 6, 7]), (1741, [5, 6, 7]), (1766, [5, 6, 7])] 400 h
theorem zwL_law_1302 {Q : Option zv → zz_M → Prop} {X : Nat → zz_M → Prop} {Mi : mm_M} {n : Nat} {sc : Nat → Int} {M : zz_M} {u_ v_ : Nat} {x4 : Int} (h : (0 ≤ (x4 + 1) ∧ (x4 + 1) < (n : Int)) ∧ ((0 ≤ (x4 + 2) ∧ (x4 + 2) < (n : Int)) ∧ ((0 ≤ (x4 + 3) ∧ (x4 + 3) < (n : Int)) ∧ ((0 ≤ (x4 + 4) ∧ (x4 + 4) < (n : Int)) ∧ ((u_ + 4 ≤ 1076108 ∧ v_ + 24 ≤ 5861636) ∧ (∃ (n_1 : Nat) (x_1 m_1 : aS), LI n_1 x_1 m_1 M ∧ AI x_1 ∧ R32 (sc ((x4 + 1).toNat)) ∧ R32 (sc ((x4 + 2).toNat)) ∧ R32 (sc ((x4 + 3).toNat)) ∧ R32 (sc ((x4 + 4).toNat)) ∧ (∀ (S_1 L_1 : Nat → Nat → Int) (P_1 : Nat → Nat → Option Nat) (f_1 : Nat → Nat × Nat), LI n_1 (sm19 x_1 (sc ((x4 + 1).toNat)) (sc ((x4 + 2).toNat)) (sc ((x4 + 3).toNat)) (sc ((x4 + 4).toNat))).2.2 m_1 ((M.1.1, f_1), S_1, L_1, P_1) → R32 (sm19 x_1 (sc ((x4 + 1).toNat)) (sc ((x4 + 2).toNat)) (sc ((x4 + 3).toNat)) (sc ((x4 + 4).toNat))).1 → ((sm19 x_1 (sc ((x4 + 1).toNat)) (sc ((x4 + 2).toNat)) (sc ((x4 + 3).toNat)) (sc ((x4 + 4).toNat))).1 = 0 → L_1 51 0 = nz (sm19 x_1 (sc ((x4 + 1).toNat)) (sc ((x4 + 2).toNat)) (sc ((x4 + 3).toNat)) (sc ((x4 + 4).toNat))).2.1) → ((0 ≤ (x4 + 1) ∧ (x4 + 1) < (n : Int)) ∧ ((0 ≤ (x4 + 2) ∧ (x4 + 2) < (n : Int)) ∧ ((0 ≤ (x4 + 3) ∧ (x4 + 3) < (n : Int)) ∧ ((0 ≤ (x4 + 4) ∧ (x4 + 4) < (n : Int)) ∧ ((zsh ((M.1.1, f_1), S_1, L_1, P_1) 0 = (1, 8) ∨ zsh ((M.1.1, f_1), S_1, L_1, P_1) 0 = (17, 8)) ∧ (u_ + 4 + 0 ≤ 1076108 ∧ v_ + 24 + 0 ≤ 5861636) ∧ (∃ (n_2 : Nat) (k_2 x_2 : aS), LI n_2 k_2 x_2 ((M.1.1, f_1), S_1, L_1, P_1) ∧ AI x_2 ∧ R32 (sc ((x4 + 1).toNat)) ∧ R32 (sc ((x4 + 2).toNat)) ∧ R32 (sc ((x4 + 3).toNat)) ∧ R32 (sc ((x4 + 4).toNat)) ∧ (∀ (S_2 L_2 : Nat → Nat → Int) (P_2 : Nat → Nat → Option Nat) (f_2 : Nat → Nat × Nat) (v_2 : Int), LI n_2 k_2 (sm19 x_2 (sc ((x4 + 1).toNat)) (sc ((x4 + 2).toNat)) (sc ((x4 + 3).toNat)) (sc ((x4 + 4).toNat))).2.2 ((((M.1.1, f_1), S_1, L_1, P_1).1.1, f_2), S_2, L_2, P_2) → S_2 0 0 = (sm19 x_2 (sc ((x4 + 1).toNat)) (sc ((x4 + 2).toNat)) (sc ((x4 + 3).toNat)) (sc ((x4 + 4).toNat))).1 → L_2 51 = L_1 51 → ((sm19 x_2 (sc ((x4 + 1).toNat)) (sc ((x4 + 2).toNat)) (sc ((x4 + 3).toNat)) (sc ((x4 + 4).toNat))).1 = 0 → nz v_2 = nz (sm19 x_2 (sc ((x4 + 1).toNat)) (sc ((x4 + 2).toNat)) (sc ((x4 + 3).toNat)) (sc ((x4 + 4).toNat))).2.1) → ((zsh ((M.1.1, f_2), S_2, L_2, P_2) 0 = (1, 8) ∨ zsh ((M.1.1, f_2), S_2, L_2, P_2) 0 = (17, 8)) ∧ (u_ + 4 + 0 + 0 ≤ 1076108 ∧ v_ + 24 + 0 + 0 ≤ 5861636) ∧ (∃ (n_3 : Nat) (k_3 x_3 : aS), LI n_3 k_3 x_3 ((M.1.1, f_2), S_2, L_2, P_2) ∧ R32 (S_2 0 0) ∧ (∀ (S_3 L_3 : Nat → Nat → Int) (P_3 : Nat → Nat → Option Nat) (f_3 : Nat → Nat × Nat), LI n_3 k_3 x_3 ((((M.1.1, f_2), S_2, L_2, P_2).1.1, f_3), S_3, L_3, P_3) → S_3 0 0 = S_2 0 0 → L_3 51 = L_2 51 → (R32 (S_2 0 0) ∧ (R32 ((sm19 x_1 (sc ((x4 + 1).toNat)) (sc ((x4 + 2).toNat)) (sc ((x4 + 3).toNat)) (sc ((x4 + 4).toNat))).1) ∧ (((S_2 0 0) = ((sm19 x_1 (sc ((x4 + 1).toNat)) (sc ((x4 + 2).toNat)) (sc ((x4 + 3).toNat)) (sc ((x4 + 4).toNat))).1) → R32 ((sm19 x_1 (sc ((x4 + 1).toNat)) (sc ((x4 + 2).toNat)) (sc ((x4 + 3).toNat)) (sc ((x4 + 4).toNat))).1) ∧ ((¬ ((sm19 x_1 (sc ((x4 + 1).toNat)) (sc ((x4 + 2).toNat)) (sc ((x4 + 3).toNat)) (sc ((x4 + 4).toNat))).1) = 0 → zz_Jv Mi (zpL_law n sc) (zz_retP Q X 1076108 5861636) 1766 [some (vr 1500), some (vr 100), some (vr 0), some (vr 51), some (vi x4), none, none, none] [] ((M.1.1, f_3), S_3, L_3, P_3) (u_ + 4 + 0 + 0, v_ + 24 + 0 + 0)) ∧ (((sm19 x_1 (sc ((x4 + 1).toNat)) (sc ((x4 + 2).toNat)) (sc ((x4 + 3).toNat)) (sc ((x4 + 4).toNat))).1) = 0 → ∃ n_ : Nat, zsh ((M.1.1, f_3), S_3, L_3, P_3) 51 = (3, n_) ∧ (n_ : Int) ≤ 2147483647 ∧ (0 ≤ (0 : Int) ∧ 0 < (n_ : Int)) ∧ (R32 (nz v_2) ∧ (R64 (L_3 51 ((0 : Int).toNat)) ∧ R64 (nz v_2) ∧ (R32 (zcmp (L_3 51 ((0 : Int).toNat)) (nz v_2)) ∧ (((zcmp (L_3 51 ((0 : Int).toNat)) (nz v_2)) = 0 → zz_Jv Mi (zpL_law n sc) (zz_retP Q X 1076108 5861636) 1766 [some (vr 1500), some (vr 100), some (vr 0), some (vr 51), some (vi x4), none, none, none] [] ((M.1.1, f_3), S_3, L_3, P_3) (u_ + 4 + 0 + 0, v_ + 24 + 0 + 0)) ∧ (¬ (zcmp (L_3 51 ((0 : Int).toNat)) (nz v_2)) = 0 → (u_ + 4 + 0 + 0 ≤ 1076108 ∧ v_ + 24 + 0 + 0 ≤ 5861636) ∧ (Q (some (vi 0)) ((M.1.1, f_3), S_3, L_3, P_3)))))))))) ∧ (¬ (S_2 0 0) = ((sm19 x_1 (sc ((x4 + 1).toNat)) (sc ((x4 + 2).toNat)) (sc ((x4 + 3).toNat)) (sc ((x4 + 4).toNat))).1) → (u_ + 4 + 0 + 0 ≤ 1076108 ∧ v_ + 24 + 0 + 0 ≤ 5861636) ∧ (Q (some (vi 0)) ((M.1.1, f_3), S_3, L_3, P_3))))))))))))))))))))))) : zz_Jv Mi (zpL_law n sc) (zz_retP Q X 1076108 5861636) 1302 [some (vr 1500), some (vr 100), some (vr 0), some (vr 51), some (vi x4), none, none, none] [] M (u_, v_) := zz_Jv.go [(23, [5, 6, 7]), (164, [5, 6, 7]), (237, [5, 6, 7]), (262, [5, 6, 7]), (267, [5, 6, 7]), (306, [5, 6, 7]), (350, [5, 6, 7]), (363, [5, 6, 7]), (443, [5, 6, 7]), (511, [5, 6, 7]), (567, [5, 6, 7]), (627, [5, 6, 7]), (675, [5, 6, 7]), (723, [5, 6, 7]), (779, [5, 6, 7]), (847, [5, 6, 7]), (910, [5, 6, 7]), (978, [5, 6, 7]), (1074, [5, 6, 7]), (1154, [5, 6, 7]), (1234, [5, 6, 7]), (1302, [5, 6, 7]), (1394, [5, 6, 7]), (1462, [5, 6, 7]), (1518, [5, 6, 7]), (1637, [5, 6, 7]), (1717, [5, 6, 7]), (1728, [5, 6, 7]), (1732, [5, 6, 7]), (1741, [5, 6, 7]), (1766, [5, 6, 7])] 400 h
theorem zwL_law_1394 {Q : Option zv → zz_M → Prop} {X : Nat → zz_M → Prop} {Mi : mm_M} {n : Nat} {sc : Nat → Int} {M : zz_M} {u_ v_ : Nat} {x4 : Int} (h : (0 ≤ (x4 + 1) ∧ (x4 + 1) < (n : Int)) ∧ ((0 ≤ (x4 + 2) ∧ (x4 + 2) < (n : Int)) ∧ ((u_ + 2 ≤ 1076108 ∧ v_ + 12 ≤ 5861636) ∧ (∃ (n_1 : Nat) (x_1 m_1 : aS), LI n_1 x_1 m_1 M ∧ AI x_1 ∧ R32 (sc ((x4 + 1).toNat)) ∧ R32 (sc ((x4 + 2).toNat)) ∧ (∀ (S_1 L_1 : Nat → Nat → Int) (P_1 : Nat → Nat → Option Nat) (f_1 : Nat → Nat × Nat), LI n_1 (sm20 x_1 (sc ((x4 + 1).toNat)) (sc ((x4 + 2).toNat))).2.2 m_1 ((M.1.1, f_1), S_1, L_1, P_1) → R32 (sm20 x_1 (sc ((x4 + 1).toNat)) (sc ((x4 + 2).toNat))).1 → ((sm20 x_1 (sc ((x4 + 1).toNat)) (sc ((x4 + 2).toNat))).1 = 0 → L_1 51 0 = nz (sm20 x_1 (sc ((x4 + 1).toNat)) (sc ((x4 + 2).toNat))).2.1) → ((0 ≤ (x4 + 1) ∧ (x4 + 1) < (n : Int)) ∧ ((0 ≤ (x4 + 2) ∧ (x4 + 2) < (n : Int)) ∧ ((zsh ((M.1.1, f_1), S_1, L_1, P_1) 0 = (1, 8) ∨ zsh ((M.1.1, f_1), S_1, L_1, P_1) 0 = (17, 8)) ∧ (u_ + 2 + 0 ≤ 1076108 ∧ v_ + 12 + 0 ≤ 5861636) ∧ (∃ (n_2 : Nat) (k_2 x_2 : aS), LI n_2 k_2 x_2 ((M.1.1, f_1), S_1, L_1, P_1) ∧ AI x_2 ∧ R32 (sc ((x4 + 1).toNat)) ∧ R32 (sc ((x4 + 2).toNat)) ∧ (∀ (S_2 L_2 : Nat → Nat → Int) (P_2 : Nat → Nat → Option Nat) (f_2 : Nat → Nat × Nat) (v_2 : Int), LI n_2 k_2 (sm20 x_2 (sc ((x4 + 1).toNat)) (sc ((x4 + 2).toNat))).2.2 ((((M.1.1, f_1), S_1, L_1, P_1).1.1, f_2), S_2, L_2, P_2) → S_2 0 0 = (sm20 x_2 (sc ((x4 + 1).toNat)) (sc ((x4 + 2).toNat))).1 → L_2 51 = L_1 51 → ((sm20 x_2 (sc ((x4 + 1).toNat)) (sc ((x4 + 2).toNat))).1 = 0 → nz v_2 = nz (sm20 x_2 (sc ((x4 + 1).toNat)) (sc ((x4 + 2).toNat))).2.1) → ((zsh ((M.1.1, f_2), S_2, L_2, P_2) 0 = (1, 8) ∨ zsh ((M.1.1, f_2), S_2, L_2, P_2) 0 = (17, 8)) ∧ (u_ + 2 + 0 + 0 ≤ 1076108 ∧ v_ + 12 + 0 + 0 ≤ 5861636) ∧ (∃ (n_3 : Nat) (k_3 x_3 : aS), LI n_3 k_3 x_3 ((M.1.1, f_2), S_2, L_2, P_2) ∧ R32 (S_2 0 0) ∧ (∀ (S_3 L_3 : Nat → Nat → Int) (P_3 : Nat → Nat → Option Nat) (f_3 : Nat → Nat × Nat), LI n_3 k_3 x_3 ((((M.1.1, f_2), S_2, L_2, P_2).1.1, f_3), S_3, L_3, P_3) → S_3 0 0 = S_2 0 0 → L_3 51 = L_2 51 → (R32 (S_2 0 0) ∧ (R32 ((sm20 x_1 (sc ((x4 + 1).toNat)) (sc ((x4 + 2).toNat))).1) ∧ (((S_2 0 0) = ((sm20 x_1 (sc ((x4 + 1).toNat)) (sc ((x4 + 2).toNat))).1) → R32 ((sm20 x_1 (sc ((x4 + 1).toNat)) (sc ((x4 + 2).toNat))).1) ∧ ((¬ ((sm20 x_1 (sc ((x4 + 1).toNat)) (sc ((x4 + 2).toNat))).1) = 0 → zz_Jv Mi (zpL_law n sc) (zz_retP Q X 1076108 5861636) 1766 [some (vr 1500), some (vr 100), some (vr 0), some (vr 51), some (vi x4), none, none, none] [] ((M.1.1, f_3), S_3, L_3, P_3) (u_ + 2 + 0 + 0, v_ + 12 + 0 + 0)) ∧ (((sm20 x_1 (sc ((x4 + 1).toNat)) (sc ((x4 + 2).toNat))).1) = 0 → ∃ n_ : Nat, zsh ((M.1.1, f_3), S_3, L_3, P_3) 51 = (3, n_) ∧ (n_ : Int) ≤ 2147483647 ∧ (0 ≤ (0 : Int) ∧ 0 < (n_ : Int)) ∧ (R32 (nz v_2) ∧ (R64 (L_3 51 ((0 : Int).toNat)) ∧ R64 (nz v_2) ∧ (R32 (zcmp (L_3 51 ((0 : Int).toNat)) (nz v_2)) ∧ (((zcmp (L_3 51 ((0 : Int).toNat)) (nz v_2)) = 0 → zz_Jv Mi (zpL_law n sc) (zz_retP Q X 1076108 5861636) 1766 [some (vr 1500), some (vr 100), some (vr 0), some (vr 51), some (vi x4), none, none, none] [] ((M.1.1, f_3), S_3, L_3, P_3) (u_ + 2 + 0 + 0, v_ + 12 + 0 + 0)) ∧ (¬ (zcmp (L_3 51 ((0 : Int).toNat)) (nz v_2)) = 0 → (u_ + 2 + 0 + 0 ≤ 1076108 ∧ v_ + 12 + 0 + 0 ≤ 5861636) ∧ (Q (some (vi 0)) ((M.1.1, f_3), S_3, L_3, P_3)))))))))) ∧ (¬ (S_2 0 0) = ((sm20 x_1 (sc ((x4 + 1).toNat)) (sc ((x4 + 2).toNat))).1) → (u_ + 2 + 0 + 0 ≤ 1076108 ∧ v_ + 12 + 0 + 0 ≤ 5861636) ∧ (Q (some (vi 0)) ((M.1.1, f_3), S_3, L_3, P_3))))))))))))))))))) : zz_Jv Mi (zpL_law n sc) (zz_retP Q X 1076108 5861636) 1394 [some (vr 1500), some (vr 100), some (vr 0), some (vr 51), some (vi x4), none, none, none] [] M (u_, v_) := zz_Jv.go [(23, [5, 6, 7]), (164, [5, 6, 7]), (237, [5, 6, 7]), (262, [5, 6, 7]), (267, [5, 6, 7]), (306, [5, 6, 7]), (350, [5, 6, 7]), (363, [5, 6, 7]), (443, [5, 6, 7]), (511, [5, 6, 7]), (567, [5, 6, 7]), (627, [5, 6, 7]), (675, [5, 6, 7]), (723, [5, 6, 7]), (779, [5, 6, 7]), (847, [5, 6, 7]), (910, [5, 6, 7]), (978, [5, 6, 7]), (1074, [5, 6, 7]), (1154, [5, 6, 7]), (1234, [5, 6, 7]), (1302, [5, 6, 7]), (1394, [5, 6, 7]), (1462, [5, 6, 7]), (1518, [5, 6, 7]), (1637, [5, 6, 7]), (1717, [5, 6, 7]), (1728, [5, 6, 7]), (1732, [5, 6, 7]), (1741, [5, 6, 7]), (1766, [5, 6, 7])] 400 h
theorem zwL_law_1462 {Q : Option zv → zz_M → Prop} {X : Nat → zz_M → Prop} {Mi : mm_M} {n : Nat} {sc : Nat → Int} {M : zz_M} {u_ v_ : Nat} {x4 : Int} (h : (0 ≤ (x4 + 1) ∧ (x4 + 1) < (n : Int)) ∧ ((u_ + 2 ≤ 1076108 ∧ v_ + 12 ≤ 5861636) ∧ (∃ (n_1 : Nat) (x_1 m_1 : aS), LI n_1 x_1 m_1 M ∧ AI x_1 ∧ R32 (sc ((x4 + 1).toNat)) ∧ (∀ (S_1 L_1 : Nat → Nat → Int) (P_1 : Nat → Nat → Option Nat) (f_1 : Nat → Nat × Nat), LI n_1 (sm21 x_1 (sc ((x4 + 1).toNat))).2.2 m_1 ((M.1.1, f_1), S_1, L_1, P_1) → R32 (sm21 x_1 (sc ((x4 + 1).toNat))).1 → ((sm21 x_1 (sc ((x4 + 1).toNat))).1 = 0 → L_1 51 0 = nz (sm21 x_1 (sc ((x4 + 1).toNat))).2.1) → ((0 ≤ (x4 + 1) ∧ (x4 + 1) < (n : Int)) ∧ ((zsh ((M.1.1, f_1), S_1, L_1, P_1) 0 = (1, 8) ∨ zsh ((M.1.1, f_1), S_1, L_1, P_1) 0 = (17, 8)) ∧ (u_ + 2 + 0 ≤ 1076108 ∧ v_ + 12 + 0 ≤ 5861636) ∧ (∃ (n_2 : Nat) (k_2 x_2 : aS), LI n_2 k_2 x_2 ((M.1.1, f_1), S_1, L_1, P_1) ∧ AI x_2 ∧ R32 (sc ((x4 + 1).toNat)) ∧ (∀ (S_2 L_2 : Nat → Nat → Int) (P_2 : Nat → Nat → Option Nat) (f_2 : Nat → Nat × Nat) (v_2 : Int), LI n_2 k_2 (sm21 x_2 (sc ((x4 + 1).toNat))).2.2 ((((M.1.1, f_1), S_1, L_1, P_1).1.1, f_2), S_2, L_2, P_2) → S_2 0 0 = (sm21 x_2 (sc ((x4 + 1).toNat))).1 → L_2 51 = L_1 51 → ((sm21 x_2 (sc ((x4 + 1).toNat))).1 = 0 → nz v_2 = nz (sm21 x_2 (sc ((x4 + 1).toNat))).2.1) → ((zsh ((M.1.1, f_2), S_2, L_2, P_2) 0 = (1, 8) ∨ zsh ((M.1.1, f_2), S_2, L_2, P_2) 0 = (17, 8)) ∧ (u_ + 2 + 0 + 0 ≤ 1076108 ∧ v_ + 12 + 0 + 0 ≤ 5861636) ∧ (∃ (n_3 : Nat) (k_3 x_3 : aS), LI n_3 k_3 x_3 ((M.1.1, f_2), S_2, L_2, P_2) ∧ R32 (S_2 0 0) ∧ (∀ (S_3 L_3 : Nat → Nat → Int) (P_3 : Nat → Nat → Option Nat) (f_3 : Nat → Nat × Nat), LI n_3 k_3 x_3 ((((M.1.1, f_2), S_2, L_2, P_2).1.1, f_3), S_3, L_3, P_3) → S_3 0 0 = S_2 0 0 → L_3 51 = L_2 51 → (R32 (S_2 0 0) ∧ (R32 ((sm21 x_1 (sc ((x4 + 1).toNat))).1) ∧ (((S_2 0 0) = ((sm21 x_1 (sc ((x4 + 1).toNat))).1) → R32 ((sm21 x_1 (sc ((x4 + 1).toNat))).1) ∧ ((¬ ((sm21 x_1 (sc ((x4 + 1).toNat))).1) = 0 → zz_Jv Mi (zpL_law n sc) (zz_retP Q X 1076108 5861636) 1766 [some (vr 1500), some (vr 100), some (vr 0), some (vr 51), some (vi x4), none, none, none] [] ((M.1.1, f_3), S_3, L_3, P_3) (u_ + 2 + 0 + 0, v_ + 12 + 0 + 0)) ∧ (((sm21 x_1 (sc ((x4 + 1).toNat))).1) = 0 → ∃ n_ : Nat, zsh ((M.1.1, f_3), S_3, L_3, P_3) 51 = (3, n_) ∧ (n_ : Int) ≤ 2147483647 ∧ (0 ≤ (0 : Int) ∧ 0 < (n_ : Int)) ∧ (R32 (nz v_2) ∧ (R64 (L_3 51 ((0 : Int).toNat)) ∧ R64 (nz v_2) ∧ (R32 (zcmp (L_3 51 ((0 : Int).toNat)) (nz v_2)) ∧ (((zcmp (L_3 51 ((0 : Int).toNat)) (nz v_2)) = 0 → zz_Jv Mi (zpL_law n sc) (zz_retP Q X 1076108 5861636) 1766 [some (vr 1500), some (vr 100), some (vr 0), some (vr 51), some (vi x4), none, none, none] [] ((M.1.1, f_3), S_3, L_3, P_3) (u_ + 2 + 0 + 0, v_ + 12 + 0 + 0)) ∧ (¬ (zcmp (L_3 51 ((0 : Int).toNat)) (nz v_2)) = 0 → (u_ + 2 + 0 + 0 ≤ 1076108 ∧ v_ + 12 + 0 + 0 ≤ 5861636) ∧ (Q (some (vi 0)) ((M.1.1, f_3), S_3, L_3, P_3)))))))))) ∧ (¬ (S_2 0 0) = ((sm21 x_1 (sc ((x4 + 1).toNat))).1) → (u_ + 2 + 0 + 0 ≤ 1076108 ∧ v_ + 12 + 0 + 0 ≤ 5861636) ∧ (Q (some (vi 0)) ((M.1.1, f_3), S_3, L_3, P_3))))))))))))))))) : zz_Jv Mi (zpL_law n sc) (zz_retP Q X 1076108 5861636) 1462 [some (vr 1500), some (vr 100), some (vr 0), some (vr 51), some (vi x4), none, none, none] [] M (u_, v_) := zz_Jv.go [(23, [5, 6, 7]), (164, [5, 6, 7]), (237, [5, 6, 7]), (262, [5, 6, 7]), (267, [5, 6, 7]), (306, [5, 6, 7]), (350, [5, 6, 7]), (363, [5, 6, 7]), (443, [5, 6, 7]), (511, [5, 6, 7]), (567, [5, 6, 7]), (627, [5, 6, 7]), (675, [5, 6, 7]), (723, [5, 6, 7]), (779, [5, 6, 7]), (847, [5, 6, 7]), (910, [5, 6, 7]), (978, [5, 6, 7]), (1074, [5, 6, 7]), (1154, [5, 6, 7]), (1234, [5, 6, 7]), (1302, [5, 6, 7]), (1394, [5, 6, 7]), (1462, [5, 6, 7]), (1518, [5, 6, 7]), (1637, [5, 6, 7]), (1717, [5, 6, 7]), (1728, [5, 6, 7]), (1732, [5, 6, 7]), (1741, [5, 6, 7]), (1766, [5, 6, 7])] 400 h
theorem zwL_law_1518 {Q : Option zv → zz_M → Prop} {X : Nat → zz_M → Prop} {Mi : mm_M} {n : Nat} {sc : Nat → Int} {M : zz_M} {u_ v_ : Nat} {x4 : Int} (h : (0 ≤ (x4 + 1) ∧ (x4 + 1) < (n : Int)) ∧ ((0 ≤ (x4 + 2) ∧ (x4 + 2) < (n : Int)) ∧ ((0 ≤ (x4 + 3) ∧ (x4 + 3) < (n : Int)) ∧ ((0 ≤ (x4 + 4) ∧ (x4 + 4) < (n : Int)) ∧ ((0 ≤ (x4 + 5) ∧ (x4 + 5) < (n : Int)) ∧ (R32 (sc ((x4 + 5).toNat)) ∧ (((sc ((x4 + 5).toNat)) = 0 → (u_ + 1 ≤ 1076108 ∧ v_ + 6 ≤ 5861636) ∧ (∃ (n_1 : Nat) (x_1 m_1 : aS), LI n_1 x_1 m_1 M ∧ AI x_1 ∧ R32 (sc ((x4 + 1).toNat)) ∧ R32 (sc ((x4 + 2).toNat)) ∧ R32 (sc ((x4 + 3).toNat)) ∧ R32 (sc ((x4 + 4).toNat)) ∧ ((0 : Int) = 0 ∨ (0 : Int) = 1) ∧ (∀ (S_1 L_1 : Nat → Nat → Int) (P_1 : Nat → Nat → Option Nat) (f_1 : Nat → Nat × Nat), LI n_1 (sm22 x_1 (sc ((x4 + 1).toNat)) (sc ((x4 + 2).toNat)) (sc ((x4 + 3).toNat)) (sc ((x4 + 4).toNat)) (0 : Int)).2.2 m_1 ((M.1.1, f_1), S_1, L_1, P_1) → R32 (sm22 x_1 (sc ((x4 + 1).toNat)) (sc ((x4 + 2).toNat)) (sc ((x4 + 3).toNat)) (sc ((x4 + 4).toNat)) (0 : Int)).1 → ((sm22 x_1 (sc ((x4 + 1).toNat)) (sc ((x4 + 2).toNat)) (sc ((x4 + 3).toNat)) (sc ((x4 + 4).toNat)) (0 : Int)).1 = 0 → L_1 51 0 = nl (sm22 x_1 (sc ((x4 + 1).toNat)) (sc ((x4 + 2).toNat)) (sc ((x4 + 3).toNat)) (sc ((x4 + 4).toNat)) (0 : Int)).2.1) → ((0 ≤ (x4 + 1) ∧ (x4 + 1) < (n : Int)) ∧ ((0 ≤ (x4 + 2) ∧ (x4 + 2) < (n : Int)) ∧ ((0 ≤ (x4 + 3) ∧ (x4 + 3) < (n : Int)) ∧ ((0 ≤ (x4 + 4) ∧ (x4 + 4) < (n : Int)) ∧ ((0 ≤ (x4 + 5) ∧ (x4 + 5) < (n : Int)) ∧ (R32 (sc ((x4 + 5).toNat)) ∧ (((sc ((x4 + 5).toNat)) = 0 → (zsh ((M.1.1, f_1), S_1, L_1, P_1) 0 = (1, 8) ∨ zsh ((M.1.1, f_1), S_1, L_1, P_1) 0 = (17, 8)) ∧ (u_ + 1 + 0 ≤ 1076108 ∧ v_ + 6 + 0 ≤ 5861636) ∧ (∃ (n_2 : Nat) (k_2 x_2 : aS), LI n_2 k_2 x_2 ((M.1.1, f_1), S_1, L_1, P_1) ∧ AI x_2 ∧ R32 (sc ((x4 + 1).toNat)) ∧ R32 (sc ((x4 + 2).toNat)) ∧ R32 (sc ((x4 + 3).toNat)) ∧ R32 (sc ((x4 + 4).toNat)) ∧ ((0 : Int) = 0 ∨ (0 : Int) = 1) ∧ (∀ (S_2 L_2 : Nat → Nat → Int) (P_2 : Nat → Nat → Option Nat) (f_2 : Nat → Nat × Nat) (v_2 : Int), LI n_2 k_2 (sm22 x_2 (sc ((x4 + 1).toNat)) (sc ((x4 + 2).toNat)) (sc ((x4 + 3).toNat)) (sc ((x4 + 4).toNat)) (0 : Int)).2.2 ((((M.1.1, f_1), S_1, L_1, P_1).1.1, f_2), S_2, L_2, P_2) → S_2 0 0 = (sm22 x_2 (sc ((x4 + 1).toNat)) (sc ((x4 + 2).toNat)) (sc ((x4 + 3).toNat)) (sc ((x4 + 4).toNat)) (0 : Int)).1 → L_2 51 = L_1 51 → ((sm22 x_2 (sc ((x4 + 1).toNat)) (sc ((x4 + 2).toNat)) (sc ((x4 + 3).toNat)) (sc ((x4 + 4).toNat)) (0 : Int)).1 = 0 → nl v_2 = nl (sm22 x_2 (sc ((x4 + 1).toNat)) (sc ((x4 + 2).toNat)) (sc ((x4 + 3).toNat)) (sc ((x4 + 4).toNat)) (0 : Int)).2.1) → ((zsh ((M.1.1, f_2), S_2, L_2, P_2) 0 = (1, 8) ∨ zsh ((M.1.1, f_2), S_2, L_2, P_2) 0 = (17, 8)) ∧ (u_ + 1 + 0 + 0 ≤ 1076108 ∧ v_ + 6 + 0 + 0 ≤ 5861636) ∧ (∃ (n_3 : Nat) (k_3 x_3 : aS), LI n_3 k_3 x_3 ((M.1.1, f_2), S_2, L_2, P_2) ∧ R32 (S_2 0 0) ∧ (∀ (S_3 L_3 : Nat → Nat → Int) (P_3 : Nat → Nat → Option Nat) (f_3 : Nat → Nat × Nat), LI n_3 k_3 x_3 ((((M.1.1, f_2), S_2, L_2, P_2).1.1, f_3), S_3, L_3, P_3) → S_3 0 0 = S_2 0 0 → L_3 51 = L_2 51 → (R32 (S_2 0 0) ∧ (R32 ((sm22 x_1 (sc ((x4 + 1).toNat)) (sc ((x4 + 2).toNat)) (sc ((x4 + 3).toNat)) (sc ((x4 + 4).toNat)) (0 : Int)).1) ∧ (((S_2 0 0) = ((sm22 x_1 (sc ((x4 + 1).toNat)) (sc ((x4 + 2).toNat)) (sc ((x4 + 3).toNat)) (sc ((x4 + 4).toNat)) (0 : Int)).1) → R32 ((sm22 x_1 (sc ((x4 + 1).toNat)) (sc ((x4 + 2).toNat)) (sc ((x4 + 3).toNat)) (sc ((x4 + 4).toNat)) (0 : Int)).1) ∧ ((¬ ((sm22 x_1 (sc ((x4 + 1).toNat)) (sc ((x4 + 2).toNat)) (sc ((x4 + 3).toNat)) (sc ((x4 + 4).toNat)) (0 : Int)).1) = 0 → zz_Jv Mi (zpL_law n sc) (zz_retP Q X 1076108 5861636) 1766 [some (vr 1500), some (vr 100), some (vr 0), some (vr 51), some (vi x4), none, none, none] [] ((M.1.1, f_3), S_3, L_3, P_3) (u_ + 1 + 0 + 0, v_ + 6 + 0 + 0)) ∧ (((sm22 x_1 (sc ((x4 + 1).toNat)) (sc ((x4 + 2).toNat)) (sc ((x4 + 3).toNat)) (sc ((x4 + 4).toNat)) (0 : Int)).1) = 0 → ∃ n_ : Nat, zsh ((M.1.1, f_3), S_3, L_3, P_3) 51 = (3, n_) ∧ (n_ : Int) ≤ 2147483647 ∧ (0 ≤ (0 : Int) ∧ 0 < (n_ : Int)) ∧ (R64 (L_3 51 ((0 : Int).toNat)) ∧ R64 (nl v_2) ∧ (R32 (zcmp (L_3 51 ((0 : Int).toNat)) (nl v_2)) ∧ (((zcmp (L_3 51 ((0 : Int).toNat)) (nl v_2)) = 0 → zz_Jv Mi (zpL_law n sc) (zz_retP Q X 1076108 5861636) 1766 [some (vr 1500), some (vr 100), some (vr 0), some (vr 51), some (vi x4), none, none, none] [] ((M.1.1, f_3), S_3, L_3, P_3) (u_ + 1 + 0 + 0, v_ + 6 + 0 + 0)) ∧ (¬ (zcmp (L_3 51 ((0 : Int).toNat)) (nl v_2)) = 0 → (u_ + 1 + 0 + 0 ≤ 1076108 ∧ v_ + 6 + 0 + 0 ≤ 5861636) ∧ (Q (some (vi 0)) ((M.1.1, f_3), S_3, L_3, P_3))))))))) ∧ (¬ (S_2 0 0) = ((sm22 x_1 (sc ((x4 + 1).toNat)) (sc ((x4 + 2).toNat)) (sc ((x4 + 3).toNat)) (sc ((x4 + 4).toNat)) (0 : Int)).1) → (u_ + 1 + 0 + 0 ≤ 1076108 ∧ v_ + 6 + 0 + 0 ≤ 5861636) ∧ (Q (some (vi 0)) ((M.1.1, f_3), S_3, L_3, P_3)))))))))))) ∧ (¬ (sc ((x4 + 5).toNat)) = 0 → (zsh ((M.1.1, f_1), S_1, L_1, P_1) 0 = (1, 8) ∨ zsh ((M.1.1, f_1), S_1, L_1, P_1) 0 = (17, 8)) ∧ (u_ + 1 + 0 ≤ 1076108 ∧ v_ + 6 + 0 ≤ 5861636) ∧ (∃ (n_4 : Nat) (k_4 x_4 : aS), LI n_4 k_4 x_4 ((M.1.1, f_1), S_1, L_1, P_1) ∧ AI x_4 ∧ R32 (sc ((x4 + 1).toNat)) ∧ R32 (sc ((x4 + 2).toNat)) ∧ R32 (sc ((x4 + 3).toNat)) ∧ R32 (sc ((x4 + 4).toNat)) ∧ ((1 : Int) = 0 ∨ (1 : Int) = 1) ∧ (∀ (S_4 L_4 : Nat → Nat → Int) (P_4 : Nat → Nat → Option Nat) (f_4 : Nat → Nat × Nat) (v_4 : Int), LI n_4 k_4 (sm22 x_4 (sc ((x4 + 1).toNat)) (sc ((x4 + 2).toNat)) (sc ((x4 + 3).toNat)) (sc ((x4 + 4).toNat)) (1 : Int)).2.2 ((((M.1.1, f_1), S_1, L_1, P_1).1.1, f_4), S_4, L_4, P_4) → S_4 0 0 = (sm22 x_4 (sc ((x4 + 1).toNat)) (sc ((x4 + 2).toNat)) (sc ((x4 + 3).toNat)) (sc ((x4 + 4).toNat)) (1 : Int)).1 → L_4 51 = L_1 51 → ((sm22 x_4 (sc ((x4 + 1).toNat)) (sc ((x4 + 2).toNat)) (sc ((x4 + 3).toNat)) (sc ((x4 + 4).toNat)) (1 : Int)).1 = 0 → nl v_4 = nl (sm22 x_4 (sc ((x4 + 1).toNat)) (sc ((x4 + 2).toNat)) (sc ((x4 + 3).toNat)) (sc ((x4 + 4).toNat)) (1 : Int)).2.1) → ((zsh ((M.1.1, f_4), S_4, L_4, P_4) 0 = (1, 8) ∨ zsh ((M.1.1, f_4), S_4, L_4, P_4) 0 = (17, 8)) ∧ (u_ + 1 + 0 + 0 ≤ 1076108 ∧ v_ + 6 + 0 + 0 ≤ 5861636) ∧ (∃ (n_5 : Nat) (k_5 x_5 : aS), LI n_5 k_5 x_5 ((M.1.1, f_4), S_4, L_4, P_4) ∧ R32 (S_4 0 0) ∧ (∀ (S_5 L_5 : Nat → Nat → Int) (P_5 : Nat → Nat → Option Nat) (f_5 : Nat → Nat × Nat), LI n_5 k_5 x_5 ((((M.1.1, f_4), S_4, L_4, P_4).1.1, f_5), S_5, L_5, P_5) → S_5 0 0 = S_4 0 0 → L_5 51 = L_4 51 → (R32 (S_4 0 0) ∧ (R32 ((sm22 x_1 (sc ((x4 + 1).toNat)) (sc ((x4 + 2).toNat)) (sc ((x4 + 3).toNat)) (sc ((x4 + 4).toNat)) (0 : Int)).1) ∧ (((S_4 0 0) = ((sm22 x_1 (sc ((x4 + 1).toNat)) (sc ((x4 + 2).toNat)) (sc ((x4 + 3).toNat)) (sc ((x4 + 4).toNat)) (0 : Int)).1) → R32 ((sm22 x_1 (sc ((x4 + 1).toNat)) (sc ((x4 + 2).toNat)) (sc ((x4 + 3).toNat)) (sc ((x4 + 4).toNat)) (0 : Int)).1) ∧ ((¬ ((sm22 x_1 (sc ((x4 + 1).toNat)) (sc ((x4 + 2).toNat)) (sc ((x4 + 3).toNat)) (sc ((x4 + 4).toNat)) (0 : Int)).1) = 0 → zz_Jv Mi (zpL_law n sc) (zz_retP Q X 1076108 5861636) 1766 [some (vr 1500), some (vr 100), some (vr 0), some (vr 51), some (vi x4), none, none, none] [] ((M.1.1, f_5), S_5, L_5, P_5) (u_ + 1 + 0 + 0, v_ + 6 + 0 + 0)) ∧ (((sm22 x_1 (sc ((x4 + 1).toNat)) (sc ((x4 + 2).toNat)) (sc ((x4 + 3).toNat)) (sc ((x4 + 4).toNat)) (0 : Int)).1) = 0 → ∃ n_ : Nat, zsh ((M.1.1, f_5), S_5, L_5, P_5) 51 = (3, n_) ∧ (n_ : Int) ≤ 2147483647 ∧ (0 ≤ (0 : Int) ∧ 0 < (n_ : Int)) ∧ (R64 (L_5 51 ((0 : Int).toNat)) ∧ R64 (nl v_4) ∧ (R32 (zcmp (L_5 51 ((0 : Int).toNat)) (nl v_4)) ∧ (((zcmp (L_5 51 ((0 : Int).toNat)) (nl v_4)) = 0 → zz_Jv Mi (zpL_law n sc) (zz_retP Q X 1076108 5861636) 1766 [some (vr 1500), some (vr 100), some (vr 0), some (vr 51), some (vi x4), none, none, none] [] ((M.1.1, f_5), S_5, L_5, P_5) (u_ + 1 + 0 + 0, v_ + 6 + 0 + 0)) ∧ (¬ (zcmp (L_5 51 ((0 : Int).toNat)) (nl v_4)) = 0 → (u_ + 1 + 0 + 0 ≤ 1076108 ∧ v_ + 6 + 0 + 0 ≤ 5861636) ∧ (Q (some (vi 0)) ((M.1.1, f_5), S_5, L_5, P_5))))))))) ∧ (¬ (S_4 0 0) = ((sm22 x_1 (sc ((x4 + 1).toNat)) (sc ((x4 + 2).toNat)) (sc ((x4 + 3).toNat)) (sc ((x4 + 4).toNat)) (0 : Int)).1) → (u_ + 1 + 0 + 0 ≤ 1076108 ∧ v_ + 6 + 0 + 0 ≤ 5861636) ∧ (Q (some (vi 0)) ((M.1.1, f_5), S_5, L_5, P_5)))))))))))))))))))))) ∧ (¬ (sc ((x4 + 5).toNat)) = 0 → (u_ + 1 ≤ 1076108 ∧ v_ + 6 ≤ 5861636) ∧ (∃ (n_6 : Nat) (x_6 m_6 : aS), LI n_6 x_6 m_6 M ∧ AI x_6 ∧ R32 (sc ((x4 + 1).toNat)) ∧ R32 (sc ((x4 + 2).toNat)) ∧ R32 (sc ((x4 + 3).toNat)) ∧ R32 (sc ((x4 + 4).toNat)) ∧ ((1 : Int) = 0 ∨ (1 : Int) = 1) ∧ (∀ (S_6 L_6 : Nat → Nat → Int) (P_6 : Nat → Nat → Option Nat) (f_6 : Nat → Nat × Nat), LI n_6 (sm22 x_6 (sc ((x4 + 1).toNat)) (sc ((x4 + 2).toNat)) (sc ((x4 + 3).toNat)) (sc ((x4 + 4).toNat)) (1 : Int)).2.2 m_6 ((M.1.1, f_6), S_6, L_6, P_6) → R32 (sm22 x_6 (sc ((x4 + 1).toNat)) (sc ((x4 + 2).toNat)) (sc ((x4 + 3).toNat)) (sc ((x4 + 4).toNat)) (1 : Int)).1 → ((sm22 x_6 (sc ((x4 + 1).toNat)) (sc ((x4 + 2).toNat)) (sc ((x4 + 3).toNat)) (sc ((x4 + 4).toNat)) (1 : Int)).1 = 0 → L_6 51 0 = nl (sm22 x_6 (sc ((x4 + 1).toNat)) (sc ((x4 + 2).toNat)) (sc ((x4 + 3).toNat)) (sc ((x4 + 4).toNat)) (1 : Int)).2.1) → ((0 ≤ (x4 + 1) ∧ (x4 + 1) < (n : Int)) ∧ ((0 ≤ (x4 + 2) ∧ (x4 + 2) < (n : Int)) ∧ ((0 ≤ (x4 + 3) ∧ (x4 + 3) < (n : Int)) ∧ ((0 ≤ (x4 + 4) ∧ (x4 + 4) < (n : Int)) ∧ ((0 ≤ (x4 + 5) ∧ (x4 + 5) < (n : Int)) ∧ (R32 (sc ((x4 + 5).toNat)) ∧ (((sc ((x4 + 5).toNat)) = 0 → (zsh ((M.1.1, f_6), S_6, L_6, P_6) 0 = (1, 8) ∨ zsh ((M.1.1, f_6), S_6, L_6, P_6) 0 = (17, 8)) ∧ (u_ + 1 + 0 ≤ 1076108 ∧ v_ + 6 + 0 ≤ 5861636) ∧ (∃ (n_7 : Nat) (k_7 x_7 : aS), LI n_7 k_7 x_7 ((M.1.1, f_6), S_6, L_6, P_6) ∧ AI x_7 ∧ R32 (sc ((x4 + 1).toNat)) ∧ R32 (sc ((x4 + 2).toNat)) ∧ R32 (sc ((x4 + 3).toNat)) ∧ R32 (sc ((x4 + 4).toNat)) ∧ ((0 : Int) = 0 ∨ (0 : Int) = 1) ∧ (∀ (S_7 L_7 : Nat → Nat → Int) (P_7 : Nat → Nat → Option Nat) (f_7 : Nat → Nat × Nat) (v_7 : Int), LI n_7 k_7 (sm22 x_7 (sc ((x4 + 1).toNat)) (sc ((x4 + 2).toNat)) (sc ((x4 + 3).toNat)) (sc ((x4 + 4).toNat)) (0 : Int)).2.2 ((((M.1.1, f_6), S_6, L_6, P_6).1.1, f_7), S_7, L_7, P_7) → S_7 0 0 = (sm22 x_7 (sc ((x4 + 1).toNat)) (sc ((x4 + 2).toNat)) (sc ((x4 + 3).toNat)) (sc ((x4 + 4).toNat)) (0 : Int)).1 → L_7 51 = L_6 51 → ((sm22 x_7 (sc ((x4 + 1).toNat)) (sc ((x4 + 2).toNat)) (sc ((x4 + 3).toNat)) (sc ((x4 + 4).toNat)) (0 : Int)).1 = 0 → nl v_7 = nl (sm22 x_7 (sc ((x4 + 1).toNat)) (sc ((x4 + 2).toNat)) (sc ((x4 + 3).toNat)) (sc ((x4 + 4).toNat)) (0 : Int)).2.1) → ((zsh ((M.1.1, f_7), S_7, L_7, P_7) 0 = (1, 8) ∨ zsh ((M.1.1, f_7), S_7, L_7, P_7) 0 = (17, 8)) ∧ (u_ + 1 + 0 + 0 ≤ 1076108 ∧ v_ + 6 + 0 + 0 ≤ 5861636) ∧ (∃ (n_8 : Nat) (k_8 x_8 : aS), LI n_8 k_8 x_8 ((M.1.1, f_7), S_7, L_7, P_7) ∧ R32 (S_7 0 0) ∧ (∀ (S_8 L_8 : Nat → Nat → Int) (P_8 : Nat → Nat → Option Nat) (f_8 : Nat → Nat × Nat), LI n_8 k_8 x_8 ((((M.1.1, f_7), S_7, L_7, P_7).1.1, f_8), S_8, L_8, P_8) → S_8 0 0 = S_7 0 0 → L_8 51 = L_7 51 → (R32 (S_7 0 0) ∧ (R32 ((sm22 x_6 (sc ((x4 + 1).toNat)) (sc ((x4 + 2).toNat)) (sc ((x4 + 3).toNat)) (sc ((x4 + 4).toNat)) (1 : Int)).1) ∧ (((S_7 0 0) = ((sm22 x_6 (sc ((x4 + 1).toNat)) (sc ((x4 + 2).toNat)) (sc ((x4 + 3).toNat)) (sc ((x4 + 4).toNat)) (1 : Int)).1) → R32 ((sm22 x_6 (sc ((x4 + 1).toNat)) (sc ((x4 + 2).toNat)) (sc ((x4 + 3).toNat)) (sc ((x4 + 4).toNat)) (1 : Int)).1) ∧ ((¬ ((sm22 x_6 (sc ((x4 + 1).toNat)) (sc ((x4 + 2).toNat)) (sc ((x4 + 3).toNat)) (sc ((x4 + 4).toNat)) (1 : Int)).1) = 0 → zz_Jv Mi (zpL_law n sc) (zz_retP Q X 1076108 5861636) 1766 [some (vr 1500), some (vr 100), some (vr 0), some (vr 51), some (vi x4), none, none, none] [] ((M.1.1, f_8), S_8, L_8, P_8) (u_ + 1 + 0 + 0, v_ + 6 + 0 + 0)) ∧ (((sm22 x_6 (sc ((x4 + 1).toNat)) (sc ((x4 + 2).toNat)) (sc ((x4 + 3).toNat)) (sc ((x4 + 4).toNat)) (1 : Int)).1) = 0 → ∃ n_ : Nat, zsh ((M.1.1, f_8), S_8, L_8, P_8) 51 = (3, n_) ∧ (n_ : Int) ≤ 2147483647 ∧ (0 ≤ (0 : Int) ∧ 0 < (n_ : Int)) ∧ (R64 (L_8 51 ((0 : Int).toNat)) ∧ R64 (nl v_7) ∧ (R32 (zcmp (L_8 51 ((0 : Int).toNat)) (nl v_7)) ∧ (((zcmp (L_8 51 ((0 : Int).toNat)) (nl v_7)) = 0 → zz_Jv Mi (zpL_law n sc) (zz_retP Q X 1076108 5861636) 1766 [some (vr 1500), some (vr 100), some (vr 0), some (vr 51), some (vi x4), none, none, none] [] ((M.1.1, f_8), S_8, L_8, P_8) (u_ + 1 + 0 + 0, v_ + 6 + 0 + 0)) ∧ (¬ (zcmp (L_8 51 ((0 : Int).toNat)) (nl v_7)) = 0 → (u_ + 1 + 0 + 0 ≤ 1076108 ∧ v_ + 6 + 0 + 0 ≤ 5861636) ∧ (Q (some (vi 0)) ((M.1.1, f_8), S_8, L_8, P_8))))))))) ∧ (¬ (S_7 0 0) = ((sm22 x_6 (sc ((x4 + 1).toNat)) (sc ((x4 + 2).toNat)) (sc ((x4 + 3).toNat)) (sc ((x4 + 4).toNat)) (1 : Int)).1) → (u_ + 1 + 0 + 0 ≤ 1076108 ∧ v_ + 6 + 0 + 0 ≤ 5861636) ∧ (Q (some (vi 0)) ((M.1.1, f_8), S_8, L_8, P_8)))))))))))) ∧ (¬ (sc ((x4 + 5).toNat)) = 0 → (zsh ((M.1.1, f_6), S_6, L_6, P_6) 0 = (1, 8) ∨ zsh ((M.1.1, f_6), S_6, L_6, P_6) 0 = (17, 8)) ∧ (u_ + 1 + 0 ≤ 1076108 ∧ v_ + 6 + 0 ≤ 5861636) ∧ (∃ (n_9 : Nat) (k_9 x_9 : aS), LI n_9 k_9 x_9 ((M.1.1, f_6), S_6, L_6, P_6) ∧ AI x_9 ∧ R32 (sc ((x4 + 1).toNat)) ∧ R32 (sc ((x4 + 2).toNat)) ∧ R32 (sc ((x4 + 3).toNat)) ∧ R32 (sc ((x4 + 4).toNat)) ∧ ((1 : Int) = 0 ∨ (1 : Int) = 1) ∧ (∀ (S_9 L_9 : Nat → Nat → Int) (P_9 : Nat → Nat → Option Nat) (f_9 : Nat → Nat × Nat) (v_9 : Int), LI n_9 k_9 (sm22 x_9 (sc ((x4 + 1).toNat)) (sc ((x4 + 2).toNat)) (sc ((x4 + 3).toNat)) (sc ((x4 + 4).toNat)) (1 : Int)).2.2 ((((M.1.1, f_6), S_6, L_6, P_6).1.1, f_9), S_9, L_9, P_9) → S_9 0 0 = (sm22 x_9 (sc ((x4 + 1).toNat)) (sc ((x4 + 2).toNat)) (sc ((x4 + 3).toNat)) (sc ((x4 + 4).toNat)) (1 : Int)).1 → L_9 51 = L_6 51 → ((sm22 x_9 (sc ((x4 + 1).toNat)) (sc ((x4 + 2).toNat)) (sc ((x4 + 3).toNat)) (sc ((x4 + 4).toNat)) (1 : Int)).1 = 0 → nl v_9 = nl (sm22 x_9 (sc ((x4 + 1).toNat)) (sc ((x4 + 2).toNat)) (sc ((x4 + 3).toNat)) (sc ((x4 + 4).toNat)) (1 : Int)).2.1) → ((zsh ((M.1.1, f_9), S_9, L_9, P_9) 0 = (1, 8) ∨ zsh ((M.1.1, f_9), S_9, L_9, P_9) 0 = (17, 8)) ∧ (u_ + 1 + 0 + 0 ≤ 1076108 ∧ v_ + 6 + 0 + 0 ≤ 5861636) ∧ (∃ (n_10 : Nat) (k_10 x_10 : aS), LI n_10 k_10 x_10 ((M.1.1, f_9), S_9, L_9, P_9) ∧ R32 (S_9 0 0) ∧ (∀ (S_10 L_10 : Nat → Nat → Int) (P_10 : Nat → Nat → Option Nat) (f_10 : Nat → Nat × Nat), LI n_10 k_10 x_10 ((((M.1.1, f_9), S_9, L_9, P_9).1.1, f_10), S_10, L_10, P_10) → S_10 0 0 = S_9 0 0 → L_10 51 = L_9 51 → (R32 (S_9 0 0) ∧ (R32 ((sm22 x_6 (sc ((x4 + 1).toNat)) (sc ((x4 + 2).toNat)) (sc ((x4 + 3).toNat)) (sc ((x4 + 4).toNat)) (1 : Int)).1) ∧ (((S_9 0 0) = ((sm22 x_6 (sc ((x4 + 1).toNat)) (sc ((x4 + 2).toNat)) (sc ((x4 + 3).toNat)) (sc ((x4 + 4).toNat)) (1 : Int)).1) → R32 ((sm22 x_6 (sc ((x4 + 1).toNat)) (sc ((x4 + 2).toNat)) (sc ((x4 + 3).toNat)) (sc ((x4 + 4).toNat)) (1 : Int)).1) ∧ ((¬ ((sm22 x_6 (sc ((x4 + 1).toNat)) (sc ((x4 + 2).toNat)) (sc ((x4 + 3).toNat)) (sc ((x4 + 4).toNat)) (1 : Int)).1) = 0 → zz_Jv Mi (zpL_law n sc) (zz_retP Q X 1076108 5861636) 1766 [some (vr 1500), some (vr 100), some (vr 0), some (vr 51), some (vi x4), none, none, none] [] ((M.1.1, f_10), S_10, L_10, P_10) (u_ + 1 + 0 + 0, v_ + 6 + 0 + 0)) ∧ (((sm22 x_6 (sc ((x4 + 1).toNat)) (sc ((x4 + 2).toNat)) (sc ((x4 + 3).toNat)) (sc ((x4 + 4).toNat)) (1 : Int)).1) = 0 → ∃ n_ : Nat, zsh ((M.1.1, f_10), S_10, L_10, P_10) 51 = (3, n_) ∧ (n_ : Int) ≤ 2147483647 ∧ (0 ≤ (0 : Int) ∧ 0 < (n_ : Int)) ∧ (R64 (L_10 51 ((0 : Int).toNat)) ∧ R64 (nl v_9) ∧ (R32 (zcmp (L_10 51 ((0 : Int).toNat)) (nl v_9)) ∧ (((zcmp (L_10 51 ((0 : Int).toNat)) (nl v_9)) = 0 → zz_Jv Mi (zpL_law n sc) (zz_retP Q X 1076108 5861636) 1766 [some (vr 1500), some (vr 100), some (vr 0), some (vr 51), some (vi x4), none, none, none] [] ((M.1.1, f_10), S_10, L_10, P_10) (u_ + 1 + 0 + 0, v_ + 6 + 0 + 0)) ∧ (¬ (zcmp (L_10 51 ((0 : Int).toNat)) (nl v_9)) = 0 → (u_ + 1 + 0 + 0 ≤ 1076108 ∧ v_ + 6 + 0 + 0 ≤ 5861636) ∧ (Q (some (vi 0)) ((M.1.1, f_10), S_10, L_10, P_10))))))))) ∧ (¬ (S_9 0 0) = ((sm22 x_6 (sc ((x4 + 1).toNat)) (sc ((x4 + 2).toNat)) (sc ((x4 + 3).toNat)) (sc ((x4 + 4).toNat)) (1 : Int)).1) → (u_ + 1 + 0 + 0 ≤ 1076108 ∧ v_ + 6 + 0 + 0 ≤ 5861636) ∧ (Q (some (vi 0)) ((M.1.1, f_10), S_10, L_10, P_10))))))))))))))))))))))))))))) : zz_Jv Mi (zpL_law n sc) (zz_retP Q X 1076108 5861636) 1518 [some (vr 1500), some (vr 100), some (vr 0), some (vr 51), some (vi x4), none, none, none] [] M (u_, v_) := zz_Jv.go [(23, [5, 6, 7]), (164, [5, 6, 7]), (237, [5, 6, 7]), (262, [5, 6, 7]), (267, [5, 6, 7]), (306, [5, 6, 7]), (350, [5, 6, 7]), (363, [5, 6, 7]), (443, [5, 6, 7]), (511, [5, 6, 7]), (567, [5, 6, 7]), (627, [5, 6, 7]), (675, [5, 6, 7]), (723, [5, 6, 7]), (779, [5, 6, 7]), (847, [5, 6, 7]), (910, [5, 6, 7]), (978, [5, 6, 7]), (1074, [5, 6, 7]), (1154, [5, 6, 7]), (1234, [5, 6, 7]), (1302, [5, 6, 7]), (1394, [5, 6, 7]), (1462, [5, 6, 7]), (1518, [5, 6, 7]), (1637, [5, 6, 7]), (1717, [5, 6, 7]), (1728, [5, 6, 7]), (1732, [5, 6, 7]), (1741, [5, 6, 7]), (1766, [5, 6, 7])] 400 h
theorem zwL_law_1637 {Q : Option zv → zz_M → Prop} {X : Nat → zz_M → Prop} {Mi : mm_M} {n : Nat} {sc : Nat → Int} {M : zz_M} {u_ v_ : Nat} {x4 : Int} (h : (0 ≤ (x4 + 1) ∧ (x4 + 1) < (n : Int)) ∧ ((0 ≤ (x4 + 2) ∧ (x4 + 2) < (n : Int)) ∧ ((0 ≤ (x4 + 3) ∧ (x4 + 3) < (n : Int)) ∧ ((u_ + 2 ≤ 1076108 ∧ v_ + 12 ≤ 5861636) ∧ (∃ (n_1 : Nat) (x_1 m_1 : aS), LI n_1 x_1 m_1 M ∧ AI x_1 ∧ R32 (sc ((x4 + 1).toNat)) ∧ R32 (sc ((x4 + 2).toNat)) ∧ R32 (sc ((x4 + 3).toNat)) ∧ (∀ (S_1 L_1 : Nat → Nat → Int) (P_1 : Nat → Nat → Option Nat) (f_1 : Nat → Nat × Nat), LI n_1 (sm23 x_1 (sc ((x4 + 1).toNat)) (sc ((x4 + 2).toNat)) (sc ((x4 + 3).toNat))).2.2 m_1 ((M.1.1, f_1), S_1, L_1, P_1) → R32 (sm23 x_1 (sc ((x4 + 1).toNat)) (sc ((x4 + 2).toNat)) (sc ((x4 + 3).toNat))).1 → ((sm23 x_1 (sc ((x4 + 1).toNat)) (sc ((x4 + 2).toNat)) (sc ((x4 + 3).toNat))).1 = 0 → L_1 51 0 = nz (sm23 x_1 (sc ((x4 + 1).toNat)) (sc ((x4 + 2).toNat)) (sc ((x4 + 3).toNat))).2.1) → ((0 ≤ (x4 + 1) ∧ (x4 + 1) < (n : Int)) ∧ ((0 ≤ (x4 + 2) ∧ (x4 + 2) < (n : Int)) ∧ ((0 ≤ (x4 + 3) ∧ (x4 + 3) < (n : Int)) ∧ ((zsh ((M.1.1, f_1), S_1, L_1, P_1) 0 = (1, 8) ∨ zsh ((M.1.1, f_1), S_1, L_1, P_1) 0 = (17, 8)) ∧ (u_ + 2 + 0 ≤ 1076108 ∧ v_ + 12 + 0 ≤ 5861636) ∧ (∃ (n_2 : Nat) (k_2 x_2 : aS), LI n_2 k_2 x_2 ((M.1.1, f_1), S_1, L_1, P_1) ∧ AI x_2 ∧ R32 (sc ((x4 + 1).toNat)) ∧ R32 (sc ((x4 + 2).toNat)) ∧ R32 (sc ((x4 + 3).toNat)) ∧ (∀ (S_2 L_2 : Nat → Nat → Int) (P_2 : Nat → Nat → Option Nat) (f_2 : Nat → Nat × Nat) (v_2 : Int), LI n_2 k_2 (sm23 x_2 (sc ((x4 + 1).toNat)) (sc ((x4 + 2).toNat)) (sc ((x4 + 3).toNat))).2.2 ((((M.1.1, f_1), S_1, L_1, P_1).1.1, f_2), S_2, L_2, P_2) → S_2 0 0 = (sm23 x_2 (sc ((x4 + 1).toNat)) (sc ((x4 + 2).toNat)) (sc ((x4 + 3).toNat))).1 → L_2 51 = L_1 51 → ((sm23 x_2 (sc ((x4 + 1).toNat)) (sc ((x4 + 2).toNat)) (sc ((x4 + 3).toNat))).1 = 0 → nz v_2 = nz (sm23 x_2 (sc ((x4 + 1).toNat)) (sc ((x4 + 2).toNat)) (sc ((x4 + 3).toNat))).2.1) → ((zsh ((M.1.1, f_2), S_2, L_2, P_2) 0 = (1, 8) ∨ zsh ((M.1.1, f_2), S_2, L_2, P_2) 0 = (17, 8)) ∧ (u_ + 2 + 0 + 0 ≤ 1076108 ∧ v_ + 12 + 0 + 0 ≤ 5861636) ∧ (∃ (n_3 : Nat) (k_3 x_3 : aS), LI n_3 k_3 x_3 ((M.1.1, f_2), S_2, L_2, P_2) ∧ R32 (S_2 0 0) ∧ (∀ (S_3 L_3 : Nat → Nat → Int) (P_3 : Nat → Nat → Option Nat) (f_3 : Nat → Nat × Nat), LI n_3 k_3 x_3 ((((M.1.1, f_2), S_2, L_2, P_2).1.1, f_3), S_3, L_3, P_3) → S_3 0 0 = S_2 0 0 → L_3 51 = L_2 51 → (R32 (S_2 0 0) ∧ (R32 ((sm23 x_1 (sc ((x4 + 1).toNat)) (sc ((x4 + 2).toNat)) (sc ((x4 + 3).toNat))).1) ∧ (((S_2 0 0) = ((sm23 x_1 (sc ((x4 + 1).toNat)) (sc ((x4 + 2).toNat)) (sc ((x4 + 3).toNat))).1) → R32 ((sm23 x_1 (sc ((x4 + 1).toNat)) (sc ((x4 + 2).toNat)) (sc ((x4 + 3).toNat))).1) ∧ ((¬ ((sm23 x_1 (sc ((x4 + 1).toNat)) (sc ((x4 + 2).toNat)) (sc ((x4 + 3).toNat))).1) = 0 → zz_Jv Mi (zpL_law n sc) (zz_retP Q X 1076108 5861636) 1766 [some (vr 1500), some (vr 100), some (vr 0), some (vr 51), some (vi x4), none, none, none] [] ((M.1.1, f_3), S_3, L_3, P_3) (u_ + 2 + 0 + 0, v_ + 12 + 0 + 0)) ∧ (((sm23 x_1 (sc ((x4 + 1).toNat)) (sc ((x4 + 2).toNat)) (sc ((x4 + 3).toNat))).1) = 0 → ∃ n_ : Nat, zsh ((M.1.1, f_3), S_3, L_3, P_3) 51 = (3, n_) ∧ (n_ : Int) ≤ 2147483647 ∧ (0 ≤ (0 : Int) ∧ 0 < (n_ : Int)) ∧ (R32 (nz v_2) ∧ (R64 (L_3 51 ((0 : Int).toNat)) ∧ R64 (nz v_2) ∧ (R32 (zcmp (L_3 51 ((0 : Int).toNat)) (nz v_2)) ∧ (((zcmp (L_3 51 ((0 : Int).toNat)) (nz v_2)) = 0 → zz_Jv Mi (zpL_law n sc) (zz_retP Q X 1076108 5861636) 1766 [some (vr 1500), some (vr 100), some (vr 0), some (vr 51), some (vi x4), none, none, none] [] ((M.1.1, f_3), S_3, L_3, P_3) (u_ + 2 + 0 + 0, v_ + 12 + 0 + 0)) ∧ (¬ (zcmp (L_3 51 ((0 : Int).toNat)) (nz v_2)) = 0 → (u_ + 2 + 0 + 0 ≤ 1076108 ∧ v_ + 12 + 0 + 0 ≤ 5861636) ∧ (Q (some (vi 0)) ((M.1.1, f_3), S_3, L_3, P_3)))))))))) ∧ (¬ (S_2 0 0) = ((sm23 x_1 (sc ((x4 + 1).toNat)) (sc ((x4 + 2).toNat)) (sc ((x4 + 3).toNat))).1) → (u_ + 2 + 0 + 0 ≤ 1076108 ∧ v_ + 12 + 0 + 0 ≤ 5861636) ∧ (Q (some (vi 0)) ((M.1.1, f_3), S_3, L_3, P_3))))))))))))))))))))) : zz_Jv Mi (zpL_law n sc) (zz_retP Q X 1076108 5861636) 1637 [some (vr 1500), some (vr 100), some (vr 0), some (vr 51), some (vi x4), none, none, none] [] M (u_, v_) := zz_Jv.go [(23, [5, 6, 7]), (164, [5, 6, 7]), (237, [5, 6, 7]), (262, [5, 6, 7]), (267, [5, 6, 7]), (306, [5, 6, 7]), (350, [5, 6, 7]), (363, [5, 6, 7]), (443, [5, 6, 7]), (511, [5, 6, 7]), (567, [5, 6, 7]), (627, [5, 6, 7]), (675, [5, 6, 7]), (723, [5, 6, 7]), (779, [5, 6, 7]), (847, [5, 6, 7]), (910, [5, 6, 7]), (978, [5, 6, 7]), (1074, [5, 6, 7]), (1154, [5, 6, 7]), (1234, [5, 6, 7]), (1302, [5, 6, 7]), (1394, [5, 6, 7]), (1462, [5, 6, 7]), (1518, [5, 6, 7]), (1637, [5, 6, 7]), (1717, [5, 6, 7]), (1728, [5, 6, 7]), (1732, [5, 6, 7]), (1741, [5, 6, 7]), (1766, [5, 6, 7])] 400 h
theorem zwL_law_1717 {Q : Option zv → zz_M → Prop} {X : Nat → zz_M → Prop} {Mi : mm_M} {n : Nat} {sc : Nat → Int} {M : zz_M} {u_ v_ : Nat} {x4 : Int} (h : (zsh M 100 = (1, 0) ∨ zsh M 100 = (17, 0)) ∧ (u_ + 26 ≤ 1076108 ∧ v_ + 260 ≤ 5861636) ∧ (∃ (n_1 : Nat) (x_1 m_1 : aS), LI n_1 x_1 m_1 M ∧ AI x_1 ∧ (∀ (S_1 L_1 : Nat → Nat → Int) (P_1 : Nat → Nat → Option Nat) (f_1 : Nat → Nat × Nat), LI n_1 (sm24 x_1).2.2 m_1 ((M.1.1, f_1), S_1, L_1, P_1) → ((zsh ((M.1.1, f_1), S_1, L_1, P_1) 0 = (1, 8) ∨ zsh ((M.1.1, f_1), S_1, L_1, P_1) 0 = (17, 8)) ∧ (u_ + 26 + 0 ≤ 1076108 ∧ v_ + 260 + 0 ≤ 5861636) ∧ (∃ (n_2 : Nat) (k_2 x_2 : aS), LI n_2 k_2 x_2 ((M.1.1, f_1), S_1, L_1, P_1) ∧ AI x_2 ∧ (∀ (S_2 L_2 : Nat → Nat → Int) (P_2 : Nat → Nat → Option Nat) (f_2 : Nat → Nat × Nat), LI n_2 k_2 (sm24 x_2).2.2 ((((M.1.1, f_1), S_1, L_1, P_1).1.1, f_2), S_2, L_2, P_2) → S_2 0 0 = (sm24 x_2).1 → L_2 51 = L_1 51 → (zz_Jv Mi (zpL_law n sc) (zz_retP Q X 1076108 5861636) 1766 [some (vr 1500), some (vr 100), some (vr 0), some (vr 51), some (vi x4), none, none, none] [] ((M.1.1, f_2), S_2, L_2, P_2) (u_ + 26 + 0, v_ + 260 + 0)))))))) : zz_Jv Mi (zpL_law n sc) (zz_retP Q X 1076108 5861636) 1717 [some (vr 1500), some (vr 100), some (vr 0), some (vr 51), some (vi x4), none, none, none] [] M (u_, v_) := zz_Jv.go [(23, [5, 6, 7]), (164, [5, 6, 7]), (237, [5, 6, 7]), (262, [5, 6, 7]), (267, [5, 6, 7]), (306, [5, 6, 7]), (350, [5, 6, 7]), (363, [5, 6, 7]), (443, [5, 6, 7]), (511, [5, 6, 7]), (567, [5, 6, 7]), (627, [5, 6, 7]), (675, [5, 6, 7]), (723, [5, 6, 7]), (779, [5, 6, 7]), (847, [5, 6, 7]), (910, [5, 6, 7]), (978, [5, 6, 7]), (1074, [5, 6, 7]), (1154, [5, 6, 7]), (1234, [5, 6, 7]), (1302, [5, 6, 7]), (1394, [5, 6, 7]), (1462, [5, 6, 7]), (1518, [5, 6, 7]), (1637, [5, 6, 7]), (1717, [5, 6, 7]), (1728, [5, 6, 7]), (1732, [5, 6, 7]), (1741, [5, 6, 7]), (1766, [5, 6, 7])] 400 h
theorem zwL_law_1728 {Q : Option zv → zz_M → Prop} {X : Nat → zz_M → Prop} {Mi : mm_M} {n : Nat} {sc : Nat → Int} {M : zz_M} {u_ v_ : Nat} {x4 : Int} (h : (zsh M 100 = (1, 0) ∨ zsh M 100 = (17, 0)) ∧ (u_ + 26 ≤ 1076108 ∧ v_ + 260 ≤ 5861636) ∧ (∃ (n_1 : Nat) (x_1 m_1 : aS), LI n_1 x_1 m_1 M ∧ AI x_1 ∧ (∀ (S_1 L_1 : Nat → Nat → Int) (P_1 : Nat → Nat → Option Nat) (f_1 : Nat → Nat × Nat), (LI n_1 (sm25 x_1).2.2 m_1 ((M.1.1, f_1), S_1, L_1, P_1) ∨ LI3 n_1 (sm25 x_1).2.2 m_1 ((M.1.1, f_1), S_1, L_1, P_1)) → (sm25 x_1).1 = 0 → (zz_Jv Mi (zpL_law n sc) (zz_retP Q X 1076108 5861636) 1732 [some (vr 1500), some (vr 100), some (vr 0), some (vr 51), some (vi x4), none, none, none] [vi (nz (sm25 x_1).2.1)] ((M.1.1, f_1), S_1, L_1, P_1) (u_ + 26, v_ + 260))))) : zz_Jv Mi (zpL_law n sc) (zz_retP Q X 1076108 5861636) 1728 [some (vr 1500), some (vr 100), some (vr 0), some (vr 51), some (vi x4), none, none, none] [] M (u_, v_) := zz_Jv.go [(23, [5, 6, 7]), (164, [5, 6, 7]), (237, [5, 6, 7]), (262, [5, 6, 7]), (267, [5, 6, 7]), (306, [5, 6, 7]), (350, [5, 6, 7]), (363, [5, 6, 7]), (443, [5, 6, 7]), (511, [5, 6, 7]), (567, [5, 6, 7]), (627, [5, 6, 7]), (675, [5, 6, 7]), (723, [5, 6, 7]), (779, [5, 6, 7]), (847, [5, 6, 7]), (910, [5, 6, 7]), (978, [5, 6, 7]), (1074, [5, 6, 7]), (1154, [5, 6, 7]), (1234, [5, 6, 7]), (1302, [5, 6, 7]), (1394, [5, 6, 7]), (1462, [5, 6, 7]), (1518, [5, 6, 7]), (1637, [5, 6, 7]), (1717, [5, 6, 7]), (1728, [5, 6, 7]), (1732, [5, 6, 7]), (1741, [5, 6, 7]), (1766, [5, 6, 7])] 400 h
theorem zwL_law_1732 {Q : Option zv → zz_M → Prop} {X : Nat → zz_M → Prop} {Mi : mm_M} {n : Nat} {sc : Nat → Int} {M : zz_M} {u_ v_ : Nat} {x4 : Int} {t0 : Int} (h : (zsh M 0 = (1, 8) ∨ zsh M 0 = (17, 8)) ∧ (u_ + 0 ≤ 1076108 ∧ v_ + 0 ≤ 5861636) ∧ (∃ (n_1 : Nat) (k_1 x_1 : aS), LI n_1 k_1 x_1 M ∧ AI x_1 ∧ (∀ (S_1 L_1 : Nat → Nat → Int) (P_1 : Nat → Nat → Option Nat) (f_1 : Nat → Nat × Nat) (v_1 : Int), LI n_1 k_1 (sm25 x_1).2.2 ((M.1.1, f_1), S_1, L_1, P_1) → S_1 0 0 = (sm25 x_1).1 → L_1 51 = M.2.2.1 51 → ((sm25 x_1).1 = 0 → nz v_1 = nz (sm25 x_1).2.1) → (R32 t0 ∧ (R32 (nz v_1) ∧ ((t0 = (nz v_1) → zz_Jv Mi (zpL_law n sc) (zz_retP Q X 1076108 5861636) 1766 [some (vr 1500), some (vr 100), some (vr 0), some (vr 51), some (vi x4), none, none, none] [] ((M.1.1, f_1), S_1, L_1, P_1) (u_ + 0, v_ + 0)) ∧ (¬ t0 = (nz v_1) → (u_ + 0 ≤ 1076108 ∧ v_ + 0 ≤ 5861636) ∧ (Q (some (vi 0)) ((M.1.1, f_1), S_1, L_1, P_1))))))))) : zz_Jv Mi (zpL_law n sc) (zz_retP Q X 1076108 5861636) 1732 [some (vr 1500), some (vr 100), some (vr 0), some (vr 51), some (vi x4), none, none, none] [vi t0] M (u_, v_) := zz_Jv.go [(23, [5, 6, 7]), (164, [5, 6, 7]), (237, [5, 6, 7]), (262, [5, 6, 7]), (267, [5, 6, 7]), (306, [5, 6, 7]), (350, [5, 6, 7]), (363, [5, 6, 7]), (443, [5, 6, 7]), (511, [5, 6, 7]), (567, [5, 6, 7]), (627, [5, 6, 7]), (675, [5, 6, 7]), (723, [5, 6, 7]), (779, [5, 6, 7]), (847, [5, 6, 7]), (910, [5, 6, 7]), (978, [5, 6, 7]), (1074, [5, 6, 7]), (1154, [5, 6, 7]), (1234, [5, 6, 7]), (1302, [5, 6, 7]), (1394, [5, 6, 7]), (1462, [5, 6, 7]), (1518, [5, 6, 7]), (1637, [5, 6, 7]), (1717, [5, 6, 7]), (1728, [5, 6, 7]), (1732, [5, 6, 7]), (1741, [5, 6, 7]), (1766, [5, 6, 7])] 400 h
theorem zwL_law_1741 {Q : Option zv → zz_M → Prop} {X : Nat → zz_M → Prop} {Mi : mm_M} {n : Nat} {sc : Nat → Int} {M : zz_M} {u_ v_ : Nat} {x4 : Int} (h : (0 ≤ (x4 + 1) ∧ (x4 + 1) < (n : Int)) ∧ ((zsh M 100 = (1, 0) ∨ zsh M 100 = (17, 0)) ∧ (u_ + 0 ≤ 1076108 ∧ v_ + 0 ≤ 5861636) ∧ (∃ (n_1 : Nat) (x_1 m_1 : aS), LI n_1 x_1 m_1 M ∧ AI x_1 ∧ R32 (sc ((x4 + 1).toNat)) ∧ (∀ (S_1 L_1 : Nat → Nat → Int) (P_1 : Nat → Nat → Option Nat) (f_1 : Nat → Nat × Nat), LI n_1 (sm26 x_1 (sc ((x4 + 1).toNat))).2.2 m_1 ((M.1.1, f_1), S_1, L_1, P_1) → (sm26 x_1 (sc ((x4 + 1).toNat))).1 = 0 → ((0 ≤ (x4 + 1) ∧ (x4 + 1) < (n : Int)) ∧ ((zsh ((M.1.1, f_1), S_1, L_1, P_1) 0 = (1, 8) ∨ zsh ((M.1.1, f_1), S_1, L_1, P_1) 0 = (17, 8)) ∧ (u_ + 0 + 0 ≤ 1076108 ∧ v_ + 0 + 0 ≤ 5861636) ∧ (∃ (n_2 : Nat) (k_2 x_2 : aS), LI n_2 k_2 x_2 ((M.1.1, f_1), S_1, L_1, P_1) ∧ AI x_2 ∧ R32 (sc ((x4 + 1).toNat)) ∧ (∀ (S_2 L_2 : Nat → Nat → Int) (P_2 : Nat → Nat → Option Nat) (f_2 : Nat → Nat × Nat) (v_2 : Int), LI n_2 k_2 (sm26 x_2 (sc ((x4 + 1).toNat))).2.2 ((((M.1.1, f_1), S_1, L_1, P_1).1.1, f_2), S_2, L_2, P_2) → S_2 0 0 = (sm26 x_2 (sc ((x4 + 1).toNat))).1 → L_2 51 = L_1 51 → ((sm26 x_2 (sc ((x4 + 1).toNat))).1 = 0 → nz v_2 = nz (sm26 x_2 (sc ((x4 + 1).toNat))).2.1) → (R32 (nz (sm26 x_1 (sc ((x4 + 1).toNat))).2.1) ∧ (R32 (nz v_2) ∧ (((nz (sm26 x_1 (sc ((x4 + 1).toNat))).2.1) = (nz v_2) → zz_Jv Mi (zpL_law n sc) (zz_retP Q X 1076108 5861636) 1766 [some (vr 1500), some (vr 100), some (vr 0), some (vr 51), some (vi x4), none, none, none] [] ((M.1.1, f_2), S_2, L_2, P_2) (u_ + 0 + 0, v_ + 0 + 0)) ∧ (¬ (nz (sm26 x_1 (sc ((x4 + 1).toNat))).2.1) = (nz v_2) → (u_ + 0 + 0 ≤ 1076108 ∧ v_ + 0 + 0 ≤ 5861636) ∧ (Q (some (vi 0)) ((M.1.1, f_2), S_2, L_2, P_2)))))))))))))) : zz_Jv Mi (zpL_law n sc) (zz_retP Q X 1076108 5861636) 1741 [some (vr 1500), some (vr 100), some (vr 0), some (vr 51), some (vi x4), none, none, none] [] M (u_, v_) := zz_Jv.go [(23, [5, 6, 7]), (164, [5, 6, 7]), (237, [5, 6, 7]), (262, [5, 6, 7]), (267, [5, 6, 7]), (306, [5, 6, 7]), (350, [5, 6, 7]), (363, [5, 6, 7]), (443, [5, 6, 7]), (511, [5, 6, 7]), (567, [5, 6, 7]), (627, [5, 6, 7]), (675, [5, 6, 7]), (723, [5, 6, 7]), (779, [5, 6, 7]), (847, [5, 6, 7]), (910, [5, 6, 7]), (978, [5, 6, 7]), (1074, [5, 6, 7]), (1154, [5, 6, 7]), (1234, [5, 6, 7]), (1302, [5, 6, 7]), (1394, [5, 6, 7]), (1462, [5, 6, 7]), (1518, [5, 6, 7]), (1637, [5, 6, 7]), (1717, [5, 6, 7]), (1728, [5, 6, 7]), (1732, [5, 6, 7]), (1741, [5, 6, 7]), (1766, [5, 6, 7])] 400 h
theorem zwL_law_1766 {Q : Option zv → zz_M → Prop} {X : Nat → zz_M → Prop} {Mi : mm_M} {n : Nat} {sc : Nat → Int} {M : zz_M} {u_ v_ : Nat} {x4 : Int} (h : zz_Jv Mi (zpL_law n sc) (zz_retP Q X 1076108 5861636) 23 [some (vr 1500), some (vr 100), some (vr 0), some (vr 51), some (vi (x4 + 6)), none, none, none] [] M (u_, v_)) : zz_Jv Mi (zpL_law n sc) (zz_retP Q X 1076108 5861636) 1766 [some (vr 1500), some (vr 100), some (vr 0), some (vr 51), some (vi x4), none, none, none] [] M (u_, v_) := zz_Jv.go [(23, [5, 6, 7]), (164, [5, 6, 7]), (237, [5, 6, 7]), (262, [5, 6, 7]), (267, [5, 6, 7]), (306, [5, 6, 7]), (350, [5, 6, 7]), (363, [5, 6, 7]), (443, [5, 6, 7]), (511, [5, 6, 7]), (567, [5, 6, 7]), (627, [5, 6, 7]), (675, [5, 6, 7]), (723, [5, 6, 7]), (779, [5, 6, 7]), (847, [5, 6, 7]), (910, [5, 6, 7]), (978, [5, 6, 7]), (1074, [5, 6, 7]), (1154, [5, 6, 7]), (1234, [5, 6, 7]), (1302, [5, 6, 7]), (1394, [5, 6, 7]), (1462, [5, 6, 7]), (1518, [5, 6, 7]), (1637, [5, 6, 7]), (1717, [5, 6, 7]), (1728, [5, 6, 7]), (1732, [5, 6, 7]), (1741, [5, 6, 7]), (1766, [5, 6, 7])] 400 h

theorem zcmp_s (a : Int) : zcmp a a = 0 := by
  unfold zcmp
  rw [if_neg (Int.lt_irrefl _), if_pos rfl]
theorem nz_64 (v : Int) : R64 (nz v) := ⟨by have := (nz_R v).1; omega, by have := (nz_R v).2; omega⟩
section
variable {n : Nat} {x m : aS} {M : zz_M} {a b d e g : Int}
theorem LI.z51 (h : LI n x m M) : zsh M 51 = (3, 1) := by
  obtain ⟨f, S, L, P, top, rfl, k, -⟩ := h
  exact k.2.1.2
theorem LI.z0 (h : LI n x m M) : zsh M 0 = (1, 8) := by
  obtain ⟨f, S, L, P, top, rfl, k, -⟩ := h
  exact (k.1 0 (by decide)).1
theorem LI.z100 (h : LI n x m M) : zsh M 100 = (1, 0) := by
  obtain ⟨f, S, L, P, top, rfl, k, -⟩ := h
  exact k.2.2.2.1 100 rfl
theorem ka4 (h : AI x) : AI (sm4 x).2.2 := h
theorem ka5 (h : AI x) : AI (sm5 x a b d).2.2 := h
theorem ka7 (h : AI x) : AI (sm7 x a).2.2 := by unfold sm7; split <;> exact h
theorem ka11 (h : AI x) : AI (sm11 x a).2.2 := by unfold sm11; split <;> exact h
theorem ka14 (h : AI x) : AI (sm14 x a b).2.2 := h
theorem ka15 (h : AI x) : AI (sm15 x a b d).2.2 := h
theorem ka16 (h : AI x) : AI (sm16 x a b d).2.2 := h
theorem ka17 (h : AI x) : AI (sm17 x a b d).2.2 := h
theorem ka18 (h : AI x) : AI (sm18 x a b).2.2 := h
theorem ka19 (h : AI x) : AI (sm19 x a b d e).2.2 := h
theorem ka20 (h : AI x) : AI (sm20 x a b).2.2 := by unfold sm20; split <;> exact h
theorem ka23 (h : AI x) : AI (sm23 x a b d).2.2 := h
theorem ka26 (h : AI x) : AI (sm26 x a).2.2 := h
theorem bz13 : (sm13 x a).2.1 = 1 ∨ (sm13 x a).2.1 = 0 := by
  unfold sm13
  split
  · show (if _ then (1 : Int) else 0) = 1 ∨ (if _ then (1 : Int) else 0) = 0
    split
    · exact Or.inl rfl
    · exact Or.inr rfl
  · exact Or.inr rfl
end
/-- what a case of the law may lean on -/
def lwJ (Mi : mm_M) (Q : Option zv → zz_M → Prop) (X : Nat → zz_M → Prop) (n : Nat) (sc : Nat → Int) (i : Int) (u v : Nat) : Prop :=
  ((∀ h, (Mi.1 h).1 ≠ 0 → h = 1500 ∨ (1000 ≤ h ∧ h < 1400)) ∧ n ≤ 384 ∧ (∀ k, R32 (sc k)) ∧ (0 ≤ i ∧ i + 6 ≤ (n : Int)) ∧ (u + 10200 ≤ 1076108 ∧ v + 58000 ≤ 5861636)) ∧ ∀ (M' : zz_M) (y : aS) (u' v' : Nat), LI n y y M' → AI y → u' ≤ u + 10200 → v' ≤ v + 58000 → zz_Jv Mi (zpL_law n sc) (zz_retP Q X 1076108 5861636) 1766 [some (vr 1500), some (vr 100), some (vr 0), some (vr 51), some (vi i), none, none, none] [] M' (u', v')
section
variable {Q : Option zv → zz_M → Prop} {X : Nat → zz_M → Prop} {Mi : mm_M} {M : zz_M} {n : Nat} {sc : Nat → Int} {x : aS} {i : Int} {u v : Nat}
theorem lc00 (H : lwJ Mi Q X n sc i u v) (hL : LI n x x M) (hA : AI x) : zz_Jv Mi (zpL_law n sc) (zz_retP Q X 1076108 5861636) 164 [some (vr 1500), some (vr 100), some (vr 0), some (vr 51), some (vi i), none, none, none] [] M (u, v) := by
  obtain ⟨⟨hMi, hn, hsc, hi, hu⟩, J⟩ := H
  have hr : ∀ j, R32 (sc j) := hsc
  refine zwL_law_164 ⟨by omega, by omega, by omega, by omega, by omega, Or.inl hL.z100, ⟨by omega, by omega⟩, n, x, x, hL, hA, hr _, hr _, hr _, hr _, hr _, fun S1 L1 P1 f1 a1 z1 => ?_⟩
  exact ⟨by omega, by omega, by omega, by omega, by omega, Or.inl a1.z0, ⟨by omega, by omega⟩, n, _, x, a1, hA, hr _, hr _, hr _, hr _, hr _, fun S2 L2 P2 f2 v2 a2 h2 e2 ov => ⟨nz_R _, nz_R _, fun _ => J _ _ _ _ a2 (ka0 hA) (by omega) (by omega), fun ne => absurd (ov z1).symm ne⟩⟩
theorem lc01 (H : lwJ Mi Q X n sc i u v) (hL : LI n x x M) (hA : AI x) : zz_Jv Mi (zpL_law n sc) (zz_retP Q X 1076108 5861636) 237 [some (vr 1500), some (vr 100), some (vr 0), some (vr 51), some (vi i), none, none, none] [] M (u, v) := by
  obtain ⟨⟨hMi, hn, hsc, hi, hu⟩, J⟩ := H
  have hr : ∀ j, R32 (sc j) := hsc
  refine zwL_law_237 ⟨by omega, Or.inl hL.z100, ⟨by omega, by omega⟩, n, x, x, hL, hA, hr _, fun S1 L1 P1 f1 a1 z1 => ?_⟩
  exact ⟨by omega, Or.inl a1.z0, ⟨by omega, by omega⟩, n, _, x, a1, hA, hr _, fun S2 L2 P2 f2 v2 a2 h2 e2 ov => ⟨nz_R _, nz_R _, fun _ => J _ _ _ _ a2 (ka1 hA) (by omega) (by omega), fun ne => absurd (ov z1).symm ne⟩⟩
theorem lc02b {M' : zz_M} (H : lwJ Mi Q X n sc i u v) (hA : AI x) (h : LI n (sm2 x).2.2 x M') (r1 : R32 (sm2 x).1) (o1 : (sm2 x).1 = 0 → M'.2.2.1 51 0 = nz (sm2 x).2.1) : zz_Jv Mi (zpL_law n sc) (zz_retP Q X 1076108 5861636) 267 [some (vr 1500), some (vr 100), some (vr 0), some (vr 51), some (vi i), none, none, none] [vi (sm2 x).1] M' (u + 342, v + 28900) := by
  obtain ⟨⟨hMi, hn, hsc, hi, hu⟩, J⟩ := H
  refine zwL_law_267 ⟨Or.inl h.z0, ⟨by omega, by omega⟩, n, _, x, h, hA, fun S2 L2 P2 f2 v2 a2 h2 e2 ov => ?_⟩
  have hS : R32 (S2 0 0) := by rw [h2]; exact r1
  refine ⟨Or.inl a2.z0, ⟨by omega, by omega⟩, n, _, _, a2, hS, fun S3 L3 P3 f3 a3 h3 e3 => ⟨hS, r1, fun _ => ⟨r1, fun _ => J _ _ _ _ a3 (ka2 hA) (by omega) (by omega), fun z => ?_⟩, fun ne => absurd h2 ne⟩⟩
  have eL : L3 51 ((0 : Int).toNat) = nz v2 := by rw [e3, e2]; exact (o1 z).trans (ov z).symm
  rw [eL, zcmp_s]
  exact ⟨1, a3.z51, by decide, by decide, nz_R _, nz_64 _, nz_64 _, by decide, fun _ => J _ _ _ _ a3 (ka2 hA) (by omega) (by omega), fun ne => absurd rfl ne⟩
theorem lc02 (H : lwJ Mi Q X n sc i u v) (hL : LI n x x M) (hA : AI x) : zz_Jv Mi (zpL_law n sc) (zz_retP Q X 1076108 5861636) 262 [some (vr 1500), some (vr 100), some (vr 0), some (vr 51), some (vi i), none, none, none] [] M (u, v) := by
  obtain ⟨⟨hMi, hn, hsc, hi, hu⟩, J⟩ := H
  have hr : ∀ j, R32 (sc j) := hsc
  refine zwL_law_262 ⟨⟨by omega, by omega⟩, n, x, x, hL, hA, fun S1 L1 P1 f1 a1 r1 o1 => ?_⟩
  have H : lwJ Mi Q X n sc i u v := ⟨⟨hMi, hn, hsc, hi, hu⟩, J⟩
  rcases a1 with a1 | a1
  · exact lc02b H hA a1 r1 o1
  · exact LI3.view hMi a1 (fun w hw => ⟨_, List.mem_singleton.mp hw⟩) (fun M' h e => lc02b H hA h r1 (fun z => by rw [e]; exact o1 z))
theorem lc03 (H : lwJ Mi Q X n sc i u v) (hL : LI n x x M) (hA : AI x) : zz_Jv Mi (zpL_law n sc) (zz_retP Q X 1076108 5861636) 306 [some (vr 1500), some (vr 100), some (vr 0), some (vr 51), some (vi i), none, none, none] [] M (u, v) := by
  obtain ⟨⟨hMi, hn, hsc, hi, hu⟩, J⟩ := H
  have hr : ∀ j, R32 (sc j) := hsc
  refine zwL_law_306 ⟨⟨by omega, by omega⟩, n, x, x, hL, hA, fun S1 L1 P1 f1 a1 r1 o1 => ?_⟩
  refine ⟨Or.inl a1.z0, ⟨by omega, by omega⟩, n, _, x, a1, hA, fun S2 L2 P2 f2 v2 a2 h2 e2 ov => ?_⟩
  have hS : R32 (S2 0 0) := by rw [h2]; exact r1
  refine ⟨Or.inl a2.z0, ⟨by omega, by omega⟩, n, _, _, a2, hS, fun S3 L3 P3 f3 a3 h3 e3 => ⟨hS, r1, fun _ => ⟨r1, fun _ => J _ _ _ _ a3 (ka3 hA) (by omega) (by omega), fun z => ?_⟩, fun ne => absurd h2 ne⟩⟩
  have eL : L3 51 ((0 : Int).toNat) = nz v2 := by rw [e3, e2]; exact (o1 z).trans (ov z).symm
  rw [eL, zcmp_s]
  exact ⟨1, a3.z51, by decide, by decide, nz_R _, nz_64 _, nz_64 _, by decide, fun _ => J _ _ _ _ a3 (ka3 hA) (by omega) (by omega), fun ne => absurd rfl ne⟩
theorem lc04 (H : lwJ Mi Q X n sc i u v) (hL : LI n x x M) (hA : AI x) : zz_Jv Mi (zpL_law n sc) (zz_retP Q X 1076108 5861636) 350 [some (vr 1500), some (vr 100), some (vr 0), some (vr 51), some (vi i), none, none, none] [] M (u, v) := by
  obtain ⟨⟨hMi, hn, hsc, hi, hu⟩, J⟩ := H
  have hr : ∀ j, R32 (sc j) := hsc
  refine zwL_law_350 ⟨Or.inl hL.z100, ⟨by omega, by omega⟩, n, x, x, hL, hA, fun S1 L1 P1 f1 a1 z1 => ?_⟩
  exact ⟨Or.inl a1.z0, ⟨by omega, by omega⟩, n, _, x, a1, hA, fun S2 L2 P2 f2 v2 a2 h2 e2 ov => ⟨nz_R _, nz_R _, fun _ => J _ _ _ _ a2 (ka4 hA) (by omega) (by omega), fun ne => absurd (ov z1).symm ne⟩⟩
theorem lc05 (H : lwJ Mi Q X n sc i u v) (hL : LI n x x M) (hA : AI x) : zz_Jv Mi (zpL_law n sc) (zz_retP Q X 1076108 5861636) 363 [some (vr 1500), some (vr 100), some (vr 0), some (vr 51), some (vi i), none, none, none] [] M (u, v) := by
  obtain ⟨⟨hMi, hn, hsc, hi, hu⟩, J⟩ := H
  have hr : ∀ j, R32 (sc j) := hsc
  refine zwL_law_363 ⟨by omega, by omega, by omega, ⟨by omega, by omega⟩, n, x, x, hL, hA, hr _, hr _, hr _, fun S1 L1 P1 f1 a1 r1 o1 => ?_⟩
  refine ⟨by omega, by omega, by omega, Or.inl a1.z0, ⟨by omega, by omega⟩, n, _, x, a1, hA, hr _, hr _, hr _, fun S2 L2 P2 f2 v2 a2 h2 e2 ov => ?_⟩
  have hS : R32 (S2 0 0) := by rw [h2]; exact r1
  refine ⟨Or.inl a2.z0, ⟨by omega, by omega⟩, n, _, _, a2, hS, fun S3 L3 P3 f3 a3 h3 e3 => ⟨hS, r1, fun _ => ⟨r1, fun _ => J _ _ _ _ a3 (ka5 hA) (by omega) (by omega), fun z => ?_⟩, fun ne => absurd h2 ne⟩⟩
  have eL : L3 51 ((0 : Int).toNat) = nz v2 := by rw [e3, e2]; exact (o1 z).trans (ov z).symm
  rw [eL, zcmp_s]
  exact ⟨1, a3.z51, by decide, by decide, nz_R _, nz_64 _, nz_64 _, by decide, fun _ => J _ _ _ _ a3 (ka5 hA) (by omega) (by omega), fun ne => absurd rfl ne⟩
theorem lc06 (H : lwJ Mi Q X n sc i u v) (hL : LI n x x M) (hA : AI x) : zz_Jv Mi (zpL_law n sc) (zz_retP Q X 1076108 5861636) 443 [some (vr 1500), some (vr 100), some (vr 0), some (vr 51), some (vi i), none, none, none] [] M (u, v) := by
  obtain ⟨⟨hMi, hn, hsc, hi, hu⟩, J⟩ := H
  have hr : ∀ j, R32 (sc j) := hsc
  refine zwL_law_443 ⟨by omega, by omega, ⟨by omega, by omega⟩, n, x, x, hL, hA, hr _, hr _, fun S1 L1 P1 f1 a1 r1 o1 => ?_⟩
  refine ⟨by omega, by omega, Or.inl a1.z0, ⟨by omega, by omega⟩, n, _, x, a1, hA, hr _, hr _, fun S2 L2 P2 f2 v2 a2 h2 e2 ov => ?_⟩
  have hS : R32 (S2 0 0) := by rw [h2]; exact r1
  refine ⟨Or.inl a2.z0, ⟨by omega, by omega⟩, n, _, _, a2, hS, fun S3 L3 P3 f3 a3 h3 e3 => ⟨hS, r1, fun _ => ⟨r1, fun _ => J _ _ _ _ a3 (ka6 hA) (by omega) (by omega), fun z => ?_⟩, fun ne => absurd h2 ne⟩⟩
  have eL : L3 51 ((0 : Int).toNat) = nz v2 := by rw [e3, e2]; exact (o1 z).trans (ov z).symm
  rw [eL, zcmp_s]
  exact ⟨1, a3.z51, by decide, by decide, nz_R _, nz_64 _, nz_64 _, by decide, fun _ => J _ _ _ _ a3 (ka6 hA) (by omega) (by omega), fun ne => absurd rfl ne⟩
theorem lc07 (H : lwJ Mi Q X n sc i u v) (hL : LI n x x M) (hA : AI x) : zz_Jv Mi (zpL_law n sc) (zz_retP Q X 1076108 5861636) 511 [some (vr 1500), some (vr 100), some (vr 0), some (vr 51), some (vi i), none, none, none] [] M (u, v) := by
  obtain ⟨⟨hMi, hn, hsc, hi, hu⟩, J⟩ := H
  have hr : ∀ j, R32 (sc j) := hsc
  refine zwL_law_511 ⟨by omega, ⟨by omega, by omega⟩, n, x, x, hL, hA, hr _, fun S1 L1 P1 f1 a1 r1 o1 => ?_⟩
  refine ⟨by omega, Or.inl a1.z0, ⟨by omega, by omega⟩, n, _, x, a1, hA, hr _, fun S2 L2 P2 f2 v2 a2 h2 e2 ov => ?_⟩
  have hS : R32 (S2 0 0) := by rw [h2]; exact r1
  refine ⟨Or.inl a2.z0, ⟨by omega, by omega⟩, n, _, _, a2, hS, fun S3 L3 P3 f3 a3 h3 e3 => ⟨hS, r1, fun _ => ⟨r1, fun _ => J _ _ _ _ a3 (ka7 hA) (by omega) (by omega), fun z => ?_⟩, fun ne => absurd h2 ne⟩⟩
  have eL : L3 51 ((0 : Int).toNat) = nz v2 := by rw [e3, e2]; exact (o1 z).trans (ov z).symm
  rw [eL, zcmp_s]
  exact ⟨1, a3.z51, by decide, by decide, nz_R _, nz_64 _, nz_64 _, by decide, fun _ => J _ _ _ _ a3 (ka7 hA) (by omega) (by omega), fun ne => absurd rfl ne⟩
theorem lc08 (H : lwJ Mi Q X n sc i u v) (hL : LI n x x M) (hA : AI x) : zz_Jv Mi (zpL_law n sc) (zz_retP Q X 1076108 5861636) 567 [some (vr 1500), some (vr 100), some (vr 0), some (vr 51), some (vi i), none, none, none] [] M (u, v) := by
  obtain ⟨⟨hMi, hn, hsc, hi, hu⟩, J⟩ := H
  have hr : ∀ j, R32 (sc j) := hsc
  refine zwL_law_567 ⟨by omega, by omega, by omega, ⟨by omega, by omega⟩, n, x, x, hL, hA, hr _, hr _, hr _, fun S1 L1 P1 f1 a1 r1 => ?_⟩
  refine ⟨by omega, by omega, by omega, Or.inl a1.z0, ⟨by omega, by omega⟩, n, _, x, a1, hA, hr _, hr _, hr _, fun S2 L2 P2 f2 a2 h2 e2 => ?_⟩
  have hS : R32 (S2 0 0) := by rw [h2]; exact r1
  exact ⟨Or.inl a2.z0, ⟨by omega, by omega⟩, n, _, _, a2, hS, fun S3 L3 P3 f3 a3 h3 e3 => ⟨hS, r1, fun _ => J _ _ _ _ a3 (ka8 hA) (by omega) (by omega), fun ne => absurd h2 ne⟩⟩
theorem lc09 (H : lwJ Mi Q X n sc i u v) (hL : LI n x x M) (hA : AI x) : zz_Jv Mi (zpL_law n sc) (zz_retP Q X 1076108 5861636) 627 [some (vr 1500), some (vr 100), some (vr 0), some (vr 51), some (vi i), none, none, none] [] M (u, v) := by
  obtain ⟨⟨hMi, hn, hsc, hi, hu⟩, J⟩ := H
  have hr : ∀ j, R32 (sc j) := hsc
  refine zwL_law_627 ⟨by omega, by omega, ⟨by omega, by omega⟩, n, x, x, hL, hA, hr _, hr _, fun S1 L1 P1 f1 a1 r1 => ?_⟩
  refine ⟨by omega, by omega, Or.inl a1.z0, ⟨by omega, by omega⟩, n, _, x, a1, hA, hr _, hr _, fun S2 L2 P2 f2 a2 h2 e2 => ?_⟩
  have hS : R32 (S2 0 0) := by rw [h2]; exact r1
  exact ⟨Or.inl a2.z0, ⟨by omega, by omega⟩, n, _, _, a2, hS, fun S3 L3 P3 f3 a3 h3 e3 => ⟨hS, r1, fun _ => J _ _ _ _ a3 (ka9 hA) (by omega) (by omega), fun ne => absurd h2 ne⟩⟩
theorem lc10 (H : lwJ Mi Q X n sc i u v) (hL : LI n x x M) (hA : AI x) : zz_Jv Mi (zpL_law n sc) (zz_retP Q X 1076108 5861636) 675 [some (vr 1500), some (vr 100), some (vr 0), some (vr 51), some (vi i), none, none, none] [] M (u, v) := by
  obtain ⟨⟨hMi, hn, hsc, hi, hu⟩, J⟩ := H
  have hr : ∀ j, R32 (sc j) := hsc
  refine zwL_law_675 ⟨by omega, by omega, ⟨by omega, by omega⟩, n, x, x, hL, hA, hr _, hr _, fun S1 L1 P1 f1 a1 r1 => ?_⟩
  refine ⟨by omega, by omega, Or.inl a1.z0, ⟨by omega, by omega⟩, n, _, x, a1, hA, hr _, hr _, fun S2 L2 P2 f2 a2 h2 e2 => ?_⟩
  have hS : R32 (S2 0 0) := by rw [h2]; exact r1
  exact ⟨Or.inl a2.z0, ⟨by omega, by omega⟩, n, _, _, a2, hS, fun S3 L3 P3 f3 a3 h3 e3 => ⟨hS, r1, fun _ => J _ _ _ _ a3 (ka10 hA) (by omega) (by omega), fun ne => absurd h2 ne⟩⟩
theorem lc11 (H : lwJ Mi Q X n sc i u v) (hL : LI n x x M) (hA : AI x) : zz_Jv Mi (zpL_law n sc) (zz_retP Q X 1076108 5861636) 723 [some (vr 1500), some (vr 100), some (vr 0), some (vr 51), some (vi i), none, none, none] [] M (u, v) := by
  obtain ⟨⟨hMi, hn, hsc, hi, hu⟩, J⟩ := H
  have hr : ∀ j, R32 (sc j) := hsc
  refine zwL_law_723 ⟨by omega, ⟨by omega, by omega⟩, n, x, x, hL, hA, hr _, fun S1 L1 P1 f1 a1 r1 o1 => ?_⟩
  refine ⟨by omega, Or.inl a1.z0, ⟨by omega, by omega⟩, n, _, x, a1, hA, hr _, fun S2 L2 P2 f2 v2 a2 h2 e2 ov => ?_⟩
  have hS : R32 (S2 0 0) := by rw [h2]; exact r1
  refine ⟨Or.inl a2.z0, ⟨by omega, by omega⟩, n, _, _, a2, hS, fun S3 L3 P3 f3 a3 h3 e3 => ⟨hS, r1, fun _ => ⟨r1, fun _ => J _ _ _ _ a3 (ka11 hA) (by omega) (by omega), fun z => ?_⟩, fun ne => absurd h2 ne⟩⟩
  have eL : L3 51 ((0 : Int).toNat) = nz v2 := by rw [e3, e2]; exact (o1 z).trans (ov z).symm
  rw [eL, zcmp_s]
  exact ⟨1, a3.z51, by decide, by decide, nz_R _, nz_64 _, nz_64 _, by decide, fun _ => J _ _ _ _ a3 (ka11 hA) (by omega) (by omega), fun ne => absurd rfl ne⟩
theorem lc12 (H : lwJ Mi Q X n sc i u v) (hL : LI n x x M) (hA : AI x) : zz_Jv Mi (zpL_law n sc) (zz_retP Q X 1076108 5861636) 779 [some (vr 1500), some (vr 100), some (vr 0), some (vr 51), some (vi i), none, none, none] [] M (u, v) := by
  obtain ⟨⟨hMi, hn, hsc, hi, hu⟩, J⟩ := H
  have hr : ∀ j, R32 (sc j) := hsc
  refine zwL_law_779 ⟨by omega, by omega, ⟨by omega, by omega⟩, n, x, x, hL, hA, hr _, hr _, fun S1 L1 P1 f1 a1 r1 o1 => ?_⟩
  refine ⟨by omega, by omega, Or.inl a1.z0, ⟨by omega, by omega⟩, n, _, x, a1, hA, hr _, hr _, fun S2 L2 P2 f2 v2 a2 h2 e2 ov => ?_⟩
  have hS : R32 (S2 0 0) := by rw [h2]; exact r1
  refine ⟨Or.inl a2.z0, ⟨by omega, by omega⟩, n, _, _, a2, hS, fun S3 L3 P3 f3 a3 h3 e3 => ⟨hS, r1, fun _ => ⟨r1, fun _ => J _ _ _ _ a3 (ka12 hA) (by omega) (by omega), fun z => ?_⟩, fun ne => absurd h2 ne⟩⟩
  have eL : L3 51 ((0 : Int).toNat) = nz v2 := by rw [e3, e2]; exact (o1 z).trans (ov z).symm
  rw [eL, zcmp_s]
  exact ⟨1, a3.z51, by decide, by decide, nz_R _, nz_64 _, nz_64 _, by decide, fun _ => J _ _ _ _ a3 (ka12 hA) (by omega) (by omega), fun ne => absurd rfl ne⟩
theorem lc13 (H : lwJ Mi Q X n sc i u v) (hL : LI n x x M) (hA : AI x) : zz_Jv Mi (zpL_law n sc) (zz_retP Q X 1076108 5861636) 847 [some (vr 1500), some (vr 100), some (vr 0), some (vr 51), some (vi i), none, none, none] [] M (u, v) := by
  obtain ⟨⟨hMi, hn, hsc, hi, hu⟩, J⟩ := H
  have hr : ∀ j, R32 (sc j) := hsc
  refine zwL_law_847 ⟨by omega, ⟨by omega, by omega⟩, n, x, x, hL, hA, hr _, fun S1 L1 P1 f1 a1 r1 o1 => ?_⟩
  refine ⟨by omega, Or.inl a1.z0, ⟨by omega, by omega⟩, n, _, x, a1, hA, hr _, fun S2 L2 P2 f2 v2 a2 h2 e2 ov => ?_⟩
  have hS : R32 (S2 0 0) := by rw [h2]; exact r1
  refine ⟨Or.inl a2.z0, ⟨by omega, by omega⟩, n, _, _, a2, hS, fun S3 L3 P3 f3 a3 h3 e3 => ⟨hS, r1, fun _ => ⟨r1, fun _ => J _ _ _ _ a3 (ka13 hA) (by omega) (by omega), fun z => ?_⟩, fun ne => absurd h2 ne⟩⟩
  have eL : L3 51 ((0 : Int).toNat) = nz v2 := by rw [e3, e2]; exact (o1 z).trans (ov z).symm
  rw [eL]
  refine ⟨1, a3.z51, by decide, by decide, nz_R _, fun c => ?_, fun c => ?_⟩
  · rw [c, zcmp_s]
    exact ⟨by decide, by decide, by decide, fun _ => J _ _ _ _ a3 (ka13 hA) (by omega) (by omega), fun ne => absurd rfl ne⟩
  · have e1 : nz v2 = 1 := by
      rw [ov z] at c ⊢
      rcases bz13 (x := x) (a := sc ((i + 1).toNat)) with y | y
      · rw [y]; exact nz_id (by decide)
      · rw [y] at c; exact absurd (nz_id (by decide)) c
    rw [e1, zcmp_s]
    exact ⟨by decide, by decide, by decide, fun _ => J _ _ _ _ a3 (ka13 hA) (by omega) (by omega), fun ne => absurd rfl ne⟩
theorem lc14 (H : lwJ Mi Q X n sc i u v) (hL : LI n x x M) (hA : AI x) : zz_Jv Mi (zpL_law n sc) (zz_retP Q X 1076108 5861636) 910 [some (vr 1500), some (vr 100), some (vr 0), some (vr 51), some (vi i), none, none, none] [] M (u, v) := by
  obtain ⟨⟨hMi, hn, hsc, hi, hu⟩, J⟩ := H
  have hr : ∀ j, R32 (sc j) := hsc
  refine zwL_law_910 ⟨by omega, by omega, ⟨by omega, by omega⟩, n, x, x, hL, hA, hr _, hr _, fun S1 L1 P1 f1 a1 r1 o1 => ?_⟩
  refine ⟨by omega, by omega, Or.inl a1.z0, ⟨by omega, by omega⟩, n, _, x, a1, hA, hr _, hr _, fun S2 L2 P2 f2 v2 a2 h2 e2 ov => ?_⟩
  have hS : R32 (S2 0 0) := by rw [h2]; exact r1
  refine ⟨Or.inl a2.z0, ⟨by omega, by omega⟩, n, _, _, a2, hS, fun S3 L3 P3 f3 a3 h3 e3 => ⟨hS, r1, fun _ => ⟨r1, fun _ => J _ _ _ _ a3 (ka14 hA) (by omega) (by omega), fun z => ?_⟩, fun ne => absurd h2 ne⟩⟩
  have eL : L3 51 ((0 : Int).toNat) = nz v2 := by rw [e3, e2]; exact (o1 z).trans (ov z).symm
  rw [eL, zcmp_s]
  exact ⟨1, a3.z51, by decide, by decide, nz_R _, nz_64 _, nz_64 _, by decide, fun _ => J _ _ _ _ a3 (ka14 hA) (by omega) (by omega), fun ne => absurd rfl ne⟩
theorem lc15 (H : lwJ Mi Q X n sc i u v) (hL : LI n x x M) (hA : AI x) : zz_Jv Mi (zpL_law n sc) (zz_retP Q X 1076108 5861636) 978 [some (vr 1500), some (vr 100), some (vr 0), some (vr 51), some (vi i), none, none, none] [] M (u, v) := by
  obtain ⟨⟨hMi, hn, hsc, hi, hu⟩, J⟩ := H
  have hr : ∀ j, R32 (sc j) := hsc
  refine zwL_law_978 ⟨by omega, by omega, by omega, hr _, fun c => ⟨⟨by omega, by omega⟩, n, x, x, hL, hA, hr _, hr _, Or.inl rfl, fun S1 L1 P1 f1 a1 r1 o1 => ?_⟩, fun c => ⟨⟨by omega, by omega⟩, n, x, x, hL, hA, hr _, hr _, Or.inr rfl, fun S1 L1 P1 f1 a1 r1 o1 => ?_⟩⟩
  · refine ⟨by omega, by omega, by omega, hr _, fun _ => ⟨Or.inl a1.z0, ⟨by omega, by omega⟩, n, _, x, a1, hA, hr _, hr _, Or.inl rfl, fun S2 L2 P2 f2 v2 a2 h2 e2 ov => ?_⟩, fun c2 => absurd c c2⟩
    have hS : R32 (S2 0 0) := by rw [h2]; exact r1
    refine ⟨Or.inl a2.z0, ⟨by omega, by omega⟩, n, _, _, a2, hS, fun S3 L3 P3 f3 a3 h3 e3 => ⟨hS, r1, fun _ => ⟨r1, fun _ => J _ _ _ _ a3 (ka15 hA) (by omega) (by omega), fun z => ?_⟩, fun ne => absurd h2 ne⟩⟩
    have eL : L3 51 ((0 : Int).toNat) = nz v2 := by rw [e3, e2]; exact (o1 z).trans (ov z).symm
    rw [eL, zcmp_s]
    exact ⟨1, a3.z51, by decide, by decide, nz_R _, nz_64 _, nz_64 _, by decide, fun _ => J _ _ _ _ a3 (ka15 hA) (by omega) (by omega), fun ne => absurd rfl ne⟩
  · refine ⟨by omega, by omega, by omega, hr _, fun c2 => absurd c2 c, fun _ => ⟨Or.inl a1.z0, ⟨by omega, by omega⟩, n, _, x, a1, hA, hr _, hr _, Or.inr rfl, fun S2 L2 P2 f2 v2 a2 h2 e2 ov => ?_⟩⟩
    have hS : R32 (S2 0 0) := by rw [h2]; exact r1
    refine ⟨Or.inl a2.z0, ⟨by omega, by omega⟩, n, _, _, a2, hS, fun S3 L3 P3 f3 a3 h3 e3 => ⟨hS, r1, fun _ => ⟨r1, fun _ => J _ _ _ _ a3 (ka15 hA) (by omega) (by omega), fun z => ?_⟩, fun ne => absurd h2 ne⟩⟩
    have eL : L3 51 ((0 : Int).toNat) = nz v2 := by rw [e3, e2]; exact (o1 z).trans (ov z).symm
    rw [eL, zcmp_s]
    exact ⟨1, a3.z51, by decide, by decide, nz_R _, nz_64 _, nz_64 _, by decide, fun _ => J _ _ _ _ a3 (ka15 hA) (by omega) (by omega), fun ne => absurd rfl ne⟩
theorem lc16 (H : lwJ Mi Q X n sc i u v) (hL : LI n x x M) (hA : AI x) : zz_Jv Mi (zpL_law n sc) (zz_retP Q X 1076108 5861636) 1074 [some (vr 1500), some (vr 100), some (vr 0), some (vr 51), some (vi i), none, none, none] [] M (u, v) := by
  obtain ⟨⟨hMi, hn, hsc, hi, hu⟩, J⟩ := H
  have hr : ∀ j, R32 (sc j) := hsc
  refine zwL_law_1074 ⟨by omega, by omega, by omega, ⟨by omega, by omega⟩, n, x, x, hL, hA, hr _, hr _, hr _, fun S1 L1 P1 f1 a1 r1 o1 => ?_⟩
  refine ⟨by omega, by omega, by omega, Or.inl a1.z0, ⟨by omega, by omega⟩, n, _, x, a1, hA, hr _, hr _, hr _, fun S2 L2 P2 f2 v2 a2 h2 e2 ov => ?_⟩
  have hS : R32 (S2 0 0) := by rw [h2]; exact r1
  refine ⟨Or.inl a2.z0, ⟨by omega, by omega⟩, n, _, _, a2, hS, fun S3 L3 P3 f3 a3 h3 e3 => ⟨hS, r1, fun _ => ⟨r1, fun _ => J _ _ _ _ a3 (ka16 hA) (by omega) (by omega), fun z => ?_⟩, fun ne => absurd h2 ne⟩⟩
  have eL : L3 51 ((0 : Int).toNat) = nz v2 := by rw [e3, e2]; exact (o1 z).trans (ov z).symm
  rw [eL, zcmp_s]
  exact ⟨1, a3.z51, by decide, by decide, nz_R _, nz_64 _, nz_64 _, by decide, fun _ => J _ _ _ _ a3 (ka16 hA) (by omega) (by omega), fun ne => absurd rfl ne⟩
theorem lc17 (H : lwJ Mi Q X n sc i u v) (hL : LI n x x M) (hA : AI x) : zz_Jv Mi (zpL_law n sc) (zz_retP Q X 1076108 5861636) 1154 [some (vr 1500), some (vr 100), some (vr 0), some (vr 51), some (vi i), none, none, none] [] M (u, v) := by
  obtain ⟨⟨hMi, hn, hsc, hi, hu⟩, J⟩ := H
  have hr : ∀ j, R32 (sc j) := hsc
  refine zwL_law_1154 ⟨by omega, by omega, by omega, ⟨by omega, by omega⟩, n, x, x, hL, hA, hr _, hr _, hr _, fun S1 L1 P1 f1 a1 r1 o1 => ?_⟩
  refine ⟨by omega, by omega, by omega, Or.inl a1.z0, ⟨by omega, by omega⟩, n, _, x, a1, hA, hr _, hr _, hr _, fun S2 L2 P2 f2 v2 a2 h2 e2 ov => ?_⟩
  have hS : R32 (S2 0 0) := by rw [h2]; exact r1
  refine ⟨Or.inl a2.z0, ⟨by omega, by omega⟩, n, _, _, a2, hS, fun S3 L3 P3 f3 a3 h3 e3 => ⟨hS, r1, fun _ => ⟨r1, fun _ => J _ _ _ _ a3 (ka17 hA) (by omega) (by omega), fun z => ?_⟩, fun ne => absurd h2 ne⟩⟩
  have eL : L3 51 ((0 : Int).toNat) = nz v2 := by rw [e3, e2]; exact (o1 z).trans (ov z).symm
  rw [eL, zcmp_s]
  exact ⟨1, a3.z51, by decide, by decide, nz_R _, nz_64 _, nz_64 _, by decide, fun _ => J _ _ _ _ a3 (ka17 hA) (by omega) (by omega), fun ne => absurd rfl ne⟩
theorem lc18 (H : lwJ Mi Q X n sc i u v) (hL : LI n x x M) (hA : AI x) : zz_Jv Mi (zpL_law n sc) (zz_retP Q X 1076108 5861636) 1234 [some (vr 1500), some (vr 100), some (vr 0), some (vr 51), some (vi i), none, none, none] [] M (u, v) := by
  obtain ⟨⟨hMi, hn, hsc, hi, hu⟩, J⟩ := H
  have hr : ∀ j, R32 (sc j) := hsc
  refine zwL_law_1234 ⟨by omega, by omega, ⟨by omega, by omega⟩, n, x, x, hL, hA, hr _, hr _, fun S1 L1 P1 f1 a1 r1 o1 => ?_⟩
  refine ⟨by omega, by omega, Or.inl a1.z0, ⟨by omega, by omega⟩, n, _, x, a1, hA, hr _, hr _, fun S2 L2 P2 f2 v2 a2 h2 e2 ov => ?_⟩
  have hS : R32 (S2 0 0) := by rw [h2]; exact r1
  refine ⟨Or.inl a2.z0, ⟨by omega, by omega⟩, n, _, _, a2, hS, fun S3 L3 P3 f3 a3 h3 e3 => ⟨hS, r1, fun _ => ⟨r1, fun _ => J _ _ _ _ a3 (ka18 hA) (by omega) (by omega), fun z => ?_⟩, fun ne => absurd h2 ne⟩⟩
  have eL : L3 51 ((0 : Int).toNat) = nz v2 := by rw [e3, e2]; exact (o1 z).trans (ov z).symm
  rw [eL, zcmp_s]
  exact ⟨1, a3.z51, by decide, by decide, nz_R _, nz_64 _, nz_64 _, by decide, fun _ => J _ _ _ _ a3 (ka18 hA) (by omega) (by omega), fun ne => absurd rfl ne⟩
theorem lc19 (H : lwJ Mi Q X n sc i u v) (hL : LI n x x M) (hA : AI x) : zz_Jv Mi (zpL_law n sc) (zz_retP Q X 1076108 5861636) 1302 [some (vr 1500), some (vr 100), some (vr 0), some (vr 51), some (vi i), none, none, none] [] M (u, v) := by
  obtain ⟨⟨hMi, hn, hsc, hi, hu⟩, J⟩ := H
  have hr : ∀ j, R32 (sc j) := hsc
  refine zwL_law_1302 ⟨by omega, by omega, by omega, by omega, ⟨by omega, by omega⟩, n, x, x, hL, hA, hr _, hr _, hr _, hr _, fun S1 L1 P1 f1 a1 r1 o1 => ?_⟩
  refine ⟨by omega, by omega, by omega, by omega, Or.inl a1.z0, ⟨by omega, by omega⟩, n, _, x, a1, hA, hr _, hr _, hr _, hr _, fun S2 L2 P2 f2 v2 a2 h2 e2 ov => ?_⟩
  have hS : R32 (S2 0 0) := by rw [h2]; exact r1
  refine ⟨Or.inl a2.z0, ⟨by omega, by omega⟩, n, _, _, a2, hS, fun S3 L3 P3 f3 a3 h3 e3 => ⟨hS, r1, fun _ => ⟨r1, fun _ => J _ _ _ _ a3 (ka19 hA) (by omega) (by omega), fun z => ?_⟩, fun ne => absurd h2 ne⟩⟩
  have eL : L3 51 ((0 : Int).toNat) = nz v2 := by rw [e3, e2]; exact (o1 z).trans (ov z).symm
  rw [eL, zcmp_s]
  exact ⟨1, a3.z51, by decide, by decide, nz_R _, nz_64 _, nz_64 _, by decide, fun _ => J _ _ _ _ a3 (ka19 hA) (by omega) (by omega), fun ne => absurd rfl ne⟩
theorem lc20 (H : lwJ Mi Q X n sc i u v) (hL : LI n x x M) (hA : AI x) : zz_Jv Mi (zpL_law n sc) (zz_retP Q X 1076108 5861636) 1394 [some (vr 1500), some (vr 100), some (vr 0), some (vr 51), some (vi i), none, none, none] [] M (u, v) := by
  obtain ⟨⟨hMi, hn, hsc, hi, hu⟩, J⟩ := H
  have hr : ∀ j, R32 (sc j) := hsc
  refine zwL_law_1394 ⟨by omega, by omega, ⟨by omega, by omega⟩, n, x, x, hL, hA, hr _, hr _, fun S1 L1 P1 f1 a1 r1 o1 => ?_⟩
  refine ⟨by omega, by omega, Or.inl a1.z0, ⟨by omega, by omega⟩, n, _, x, a1, hA, hr _, hr _, fun S2 L2 P2 f2 v2 a2 h2 e2 ov => ?_⟩
  have hS : R32 (S2 0 0) := by rw [h2]; exact r1
  refine ⟨Or.inl a2.z0, ⟨by omega, by omega⟩, n, _, _, a2, hS, fun S3 L3 P3 f3 a3 h3 e3 => ⟨hS, r1, fun _ => ⟨r1, fun _ => J _ _ _ _ a3 (ka20 hA) (by omega) (by omega), fun z => ?_⟩, fun ne => absurd h2 ne⟩⟩
  have eL : L3 51 ((0 : Int).toNat) = nz v2 := by rw [e3, e2]; exact (o1 z).trans (ov z).symm
  rw [eL, zcmp_s]
  exact ⟨1, a3.z51, by decide, by decide, nz_R _, nz_64 _, nz_64 _, by decide, fun _ => J _ _ _ _ a3 (ka20 hA) (by omega) (by omega), fun ne => absurd rfl ne⟩
theorem lc21 (H : lwJ Mi Q X n sc i u v) (hL : LI n x x M) (hA : AI x) : zz_Jv Mi (zpL_law n sc) (zz_retP Q X 1076108 5861636) 1462 [some (vr 1500), some (vr 100), some (vr 0), some (vr 51), some (vi i), none, none, none] [] M (u, v) := by
  obtain ⟨⟨hMi, hn, hsc, hi, hu⟩, J⟩ := H
  have hr : ∀ j, R32 (sc j) := hsc
  refine zwL_law_1462 ⟨by omega, ⟨by omega, by omega⟩, n, x, x, hL, hA, hr _, fun S1 L1 P1 f1 a1 r1 o1 => ?_⟩
  refine ⟨by omega, Or.inl a1.z0, ⟨by omega, by omega⟩, n, _, x, a1, hA, hr _, fun S2 L2 P2 f2 v2 a2 h2 e2 ov => ?_⟩
  have hS : R32 (S2 0 0) := by rw [h2]; exact r1
  refine ⟨Or.inl a2.z0, ⟨by omega, by omega⟩, n, _, _, a2, hS, fun S3 L3 P3 f3 a3 h3 e3 => ⟨hS, r1, fun _ => ⟨r1, fun _ => J _ _ _ _ a3 (ka21 hA) (by omega) (by omega), fun z => ?_⟩, fun ne => absurd h2 ne⟩⟩
  have eL : L3 51 ((0 : Int).toNat) = nz v2 := by rw [e3, e2]; exact (o1 z).trans (ov z).symm
  rw [eL, zcmp_s]
  exact ⟨1, a3.z51, by decide, by decide, nz_R _, nz_64 _, nz_64 _, by decide, fun _ => J _ _ _ _ a3 (ka21 hA) (by omega) (by omega), fun ne => absurd rfl ne⟩
theorem lc22 (H : lwJ Mi Q X n sc i u v) (hL : LI n x x M) (hA : AI x) : zz_Jv Mi (zpL_law n sc) (zz_retP Q X 1076108 5861636) 1518 [some (vr 1500), some (vr 100), some (vr 0), some (vr 51), some (vi i), none, none, none] [] M (u, v) := by
  obtain ⟨⟨hMi, hn, hsc, hi, hu⟩, J⟩ := H
  have hr : ∀ j, R32 (sc j) := hsc
  refine zwL_law_1518 ⟨by omega, by omega, by omega, by omega, by omega, hr _, fun c => ⟨⟨by omega, by omega⟩, n, x, x, hL, hA, hr _, hr _, hr _, hr _, Or.inl rfl, fun S1 L1 P1 f1 a1 r1 o1 => ?_⟩, fun c => ⟨⟨by omega, by omega⟩, n, x, x, hL, hA, hr _, hr _, hr _, hr _, Or.inr rfl, fun S1 L1 P1 f1 a1 r1 o1 => ?_⟩⟩
  · refine ⟨by omega, by omega, by omega, by omega, by omega, hr _, fun _ => ⟨Or.inl a1.z0, ⟨by omega, by omega⟩, n, _, x, a1, hA, hr _, hr _, hr _, hr _, Or.inl rfl, fun S2 L2 P2 f2 v2 a2 h2 e2 ov => ?_⟩, fun c2 => absurd c c2⟩
    have hS : R32 (S2 0 0) := by rw [h2]; exact r1
    refine ⟨Or.inl a2.z0, ⟨by omega, by omega⟩, n, _, _, a2, hS, fun S3 L3 P3 f3 a3 h3 e3 => ⟨hS, r1, fun _ => ⟨r1, fun _ => J _ _ _ _ a3 (ka22 hA) (by omega) (by omega), fun z => ?_⟩, fun ne => absurd h2 ne⟩⟩
    have eL : L3 51 ((0 : Int).toNat) = nl v2 := by rw [e3, e2]; exact (o1 z).trans (ov z).symm
    rw [eL, zcmp_s]
    exact ⟨1, a3.z51, by decide, by decide, nl_R _, nl_R _, by decide, fun _ => J _ _ _ _ a3 (ka22 hA) (by omega) (by omega), fun ne => absurd rfl ne⟩
  · refine ⟨by omega, by omega, by omega, by omega, by omega, hr _, fun c2 => absurd c2 c, fun _ => ⟨Or.inl a1.z0, ⟨by omega, by omega⟩, n, _, x, a1, hA, hr _, hr _, hr _, hr _, Or.inr rfl, fun S2 L2 P2 f2 v2 a2 h2 e2 ov => ?_⟩⟩
    have hS : R32 (S2 0 0) := by rw [h2]; exact r1
    refine ⟨Or.inl a2.z0, ⟨by omega, by omega⟩, n, _, _, a2, hS, fun S3 L3 P3 f3 a3 h3 e3 => ⟨hS, r1, fun _ => ⟨r1, fun _ => J _ _ _ _ a3 (ka22 hA) (by omega) (by omega), fun z => ?_⟩, fun ne => absurd h2 ne⟩⟩
    have eL : L3 51 ((0 : Int).toNat) = nl v2 := by rw [e3, e2]; exact (o1 z).trans (ov z).symm
    rw [eL, zcmp_s]
    exact ⟨1, a3.z51, by decide, by decide, nl_R _, nl_R _, by decide, fun _ => J _ _ _ _ a3 (ka22 hA) (by omega) (by omega), fun ne => absurd rfl ne⟩
theorem lc23 (H : lwJ Mi Q X n sc i u v) (hL : LI n x x M) (hA : AI x) : zz_Jv Mi (zpL_law n sc) (zz_retP Q X 1076108 5861636) 1637 [some (vr 1500), some (vr 100), some (vr 0), some (vr 51), some (vi i), none, none, none] [] M (u, v) := by
  obtain ⟨⟨hMi, hn, hsc, hi, hu⟩, J⟩ := H
  have hr : ∀ j, R32 (sc j) := hsc
  refine zwL_law_1637 ⟨by omega, by omega, by omega, ⟨by omega, by omega⟩, n, x, x, hL, hA, hr _, hr _, hr _, fun S1 L1 P1 f1 a1 r1 o1 => ?_⟩
  refine ⟨by omega, by omega, by omega, Or.inl a1.z0, ⟨by omega, by omega⟩, n, _, x, a1, hA, hr _, hr _, hr _, fun S2 L2 P2 f2 v2 a2 h2 e2 ov => ?_⟩
  have hS : R32 (S2 0 0) := by rw [h2]; exact r1
  refine ⟨Or.inl a2.z0, ⟨by omega, by omega⟩, n, _, _, a2, hS, fun S3 L3 P3 f3 a3 h3 e3 => ⟨hS, r1, fun _ => ⟨r1, fun _ => J _ _ _ _ a3 (ka23 hA) (by omega) (by omega), fun z => ?_⟩, fun ne => absurd h2 ne⟩⟩
  have eL : L3 51 ((0 : Int).toNat) = nz v2 := by rw [e3, e2]; exact (o1 z).trans (ov z).symm
  rw [eL, zcmp_s]
  exact ⟨1, a3.z51, by decide, by decide, nz_R _, nz_64 _, nz_64 _, by decide, fun _ => J _ _ _ _ a3 (ka23 hA) (by omega) (by omega), fun ne => absurd rfl ne⟩
theorem lc24 (H : lwJ Mi Q X n sc i u v) (hL : LI n x x M) (hA : AI x) : zz_Jv Mi (zpL_law n sc) (zz_retP Q X 1076108 5861636) 1717 [some (vr 1500), some (vr 100), some (vr 0), some (vr 51), some (vi i), none, none, none] [] M (u, v) := by
  obtain ⟨⟨hMi, hn, hsc, hi, hu⟩, J⟩ := H
  have hr : ∀ j, R32 (sc j) := hsc
  exact zwL_law_1717 ⟨Or.inl hL.z100, ⟨by omega, by omega⟩, n, x, x, hL, hA, fun S1 L1 P1 f1 a1 => ⟨Or.inl a1.z0, ⟨by omega, by omega⟩, n, _, x, a1, hA, fun S2 L2 P2 f2 a2 h2 e2 => J _ _ _ _ a2 (ka24 hA) (by omega) (by omega)⟩⟩
theorem lc25b {M' : zz_M} (H : lwJ Mi Q X n sc i u v) (hA : AI x) (h : LI n (sm25 x).2.2 x M') (z1 : (sm25 x).1 = 0) : zz_Jv Mi (zpL_law n sc) (zz_retP Q X 1076108 5861636) 1732 [some (vr 1500), some (vr 100), some (vr 0), some (vr 51), some (vi i), none, none, none] [vi (nz (sm25 x).2.1)] M' (u + 26, v + 260) := by
  obtain ⟨⟨hMi, hn, hsc, hi, hu⟩, J⟩ := H
  exact zwL_law_1732 ⟨Or.inl h.z0, ⟨by omega, by omega⟩, n, _, x, h, hA, fun S2 L2 P2 f2 v2 a2 h2 e2 ov => ⟨nz_R _, nz_R _, fun _ => J _ _ _ _ a2 (ka25 hA) (by omega) (by omega), fun ne => absurd (ov z1).symm ne⟩⟩
theorem lc25 (H : lwJ Mi Q X n sc i u v) (hL : LI n x x M) (hA : AI x) : zz_Jv Mi (zpL_law n sc) (zz_retP Q X 1076108 5861636) 1728 [some (vr 1500), some (vr 100), some (vr 0), some (vr 51), some (vi i), none, none, none] [] M (u, v) := by
  obtain ⟨⟨hMi, hn, hsc, hi, hu⟩, J⟩ := H
  have hr : ∀ j, R32 (sc j) := hsc
  have H : lwJ Mi Q X n sc i u v := ⟨⟨hMi, hn, hsc, hi, hu⟩, J⟩
  refine zwL_law_1728 ⟨Or.inl hL.z100, ⟨by omega, by omega⟩, n, x, x, hL, hA, fun S1 L1 P1 f1 a1 z1 => ?_⟩
  rcases a1 with a1 | a1
  · exact lc25b H hA a1 z1
  · exact LI3.view hMi a1 (fun w hw => ⟨_, List.mem_singleton.mp hw⟩) (fun M' h e => lc25b H hA h z1)
theorem lc26 (H : lwJ Mi Q X n sc i u v) (hL : LI n x x M) (hA : AI x) : zz_Jv Mi (zpL_law n sc) (zz_retP Q X 1076108 5861636) 1741 [some (vr 1500), some (vr 100), some (vr 0), some (vr 51), some (vi i), none, none, none] [] M (u, v) := by
  obtain ⟨⟨hMi, hn, hsc, hi, hu⟩, J⟩ := H
  have hr : ∀ j, R32 (sc j) := hsc
  refine zwL_law_1741 ⟨by omega, Or.inl hL.z100, ⟨by omega, by omega⟩, n, x, x, hL, hA, hr _, fun S1 L1 P1 f1 a1 z1 => ?_⟩
  exact ⟨by omega, Or.inl a1.z0, ⟨by omega, by omega⟩, n, _, x, a1, hA, hr _, fun S2 L2 P2 f2 v2 a2 h2 e2 ov => ⟨nz_R _, nz_R _, fun _ => J _ _ _ _ a2 (ka26 hA) (by omega) (by omega), fun ne => absurd (ov z1).symm ne⟩⟩
end
/-- the law's loop -/
theorem law_loop {Q : Option zv → zz_M → Prop} {X : Nat → zz_M → Prop} {Mi : mm_M} {n : Nat} {sc : Nat → Int} (hMi : ∀ h, (Mi.1 h).1 ≠ 0 → h = 1500 ∨ (1000 ≤ h ∧ h < 1400)) (hn : n ≤ 384) (hsc : ∀ k, R32 (sc k)) (hQ : ∀ M y, LI n y y M → Q (some (vi 1)) M) : ∀ (j i : Nat) (x : aS) (M : zz_M) (u v : Nat), n < i + 6 + 6 * j → i ≤ n → LI n x x M → AI x → u + 10200 * j ≤ 1076108 → v + 58000 * j ≤ 5861636 → zz_Jv Mi (zpL_law n sc) (zz_retP Q X 1076108 5861636) 23 [some (vr 1500), some (vr 100), some (vr 0), some (vr 51), some (vi (i : Int)), none, none, none] [] M (u, v) := by
  intro j
  induction j with
  | zero =>
    intro i x M u v h1 h2 hL hA hu hv
    exact zwL_law_23 ⟨by omega, by omega, fun _ => ⟨⟨by omega, by omega⟩, hQ _ _ hL⟩, fun c => absurd (by omega) c⟩
  | succ j ih =>
    intro i x M u v h1 h2 hL hA hu hv
    refine zwL_law_23 ⟨by omega, by omega, fun _ => ⟨⟨by omega, by omega⟩, hQ _ _ hL⟩, fun c => ?_⟩
    have J : ∀ (M' : zz_M) (y : aS) (u' v' : Nat), LI n y y M' → AI y → u' ≤ u + 10200 → v' ≤ v + 58000 → zz_Jv Mi (zpL_law n sc) (zz_retP Q X 1076108 5861636) 1766 [some (vr 1500), some (vr 100), some (vr 0), some (vr 51), some (vi (i : Int)), none, none, none] [] M' (u', v') := fun M' y u' v' a b c d => by
      refine zwL_law_1766 ?_
      have := ih (i + 6) y M' u' v' (by omega) (by omega) a b (by omega) (by omega)
      rw [show ((i + 6 : Nat) : Int) = (i : Int) + 6 by omega] at this
      exact this
    have H : lwJ Mi Q X n sc (i : Int) u v := ⟨⟨hMi, hn, hsc, by omega, by omega⟩, J⟩
    exact ⟨by omega, i32_r _, ⟨fun _ => lc00 H hL hA, fun _ => ⟨fun _ => lc01 H hL hA, fun _ => ⟨fun _ => lc02 H hL hA, fun _ => ⟨fun _ => lc03 H hL hA, fun _ => ⟨fun _ => lc04 H hL hA, fun _ => ⟨fun _ => lc05 H hL hA, fun _ => ⟨fun _ => lc06 H hL hA, fun _ => ⟨fun _ => lc07 H hL hA, fun _ => ⟨fun _ => lc08 H hL hA, fun _ => ⟨fun _ => lc09 H hL hA, fun _ => ⟨fun _ => lc10 H hL hA, fun _ => ⟨fun _ => lc11 H hL hA, fun _ => ⟨fun _ => lc12 H hL hA, fun _ => ⟨fun _ => lc13 H hL hA, fun _ => ⟨fun _ => lc14 H hL hA, fun _ => ⟨fun _ => lc15 H hL hA, fun _ => ⟨fun _ => lc16 H hL hA, fun _ => ⟨fun _ => lc17 H hL hA, fun _ => ⟨fun _ => lc18 H hL hA, fun _ => ⟨fun _ => lc19 H hL hA, fun _ => ⟨fun _ => lc20 H hL hA, fun _ => ⟨fun _ => lc21 H hL hA, fun _ => ⟨fun _ => lc22 H hL hA, fun _ => ⟨fun _ => lc23 H hL hA, fun _ => ⟨fun _ => lc24 H hL hA, fun _ => ⟨fun _ => lc25 H hL hA, fun _ => ⟨fun _ => lc26 H hL hA, fun _ => J _ x u v hL hA (by omega) (by omega)⟩⟩⟩⟩⟩⟩⟩⟩⟩⟩⟩⟩⟩⟩⟩⟩⟩⟩⟩⟩⟩⟩⟩⟩⟩⟩⟩⟩
