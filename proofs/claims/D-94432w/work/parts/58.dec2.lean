/-! ===== decode rows: the component's classes ===== -/
set_option maxRecDepth 100000
abbrev cX2_init : ByteArray := prog_18_method_1_code
def yX2_init : MethodName := ⟨RX2, "<init>", "(LChaseCourt;)V"⟩
def dkwX2_init_4 : List UInt8 := [79, 132, 2, 1, 167, 255, 227, 177]
abbrev dktX2_init_4 : List UInt8 := dkwX2_init_4 ++ []
def dkwX2_init_3 : List UInt8 := [16, 16, 162, 0, 29, 42, 180, 0, 21, 28, 50, 3, 16, 50, 79, 42, 180, 0, 21, 28, 50, 4, 16, 50]
abbrev dktX2_init_3 : List UInt8 := dkwX2_init_3 ++ dktX2_init_4
def dkwX2_init_2 : List UInt8 := [2, 79, 181, 0, 31, 42, 187, 0, 35, 89, 42, 180, 0, 3, 183, 0, 37, 181, 0, 40, 3, 61, 28]
abbrev dktX2_init_2 : List UInt8 := dkwX2_init_2 ++ dktX2_init_3
def dkwX2_init_1 : List UInt8 := [181, 0, 21, 42, 187, 0, 24, 89, 183, 0, 26, 181, 0, 27, 42, 5, 188, 10, 89, 3, 2, 79, 89, 4]
abbrev dktX2_init_1 : List UInt8 := dkwX2_init_1 ++ dktX2_init_2
def dkwX2_init_0 : List UInt8 := [42, 43, 181, 0, 3, 42, 183, 0, 9, 42, 4, 181, 0, 15, 42, 16, 16, 16, 12, 197, 0, 19, 2]
abbrev dktX2_init_0 : List UInt8 := dkwX2_init_0 ++ dktX2_init_1
theorem dksX2_init_0 : cX2_init.data.toList.drop 0 = dktX2_init_0 := by decide +kernel
theorem dksX2_init_1 : cX2_init.data.toList.drop 23 = dktX2_init_1 := dk_seg dksX2_init_0 23 rfl rfl
theorem dksX2_init_2 : cX2_init.data.toList.drop 47 = dktX2_init_2 := dk_seg dksX2_init_1 24 rfl rfl
theorem dksX2_init_3 : cX2_init.data.toList.drop 70 = dktX2_init_3 := dk_seg dksX2_init_2 23 rfl rfl
theorem dksX2_init_4 : cX2_init.data.toList.drop 94 = dktX2_init_4 := dk_seg dksX2_init_3 24 rfl rfl
theorem dX2_init_0 : decode cX2_init 0 = .ok (.aload_n 0, 1) := dk_42 (dk_at dksX2_init_0 0 rfl rfl)
theorem dX2_init_1 : decode cX2_init 1 = .ok (.aload_n 1, 1) := dk_43 (dk_at dksX2_init_0 1 rfl rfl)
theorem dX2_init_2 : decode cX2_init 2 = .ok (.putfield 3, 3) := dk_181 0 3 (dk_at dksX2_init_0 2 rfl rfl)
theorem dX2_init_5 : decode cX2_init 5 = .ok (.aload_n 0, 1) := dk_42 (dk_at dksX2_init_0 5 rfl rfl)
theorem dX2_init_6 : decode cX2_init 6 = .ok (.invokespecial 9, 3) := dk_183 0 9 (dk_at dksX2_init_0 6 rfl rfl)
theorem dX2_init_9 : decode cX2_init 9 = .ok (.aload_n 0, 1) := dk_42 (dk_at dksX2_init_0 9 rfl rfl)
theorem dX2_init_10 : decode cX2_init 10 = .ok (.iconst 1, 1) := dk_4 (dk_at dksX2_init_0 10 rfl rfl)
theorem dX2_init_11 : decode cX2_init 11 = .ok (.putfield 15, 3) := dk_181 0 15 (dk_at dksX2_init_0 11 rfl rfl)
theorem dX2_init_14 : decode cX2_init 14 = .ok (.aload_n 0, 1) := dk_42 (dk_at dksX2_init_0 14 rfl rfl)
theorem dX2_init_15 : decode cX2_init 15 = .ok (.bipush 16, 2) := dk_16 16 (dk_at dksX2_init_0 15 rfl rfl)
theorem dX2_init_17 : decode cX2_init 17 = .ok (.bipush 12, 2) := dk_16 12 (dk_at dksX2_init_0 17 rfl rfl)
theorem dX2_init_19 : decode cX2_init 19 = .ok (.multianewarray 19 2, 4) := by decide +kernel
theorem dX2_init_23 : decode cX2_init 23 = .ok (.putfield 21, 3) := dk_181 0 21 (dk_at dksX2_init_1 0 rfl rfl)
theorem dX2_init_26 : decode cX2_init 26 = .ok (.aload_n 0, 1) := dk_42 (dk_at dksX2_init_1 3 rfl rfl)
theorem dX2_init_27 : decode cX2_init 27 = .ok (.new 24, 3) := dk_187 0 24 (dk_at dksX2_init_1 4 rfl rfl)
theorem dX2_init_30 : decode cX2_init 30 = .ok (.dup, 1) := dk_89 (dk_at dksX2_init_1 7 rfl rfl)
theorem dX2_init_31 : decode cX2_init 31 = .ok (.invokespecial 26, 3) := dk_183 0 26 (dk_at dksX2_init_1 8 rfl rfl)
theorem dX2_init_34 : decode cX2_init 34 = .ok (.putfield 27, 3) := dk_181 0 27 (dk_at dksX2_init_1 11 rfl rfl)
theorem dX2_init_37 : decode cX2_init 37 = .ok (.aload_n 0, 1) := dk_42 (dk_at dksX2_init_1 14 rfl rfl)
theorem dX2_init_38 : decode cX2_init 38 = .ok (.iconst 2, 1) := dk_5 (dk_at dksX2_init_1 15 rfl rfl)
theorem dX2_init_39 : decode cX2_init 39 = .ok (.newarray .int, 2) := dk_188_10 (dk_at dksX2_init_1 16 rfl rfl)
theorem dX2_init_41 : decode cX2_init 41 = .ok (.dup, 1) := dk_89 (dk_at dksX2_init_1 18 rfl rfl)
theorem dX2_init_42 : decode cX2_init 42 = .ok (.iconst 0, 1) := dk_3 (dk_at dksX2_init_1 19 rfl rfl)
theorem dX2_init_43 : decode cX2_init 43 = .ok (.iconst (-1), 1) := dk_2 (dk_at dksX2_init_1 20 rfl rfl)
theorem dX2_init_44 : decode cX2_init 44 = .ok (.iastore, 1) := dk_79 (dk_at dksX2_init_1 21 rfl rfl)
theorem dX2_init_45 : decode cX2_init 45 = .ok (.dup, 1) := dk_89 (dk_at dksX2_init_1 22 rfl rfl)
theorem dX2_init_46 : decode cX2_init 46 = .ok (.iconst 1, 1) := dk_4 (dk_at dksX2_init_1 23 rfl rfl)
theorem dX2_init_47 : decode cX2_init 47 = .ok (.iconst (-1), 1) := dk_2 (dk_at dksX2_init_2 0 rfl rfl)
theorem dX2_init_48 : decode cX2_init 48 = .ok (.iastore, 1) := dk_79 (dk_at dksX2_init_2 1 rfl rfl)
theorem dX2_init_49 : decode cX2_init 49 = .ok (.putfield 31, 3) := dk_181 0 31 (dk_at dksX2_init_2 2 rfl rfl)
theorem dX2_init_52 : decode cX2_init 52 = .ok (.aload_n 0, 1) := dk_42 (dk_at dksX2_init_2 5 rfl rfl)
theorem dX2_init_53 : decode cX2_init 53 = .ok (.new 35, 3) := dk_187 0 35 (dk_at dksX2_init_2 6 rfl rfl)
theorem dX2_init_56 : decode cX2_init 56 = .ok (.dup, 1) := dk_89 (dk_at dksX2_init_2 9 rfl rfl)
theorem dX2_init_57 : decode cX2_init 57 = .ok (.aload_n 0, 1) := dk_42 (dk_at dksX2_init_2 10 rfl rfl)
theorem dX2_init_58 : decode cX2_init 58 = .ok (.getfield 3, 3) := dk_180 0 3 (dk_at dksX2_init_2 11 rfl rfl)
theorem dX2_init_61 : decode cX2_init 61 = .ok (.invokespecial 37, 3) := dk_183 0 37 (dk_at dksX2_init_2 14 rfl rfl)
theorem dX2_init_64 : decode cX2_init 64 = .ok (.putfield 40, 3) := dk_181 0 40 (dk_at dksX2_init_2 17 rfl rfl)
theorem dX2_init_67 : decode cX2_init 67 = .ok (.iconst 0, 1) := dk_3 (dk_at dksX2_init_2 20 rfl rfl)
theorem dX2_init_68 : decode cX2_init 68 = .ok (.istore_n 2, 1) := dk_61 (dk_at dksX2_init_2 21 rfl rfl)
theorem dX2_init_69 : decode cX2_init 69 = .ok (.iload_n 2, 1) := dk_28 (dk_at dksX2_init_2 22 rfl rfl)
theorem dX2_init_70 : decode cX2_init 70 = .ok (.bipush 16, 2) := dk_16 16 (dk_at dksX2_init_3 0 rfl rfl)
theorem dX2_init_72 : decode cX2_init 72 = .ok (.if_icmp .ge 29, 3) := dk_162 0 29 (dk_at dksX2_init_3 2 rfl rfl)
theorem dX2_init_75 : decode cX2_init 75 = .ok (.aload_n 0, 1) := dk_42 (dk_at dksX2_init_3 5 rfl rfl)
theorem dX2_init_76 : decode cX2_init 76 = .ok (.getfield 21, 3) := dk_180 0 21 (dk_at dksX2_init_3 6 rfl rfl)
theorem dX2_init_79 : decode cX2_init 79 = .ok (.iload_n 2, 1) := dk_28 (dk_at dksX2_init_3 9 rfl rfl)
theorem dX2_init_80 : decode cX2_init 80 = .ok (.aaload, 1) := dk_50 (dk_at dksX2_init_3 10 rfl rfl)
theorem dX2_init_81 : decode cX2_init 81 = .ok (.iconst 0, 1) := dk_3 (dk_at dksX2_init_3 11 rfl rfl)
theorem dX2_init_82 : decode cX2_init 82 = .ok (.bipush 50, 2) := dk_16 50 (dk_at dksX2_init_3 12 rfl rfl)
theorem dX2_init_84 : decode cX2_init 84 = .ok (.iastore, 1) := dk_79 (dk_at dksX2_init_3 14 rfl rfl)
theorem dX2_init_85 : decode cX2_init 85 = .ok (.aload_n 0, 1) := dk_42 (dk_at dksX2_init_3 15 rfl rfl)
theorem dX2_init_86 : decode cX2_init 86 = .ok (.getfield 21, 3) := dk_180 0 21 (dk_at dksX2_init_3 16 rfl rfl)
theorem dX2_init_89 : decode cX2_init 89 = .ok (.iload_n 2, 1) := dk_28 (dk_at dksX2_init_3 19 rfl rfl)
theorem dX2_init_90 : decode cX2_init 90 = .ok (.aaload, 1) := dk_50 (dk_at dksX2_init_3 20 rfl rfl)
theorem dX2_init_91 : decode cX2_init 91 = .ok (.iconst 1, 1) := dk_4 (dk_at dksX2_init_3 21 rfl rfl)
theorem dX2_init_92 : decode cX2_init 92 = .ok (.bipush 50, 2) := dk_16 50 (dk_at dksX2_init_3 22 rfl rfl)
theorem dX2_init_94 : decode cX2_init 94 = .ok (.iastore, 1) := dk_79 (dk_at dksX2_init_4 0 rfl rfl)
theorem dX2_init_95 : decode cX2_init 95 = .ok (.iinc 2 1, 3) := dk_132 2 1 (dk_at dksX2_init_4 1 rfl rfl)
theorem dX2_init_98 : decode cX2_init 98 = .ok (.goto (-29), 3) := dk_167 255 227 (dk_at dksX2_init_4 4 rfl rfl)
theorem dX2_init_101 : decode cX2_init 101 = .ok (.return_, 1) := dk_177 (dk_at dksX2_init_4 7 rfl rfl)
abbrev cX2_copy : ByteArray := prog_18_method_2_code
def yX2_copy : MethodName := ⟨RX2, "copy", "()LChaseCourt$World;"⟩
def dkwX2_copy_5 : List UInt8 := [184, 0, 60, 43, 180, 0, 40, 42, 180, 0, 40, 182, 0, 70, 87, 43, 176]
abbrev dktX2_copy_5 : List UInt8 := dkwX2_copy_5 ++ []
def dkwX2_copy_4 : List UInt8 := [43, 180, 0, 27, 42, 180, 0, 27, 182, 0, 66, 87, 42, 180, 0, 31, 3, 43, 180, 0, 31, 3, 5]
abbrev dktX2_copy_4 : List UInt8 := dkwX2_copy_4 ++ dktX2_copy_5
def dkwX2_copy_3 : List UInt8 := [180, 0, 21, 28, 50, 3, 43, 180, 0, 21, 28, 50, 3, 16, 12, 184, 0, 60, 132, 2, 1, 167, 255, 228]
abbrev dktX2_copy_3 : List UInt8 := dkwX2_copy_3 ++ dktX2_copy_4
def dkwX2_copy_2 : List UInt8 := [180, 0, 54, 181, 0, 54, 43, 42, 180, 0, 57, 181, 0, 57, 3, 61, 28, 16, 16, 162, 0, 28, 42]
abbrev dktX2_copy_2 : List UInt8 := dkwX2_copy_2 ++ dktX2_copy_3
def dkwX2_copy_1 : List UInt8 := [180, 0, 15, 181, 0, 15, 43, 42, 180, 0, 48, 181, 0, 48, 43, 42, 180, 0, 51, 181, 0, 51, 43, 42]
abbrev dktX2_copy_1 : List UInt8 := dkwX2_copy_1 ++ dktX2_copy_2
def dkwX2_copy_0 : List UInt8 := [187, 0, 4, 89, 42, 180, 0, 3, 183, 0, 44, 76, 43, 42, 180, 0, 45, 181, 0, 45, 43, 42]
abbrev dktX2_copy_0 : List UInt8 := dkwX2_copy_0 ++ dktX2_copy_1
theorem dksX2_copy_0 : cX2_copy.data.toList.drop 0 = dktX2_copy_0 := by decide +kernel
theorem dksX2_copy_1 : cX2_copy.data.toList.drop 22 = dktX2_copy_1 := dk_seg dksX2_copy_0 22 rfl rfl
theorem dksX2_copy_2 : cX2_copy.data.toList.drop 46 = dktX2_copy_2 := dk_seg dksX2_copy_1 24 rfl rfl
theorem dksX2_copy_3 : cX2_copy.data.toList.drop 69 = dktX2_copy_3 := dk_seg dksX2_copy_2 23 rfl rfl
theorem dksX2_copy_4 : cX2_copy.data.toList.drop 93 = dktX2_copy_4 := dk_seg dksX2_copy_3 24 rfl rfl
theorem dksX2_copy_5 : cX2_copy.data.toList.drop 116 = dktX2_copy_5 := dk_seg dksX2_copy_4 23 rfl rfl
theorem dX2_copy_0 : decode cX2_copy 0 = .ok (.new 4, 3) := dk_187 0 4 (dk_at dksX2_copy_0 0 rfl rfl)
theorem dX2_copy_3 : decode cX2_copy 3 = .ok (.dup, 1) := dk_89 (dk_at dksX2_copy_0 3 rfl rfl)
theorem dX2_copy_4 : decode cX2_copy 4 = .ok (.aload_n 0, 1) := dk_42 (dk_at dksX2_copy_0 4 rfl rfl)
theorem dX2_copy_5 : decode cX2_copy 5 = .ok (.getfield 3, 3) := dk_180 0 3 (dk_at dksX2_copy_0 5 rfl rfl)
theorem dX2_copy_8 : decode cX2_copy 8 = .ok (.invokespecial 44, 3) := dk_183 0 44 (dk_at dksX2_copy_0 8 rfl rfl)
theorem dX2_copy_11 : decode cX2_copy 11 = .ok (.astore_n 1, 1) := dk_76 (dk_at dksX2_copy_0 11 rfl rfl)
theorem dX2_copy_12 : decode cX2_copy 12 = .ok (.aload_n 1, 1) := dk_43 (dk_at dksX2_copy_0 12 rfl rfl)
theorem dX2_copy_13 : decode cX2_copy 13 = .ok (.aload_n 0, 1) := dk_42 (dk_at dksX2_copy_0 13 rfl rfl)
theorem dX2_copy_14 : decode cX2_copy 14 = .ok (.getfield 45, 3) := dk_180 0 45 (dk_at dksX2_copy_0 14 rfl rfl)
theorem dX2_copy_17 : decode cX2_copy 17 = .ok (.putfield 45, 3) := dk_181 0 45 (dk_at dksX2_copy_0 17 rfl rfl)
theorem dX2_copy_20 : decode cX2_copy 20 = .ok (.aload_n 1, 1) := dk_43 (dk_at dksX2_copy_0 20 rfl rfl)
theorem dX2_copy_21 : decode cX2_copy 21 = .ok (.aload_n 0, 1) := dk_42 (dk_at dksX2_copy_0 21 rfl rfl)
theorem dX2_copy_22 : decode cX2_copy 22 = .ok (.getfield 15, 3) := dk_180 0 15 (dk_at dksX2_copy_1 0 rfl rfl)
theorem dX2_copy_25 : decode cX2_copy 25 = .ok (.putfield 15, 3) := dk_181 0 15 (dk_at dksX2_copy_1 3 rfl rfl)
theorem dX2_copy_28 : decode cX2_copy 28 = .ok (.aload_n 1, 1) := dk_43 (dk_at dksX2_copy_1 6 rfl rfl)
theorem dX2_copy_29 : decode cX2_copy 29 = .ok (.aload_n 0, 1) := dk_42 (dk_at dksX2_copy_1 7 rfl rfl)
theorem dX2_copy_30 : decode cX2_copy 30 = .ok (.getfield 48, 3) := dk_180 0 48 (dk_at dksX2_copy_1 8 rfl rfl)
theorem dX2_copy_33 : decode cX2_copy 33 = .ok (.putfield 48, 3) := dk_181 0 48 (dk_at dksX2_copy_1 11 rfl rfl)
theorem dX2_copy_36 : decode cX2_copy 36 = .ok (.aload_n 1, 1) := dk_43 (dk_at dksX2_copy_1 14 rfl rfl)
theorem dX2_copy_37 : decode cX2_copy 37 = .ok (.aload_n 0, 1) := dk_42 (dk_at dksX2_copy_1 15 rfl rfl)
theorem dX2_copy_38 : decode cX2_copy 38 = .ok (.getfield 51, 3) := dk_180 0 51 (dk_at dksX2_copy_1 16 rfl rfl)
theorem dX2_copy_41 : decode cX2_copy 41 = .ok (.putfield 51, 3) := dk_181 0 51 (dk_at dksX2_copy_1 19 rfl rfl)
theorem dX2_copy_44 : decode cX2_copy 44 = .ok (.aload_n 1, 1) := dk_43 (dk_at dksX2_copy_1 22 rfl rfl)
theorem dX2_copy_45 : decode cX2_copy 45 = .ok (.aload_n 0, 1) := dk_42 (dk_at dksX2_copy_1 23 rfl rfl)
theorem dX2_copy_46 : decode cX2_copy 46 = .ok (.getfield 54, 3) := dk_180 0 54 (dk_at dksX2_copy_2 0 rfl rfl)
theorem dX2_copy_49 : decode cX2_copy 49 = .ok (.putfield 54, 3) := dk_181 0 54 (dk_at dksX2_copy_2 3 rfl rfl)
theorem dX2_copy_52 : decode cX2_copy 52 = .ok (.aload_n 1, 1) := dk_43 (dk_at dksX2_copy_2 6 rfl rfl)
theorem dX2_copy_53 : decode cX2_copy 53 = .ok (.aload_n 0, 1) := dk_42 (dk_at dksX2_copy_2 7 rfl rfl)
theorem dX2_copy_54 : decode cX2_copy 54 = .ok (.getfield 57, 3) := dk_180 0 57 (dk_at dksX2_copy_2 8 rfl rfl)
theorem dX2_copy_57 : decode cX2_copy 57 = .ok (.putfield 57, 3) := dk_181 0 57 (dk_at dksX2_copy_2 11 rfl rfl)
theorem dX2_copy_60 : decode cX2_copy 60 = .ok (.iconst 0, 1) := dk_3 (dk_at dksX2_copy_2 14 rfl rfl)
theorem dX2_copy_61 : decode cX2_copy 61 = .ok (.istore_n 2, 1) := dk_61 (dk_at dksX2_copy_2 15 rfl rfl)
theorem dX2_copy_62 : decode cX2_copy 62 = .ok (.iload_n 2, 1) := dk_28 (dk_at dksX2_copy_2 16 rfl rfl)
theorem dX2_copy_63 : decode cX2_copy 63 = .ok (.bipush 16, 2) := dk_16 16 (dk_at dksX2_copy_2 17 rfl rfl)
theorem dX2_copy_65 : decode cX2_copy 65 = .ok (.if_icmp .ge 28, 3) := dk_162 0 28 (dk_at dksX2_copy_2 19 rfl rfl)
theorem dX2_copy_68 : decode cX2_copy 68 = .ok (.aload_n 0, 1) := dk_42 (dk_at dksX2_copy_2 22 rfl rfl)
theorem dX2_copy_69 : decode cX2_copy 69 = .ok (.getfield 21, 3) := dk_180 0 21 (dk_at dksX2_copy_3 0 rfl rfl)
theorem dX2_copy_72 : decode cX2_copy 72 = .ok (.iload_n 2, 1) := dk_28 (dk_at dksX2_copy_3 3 rfl rfl)
theorem dX2_copy_73 : decode cX2_copy 73 = .ok (.aaload, 1) := dk_50 (dk_at dksX2_copy_3 4 rfl rfl)
theorem dX2_copy_74 : decode cX2_copy 74 = .ok (.iconst 0, 1) := dk_3 (dk_at dksX2_copy_3 5 rfl rfl)
theorem dX2_copy_75 : decode cX2_copy 75 = .ok (.aload_n 1, 1) := dk_43 (dk_at dksX2_copy_3 6 rfl rfl)
theorem dX2_copy_76 : decode cX2_copy 76 = .ok (.getfield 21, 3) := dk_180 0 21 (dk_at dksX2_copy_3 7 rfl rfl)
theorem dX2_copy_79 : decode cX2_copy 79 = .ok (.iload_n 2, 1) := dk_28 (dk_at dksX2_copy_3 10 rfl rfl)
theorem dX2_copy_80 : decode cX2_copy 80 = .ok (.aaload, 1) := dk_50 (dk_at dksX2_copy_3 11 rfl rfl)
theorem dX2_copy_81 : decode cX2_copy 81 = .ok (.iconst 0, 1) := dk_3 (dk_at dksX2_copy_3 12 rfl rfl)
theorem dX2_copy_82 : decode cX2_copy 82 = .ok (.bipush 12, 2) := dk_16 12 (dk_at dksX2_copy_3 13 rfl rfl)
theorem dX2_copy_84 : decode cX2_copy 84 = .ok (.invokestatic 60, 3) := dk_184 0 60 (dk_at dksX2_copy_3 15 rfl rfl)
theorem dX2_copy_87 : decode cX2_copy 87 = .ok (.iinc 2 1, 3) := dk_132 2 1 (dk_at dksX2_copy_3 18 rfl rfl)
theorem dX2_copy_90 : decode cX2_copy 90 = .ok (.goto (-28), 3) := dk_167 255 228 (dk_at dksX2_copy_3 21 rfl rfl)
theorem dX2_copy_93 : decode cX2_copy 93 = .ok (.aload_n 1, 1) := dk_43 (dk_at dksX2_copy_4 0 rfl rfl)
theorem dX2_copy_94 : decode cX2_copy 94 = .ok (.getfield 27, 3) := dk_180 0 27 (dk_at dksX2_copy_4 1 rfl rfl)
theorem dX2_copy_97 : decode cX2_copy 97 = .ok (.aload_n 0, 1) := dk_42 (dk_at dksX2_copy_4 4 rfl rfl)
theorem dX2_copy_98 : decode cX2_copy 98 = .ok (.getfield 27, 3) := dk_180 0 27 (dk_at dksX2_copy_4 5 rfl rfl)
theorem dX2_copy_101 : decode cX2_copy 101 = .ok (.invokevirtual 66, 3) := dk_182 0 66 (dk_at dksX2_copy_4 8 rfl rfl)
theorem dX2_copy_104 : decode cX2_copy 104 = .ok (.pop, 1) := dk_87 (dk_at dksX2_copy_4 11 rfl rfl)
theorem dX2_copy_105 : decode cX2_copy 105 = .ok (.aload_n 0, 1) := dk_42 (dk_at dksX2_copy_4 12 rfl rfl)
theorem dX2_copy_106 : decode cX2_copy 106 = .ok (.getfield 31, 3) := dk_180 0 31 (dk_at dksX2_copy_4 13 rfl rfl)
theorem dX2_copy_109 : decode cX2_copy 109 = .ok (.iconst 0, 1) := dk_3 (dk_at dksX2_copy_4 16 rfl rfl)
theorem dX2_copy_110 : decode cX2_copy 110 = .ok (.aload_n 1, 1) := dk_43 (dk_at dksX2_copy_4 17 rfl rfl)
theorem dX2_copy_111 : decode cX2_copy 111 = .ok (.getfield 31, 3) := dk_180 0 31 (dk_at dksX2_copy_4 18 rfl rfl)
theorem dX2_copy_114 : decode cX2_copy 114 = .ok (.iconst 0, 1) := dk_3 (dk_at dksX2_copy_4 21 rfl rfl)
theorem dX2_copy_115 : decode cX2_copy 115 = .ok (.iconst 2, 1) := dk_5 (dk_at dksX2_copy_4 22 rfl rfl)
theorem dX2_copy_116 : decode cX2_copy 116 = .ok (.invokestatic 60, 3) := dk_184 0 60 (dk_at dksX2_copy_5 0 rfl rfl)
theorem dX2_copy_119 : decode cX2_copy 119 = .ok (.aload_n 1, 1) := dk_43 (dk_at dksX2_copy_5 3 rfl rfl)
theorem dX2_copy_120 : decode cX2_copy 120 = .ok (.getfield 40, 3) := dk_180 0 40 (dk_at dksX2_copy_5 4 rfl rfl)
theorem dX2_copy_123 : decode cX2_copy 123 = .ok (.aload_n 0, 1) := dk_42 (dk_at dksX2_copy_5 7 rfl rfl)
theorem dX2_copy_124 : decode cX2_copy 124 = .ok (.getfield 40, 3) := dk_180 0 40 (dk_at dksX2_copy_5 8 rfl rfl)
theorem dX2_copy_127 : decode cX2_copy 127 = .ok (.invokevirtual 70, 3) := dk_182 0 70 (dk_at dksX2_copy_5 11 rfl rfl)
theorem dX2_copy_130 : decode cX2_copy 130 = .ok (.pop, 1) := dk_87 (dk_at dksX2_copy_5 14 rfl rfl)
theorem dX2_copy_131 : decode cX2_copy 131 = .ok (.aload_n 1, 1) := dk_43 (dk_at dksX2_copy_5 15 rfl rfl)
theorem dX2_copy_132 : decode cX2_copy 132 = .ok (.areturn, 1) := dk_176 (dk_at dksX2_copy_5 16 rfl rfl)
abbrev cX2_isWhole : ByteArray := prog_18_method_3_code
def yX2_isWhole : MethodName := ⟨RX2, "isWhole", "()Z"⟩
def dkwX2_isWhole_3 : List UInt8 := [132, 3, 1, 167, 255, 192, 4, 172]
abbrev dktX2_isWhole_3 : List UInt8 := dkwX2_isWhole_3 ++ []
def dkwX2_isWhole_2 : List UInt8 := [54, 9, 21, 5, 21, 9, 96, 54, 5, 132, 8, 1, 167, 255, 232, 21, 5, 16, 100, 159, 0, 5, 3, 172]
abbrev dktX2_isWhole_2 : List UInt8 := dkwX2_isWhole_2 ++ dktX2_isWhole_3
def dkwX2_isWhole_1 : List UInt8 := [25, 4, 58, 6, 25, 6, 190, 54, 7, 3, 54, 8, 21, 8, 21, 7, 162, 0, 23, 25, 6, 21, 8, 46]
abbrev dktX2_isWhole_1 : List UInt8 := dkwX2_isWhole_1 ++ dktX2_isWhole_2
def dkwX2_isWhole_0 : List UInt8 := [42, 180, 0, 21, 76, 43, 190, 61, 3, 62, 29, 28, 162, 0, 65, 43, 29, 50, 58, 4, 3, 54, 5]
abbrev dktX2_isWhole_0 : List UInt8 := dkwX2_isWhole_0 ++ dktX2_isWhole_1
theorem dksX2_isWhole_0 : cX2_isWhole.data.toList.drop 0 = dktX2_isWhole_0 := by decide +kernel
theorem dksX2_isWhole_1 : cX2_isWhole.data.toList.drop 23 = dktX2_isWhole_1 := dk_seg dksX2_isWhole_0 23 rfl rfl
theorem dksX2_isWhole_2 : cX2_isWhole.data.toList.drop 47 = dktX2_isWhole_2 := dk_seg dksX2_isWhole_1 24 rfl rfl
theorem dksX2_isWhole_3 : cX2_isWhole.data.toList.drop 71 = dktX2_isWhole_3 := dk_seg dksX2_isWhole_2 24 rfl rfl
theorem dX2_isWhole_0 : decode cX2_isWhole 0 = .ok (.aload_n 0, 1) := dk_42 (dk_at dksX2_isWhole_0 0 rfl rfl)
theorem dX2_isWhole_1 : decode cX2_isWhole 1 = .ok (.getfield 21, 3) := dk_180 0 21 (dk_at dksX2_isWhole_0 1 rfl rfl)
theorem dX2_isWhole_4 : decode cX2_isWhole 4 = .ok (.astore_n 1, 1) := dk_76 (dk_at dksX2_isWhole_0 4 rfl rfl)
theorem dX2_isWhole_5 : decode cX2_isWhole 5 = .ok (.aload_n 1, 1) := dk_43 (dk_at dksX2_isWhole_0 5 rfl rfl)
theorem dX2_isWhole_6 : decode cX2_isWhole 6 = .ok (.arraylength, 1) := dk_190 (dk_at dksX2_isWhole_0 6 rfl rfl)
theorem dX2_isWhole_7 : decode cX2_isWhole 7 = .ok (.istore_n 2, 1) := dk_61 (dk_at dksX2_isWhole_0 7 rfl rfl)
theorem dX2_isWhole_8 : decode cX2_isWhole 8 = .ok (.iconst 0, 1) := dk_3 (dk_at dksX2_isWhole_0 8 rfl rfl)
theorem dX2_isWhole_9 : decode cX2_isWhole 9 = .ok (.istore_n 3, 1) := dk_62 (dk_at dksX2_isWhole_0 9 rfl rfl)
theorem dX2_isWhole_10 : decode cX2_isWhole 10 = .ok (.iload_n 3, 1) := dk_29 (dk_at dksX2_isWhole_0 10 rfl rfl)
theorem dX2_isWhole_11 : decode cX2_isWhole 11 = .ok (.iload_n 2, 1) := dk_28 (dk_at dksX2_isWhole_0 11 rfl rfl)
theorem dX2_isWhole_12 : decode cX2_isWhole 12 = .ok (.if_icmp .ge 65, 3) := dk_162 0 65 (dk_at dksX2_isWhole_0 12 rfl rfl)
theorem dX2_isWhole_15 : decode cX2_isWhole 15 = .ok (.aload_n 1, 1) := dk_43 (dk_at dksX2_isWhole_0 15 rfl rfl)
theorem dX2_isWhole_16 : decode cX2_isWhole 16 = .ok (.iload_n 3, 1) := dk_29 (dk_at dksX2_isWhole_0 16 rfl rfl)
theorem dX2_isWhole_17 : decode cX2_isWhole 17 = .ok (.aaload, 1) := dk_50 (dk_at dksX2_isWhole_0 17 rfl rfl)
theorem dX2_isWhole_18 : decode cX2_isWhole 18 = .ok (.astore 4, 2) := dk_58 4 (dk_at dksX2_isWhole_0 18 rfl rfl)
theorem dX2_isWhole_20 : decode cX2_isWhole 20 = .ok (.iconst 0, 1) := dk_3 (dk_at dksX2_isWhole_0 20 rfl rfl)
theorem dX2_isWhole_21 : decode cX2_isWhole 21 = .ok (.istore 5, 2) := dk_54 5 (dk_at dksX2_isWhole_0 21 rfl rfl)
theorem dX2_isWhole_23 : decode cX2_isWhole 23 = .ok (.aload 4, 2) := dk_25 4 (dk_at dksX2_isWhole_1 0 rfl rfl)
theorem dX2_isWhole_25 : decode cX2_isWhole 25 = .ok (.astore 6, 2) := dk_58 6 (dk_at dksX2_isWhole_1 2 rfl rfl)
theorem dX2_isWhole_27 : decode cX2_isWhole 27 = .ok (.aload 6, 2) := dk_25 6 (dk_at dksX2_isWhole_1 4 rfl rfl)
theorem dX2_isWhole_29 : decode cX2_isWhole 29 = .ok (.arraylength, 1) := dk_190 (dk_at dksX2_isWhole_1 6 rfl rfl)
theorem dX2_isWhole_30 : decode cX2_isWhole 30 = .ok (.istore 7, 2) := dk_54 7 (dk_at dksX2_isWhole_1 7 rfl rfl)
theorem dX2_isWhole_32 : decode cX2_isWhole 32 = .ok (.iconst 0, 1) := dk_3 (dk_at dksX2_isWhole_1 9 rfl rfl)
theorem dX2_isWhole_33 : decode cX2_isWhole 33 = .ok (.istore 8, 2) := dk_54 8 (dk_at dksX2_isWhole_1 10 rfl rfl)
theorem dX2_isWhole_35 : decode cX2_isWhole 35 = .ok (.iload 8, 2) := dk_21 8 (dk_at dksX2_isWhole_1 12 rfl rfl)
theorem dX2_isWhole_37 : decode cX2_isWhole 37 = .ok (.iload 7, 2) := dk_21 7 (dk_at dksX2_isWhole_1 14 rfl rfl)
theorem dX2_isWhole_39 : decode cX2_isWhole 39 = .ok (.if_icmp .ge 23, 3) := dk_162 0 23 (dk_at dksX2_isWhole_1 16 rfl rfl)
theorem dX2_isWhole_42 : decode cX2_isWhole 42 = .ok (.aload 6, 2) := dk_25 6 (dk_at dksX2_isWhole_1 19 rfl rfl)
theorem dX2_isWhole_44 : decode cX2_isWhole 44 = .ok (.iload 8, 2) := dk_21 8 (dk_at dksX2_isWhole_1 21 rfl rfl)
theorem dX2_isWhole_46 : decode cX2_isWhole 46 = .ok (.iaload, 1) := dk_46 (dk_at dksX2_isWhole_1 23 rfl rfl)
theorem dX2_isWhole_47 : decode cX2_isWhole 47 = .ok (.istore 9, 2) := dk_54 9 (dk_at dksX2_isWhole_2 0 rfl rfl)
theorem dX2_isWhole_49 : decode cX2_isWhole 49 = .ok (.iload 5, 2) := dk_21 5 (dk_at dksX2_isWhole_2 2 rfl rfl)
theorem dX2_isWhole_51 : decode cX2_isWhole 51 = .ok (.iload 9, 2) := dk_21 9 (dk_at dksX2_isWhole_2 4 rfl rfl)
theorem dX2_isWhole_53 : decode cX2_isWhole 53 = .ok (.iadd, 1) := dk_96 (dk_at dksX2_isWhole_2 6 rfl rfl)
theorem dX2_isWhole_54 : decode cX2_isWhole 54 = .ok (.istore 5, 2) := dk_54 5 (dk_at dksX2_isWhole_2 7 rfl rfl)
theorem dX2_isWhole_56 : decode cX2_isWhole 56 = .ok (.iinc 8 1, 3) := dk_132 8 1 (dk_at dksX2_isWhole_2 9 rfl rfl)
theorem dX2_isWhole_59 : decode cX2_isWhole 59 = .ok (.goto (-24), 3) := dk_167 255 232 (dk_at dksX2_isWhole_2 12 rfl rfl)
theorem dX2_isWhole_62 : decode cX2_isWhole 62 = .ok (.iload 5, 2) := dk_21 5 (dk_at dksX2_isWhole_2 15 rfl rfl)
theorem dX2_isWhole_64 : decode cX2_isWhole 64 = .ok (.bipush 100, 2) := dk_16 100 (dk_at dksX2_isWhole_2 17 rfl rfl)
theorem dX2_isWhole_66 : decode cX2_isWhole 66 = .ok (.if_icmp .eq 5, 3) := dk_159 0 5 (dk_at dksX2_isWhole_2 19 rfl rfl)
theorem dX2_isWhole_69 : decode cX2_isWhole 69 = .ok (.iconst 0, 1) := dk_3 (dk_at dksX2_isWhole_2 22 rfl rfl)
theorem dX2_isWhole_70 : decode cX2_isWhole 70 = .ok (.ireturn, 1) := dk_172 (dk_at dksX2_isWhole_2 23 rfl rfl)
theorem dX2_isWhole_71 : decode cX2_isWhole 71 = .ok (.iinc 3 1, 3) := dk_132 3 1 (dk_at dksX2_isWhole_3 0 rfl rfl)
theorem dX2_isWhole_74 : decode cX2_isWhole 74 = .ok (.goto (-64), 3) := dk_167 255 192 (dk_at dksX2_isWhole_3 3 rfl rfl)
theorem dX2_isWhole_77 : decode cX2_isWhole 77 = .ok (.iconst 1, 1) := dk_4 (dk_at dksX2_isWhole_3 6 rfl rfl)
theorem dX2_isWhole_78 : decode cX2_isWhole 78 = .ok (.ireturn, 1) := dk_172 (dk_at dksX2_isWhole_3 7 rfl rfl)
abbrev cX3_init : ByteArray := prog_16_method_1_code
def yX3_init : MethodName := ⟨RX3, "<init>", "(LChaseCourt;)V"⟩
def dkwX3_init_1 : List UInt8 := [5, 188, 10, 181, 0, 22, 177]
abbrev dktX3_init_1 : List UInt8 := dkwX3_init_1 ++ []
def dkwX3_init_0 : List UInt8 := [42, 43, 181, 0, 3, 42, 183, 0, 9, 42, 5, 188, 10, 181, 0, 15, 42, 5, 188, 10, 181, 0, 19, 42]
abbrev dktX3_init_0 : List UInt8 := dkwX3_init_0 ++ dktX3_init_1
theorem dksX3_init_0 : cX3_init.data.toList.drop 0 = dktX3_init_0 := by decide +kernel
theorem dksX3_init_1 : cX3_init.data.toList.drop 24 = dktX3_init_1 := dk_seg dksX3_init_0 24 rfl rfl
theorem dX3_init_0 : decode cX3_init 0 = .ok (.aload_n 0, 1) := dk_42 (dk_at dksX3_init_0 0 rfl rfl)
theorem dX3_init_1 : decode cX3_init 1 = .ok (.aload_n 1, 1) := dk_43 (dk_at dksX3_init_0 1 rfl rfl)
theorem dX3_init_2 : decode cX3_init 2 = .ok (.putfield 3, 3) := dk_181 0 3 (dk_at dksX3_init_0 2 rfl rfl)
theorem dX3_init_5 : decode cX3_init 5 = .ok (.aload_n 0, 1) := dk_42 (dk_at dksX3_init_0 5 rfl rfl)
theorem dX3_init_6 : decode cX3_init 6 = .ok (.invokespecial 9, 3) := dk_183 0 9 (dk_at dksX3_init_0 6 rfl rfl)
theorem dX3_init_9 : decode cX3_init 9 = .ok (.aload_n 0, 1) := dk_42 (dk_at dksX3_init_0 9 rfl rfl)
theorem dX3_init_10 : decode cX3_init 10 = .ok (.iconst 2, 1) := dk_5 (dk_at dksX3_init_0 10 rfl rfl)
theorem dX3_init_11 : decode cX3_init 11 = .ok (.newarray .int, 2) := dk_188_10 (dk_at dksX3_init_0 11 rfl rfl)
theorem dX3_init_13 : decode cX3_init 13 = .ok (.putfield 15, 3) := dk_181 0 15 (dk_at dksX3_init_0 13 rfl rfl)
theorem dX3_init_16 : decode cX3_init 16 = .ok (.aload_n 0, 1) := dk_42 (dk_at dksX3_init_0 16 rfl rfl)
theorem dX3_init_17 : decode cX3_init 17 = .ok (.iconst 2, 1) := dk_5 (dk_at dksX3_init_0 17 rfl rfl)
theorem dX3_init_18 : decode cX3_init 18 = .ok (.newarray .int, 2) := dk_188_10 (dk_at dksX3_init_0 18 rfl rfl)
theorem dX3_init_20 : decode cX3_init 20 = .ok (.putfield 19, 3) := dk_181 0 19 (dk_at dksX3_init_0 20 rfl rfl)
theorem dX3_init_23 : decode cX3_init 23 = .ok (.aload_n 0, 1) := dk_42 (dk_at dksX3_init_0 23 rfl rfl)
theorem dX3_init_24 : decode cX3_init 24 = .ok (.iconst 2, 1) := dk_5 (dk_at dksX3_init_1 0 rfl rfl)
theorem dX3_init_25 : decode cX3_init 25 = .ok (.newarray .int, 2) := dk_188_10 (dk_at dksX3_init_1 1 rfl rfl)
theorem dX3_init_27 : decode cX3_init 27 = .ok (.putfield 22, 3) := dk_181 0 22 (dk_at dksX3_init_1 3 rfl rfl)
theorem dX3_init_30 : decode cX3_init 30 = .ok (.return_, 1) := dk_177 (dk_at dksX3_init_1 6 rfl rfl)
abbrev cX3_takes : ByteArray := prog_16_method_2_code
def yX3_takes : MethodName := ⟨RX3, "takes", "(LChaseCourt$Score;)LChaseCourt$Score;"⟩
def dkwX3_takes_3 : List UInt8 := [181, 0, 32, 42, 176]
abbrev dktX3_takes_3 : List UInt8 := dkwX3_takes_3 ++ []
def dkwX3_takes_2 : List UInt8 := [167, 255, 212, 42, 43, 180, 0, 25, 181, 0, 25, 42, 43, 180, 0, 29, 181, 0, 29, 42, 43, 180, 0, 32]
abbrev dktX3_takes_2 : List UInt8 := dkwX3_takes_2 ++ dktX3_takes_3
def dkwX3_takes_1 : List UInt8 := [43, 180, 0, 19, 28, 46, 79, 42, 180, 0, 22, 28, 43, 180, 0, 22, 28, 46, 79, 132, 2, 1]
abbrev dktX3_takes_1 : List UInt8 := dkwX3_takes_1 ++ dktX3_takes_2
def dkwX3_takes_0 : List UInt8 := [3, 61, 28, 5, 162, 0, 45, 42, 180, 0, 15, 28, 43, 180, 0, 15, 28, 46, 79, 42, 180, 0, 19, 28]
abbrev dktX3_takes_0 : List UInt8 := dkwX3_takes_0 ++ dktX3_takes_1
theorem dksX3_takes_0 : cX3_takes.data.toList.drop 0 = dktX3_takes_0 := by decide +kernel
theorem dksX3_takes_1 : cX3_takes.data.toList.drop 24 = dktX3_takes_1 := dk_seg dksX3_takes_0 24 rfl rfl
theorem dksX3_takes_2 : cX3_takes.data.toList.drop 46 = dktX3_takes_2 := dk_seg dksX3_takes_1 22 rfl rfl
theorem dksX3_takes_3 : cX3_takes.data.toList.drop 70 = dktX3_takes_3 := dk_seg dksX3_takes_2 24 rfl rfl
theorem dX3_takes_0 : decode cX3_takes 0 = .ok (.iconst 0, 1) := dk_3 (dk_at dksX3_takes_0 0 rfl rfl)
theorem dX3_takes_1 : decode cX3_takes 1 = .ok (.istore_n 2, 1) := dk_61 (dk_at dksX3_takes_0 1 rfl rfl)
theorem dX3_takes_2 : decode cX3_takes 2 = .ok (.iload_n 2, 1) := dk_28 (dk_at dksX3_takes_0 2 rfl rfl)
theorem dX3_takes_3 : decode cX3_takes 3 = .ok (.iconst 2, 1) := dk_5 (dk_at dksX3_takes_0 3 rfl rfl)
theorem dX3_takes_4 : decode cX3_takes 4 = .ok (.if_icmp .ge 45, 3) := dk_162 0 45 (dk_at dksX3_takes_0 4 rfl rfl)
theorem dX3_takes_7 : decode cX3_takes 7 = .ok (.aload_n 0, 1) := dk_42 (dk_at dksX3_takes_0 7 rfl rfl)
theorem dX3_takes_8 : decode cX3_takes 8 = .ok (.getfield 15, 3) := dk_180 0 15 (dk_at dksX3_takes_0 8 rfl rfl)
theorem dX3_takes_11 : decode cX3_takes 11 = .ok (.iload_n 2, 1) := dk_28 (dk_at dksX3_takes_0 11 rfl rfl)
theorem dX3_takes_12 : decode cX3_takes 12 = .ok (.aload_n 1, 1) := dk_43 (dk_at dksX3_takes_0 12 rfl rfl)
theorem dX3_takes_13 : decode cX3_takes 13 = .ok (.getfield 15, 3) := dk_180 0 15 (dk_at dksX3_takes_0 13 rfl rfl)
theorem dX3_takes_16 : decode cX3_takes 16 = .ok (.iload_n 2, 1) := dk_28 (dk_at dksX3_takes_0 16 rfl rfl)
theorem dX3_takes_17 : decode cX3_takes 17 = .ok (.iaload, 1) := dk_46 (dk_at dksX3_takes_0 17 rfl rfl)
theorem dX3_takes_18 : decode cX3_takes 18 = .ok (.iastore, 1) := dk_79 (dk_at dksX3_takes_0 18 rfl rfl)
theorem dX3_takes_19 : decode cX3_takes 19 = .ok (.aload_n 0, 1) := dk_42 (dk_at dksX3_takes_0 19 rfl rfl)
theorem dX3_takes_20 : decode cX3_takes 20 = .ok (.getfield 19, 3) := dk_180 0 19 (dk_at dksX3_takes_0 20 rfl rfl)
theorem dX3_takes_23 : decode cX3_takes 23 = .ok (.iload_n 2, 1) := dk_28 (dk_at dksX3_takes_0 23 rfl rfl)
theorem dX3_takes_24 : decode cX3_takes 24 = .ok (.aload_n 1, 1) := dk_43 (dk_at dksX3_takes_1 0 rfl rfl)
theorem dX3_takes_25 : decode cX3_takes 25 = .ok (.getfield 19, 3) := dk_180 0 19 (dk_at dksX3_takes_1 1 rfl rfl)
theorem dX3_takes_28 : decode cX3_takes 28 = .ok (.iload_n 2, 1) := dk_28 (dk_at dksX3_takes_1 4 rfl rfl)
theorem dX3_takes_29 : decode cX3_takes 29 = .ok (.iaload, 1) := dk_46 (dk_at dksX3_takes_1 5 rfl rfl)
theorem dX3_takes_30 : decode cX3_takes 30 = .ok (.iastore, 1) := dk_79 (dk_at dksX3_takes_1 6 rfl rfl)
theorem dX3_takes_31 : decode cX3_takes 31 = .ok (.aload_n 0, 1) := dk_42 (dk_at dksX3_takes_1 7 rfl rfl)
theorem dX3_takes_32 : decode cX3_takes 32 = .ok (.getfield 22, 3) := dk_180 0 22 (dk_at dksX3_takes_1 8 rfl rfl)
theorem dX3_takes_35 : decode cX3_takes 35 = .ok (.iload_n 2, 1) := dk_28 (dk_at dksX3_takes_1 11 rfl rfl)
theorem dX3_takes_36 : decode cX3_takes 36 = .ok (.aload_n 1, 1) := dk_43 (dk_at dksX3_takes_1 12 rfl rfl)
theorem dX3_takes_37 : decode cX3_takes 37 = .ok (.getfield 22, 3) := dk_180 0 22 (dk_at dksX3_takes_1 13 rfl rfl)
theorem dX3_takes_40 : decode cX3_takes 40 = .ok (.iload_n 2, 1) := dk_28 (dk_at dksX3_takes_1 16 rfl rfl)
theorem dX3_takes_41 : decode cX3_takes 41 = .ok (.iaload, 1) := dk_46 (dk_at dksX3_takes_1 17 rfl rfl)
theorem dX3_takes_42 : decode cX3_takes 42 = .ok (.iastore, 1) := dk_79 (dk_at dksX3_takes_1 18 rfl rfl)
theorem dX3_takes_43 : decode cX3_takes 43 = .ok (.iinc 2 1, 3) := dk_132 2 1 (dk_at dksX3_takes_1 19 rfl rfl)
theorem dX3_takes_46 : decode cX3_takes 46 = .ok (.goto (-44), 3) := dk_167 255 212 (dk_at dksX3_takes_2 0 rfl rfl)
theorem dX3_takes_49 : decode cX3_takes 49 = .ok (.aload_n 0, 1) := dk_42 (dk_at dksX3_takes_2 3 rfl rfl)
theorem dX3_takes_50 : decode cX3_takes 50 = .ok (.aload_n 1, 1) := dk_43 (dk_at dksX3_takes_2 4 rfl rfl)
theorem dX3_takes_51 : decode cX3_takes 51 = .ok (.getfield 25, 3) := dk_180 0 25 (dk_at dksX3_takes_2 5 rfl rfl)
theorem dX3_takes_54 : decode cX3_takes 54 = .ok (.putfield 25, 3) := dk_181 0 25 (dk_at dksX3_takes_2 8 rfl rfl)
theorem dX3_takes_57 : decode cX3_takes 57 = .ok (.aload_n 0, 1) := dk_42 (dk_at dksX3_takes_2 11 rfl rfl)
theorem dX3_takes_58 : decode cX3_takes 58 = .ok (.aload_n 1, 1) := dk_43 (dk_at dksX3_takes_2 12 rfl rfl)
theorem dX3_takes_59 : decode cX3_takes 59 = .ok (.getfield 29, 3) := dk_180 0 29 (dk_at dksX3_takes_2 13 rfl rfl)
theorem dX3_takes_62 : decode cX3_takes 62 = .ok (.putfield 29, 3) := dk_181 0 29 (dk_at dksX3_takes_2 16 rfl rfl)
theorem dX3_takes_65 : decode cX3_takes 65 = .ok (.aload_n 0, 1) := dk_42 (dk_at dksX3_takes_2 19 rfl rfl)
theorem dX3_takes_66 : decode cX3_takes 66 = .ok (.aload_n 1, 1) := dk_43 (dk_at dksX3_takes_2 20 rfl rfl)
theorem dX3_takes_67 : decode cX3_takes 67 = .ok (.getfield 32, 3) := dk_180 0 32 (dk_at dksX3_takes_2 21 rfl rfl)
theorem dX3_takes_70 : decode cX3_takes 70 = .ok (.putfield 32, 3) := dk_181 0 32 (dk_at dksX3_takes_3 0 rfl rfl)
theorem dX3_takes_73 : decode cX3_takes 73 = .ok (.aload_n 0, 1) := dk_42 (dk_at dksX3_takes_3 3 rfl rfl)
theorem dX3_takes_74 : decode cX3_takes 74 = .ok (.areturn, 1) := dk_176 (dk_at dksX3_takes_3 4 rfl rfl)
abbrev cX3_stands : ByteArray := prog_16_method_11_code
def yX3_stands : MethodName := ⟨RX3, "stands", "(I)I"⟩
def dkwX3_stands_5 : List UInt8 := [167, 0, 4, 3, 172]
abbrev dktX3_stands_5 : List UInt8 := dkwX3_stands_5 ++ []
def dkwX3_stands_4 : List UInt8 := [167, 0, 4, 3, 172, 42, 180, 0, 19, 27, 16, 7, 100, 46, 172, 42, 182, 0, 57, 153, 0, 7, 4]
abbrev dktX3_stands_4 : List UInt8 := dkwX3_stands_4 ++ dktX3_stands_5
def dkwX3_stands_3 : List UInt8 := [162, 0, 14, 42, 180, 0, 22, 27, 7, 100, 46, 167, 0, 4, 2, 172, 42, 180, 0, 32, 153, 0, 7, 4]
abbrev dktX3_stands_3 : List UInt8 := dkwX3_stands_3 ++ dktX3_stands_4
def dkwX3_stands_2 : List UInt8 := [42, 180, 0, 15, 27, 46, 172, 42, 180, 0, 25, 172, 42, 180, 0, 29, 172, 27, 7, 100, 42, 180, 0, 29]
abbrev dktX3_stands_2 : List UInt8 := dkwX3_stands_2 ++ dktX3_stands_3
def dkwX3_stands_1 : List UInt8 := [170, 0, 0, 0, 0, 0, 114, 0, 0, 0, 0, 0, 0, 0, 8, 0, 0, 0, 51, 0, 0, 0, 51, 0, 0, 0, 58, 0, 0, 0, 63, 0, 0, 0, 68, 0, 0, 0, 68, 0, 0, 0, 91, 0, 0, 0, 104, 0, 0, 0, 104]
abbrev dktX3_stands_1 : List UInt8 := dkwX3_stands_1 ++ dktX3_stands_2
def dkwX3_stands_0 : List UInt8 := [27]
abbrev dktX3_stands_0 : List UInt8 := dkwX3_stands_0 ++ dktX3_stands_1
theorem dksX3_stands_0 : cX3_stands.data.toList.drop 0 = dktX3_stands_0 := by decide +kernel
theorem dksX3_stands_1 : cX3_stands.data.toList.drop 1 = dktX3_stands_1 := dk_seg dksX3_stands_0 1 rfl rfl
theorem dksX3_stands_2 : cX3_stands.data.toList.drop 52 = dktX3_stands_2 := dk_seg dksX3_stands_1 51 rfl rfl
theorem dksX3_stands_3 : cX3_stands.data.toList.drop 76 = dktX3_stands_3 := dk_seg dksX3_stands_2 24 rfl rfl
theorem dksX3_stands_4 : cX3_stands.data.toList.drop 100 = dktX3_stands_4 := dk_seg dksX3_stands_3 24 rfl rfl
theorem dksX3_stands_5 : cX3_stands.data.toList.drop 123 = dktX3_stands_5 := dk_seg dksX3_stands_4 23 rfl rfl
theorem dX3_stands_0 : decode cX3_stands 0 = .ok (.iload_n 1, 1) := dk_27 (dk_at dksX3_stands_0 0 rfl rfl)
theorem dX3_stands_1 : decode cX3_stands 1 = .ok (.tableswitch 114 0 8 #[51, 51, 58, 63, 68, 68, 91, 104, 104], 51) := by decide +kernel
theorem dX3_stands_52 : decode cX3_stands 52 = .ok (.aload_n 0, 1) := dk_42 (dk_at dksX3_stands_2 0 rfl rfl)
theorem dX3_stands_53 : decode cX3_stands 53 = .ok (.getfield 15, 3) := dk_180 0 15 (dk_at dksX3_stands_2 1 rfl rfl)
theorem dX3_stands_56 : decode cX3_stands 56 = .ok (.iload_n 1, 1) := dk_27 (dk_at dksX3_stands_2 4 rfl rfl)
theorem dX3_stands_57 : decode cX3_stands 57 = .ok (.iaload, 1) := dk_46 (dk_at dksX3_stands_2 5 rfl rfl)
theorem dX3_stands_58 : decode cX3_stands 58 = .ok (.ireturn, 1) := dk_172 (dk_at dksX3_stands_2 6 rfl rfl)
theorem dX3_stands_59 : decode cX3_stands 59 = .ok (.aload_n 0, 1) := dk_42 (dk_at dksX3_stands_2 7 rfl rfl)
theorem dX3_stands_60 : decode cX3_stands 60 = .ok (.getfield 25, 3) := dk_180 0 25 (dk_at dksX3_stands_2 8 rfl rfl)
theorem dX3_stands_63 : decode cX3_stands 63 = .ok (.ireturn, 1) := dk_172 (dk_at dksX3_stands_2 11 rfl rfl)
theorem dX3_stands_64 : decode cX3_stands 64 = .ok (.aload_n 0, 1) := dk_42 (dk_at dksX3_stands_2 12 rfl rfl)
theorem dX3_stands_65 : decode cX3_stands 65 = .ok (.getfield 29, 3) := dk_180 0 29 (dk_at dksX3_stands_2 13 rfl rfl)
theorem dX3_stands_68 : decode cX3_stands 68 = .ok (.ireturn, 1) := dk_172 (dk_at dksX3_stands_2 16 rfl rfl)
theorem dX3_stands_69 : decode cX3_stands 69 = .ok (.iload_n 1, 1) := dk_27 (dk_at dksX3_stands_2 17 rfl rfl)
theorem dX3_stands_70 : decode cX3_stands 70 = .ok (.iconst 4, 1) := dk_7 (dk_at dksX3_stands_2 18 rfl rfl)
theorem dX3_stands_71 : decode cX3_stands 71 = .ok (.isub, 1) := dk_100 (dk_at dksX3_stands_2 19 rfl rfl)
theorem dX3_stands_72 : decode cX3_stands 72 = .ok (.aload_n 0, 1) := dk_42 (dk_at dksX3_stands_2 20 rfl rfl)
theorem dX3_stands_73 : decode cX3_stands 73 = .ok (.getfield 29, 3) := dk_180 0 29 (dk_at dksX3_stands_2 21 rfl rfl)
theorem dX3_stands_76 : decode cX3_stands 76 = .ok (.if_icmp .ge 14, 3) := dk_162 0 14 (dk_at dksX3_stands_3 0 rfl rfl)
theorem dX3_stands_79 : decode cX3_stands 79 = .ok (.aload_n 0, 1) := dk_42 (dk_at dksX3_stands_3 3 rfl rfl)
theorem dX3_stands_80 : decode cX3_stands 80 = .ok (.getfield 22, 3) := dk_180 0 22 (dk_at dksX3_stands_3 4 rfl rfl)
theorem dX3_stands_83 : decode cX3_stands 83 = .ok (.iload_n 1, 1) := dk_27 (dk_at dksX3_stands_3 7 rfl rfl)
theorem dX3_stands_84 : decode cX3_stands 84 = .ok (.iconst 4, 1) := dk_7 (dk_at dksX3_stands_3 8 rfl rfl)
theorem dX3_stands_85 : decode cX3_stands 85 = .ok (.isub, 1) := dk_100 (dk_at dksX3_stands_3 9 rfl rfl)
theorem dX3_stands_86 : decode cX3_stands 86 = .ok (.iaload, 1) := dk_46 (dk_at dksX3_stands_3 10 rfl rfl)
theorem dX3_stands_87 : decode cX3_stands 87 = .ok (.goto 4, 3) := dk_167 0 4 (dk_at dksX3_stands_3 11 rfl rfl)
theorem dX3_stands_90 : decode cX3_stands 90 = .ok (.iconst (-1), 1) := dk_2 (dk_at dksX3_stands_3 14 rfl rfl)
theorem dX3_stands_91 : decode cX3_stands 91 = .ok (.ireturn, 1) := dk_172 (dk_at dksX3_stands_3 15 rfl rfl)
theorem dX3_stands_92 : decode cX3_stands 92 = .ok (.aload_n 0, 1) := dk_42 (dk_at dksX3_stands_3 16 rfl rfl)
theorem dX3_stands_93 : decode cX3_stands 93 = .ok (.getfield 32, 3) := dk_180 0 32 (dk_at dksX3_stands_3 17 rfl rfl)
theorem dX3_stands_96 : decode cX3_stands 96 = .ok (.ifCond .eq 7, 3) := dk_153 0 7 (dk_at dksX3_stands_3 20 rfl rfl)
theorem dX3_stands_99 : decode cX3_stands 99 = .ok (.iconst 1, 1) := dk_4 (dk_at dksX3_stands_3 23 rfl rfl)
theorem dX3_stands_100 : decode cX3_stands 100 = .ok (.goto 4, 3) := dk_167 0 4 (dk_at dksX3_stands_4 0 rfl rfl)
theorem dX3_stands_103 : decode cX3_stands 103 = .ok (.iconst 0, 1) := dk_3 (dk_at dksX3_stands_4 3 rfl rfl)
theorem dX3_stands_104 : decode cX3_stands 104 = .ok (.ireturn, 1) := dk_172 (dk_at dksX3_stands_4 4 rfl rfl)
theorem dX3_stands_105 : decode cX3_stands 105 = .ok (.aload_n 0, 1) := dk_42 (dk_at dksX3_stands_4 5 rfl rfl)
theorem dX3_stands_106 : decode cX3_stands 106 = .ok (.getfield 19, 3) := dk_180 0 19 (dk_at dksX3_stands_4 6 rfl rfl)
theorem dX3_stands_109 : decode cX3_stands 109 = .ok (.iload_n 1, 1) := dk_27 (dk_at dksX3_stands_4 9 rfl rfl)
theorem dX3_stands_110 : decode cX3_stands 110 = .ok (.bipush 7, 2) := dk_16 7 (dk_at dksX3_stands_4 10 rfl rfl)
theorem dX3_stands_112 : decode cX3_stands 112 = .ok (.isub, 1) := dk_100 (dk_at dksX3_stands_4 12 rfl rfl)
theorem dX3_stands_113 : decode cX3_stands 113 = .ok (.iaload, 1) := dk_46 (dk_at dksX3_stands_4 13 rfl rfl)
theorem dX3_stands_114 : decode cX3_stands 114 = .ok (.ireturn, 1) := dk_172 (dk_at dksX3_stands_4 14 rfl rfl)
theorem dX3_stands_115 : decode cX3_stands 115 = .ok (.aload_n 0, 1) := dk_42 (dk_at dksX3_stands_4 15 rfl rfl)
theorem dX3_stands_116 : decode cX3_stands 116 = .ok (.invokevirtual 57, 3) := dk_182 0 57 (dk_at dksX3_stands_4 16 rfl rfl)
theorem dX3_stands_119 : decode cX3_stands 119 = .ok (.ifCond .eq 7, 3) := dk_153 0 7 (dk_at dksX3_stands_4 19 rfl rfl)
theorem dX3_stands_122 : decode cX3_stands 122 = .ok (.iconst 1, 1) := dk_4 (dk_at dksX3_stands_4 22 rfl rfl)
theorem dX3_stands_123 : decode cX3_stands 123 = .ok (.goto 4, 3) := dk_167 0 4 (dk_at dksX3_stands_5 0 rfl rfl)
theorem dX3_stands_126 : decode cX3_stands 126 = .ok (.iconst 0, 1) := dk_3 (dk_at dksX3_stands_5 3 rfl rfl)
theorem dX3_stands_127 : decode cX3_stands 127 = .ok (.ireturn, 1) := dk_172 (dk_at dksX3_stands_5 4 rfl rfl)
abbrev cX3_isPointOfGame : ByteArray := prog_16_method_5_code
def yX3_isPointOfGame : MethodName := ⟨RX3, "isPointOfGame", "()Z"⟩
def dkwX3_isPointOfGame_1 : List UInt8 := [4, 96, 182, 0, 44, 153, 0, 7, 4, 167, 0, 4, 3, 172]
abbrev dktX3_isPointOfGame_1 : List UInt8 := dkwX3_isPointOfGame_1 ++ []
def dkwX3_isPointOfGame_0 : List UInt8 := [42, 3, 42, 180, 0, 15, 3, 46, 4, 96, 182, 0, 44, 154, 0, 19, 42, 4, 42, 180, 0, 15, 4, 46]
abbrev dktX3_isPointOfGame_0 : List UInt8 := dkwX3_isPointOfGame_0 ++ dktX3_isPointOfGame_1
theorem dksX3_isPointOfGame_0 : cX3_isPointOfGame.data.toList.drop 0 = dktX3_isPointOfGame_0 := by decide +kernel
theorem dksX3_isPointOfGame_1 : cX3_isPointOfGame.data.toList.drop 24 = dktX3_isPointOfGame_1 := dk_seg dksX3_isPointOfGame_0 24 rfl rfl
theorem dX3_isPointOfGame_0 : decode cX3_isPointOfGame 0 = .ok (.aload_n 0, 1) := dk_42 (dk_at dksX3_isPointOfGame_0 0 rfl rfl)
theorem dX3_isPointOfGame_1 : decode cX3_isPointOfGame 1 = .ok (.iconst 0, 1) := dk_3 (dk_at dksX3_isPointOfGame_0 1 rfl rfl)
theorem dX3_isPointOfGame_2 : decode cX3_isPointOfGame 2 = .ok (.aload_n 0, 1) := dk_42 (dk_at dksX3_isPointOfGame_0 2 rfl rfl)
theorem dX3_isPointOfGame_3 : decode cX3_isPointOfGame 3 = .ok (.getfield 15, 3) := dk_180 0 15 (dk_at dksX3_isPointOfGame_0 3 rfl rfl)
theorem dX3_isPointOfGame_6 : decode cX3_isPointOfGame 6 = .ok (.iconst 0, 1) := dk_3 (dk_at dksX3_isPointOfGame_0 6 rfl rfl)
theorem dX3_isPointOfGame_7 : decode cX3_isPointOfGame 7 = .ok (.iaload, 1) := dk_46 (dk_at dksX3_isPointOfGame_0 7 rfl rfl)
theorem dX3_isPointOfGame_8 : decode cX3_isPointOfGame 8 = .ok (.iconst 1, 1) := dk_4 (dk_at dksX3_isPointOfGame_0 8 rfl rfl)
theorem dX3_isPointOfGame_9 : decode cX3_isPointOfGame 9 = .ok (.iadd, 1) := dk_96 (dk_at dksX3_isPointOfGame_0 9 rfl rfl)
theorem dX3_isPointOfGame_10 : decode cX3_isPointOfGame 10 = .ok (.invokevirtual 44, 3) := dk_182 0 44 (dk_at dksX3_isPointOfGame_0 10 rfl rfl)
theorem dX3_isPointOfGame_13 : decode cX3_isPointOfGame 13 = .ok (.ifCond .ne 19, 3) := dk_154 0 19 (dk_at dksX3_isPointOfGame_0 13 rfl rfl)
theorem dX3_isPointOfGame_16 : decode cX3_isPointOfGame 16 = .ok (.aload_n 0, 1) := dk_42 (dk_at dksX3_isPointOfGame_0 16 rfl rfl)
theorem dX3_isPointOfGame_17 : decode cX3_isPointOfGame 17 = .ok (.iconst 1, 1) := dk_4 (dk_at dksX3_isPointOfGame_0 17 rfl rfl)
theorem dX3_isPointOfGame_18 : decode cX3_isPointOfGame 18 = .ok (.aload_n 0, 1) := dk_42 (dk_at dksX3_isPointOfGame_0 18 rfl rfl)
theorem dX3_isPointOfGame_19 : decode cX3_isPointOfGame 19 = .ok (.getfield 15, 3) := dk_180 0 15 (dk_at dksX3_isPointOfGame_0 19 rfl rfl)
theorem dX3_isPointOfGame_22 : decode cX3_isPointOfGame 22 = .ok (.iconst 1, 1) := dk_4 (dk_at dksX3_isPointOfGame_0 22 rfl rfl)
theorem dX3_isPointOfGame_23 : decode cX3_isPointOfGame 23 = .ok (.iaload, 1) := dk_46 (dk_at dksX3_isPointOfGame_0 23 rfl rfl)
theorem dX3_isPointOfGame_24 : decode cX3_isPointOfGame 24 = .ok (.iconst 1, 1) := dk_4 (dk_at dksX3_isPointOfGame_1 0 rfl rfl)
theorem dX3_isPointOfGame_25 : decode cX3_isPointOfGame 25 = .ok (.iadd, 1) := dk_96 (dk_at dksX3_isPointOfGame_1 1 rfl rfl)
theorem dX3_isPointOfGame_26 : decode cX3_isPointOfGame 26 = .ok (.invokevirtual 44, 3) := dk_182 0 44 (dk_at dksX3_isPointOfGame_1 2 rfl rfl)
theorem dX3_isPointOfGame_29 : decode cX3_isPointOfGame 29 = .ok (.ifCond .eq 7, 3) := dk_153 0 7 (dk_at dksX3_isPointOfGame_1 5 rfl rfl)
theorem dX3_isPointOfGame_32 : decode cX3_isPointOfGame 32 = .ok (.iconst 1, 1) := dk_4 (dk_at dksX3_isPointOfGame_1 8 rfl rfl)
theorem dX3_isPointOfGame_33 : decode cX3_isPointOfGame 33 = .ok (.goto 4, 3) := dk_167 0 4 (dk_at dksX3_isPointOfGame_1 9 rfl rfl)
theorem dX3_isPointOfGame_36 : decode cX3_isPointOfGame 36 = .ok (.iconst 0, 1) := dk_3 (dk_at dksX3_isPointOfGame_1 12 rfl rfl)
theorem dX3_isPointOfGame_37 : decode cX3_isPointOfGame 37 = .ok (.ireturn, 1) := dk_172 (dk_at dksX3_isPointOfGame_1 13 rfl rfl)
abbrev cX3_isOf : ByteArray := prog_16_method_4_code
def yX3_isOf : MethodName := ⟨RX3, "isOf", "(II)Z"⟩
def dkwX3_isOf_1 : List UInt8 := [172]
abbrev dktX3_isOf_1 : List UInt8 := dkwX3_isOf_1 ++ []
def dkwX3_isOf_0 : List UInt8 := [28, 7, 161, 0, 21, 28, 42, 180, 0, 15, 4, 27, 100, 46, 100, 5, 161, 0, 7, 4, 167, 0, 4, 3]
abbrev dktX3_isOf_0 : List UInt8 := dkwX3_isOf_0 ++ dktX3_isOf_1
theorem dksX3_isOf_0 : cX3_isOf.data.toList.drop 0 = dktX3_isOf_0 := by decide +kernel
theorem dksX3_isOf_1 : cX3_isOf.data.toList.drop 24 = dktX3_isOf_1 := dk_seg dksX3_isOf_0 24 rfl rfl
theorem dX3_isOf_0 : decode cX3_isOf 0 = .ok (.iload_n 2, 1) := dk_28 (dk_at dksX3_isOf_0 0 rfl rfl)
theorem dX3_isOf_1 : decode cX3_isOf 1 = .ok (.iconst 4, 1) := dk_7 (dk_at dksX3_isOf_0 1 rfl rfl)
theorem dX3_isOf_2 : decode cX3_isOf 2 = .ok (.if_icmp .lt 21, 3) := dk_161 0 21 (dk_at dksX3_isOf_0 2 rfl rfl)
theorem dX3_isOf_5 : decode cX3_isOf 5 = .ok (.iload_n 2, 1) := dk_28 (dk_at dksX3_isOf_0 5 rfl rfl)
theorem dX3_isOf_6 : decode cX3_isOf 6 = .ok (.aload_n 0, 1) := dk_42 (dk_at dksX3_isOf_0 6 rfl rfl)
theorem dX3_isOf_7 : decode cX3_isOf 7 = .ok (.getfield 15, 3) := dk_180 0 15 (dk_at dksX3_isOf_0 7 rfl rfl)
theorem dX3_isOf_10 : decode cX3_isOf 10 = .ok (.iconst 1, 1) := dk_4 (dk_at dksX3_isOf_0 10 rfl rfl)
theorem dX3_isOf_11 : decode cX3_isOf 11 = .ok (.iload_n 1, 1) := dk_27 (dk_at dksX3_isOf_0 11 rfl rfl)
theorem dX3_isOf_12 : decode cX3_isOf 12 = .ok (.isub, 1) := dk_100 (dk_at dksX3_isOf_0 12 rfl rfl)
theorem dX3_isOf_13 : decode cX3_isOf 13 = .ok (.iaload, 1) := dk_46 (dk_at dksX3_isOf_0 13 rfl rfl)
theorem dX3_isOf_14 : decode cX3_isOf 14 = .ok (.isub, 1) := dk_100 (dk_at dksX3_isOf_0 14 rfl rfl)
theorem dX3_isOf_15 : decode cX3_isOf 15 = .ok (.iconst 2, 1) := dk_5 (dk_at dksX3_isOf_0 15 rfl rfl)
theorem dX3_isOf_16 : decode cX3_isOf 16 = .ok (.if_icmp .lt 7, 3) := dk_161 0 7 (dk_at dksX3_isOf_0 16 rfl rfl)
theorem dX3_isOf_19 : decode cX3_isOf 19 = .ok (.iconst 1, 1) := dk_4 (dk_at dksX3_isOf_0 19 rfl rfl)
theorem dX3_isOf_20 : decode cX3_isOf 20 = .ok (.goto 4, 3) := dk_167 0 4 (dk_at dksX3_isOf_0 20 rfl rfl)
theorem dX3_isOf_23 : decode cX3_isOf 23 = .ok (.iconst 0, 1) := dk_3 (dk_at dksX3_isOf_0 23 rfl rfl)
theorem dX3_isOf_24 : decode cX3_isOf 24 = .ok (.ireturn, 1) := dk_172 (dk_at dksX3_isOf_1 0 rfl rfl)
abbrev cX3_isOver : ByteArray := prog_16_method_3_code
def yX3_isOver : MethodName := ⟨RX3, "isOver", "()Z"⟩
def dkwX3_isOver_1 : List UInt8 := [46, 42, 180, 0, 3, 180, 0, 36, 180, 0, 40, 161, 0, 7, 4, 167, 0, 4, 3, 172]
abbrev dktX3_isOver_1 : List UInt8 := dkwX3_isOver_1 ++ []
def dkwX3_isOver_0 : List UInt8 := [42, 180, 0, 19, 3, 46, 42, 180, 0, 3, 180, 0, 36, 180, 0, 40, 162, 0, 22, 42, 180, 0, 19, 4]
abbrev dktX3_isOver_0 : List UInt8 := dkwX3_isOver_0 ++ dktX3_isOver_1
theorem dksX3_isOver_0 : cX3_isOver.data.toList.drop 0 = dktX3_isOver_0 := by decide +kernel
theorem dksX3_isOver_1 : cX3_isOver.data.toList.drop 24 = dktX3_isOver_1 := dk_seg dksX3_isOver_0 24 rfl rfl
theorem dX3_isOver_0 : decode cX3_isOver 0 = .ok (.aload_n 0, 1) := dk_42 (dk_at dksX3_isOver_0 0 rfl rfl)
theorem dX3_isOver_1 : decode cX3_isOver 1 = .ok (.getfield 19, 3) := dk_180 0 19 (dk_at dksX3_isOver_0 1 rfl rfl)
theorem dX3_isOver_4 : decode cX3_isOver 4 = .ok (.iconst 0, 1) := dk_3 (dk_at dksX3_isOver_0 4 rfl rfl)
theorem dX3_isOver_5 : decode cX3_isOver 5 = .ok (.iaload, 1) := dk_46 (dk_at dksX3_isOver_0 5 rfl rfl)
theorem dX3_isOver_6 : decode cX3_isOver 6 = .ok (.aload_n 0, 1) := dk_42 (dk_at dksX3_isOver_0 6 rfl rfl)
theorem dX3_isOver_7 : decode cX3_isOver 7 = .ok (.getfield 3, 3) := dk_180 0 3 (dk_at dksX3_isOver_0 7 rfl rfl)
theorem dX3_isOver_10 : decode cX3_isOver 10 = .ok (.getfield 36, 3) := dk_180 0 36 (dk_at dksX3_isOver_0 10 rfl rfl)
theorem dX3_isOver_13 : decode cX3_isOver 13 = .ok (.getfield 40, 3) := dk_180 0 40 (dk_at dksX3_isOver_0 13 rfl rfl)
theorem dX3_isOver_16 : decode cX3_isOver 16 = .ok (.if_icmp .ge 22, 3) := dk_162 0 22 (dk_at dksX3_isOver_0 16 rfl rfl)
theorem dX3_isOver_19 : decode cX3_isOver 19 = .ok (.aload_n 0, 1) := dk_42 (dk_at dksX3_isOver_0 19 rfl rfl)
theorem dX3_isOver_20 : decode cX3_isOver 20 = .ok (.getfield 19, 3) := dk_180 0 19 (dk_at dksX3_isOver_0 20 rfl rfl)
theorem dX3_isOver_23 : decode cX3_isOver 23 = .ok (.iconst 1, 1) := dk_4 (dk_at dksX3_isOver_0 23 rfl rfl)
theorem dX3_isOver_24 : decode cX3_isOver 24 = .ok (.iaload, 1) := dk_46 (dk_at dksX3_isOver_1 0 rfl rfl)
theorem dX3_isOver_25 : decode cX3_isOver 25 = .ok (.aload_n 0, 1) := dk_42 (dk_at dksX3_isOver_1 1 rfl rfl)
theorem dX3_isOver_26 : decode cX3_isOver 26 = .ok (.getfield 3, 3) := dk_180 0 3 (dk_at dksX3_isOver_1 2 rfl rfl)
theorem dX3_isOver_29 : decode cX3_isOver 29 = .ok (.getfield 36, 3) := dk_180 0 36 (dk_at dksX3_isOver_1 5 rfl rfl)
theorem dX3_isOver_32 : decode cX3_isOver 32 = .ok (.getfield 40, 3) := dk_180 0 40 (dk_at dksX3_isOver_1 8 rfl rfl)
theorem dX3_isOver_35 : decode cX3_isOver 35 = .ok (.if_icmp .lt 7, 3) := dk_161 0 7 (dk_at dksX3_isOver_1 11 rfl rfl)
theorem dX3_isOver_38 : decode cX3_isOver 38 = .ok (.iconst 1, 1) := dk_4 (dk_at dksX3_isOver_1 14 rfl rfl)
theorem dX3_isOver_39 : decode cX3_isOver 39 = .ok (.goto 4, 3) := dk_167 0 4 (dk_at dksX3_isOver_1 15 rfl rfl)
theorem dX3_isOver_42 : decode cX3_isOver 42 = .ok (.iconst 0, 1) := dk_3 (dk_at dksX3_isOver_1 18 rfl rfl)
theorem dX3_isOver_43 : decode cX3_isOver 43 = .ok (.ireturn, 1) := dk_172 (dk_at dksX3_isOver_1 19 rfl rfl)
abbrev cX3_rally : ByteArray := prog_16_method_10_code
def yX3_rally : MethodName := ⟨RX3, "rally", "(II)I"⟩
def dkwX3_rally_4 : List UInt8 := [96, 181, 0, 29, 29, 158, 0, 10, 42, 21, 4, 182, 0, 61, 87, 42, 182, 0, 65, 29, 172]
abbrev dktX3_rally_4 : List UInt8 := dkwX3_rally_4 ++ []
def dkwX3_rally_3 : List UInt8 := [167, 0, 28, 27, 5, 160, 0, 23, 42, 180, 0, 22, 42, 180, 0, 29, 28, 79, 42, 89, 180, 0, 29, 4]
abbrev dktX3_rally_3 : List UInt8 := dkwX3_rally_3 ++ dktX3_rally_4
def dkwX3_rally_2 : List UInt8 := [180, 0, 29, 4, 100, 181, 0, 29, 42, 42, 180, 0, 29, 158, 0, 7, 4, 167, 0, 4, 3, 181, 0, 32]
abbrev dktX3_rally_2 : List UInt8 := dkwX3_rally_2 ++ dktX3_rally_3
def dkwX3_rally_1 : List UInt8 := [100, 54, 4, 42, 180, 0, 32, 153, 0, 44, 42, 180, 0, 22, 3, 42, 180, 0, 22, 4, 46, 79, 42, 89]
abbrev dktX3_rally_1 : List UInt8 := dkwX3_rally_1 ++ dktX3_rally_2
def dkwX3_rally_0 : List UInt8 := [42, 27, 28, 182, 0, 71, 62, 29, 4, 160, 0, 10, 42, 180, 0, 25, 167, 0, 9, 4, 42, 180, 0, 25]
abbrev dktX3_rally_0 : List UInt8 := dkwX3_rally_0 ++ dktX3_rally_1
theorem dksX3_rally_0 : cX3_rally.data.toList.drop 0 = dktX3_rally_0 := by decide +kernel
theorem dksX3_rally_1 : cX3_rally.data.toList.drop 24 = dktX3_rally_1 := dk_seg dksX3_rally_0 24 rfl rfl
theorem dksX3_rally_2 : cX3_rally.data.toList.drop 48 = dktX3_rally_2 := dk_seg dksX3_rally_1 24 rfl rfl
theorem dksX3_rally_3 : cX3_rally.data.toList.drop 72 = dktX3_rally_3 := dk_seg dksX3_rally_2 24 rfl rfl
theorem dksX3_rally_4 : cX3_rally.data.toList.drop 96 = dktX3_rally_4 := dk_seg dksX3_rally_3 24 rfl rfl
theorem dX3_rally_0 : decode cX3_rally 0 = .ok (.aload_n 0, 1) := dk_42 (dk_at dksX3_rally_0 0 rfl rfl)
theorem dX3_rally_1 : decode cX3_rally 1 = .ok (.iload_n 1, 1) := dk_27 (dk_at dksX3_rally_0 1 rfl rfl)
theorem dX3_rally_2 : decode cX3_rally 2 = .ok (.iload_n 2, 1) := dk_28 (dk_at dksX3_rally_0 2 rfl rfl)
theorem dX3_rally_3 : decode cX3_rally 3 = .ok (.invokevirtual 71, 3) := dk_182 0 71 (dk_at dksX3_rally_0 3 rfl rfl)
theorem dX3_rally_6 : decode cX3_rally 6 = .ok (.istore_n 3, 1) := dk_62 (dk_at dksX3_rally_0 6 rfl rfl)
theorem dX3_rally_7 : decode cX3_rally 7 = .ok (.iload_n 3, 1) := dk_29 (dk_at dksX3_rally_0 7 rfl rfl)
theorem dX3_rally_8 : decode cX3_rally 8 = .ok (.iconst 1, 1) := dk_4 (dk_at dksX3_rally_0 8 rfl rfl)
theorem dX3_rally_9 : decode cX3_rally 9 = .ok (.if_icmp .ne 10, 3) := dk_160 0 10 (dk_at dksX3_rally_0 9 rfl rfl)
theorem dX3_rally_12 : decode cX3_rally 12 = .ok (.aload_n 0, 1) := dk_42 (dk_at dksX3_rally_0 12 rfl rfl)
theorem dX3_rally_13 : decode cX3_rally 13 = .ok (.getfield 25, 3) := dk_180 0 25 (dk_at dksX3_rally_0 13 rfl rfl)
theorem dX3_rally_16 : decode cX3_rally 16 = .ok (.goto 9, 3) := dk_167 0 9 (dk_at dksX3_rally_0 16 rfl rfl)
theorem dX3_rally_19 : decode cX3_rally 19 = .ok (.iconst 1, 1) := dk_4 (dk_at dksX3_rally_0 19 rfl rfl)
theorem dX3_rally_20 : decode cX3_rally 20 = .ok (.aload_n 0, 1) := dk_42 (dk_at dksX3_rally_0 20 rfl rfl)
theorem dX3_rally_21 : decode cX3_rally 21 = .ok (.getfield 25, 3) := dk_180 0 25 (dk_at dksX3_rally_0 21 rfl rfl)
theorem dX3_rally_24 : decode cX3_rally 24 = .ok (.isub, 1) := dk_100 (dk_at dksX3_rally_1 0 rfl rfl)
theorem dX3_rally_25 : decode cX3_rally 25 = .ok (.istore 4, 2) := dk_54 4 (dk_at dksX3_rally_1 1 rfl rfl)
theorem dX3_rally_27 : decode cX3_rally 27 = .ok (.aload_n 0, 1) := dk_42 (dk_at dksX3_rally_1 3 rfl rfl)
theorem dX3_rally_28 : decode cX3_rally 28 = .ok (.getfield 32, 3) := dk_180 0 32 (dk_at dksX3_rally_1 4 rfl rfl)
theorem dX3_rally_31 : decode cX3_rally 31 = .ok (.ifCond .eq 44, 3) := dk_153 0 44 (dk_at dksX3_rally_1 7 rfl rfl)
theorem dX3_rally_34 : decode cX3_rally 34 = .ok (.aload_n 0, 1) := dk_42 (dk_at dksX3_rally_1 10 rfl rfl)
theorem dX3_rally_35 : decode cX3_rally 35 = .ok (.getfield 22, 3) := dk_180 0 22 (dk_at dksX3_rally_1 11 rfl rfl)
theorem dX3_rally_38 : decode cX3_rally 38 = .ok (.iconst 0, 1) := dk_3 (dk_at dksX3_rally_1 14 rfl rfl)
theorem dX3_rally_39 : decode cX3_rally 39 = .ok (.aload_n 0, 1) := dk_42 (dk_at dksX3_rally_1 15 rfl rfl)
theorem dX3_rally_40 : decode cX3_rally 40 = .ok (.getfield 22, 3) := dk_180 0 22 (dk_at dksX3_rally_1 16 rfl rfl)
theorem dX3_rally_43 : decode cX3_rally 43 = .ok (.iconst 1, 1) := dk_4 (dk_at dksX3_rally_1 19 rfl rfl)
theorem dX3_rally_44 : decode cX3_rally 44 = .ok (.iaload, 1) := dk_46 (dk_at dksX3_rally_1 20 rfl rfl)
theorem dX3_rally_45 : decode cX3_rally 45 = .ok (.iastore, 1) := dk_79 (dk_at dksX3_rally_1 21 rfl rfl)
theorem dX3_rally_46 : decode cX3_rally 46 = .ok (.aload_n 0, 1) := dk_42 (dk_at dksX3_rally_1 22 rfl rfl)
theorem dX3_rally_47 : decode cX3_rally 47 = .ok (.dup, 1) := dk_89 (dk_at dksX3_rally_1 23 rfl rfl)
theorem dX3_rally_48 : decode cX3_rally 48 = .ok (.getfield 29, 3) := dk_180 0 29 (dk_at dksX3_rally_2 0 rfl rfl)
theorem dX3_rally_51 : decode cX3_rally 51 = .ok (.iconst 1, 1) := dk_4 (dk_at dksX3_rally_2 3 rfl rfl)
theorem dX3_rally_52 : decode cX3_rally 52 = .ok (.isub, 1) := dk_100 (dk_at dksX3_rally_2 4 rfl rfl)
theorem dX3_rally_53 : decode cX3_rally 53 = .ok (.putfield 29, 3) := dk_181 0 29 (dk_at dksX3_rally_2 5 rfl rfl)
theorem dX3_rally_56 : decode cX3_rally 56 = .ok (.aload_n 0, 1) := dk_42 (dk_at dksX3_rally_2 8 rfl rfl)
theorem dX3_rally_57 : decode cX3_rally 57 = .ok (.aload_n 0, 1) := dk_42 (dk_at dksX3_rally_2 9 rfl rfl)
theorem dX3_rally_58 : decode cX3_rally 58 = .ok (.getfield 29, 3) := dk_180 0 29 (dk_at dksX3_rally_2 10 rfl rfl)
theorem dX3_rally_61 : decode cX3_rally 61 = .ok (.ifCond .le 7, 3) := dk_158 0 7 (dk_at dksX3_rally_2 13 rfl rfl)
theorem dX3_rally_64 : decode cX3_rally 64 = .ok (.iconst 1, 1) := dk_4 (dk_at dksX3_rally_2 16 rfl rfl)
theorem dX3_rally_65 : decode cX3_rally 65 = .ok (.goto 4, 3) := dk_167 0 4 (dk_at dksX3_rally_2 17 rfl rfl)
theorem dX3_rally_68 : decode cX3_rally 68 = .ok (.iconst 0, 1) := dk_3 (dk_at dksX3_rally_2 20 rfl rfl)
theorem dX3_rally_69 : decode cX3_rally 69 = .ok (.putfield 32, 3) := dk_181 0 32 (dk_at dksX3_rally_2 21 rfl rfl)
theorem dX3_rally_72 : decode cX3_rally 72 = .ok (.goto 28, 3) := dk_167 0 28 (dk_at dksX3_rally_3 0 rfl rfl)
theorem dX3_rally_75 : decode cX3_rally 75 = .ok (.iload_n 1, 1) := dk_27 (dk_at dksX3_rally_3 3 rfl rfl)
theorem dX3_rally_76 : decode cX3_rally 76 = .ok (.iconst 2, 1) := dk_5 (dk_at dksX3_rally_3 4 rfl rfl)
theorem dX3_rally_77 : decode cX3_rally 77 = .ok (.if_icmp .ne 23, 3) := dk_160 0 23 (dk_at dksX3_rally_3 5 rfl rfl)
theorem dX3_rally_80 : decode cX3_rally 80 = .ok (.aload_n 0, 1) := dk_42 (dk_at dksX3_rally_3 8 rfl rfl)
theorem dX3_rally_81 : decode cX3_rally 81 = .ok (.getfield 22, 3) := dk_180 0 22 (dk_at dksX3_rally_3 9 rfl rfl)
theorem dX3_rally_84 : decode cX3_rally 84 = .ok (.aload_n 0, 1) := dk_42 (dk_at dksX3_rally_3 12 rfl rfl)
theorem dX3_rally_85 : decode cX3_rally 85 = .ok (.getfield 29, 3) := dk_180 0 29 (dk_at dksX3_rally_3 13 rfl rfl)
theorem dX3_rally_88 : decode cX3_rally 88 = .ok (.iload_n 2, 1) := dk_28 (dk_at dksX3_rally_3 16 rfl rfl)
theorem dX3_rally_89 : decode cX3_rally 89 = .ok (.iastore, 1) := dk_79 (dk_at dksX3_rally_3 17 rfl rfl)
theorem dX3_rally_90 : decode cX3_rally 90 = .ok (.aload_n 0, 1) := dk_42 (dk_at dksX3_rally_3 18 rfl rfl)
theorem dX3_rally_91 : decode cX3_rally 91 = .ok (.dup, 1) := dk_89 (dk_at dksX3_rally_3 19 rfl rfl)
theorem dX3_rally_92 : decode cX3_rally 92 = .ok (.getfield 29, 3) := dk_180 0 29 (dk_at dksX3_rally_3 20 rfl rfl)
theorem dX3_rally_95 : decode cX3_rally 95 = .ok (.iconst 1, 1) := dk_4 (dk_at dksX3_rally_3 23 rfl rfl)
theorem dX3_rally_96 : decode cX3_rally 96 = .ok (.iadd, 1) := dk_96 (dk_at dksX3_rally_4 0 rfl rfl)
theorem dX3_rally_97 : decode cX3_rally 97 = .ok (.putfield 29, 3) := dk_181 0 29 (dk_at dksX3_rally_4 1 rfl rfl)
theorem dX3_rally_100 : decode cX3_rally 100 = .ok (.iload_n 3, 1) := dk_29 (dk_at dksX3_rally_4 4 rfl rfl)
theorem dX3_rally_101 : decode cX3_rally 101 = .ok (.ifCond .le 10, 3) := dk_158 0 10 (dk_at dksX3_rally_4 5 rfl rfl)
theorem dX3_rally_104 : decode cX3_rally 104 = .ok (.aload_n 0, 1) := dk_42 (dk_at dksX3_rally_4 8 rfl rfl)
theorem dX3_rally_105 : decode cX3_rally 105 = .ok (.iload 4, 2) := dk_21 4 (dk_at dksX3_rally_4 9 rfl rfl)
theorem dX3_rally_107 : decode cX3_rally 107 = .ok (.invokevirtual 61, 3) := dk_182 0 61 (dk_at dksX3_rally_4 11 rfl rfl)
theorem dX3_rally_110 : decode cX3_rally 110 = .ok (.pop, 1) := dk_87 (dk_at dksX3_rally_4 14 rfl rfl)
theorem dX3_rally_111 : decode cX3_rally 111 = .ok (.aload_n 0, 1) := dk_42 (dk_at dksX3_rally_4 15 rfl rfl)
theorem dX3_rally_112 : decode cX3_rally 112 = .ok (.invokevirtual 65, 3) := dk_182 0 65 (dk_at dksX3_rally_4 16 rfl rfl)
theorem dX3_rally_115 : decode cX3_rally 115 = .ok (.iload_n 3, 1) := dk_29 (dk_at dksX3_rally_4 19 rfl rfl)
theorem dX3_rally_116 : decode cX3_rally 116 = .ok (.ireturn, 1) := dk_172 (dk_at dksX3_rally_4 20 rfl rfl)
abbrev cX3_outcome : ByteArray := prog_16_method_9_code
def yX3_outcome : MethodName := ⟨RX3, "outcome", "(II)I"⟩
def dkwX3_outcome_2 : List UInt8 := [46, 162, 0, 7, 5, 167, 0, 4, 4, 172]
abbrev dktX3_outcome_2 : List UInt8 := dkwX3_outcome_2 ++ []
def dkwX3_outcome_1 : List UInt8 := [160, 0, 18, 42, 180, 0, 3, 180, 0, 36, 180, 0, 68, 154, 0, 5, 3, 172, 28, 42, 180, 0, 22, 3]
abbrev dktX3_outcome_1 : List UInt8 := dkwX3_outcome_1 ++ dktX3_outcome_2
def dkwX3_outcome_0 : List UInt8 := [27, 5, 162, 0, 7, 4, 27, 96, 172, 42, 180, 0, 32, 153, 0, 26, 28, 42, 180, 0, 22, 3, 46]
abbrev dktX3_outcome_0 : List UInt8 := dkwX3_outcome_0 ++ dktX3_outcome_1
theorem dksX3_outcome_0 : cX3_outcome.data.toList.drop 0 = dktX3_outcome_0 := by decide +kernel
theorem dksX3_outcome_1 : cX3_outcome.data.toList.drop 23 = dktX3_outcome_1 := dk_seg dksX3_outcome_0 23 rfl rfl
theorem dksX3_outcome_2 : cX3_outcome.data.toList.drop 47 = dktX3_outcome_2 := dk_seg dksX3_outcome_1 24 rfl rfl
theorem dX3_outcome_0 : decode cX3_outcome 0 = .ok (.iload_n 1, 1) := dk_27 (dk_at dksX3_outcome_0 0 rfl rfl)
theorem dX3_outcome_1 : decode cX3_outcome 1 = .ok (.iconst 2, 1) := dk_5 (dk_at dksX3_outcome_0 1 rfl rfl)
theorem dX3_outcome_2 : decode cX3_outcome 2 = .ok (.if_icmp .ge 7, 3) := dk_162 0 7 (dk_at dksX3_outcome_0 2 rfl rfl)
theorem dX3_outcome_5 : decode cX3_outcome 5 = .ok (.iconst 1, 1) := dk_4 (dk_at dksX3_outcome_0 5 rfl rfl)
theorem dX3_outcome_6 : decode cX3_outcome 6 = .ok (.iload_n 1, 1) := dk_27 (dk_at dksX3_outcome_0 6 rfl rfl)
theorem dX3_outcome_7 : decode cX3_outcome 7 = .ok (.iadd, 1) := dk_96 (dk_at dksX3_outcome_0 7 rfl rfl)
theorem dX3_outcome_8 : decode cX3_outcome 8 = .ok (.ireturn, 1) := dk_172 (dk_at dksX3_outcome_0 8 rfl rfl)
theorem dX3_outcome_9 : decode cX3_outcome 9 = .ok (.aload_n 0, 1) := dk_42 (dk_at dksX3_outcome_0 9 rfl rfl)
theorem dX3_outcome_10 : decode cX3_outcome 10 = .ok (.getfield 32, 3) := dk_180 0 32 (dk_at dksX3_outcome_0 10 rfl rfl)
theorem dX3_outcome_13 : decode cX3_outcome 13 = .ok (.ifCond .eq 26, 3) := dk_153 0 26 (dk_at dksX3_outcome_0 13 rfl rfl)
theorem dX3_outcome_16 : decode cX3_outcome 16 = .ok (.iload_n 2, 1) := dk_28 (dk_at dksX3_outcome_0 16 rfl rfl)
theorem dX3_outcome_17 : decode cX3_outcome 17 = .ok (.aload_n 0, 1) := dk_42 (dk_at dksX3_outcome_0 17 rfl rfl)
theorem dX3_outcome_18 : decode cX3_outcome 18 = .ok (.getfield 22, 3) := dk_180 0 22 (dk_at dksX3_outcome_0 18 rfl rfl)
theorem dX3_outcome_21 : decode cX3_outcome 21 = .ok (.iconst 0, 1) := dk_3 (dk_at dksX3_outcome_0 21 rfl rfl)
theorem dX3_outcome_22 : decode cX3_outcome 22 = .ok (.iaload, 1) := dk_46 (dk_at dksX3_outcome_0 22 rfl rfl)
theorem dX3_outcome_23 : decode cX3_outcome 23 = .ok (.if_icmp .ne 18, 3) := dk_160 0 18 (dk_at dksX3_outcome_1 0 rfl rfl)
theorem dX3_outcome_26 : decode cX3_outcome 26 = .ok (.aload_n 0, 1) := dk_42 (dk_at dksX3_outcome_1 3 rfl rfl)
theorem dX3_outcome_27 : decode cX3_outcome 27 = .ok (.getfield 3, 3) := dk_180 0 3 (dk_at dksX3_outcome_1 4 rfl rfl)
theorem dX3_outcome_30 : decode cX3_outcome 30 = .ok (.getfield 36, 3) := dk_180 0 36 (dk_at dksX3_outcome_1 7 rfl rfl)
theorem dX3_outcome_33 : decode cX3_outcome 33 = .ok (.getfield 68, 3) := dk_180 0 68 (dk_at dksX3_outcome_1 10 rfl rfl)
theorem dX3_outcome_36 : decode cX3_outcome 36 = .ok (.ifCond .ne 5, 3) := dk_154 0 5 (dk_at dksX3_outcome_1 13 rfl rfl)
theorem dX3_outcome_39 : decode cX3_outcome 39 = .ok (.iconst 0, 1) := dk_3 (dk_at dksX3_outcome_1 16 rfl rfl)
theorem dX3_outcome_40 : decode cX3_outcome 40 = .ok (.ireturn, 1) := dk_172 (dk_at dksX3_outcome_1 17 rfl rfl)
theorem dX3_outcome_41 : decode cX3_outcome 41 = .ok (.iload_n 2, 1) := dk_28 (dk_at dksX3_outcome_1 18 rfl rfl)
theorem dX3_outcome_42 : decode cX3_outcome 42 = .ok (.aload_n 0, 1) := dk_42 (dk_at dksX3_outcome_1 19 rfl rfl)
theorem dX3_outcome_43 : decode cX3_outcome 43 = .ok (.getfield 22, 3) := dk_180 0 22 (dk_at dksX3_outcome_1 20 rfl rfl)
theorem dX3_outcome_46 : decode cX3_outcome 46 = .ok (.iconst 0, 1) := dk_3 (dk_at dksX3_outcome_1 23 rfl rfl)
theorem dX3_outcome_47 : decode cX3_outcome 47 = .ok (.iaload, 1) := dk_46 (dk_at dksX3_outcome_2 0 rfl rfl)
theorem dX3_outcome_48 : decode cX3_outcome 48 = .ok (.if_icmp .ge 7, 3) := dk_162 0 7 (dk_at dksX3_outcome_2 1 rfl rfl)
theorem dX3_outcome_51 : decode cX3_outcome 51 = .ok (.iconst 2, 1) := dk_5 (dk_at dksX3_outcome_2 4 rfl rfl)
theorem dX3_outcome_52 : decode cX3_outcome 52 = .ok (.goto 4, 3) := dk_167 0 4 (dk_at dksX3_outcome_2 5 rfl rfl)
theorem dX3_outcome_55 : decode cX3_outcome 55 = .ok (.iconst 1, 1) := dk_4 (dk_at dksX3_outcome_2 8 rfl rfl)
theorem dX3_outcome_56 : decode cX3_outcome 56 = .ok (.ireturn, 1) := dk_172 (dk_at dksX3_outcome_2 9 rfl rfl)
abbrev cX3_point : ByteArray := prog_16_method_6_code
def yX3_point : MethodName := ⟨RX3, "point", "(I)Z"⟩
def dkwX3_point_5 : List UInt8 := [181, 0, 32, 4, 172]
abbrev dktX3_point_5 : List UInt8 := dkwX3_point_5 ++ []
def dkwX3_point_4 : List UInt8 := [180, 0, 15, 4, 42, 180, 0, 3, 180, 0, 36, 180, 0, 51, 79, 42, 3, 181, 0, 29, 42, 3]
abbrev dktX3_point_4 : List UInt8 := dkwX3_point_4 ++ dktX3_point_5
def dkwX3_point_3 : List UInt8 := [46, 4, 96, 79, 42, 180, 0, 15, 3, 42, 180, 0, 3, 180, 0, 36, 180, 0, 48, 116, 79, 42]
abbrev dktX3_point_3 : List UInt8 := dkwX3_point_3 ++ dktX3_point_4
def dkwX3_point_2 : List UInt8 := [100, 79, 42, 27, 42, 180, 0, 15, 27, 46, 182, 0, 44, 154, 0, 5, 3, 172, 42, 180, 0, 19, 27, 92]
abbrev dktX3_point_2 : List UInt8 := dkwX3_point_2 ++ dktX3_point_3
def dkwX3_point_1 : List UInt8 := [4, 46, 7, 160, 0, 23, 42, 180, 0, 15, 3, 92, 46, 4, 100, 79, 42, 180, 0, 15, 4, 92, 46, 4]
abbrev dktX3_point_1 : List UInt8 := dkwX3_point_1 ++ dktX3_point_2
def dkwX3_point_0 : List UInt8 := [42, 180, 0, 15, 27, 92, 46, 4, 96, 79, 42, 180, 0, 15, 3, 46, 7, 160, 0, 33, 42, 180, 0, 15]
abbrev dktX3_point_0 : List UInt8 := dkwX3_point_0 ++ dktX3_point_1
theorem dksX3_point_0 : cX3_point.data.toList.drop 0 = dktX3_point_0 := by decide +kernel
theorem dksX3_point_1 : cX3_point.data.toList.drop 24 = dktX3_point_1 := dk_seg dksX3_point_0 24 rfl rfl
theorem dksX3_point_2 : cX3_point.data.toList.drop 48 = dktX3_point_2 := dk_seg dksX3_point_1 24 rfl rfl
theorem dksX3_point_3 : cX3_point.data.toList.drop 72 = dktX3_point_3 := dk_seg dksX3_point_2 24 rfl rfl
theorem dksX3_point_4 : cX3_point.data.toList.drop 94 = dktX3_point_4 := dk_seg dksX3_point_3 22 rfl rfl
theorem dksX3_point_5 : cX3_point.data.toList.drop 116 = dktX3_point_5 := dk_seg dksX3_point_4 22 rfl rfl
theorem dX3_point_0 : decode cX3_point 0 = .ok (.aload_n 0, 1) := dk_42 (dk_at dksX3_point_0 0 rfl rfl)
theorem dX3_point_1 : decode cX3_point 1 = .ok (.getfield 15, 3) := dk_180 0 15 (dk_at dksX3_point_0 1 rfl rfl)
theorem dX3_point_4 : decode cX3_point 4 = .ok (.iload_n 1, 1) := dk_27 (dk_at dksX3_point_0 4 rfl rfl)
theorem dX3_point_5 : decode cX3_point 5 = .ok (.dup2, 1) := dk_92 (dk_at dksX3_point_0 5 rfl rfl)
theorem dX3_point_6 : decode cX3_point 6 = .ok (.iaload, 1) := dk_46 (dk_at dksX3_point_0 6 rfl rfl)
theorem dX3_point_7 : decode cX3_point 7 = .ok (.iconst 1, 1) := dk_4 (dk_at dksX3_point_0 7 rfl rfl)
theorem dX3_point_8 : decode cX3_point 8 = .ok (.iadd, 1) := dk_96 (dk_at dksX3_point_0 8 rfl rfl)
theorem dX3_point_9 : decode cX3_point 9 = .ok (.iastore, 1) := dk_79 (dk_at dksX3_point_0 9 rfl rfl)
theorem dX3_point_10 : decode cX3_point 10 = .ok (.aload_n 0, 1) := dk_42 (dk_at dksX3_point_0 10 rfl rfl)
theorem dX3_point_11 : decode cX3_point 11 = .ok (.getfield 15, 3) := dk_180 0 15 (dk_at dksX3_point_0 11 rfl rfl)
theorem dX3_point_14 : decode cX3_point 14 = .ok (.iconst 0, 1) := dk_3 (dk_at dksX3_point_0 14 rfl rfl)
theorem dX3_point_15 : decode cX3_point 15 = .ok (.iaload, 1) := dk_46 (dk_at dksX3_point_0 15 rfl rfl)
theorem dX3_point_16 : decode cX3_point 16 = .ok (.iconst 4, 1) := dk_7 (dk_at dksX3_point_0 16 rfl rfl)
theorem dX3_point_17 : decode cX3_point 17 = .ok (.if_icmp .ne 33, 3) := dk_160 0 33 (dk_at dksX3_point_0 17 rfl rfl)
theorem dX3_point_20 : decode cX3_point 20 = .ok (.aload_n 0, 1) := dk_42 (dk_at dksX3_point_0 20 rfl rfl)
theorem dX3_point_21 : decode cX3_point 21 = .ok (.getfield 15, 3) := dk_180 0 15 (dk_at dksX3_point_0 21 rfl rfl)
theorem dX3_point_24 : decode cX3_point 24 = .ok (.iconst 1, 1) := dk_4 (dk_at dksX3_point_1 0 rfl rfl)
theorem dX3_point_25 : decode cX3_point 25 = .ok (.iaload, 1) := dk_46 (dk_at dksX3_point_1 1 rfl rfl)
theorem dX3_point_26 : decode cX3_point 26 = .ok (.iconst 4, 1) := dk_7 (dk_at dksX3_point_1 2 rfl rfl)
theorem dX3_point_27 : decode cX3_point 27 = .ok (.if_icmp .ne 23, 3) := dk_160 0 23 (dk_at dksX3_point_1 3 rfl rfl)
theorem dX3_point_30 : decode cX3_point 30 = .ok (.aload_n 0, 1) := dk_42 (dk_at dksX3_point_1 6 rfl rfl)
theorem dX3_point_31 : decode cX3_point 31 = .ok (.getfield 15, 3) := dk_180 0 15 (dk_at dksX3_point_1 7 rfl rfl)
theorem dX3_point_34 : decode cX3_point 34 = .ok (.iconst 0, 1) := dk_3 (dk_at dksX3_point_1 10 rfl rfl)
theorem dX3_point_35 : decode cX3_point 35 = .ok (.dup2, 1) := dk_92 (dk_at dksX3_point_1 11 rfl rfl)
theorem dX3_point_36 : decode cX3_point 36 = .ok (.iaload, 1) := dk_46 (dk_at dksX3_point_1 12 rfl rfl)
theorem dX3_point_37 : decode cX3_point 37 = .ok (.iconst 1, 1) := dk_4 (dk_at dksX3_point_1 13 rfl rfl)
theorem dX3_point_38 : decode cX3_point 38 = .ok (.isub, 1) := dk_100 (dk_at dksX3_point_1 14 rfl rfl)
theorem dX3_point_39 : decode cX3_point 39 = .ok (.iastore, 1) := dk_79 (dk_at dksX3_point_1 15 rfl rfl)
theorem dX3_point_40 : decode cX3_point 40 = .ok (.aload_n 0, 1) := dk_42 (dk_at dksX3_point_1 16 rfl rfl)
theorem dX3_point_41 : decode cX3_point 41 = .ok (.getfield 15, 3) := dk_180 0 15 (dk_at dksX3_point_1 17 rfl rfl)
theorem dX3_point_44 : decode cX3_point 44 = .ok (.iconst 1, 1) := dk_4 (dk_at dksX3_point_1 20 rfl rfl)
theorem dX3_point_45 : decode cX3_point 45 = .ok (.dup2, 1) := dk_92 (dk_at dksX3_point_1 21 rfl rfl)
theorem dX3_point_46 : decode cX3_point 46 = .ok (.iaload, 1) := dk_46 (dk_at dksX3_point_1 22 rfl rfl)
theorem dX3_point_47 : decode cX3_point 47 = .ok (.iconst 1, 1) := dk_4 (dk_at dksX3_point_1 23 rfl rfl)
theorem dX3_point_48 : decode cX3_point 48 = .ok (.isub, 1) := dk_100 (dk_at dksX3_point_2 0 rfl rfl)
theorem dX3_point_49 : decode cX3_point 49 = .ok (.iastore, 1) := dk_79 (dk_at dksX3_point_2 1 rfl rfl)
theorem dX3_point_50 : decode cX3_point 50 = .ok (.aload_n 0, 1) := dk_42 (dk_at dksX3_point_2 2 rfl rfl)
theorem dX3_point_51 : decode cX3_point 51 = .ok (.iload_n 1, 1) := dk_27 (dk_at dksX3_point_2 3 rfl rfl)
theorem dX3_point_52 : decode cX3_point 52 = .ok (.aload_n 0, 1) := dk_42 (dk_at dksX3_point_2 4 rfl rfl)
theorem dX3_point_53 : decode cX3_point 53 = .ok (.getfield 15, 3) := dk_180 0 15 (dk_at dksX3_point_2 5 rfl rfl)
theorem dX3_point_56 : decode cX3_point 56 = .ok (.iload_n 1, 1) := dk_27 (dk_at dksX3_point_2 8 rfl rfl)
theorem dX3_point_57 : decode cX3_point 57 = .ok (.iaload, 1) := dk_46 (dk_at dksX3_point_2 9 rfl rfl)
theorem dX3_point_58 : decode cX3_point 58 = .ok (.invokevirtual 44, 3) := dk_182 0 44 (dk_at dksX3_point_2 10 rfl rfl)
theorem dX3_point_61 : decode cX3_point 61 = .ok (.ifCond .ne 5, 3) := dk_154 0 5 (dk_at dksX3_point_2 13 rfl rfl)
theorem dX3_point_64 : decode cX3_point 64 = .ok (.iconst 0, 1) := dk_3 (dk_at dksX3_point_2 16 rfl rfl)
theorem dX3_point_65 : decode cX3_point 65 = .ok (.ireturn, 1) := dk_172 (dk_at dksX3_point_2 17 rfl rfl)
theorem dX3_point_66 : decode cX3_point 66 = .ok (.aload_n 0, 1) := dk_42 (dk_at dksX3_point_2 18 rfl rfl)
theorem dX3_point_67 : decode cX3_point 67 = .ok (.getfield 19, 3) := dk_180 0 19 (dk_at dksX3_point_2 19 rfl rfl)
theorem dX3_point_70 : decode cX3_point 70 = .ok (.iload_n 1, 1) := dk_27 (dk_at dksX3_point_2 22 rfl rfl)
theorem dX3_point_71 : decode cX3_point 71 = .ok (.dup2, 1) := dk_92 (dk_at dksX3_point_2 23 rfl rfl)
theorem dX3_point_72 : decode cX3_point 72 = .ok (.iaload, 1) := dk_46 (dk_at dksX3_point_3 0 rfl rfl)
theorem dX3_point_73 : decode cX3_point 73 = .ok (.iconst 1, 1) := dk_4 (dk_at dksX3_point_3 1 rfl rfl)
theorem dX3_point_74 : decode cX3_point 74 = .ok (.iadd, 1) := dk_96 (dk_at dksX3_point_3 2 rfl rfl)
theorem dX3_point_75 : decode cX3_point 75 = .ok (.iastore, 1) := dk_79 (dk_at dksX3_point_3 3 rfl rfl)
theorem dX3_point_76 : decode cX3_point 76 = .ok (.aload_n 0, 1) := dk_42 (dk_at dksX3_point_3 4 rfl rfl)
theorem dX3_point_77 : decode cX3_point 77 = .ok (.getfield 15, 3) := dk_180 0 15 (dk_at dksX3_point_3 5 rfl rfl)
theorem dX3_point_80 : decode cX3_point 80 = .ok (.iconst 0, 1) := dk_3 (dk_at dksX3_point_3 8 rfl rfl)
theorem dX3_point_81 : decode cX3_point 81 = .ok (.aload_n 0, 1) := dk_42 (dk_at dksX3_point_3 9 rfl rfl)
theorem dX3_point_82 : decode cX3_point 82 = .ok (.getfield 3, 3) := dk_180 0 3 (dk_at dksX3_point_3 10 rfl rfl)
theorem dX3_point_85 : decode cX3_point 85 = .ok (.getfield 36, 3) := dk_180 0 36 (dk_at dksX3_point_3 13 rfl rfl)
theorem dX3_point_88 : decode cX3_point 88 = .ok (.getfield 48, 3) := dk_180 0 48 (dk_at dksX3_point_3 16 rfl rfl)
theorem dX3_point_91 : decode cX3_point 91 = .ok (.ineg, 1) := dk_116 (dk_at dksX3_point_3 19 rfl rfl)
theorem dX3_point_92 : decode cX3_point 92 = .ok (.iastore, 1) := dk_79 (dk_at dksX3_point_3 20 rfl rfl)
theorem dX3_point_93 : decode cX3_point 93 = .ok (.aload_n 0, 1) := dk_42 (dk_at dksX3_point_3 21 rfl rfl)
theorem dX3_point_94 : decode cX3_point 94 = .ok (.getfield 15, 3) := dk_180 0 15 (dk_at dksX3_point_4 0 rfl rfl)
theorem dX3_point_97 : decode cX3_point 97 = .ok (.iconst 1, 1) := dk_4 (dk_at dksX3_point_4 3 rfl rfl)
theorem dX3_point_98 : decode cX3_point 98 = .ok (.aload_n 0, 1) := dk_42 (dk_at dksX3_point_4 4 rfl rfl)
theorem dX3_point_99 : decode cX3_point 99 = .ok (.getfield 3, 3) := dk_180 0 3 (dk_at dksX3_point_4 5 rfl rfl)
theorem dX3_point_102 : decode cX3_point 102 = .ok (.getfield 36, 3) := dk_180 0 36 (dk_at dksX3_point_4 8 rfl rfl)
theorem dX3_point_105 : decode cX3_point 105 = .ok (.getfield 51, 3) := dk_180 0 51 (dk_at dksX3_point_4 11 rfl rfl)
theorem dX3_point_108 : decode cX3_point 108 = .ok (.iastore, 1) := dk_79 (dk_at dksX3_point_4 14 rfl rfl)
theorem dX3_point_109 : decode cX3_point 109 = .ok (.aload_n 0, 1) := dk_42 (dk_at dksX3_point_4 15 rfl rfl)
theorem dX3_point_110 : decode cX3_point 110 = .ok (.iconst 0, 1) := dk_3 (dk_at dksX3_point_4 16 rfl rfl)
theorem dX3_point_111 : decode cX3_point 111 = .ok (.putfield 29, 3) := dk_181 0 29 (dk_at dksX3_point_4 17 rfl rfl)
theorem dX3_point_114 : decode cX3_point 114 = .ok (.aload_n 0, 1) := dk_42 (dk_at dksX3_point_4 20 rfl rfl)
theorem dX3_point_115 : decode cX3_point 115 = .ok (.iconst 0, 1) := dk_3 (dk_at dksX3_point_4 21 rfl rfl)
theorem dX3_point_116 : decode cX3_point 116 = .ok (.putfield 32, 3) := dk_181 0 32 (dk_at dksX3_point_5 0 rfl rfl)
theorem dX3_point_119 : decode cX3_point 119 = .ok (.iconst 1, 1) := dk_4 (dk_at dksX3_point_5 3 rfl rfl)
theorem dX3_point_120 : decode cX3_point 120 = .ok (.ireturn, 1) := dk_172 (dk_at dksX3_point_5 4 rfl rfl)
abbrev cX3_changes : ByteArray := prog_16_method_7_code
def yX3_changes : MethodName := ⟨RX3, "changes", "()V"⟩
def dkwX3_changes_3 : List UInt8 := [181, 0, 32, 42, 4, 42, 180, 0, 25, 100, 181, 0, 25, 177]
abbrev dktX3_changes_3 : List UInt8 := dkwX3_changes_3 ++ []
def dkwX3_changes_2 : List UInt8 := [153, 0, 7, 4, 167, 0, 4, 3, 60, 42, 180, 0, 32, 154, 0, 7, 27, 154, 0, 4, 177, 42, 4]
abbrev dktX3_changes_2 : List UInt8 := dkwX3_changes_2 ++ dktX3_changes_3
def dkwX3_changes_1 : List UInt8 := [180, 0, 54, 4, 159, 0, 23, 42, 180, 0, 3, 180, 0, 36, 180, 0, 54, 154, 0, 14, 42, 182, 0, 57]
abbrev dktX3_changes_1 : List UInt8 := dkwX3_changes_1 ++ dktX3_changes_2
def dkwX3_changes_0 : List UInt8 := [42, 180, 0, 29, 5, 159, 0, 44, 42, 180, 0, 29, 158, 0, 41, 42, 180, 0, 3, 180, 0, 36]
abbrev dktX3_changes_0 : List UInt8 := dkwX3_changes_0 ++ dktX3_changes_1
theorem dksX3_changes_0 : cX3_changes.data.toList.drop 0 = dktX3_changes_0 := by decide +kernel
theorem dksX3_changes_1 : cX3_changes.data.toList.drop 22 = dktX3_changes_1 := dk_seg dksX3_changes_0 22 rfl rfl
theorem dksX3_changes_2 : cX3_changes.data.toList.drop 46 = dktX3_changes_2 := dk_seg dksX3_changes_1 24 rfl rfl
theorem dksX3_changes_3 : cX3_changes.data.toList.drop 69 = dktX3_changes_3 := dk_seg dksX3_changes_2 23 rfl rfl
theorem dX3_changes_0 : decode cX3_changes 0 = .ok (.aload_n 0, 1) := dk_42 (dk_at dksX3_changes_0 0 rfl rfl)
theorem dX3_changes_1 : decode cX3_changes 1 = .ok (.getfield 29, 3) := dk_180 0 29 (dk_at dksX3_changes_0 1 rfl rfl)
theorem dX3_changes_4 : decode cX3_changes 4 = .ok (.iconst 2, 1) := dk_5 (dk_at dksX3_changes_0 4 rfl rfl)
theorem dX3_changes_5 : decode cX3_changes 5 = .ok (.if_icmp .eq 44, 3) := dk_159 0 44 (dk_at dksX3_changes_0 5 rfl rfl)
theorem dX3_changes_8 : decode cX3_changes 8 = .ok (.aload_n 0, 1) := dk_42 (dk_at dksX3_changes_0 8 rfl rfl)
theorem dX3_changes_9 : decode cX3_changes 9 = .ok (.getfield 29, 3) := dk_180 0 29 (dk_at dksX3_changes_0 9 rfl rfl)
theorem dX3_changes_12 : decode cX3_changes 12 = .ok (.ifCond .le 41, 3) := dk_158 0 41 (dk_at dksX3_changes_0 12 rfl rfl)
theorem dX3_changes_15 : decode cX3_changes 15 = .ok (.aload_n 0, 1) := dk_42 (dk_at dksX3_changes_0 15 rfl rfl)
theorem dX3_changes_16 : decode cX3_changes 16 = .ok (.getfield 3, 3) := dk_180 0 3 (dk_at dksX3_changes_0 16 rfl rfl)
theorem dX3_changes_19 : decode cX3_changes 19 = .ok (.getfield 36, 3) := dk_180 0 36 (dk_at dksX3_changes_0 19 rfl rfl)
theorem dX3_changes_22 : decode cX3_changes 22 = .ok (.getfield 54, 3) := dk_180 0 54 (dk_at dksX3_changes_1 0 rfl rfl)
theorem dX3_changes_25 : decode cX3_changes 25 = .ok (.iconst 1, 1) := dk_4 (dk_at dksX3_changes_1 3 rfl rfl)
theorem dX3_changes_26 : decode cX3_changes 26 = .ok (.if_icmp .eq 23, 3) := dk_159 0 23 (dk_at dksX3_changes_1 4 rfl rfl)
theorem dX3_changes_29 : decode cX3_changes 29 = .ok (.aload_n 0, 1) := dk_42 (dk_at dksX3_changes_1 7 rfl rfl)
theorem dX3_changes_30 : decode cX3_changes 30 = .ok (.getfield 3, 3) := dk_180 0 3 (dk_at dksX3_changes_1 8 rfl rfl)
theorem dX3_changes_33 : decode cX3_changes 33 = .ok (.getfield 36, 3) := dk_180 0 36 (dk_at dksX3_changes_1 11 rfl rfl)
theorem dX3_changes_36 : decode cX3_changes 36 = .ok (.getfield 54, 3) := dk_180 0 54 (dk_at dksX3_changes_1 14 rfl rfl)
theorem dX3_changes_39 : decode cX3_changes 39 = .ok (.ifCond .ne 14, 3) := dk_154 0 14 (dk_at dksX3_changes_1 17 rfl rfl)
theorem dX3_changes_42 : decode cX3_changes 42 = .ok (.aload_n 0, 1) := dk_42 (dk_at dksX3_changes_1 20 rfl rfl)
theorem dX3_changes_43 : decode cX3_changes 43 = .ok (.invokevirtual 57, 3) := dk_182 0 57 (dk_at dksX3_changes_1 21 rfl rfl)
theorem dX3_changes_46 : decode cX3_changes 46 = .ok (.ifCond .eq 7, 3) := dk_153 0 7 (dk_at dksX3_changes_2 0 rfl rfl)
theorem dX3_changes_49 : decode cX3_changes 49 = .ok (.iconst 1, 1) := dk_4 (dk_at dksX3_changes_2 3 rfl rfl)
theorem dX3_changes_50 : decode cX3_changes 50 = .ok (.goto 4, 3) := dk_167 0 4 (dk_at dksX3_changes_2 4 rfl rfl)
theorem dX3_changes_53 : decode cX3_changes 53 = .ok (.iconst 0, 1) := dk_3 (dk_at dksX3_changes_2 7 rfl rfl)
theorem dX3_changes_54 : decode cX3_changes 54 = .ok (.istore_n 1, 1) := dk_60 (dk_at dksX3_changes_2 8 rfl rfl)
theorem dX3_changes_55 : decode cX3_changes 55 = .ok (.aload_n 0, 1) := dk_42 (dk_at dksX3_changes_2 9 rfl rfl)
theorem dX3_changes_56 : decode cX3_changes 56 = .ok (.getfield 32, 3) := dk_180 0 32 (dk_at dksX3_changes_2 10 rfl rfl)
theorem dX3_changes_59 : decode cX3_changes 59 = .ok (.ifCond .ne 7, 3) := dk_154 0 7 (dk_at dksX3_changes_2 13 rfl rfl)
theorem dX3_changes_62 : decode cX3_changes 62 = .ok (.iload_n 1, 1) := dk_27 (dk_at dksX3_changes_2 16 rfl rfl)
theorem dX3_changes_63 : decode cX3_changes 63 = .ok (.ifCond .ne 4, 3) := dk_154 0 4 (dk_at dksX3_changes_2 17 rfl rfl)
theorem dX3_changes_66 : decode cX3_changes 66 = .ok (.return_, 1) := dk_177 (dk_at dksX3_changes_2 20 rfl rfl)
theorem dX3_changes_67 : decode cX3_changes 67 = .ok (.aload_n 0, 1) := dk_42 (dk_at dksX3_changes_2 21 rfl rfl)
theorem dX3_changes_68 : decode cX3_changes 68 = .ok (.iconst 1, 1) := dk_4 (dk_at dksX3_changes_2 22 rfl rfl)
theorem dX3_changes_69 : decode cX3_changes 69 = .ok (.putfield 32, 3) := dk_181 0 32 (dk_at dksX3_changes_3 0 rfl rfl)
theorem dX3_changes_72 : decode cX3_changes 72 = .ok (.aload_n 0, 1) := dk_42 (dk_at dksX3_changes_3 3 rfl rfl)
theorem dX3_changes_73 : decode cX3_changes 73 = .ok (.iconst 1, 1) := dk_4 (dk_at dksX3_changes_3 4 rfl rfl)
theorem dX3_changes_74 : decode cX3_changes 74 = .ok (.aload_n 0, 1) := dk_42 (dk_at dksX3_changes_3 5 rfl rfl)
theorem dX3_changes_75 : decode cX3_changes 75 = .ok (.getfield 25, 3) := dk_180 0 25 (dk_at dksX3_changes_3 6 rfl rfl)
theorem dX3_changes_78 : decode cX3_changes 78 = .ok (.isub, 1) := dk_100 (dk_at dksX3_changes_3 9 rfl rfl)
theorem dX3_changes_79 : decode cX3_changes 79 = .ok (.putfield 25, 3) := dk_181 0 25 (dk_at dksX3_changes_3 10 rfl rfl)
theorem dX3_changes_82 : decode cX3_changes 82 = .ok (.return_, 1) := dk_177 (dk_at dksX3_changes_3 13 rfl rfl)
abbrev cX3_gains : ByteArray := prog_16_method_8_code
def yX3_gains : MethodName := ⟨RX3, "gains", "(I)Z"⟩
def dkwX3_gains_0 : List UInt8 := [42, 27, 182, 0, 61, 61, 42, 182, 0, 65, 28, 172]
abbrev dktX3_gains_0 : List UInt8 := dkwX3_gains_0 ++ []
theorem dksX3_gains_0 : cX3_gains.data.toList.drop 0 = dktX3_gains_0 := by decide +kernel
theorem dX3_gains_0 : decode cX3_gains 0 = .ok (.aload_n 0, 1) := dk_42 (dk_at dksX3_gains_0 0 rfl rfl)
theorem dX3_gains_1 : decode cX3_gains 1 = .ok (.iload_n 1, 1) := dk_27 (dk_at dksX3_gains_0 1 rfl rfl)
theorem dX3_gains_2 : decode cX3_gains 2 = .ok (.invokevirtual 61, 3) := dk_182 0 61 (dk_at dksX3_gains_0 2 rfl rfl)
theorem dX3_gains_5 : decode cX3_gains 5 = .ok (.istore_n 2, 1) := dk_61 (dk_at dksX3_gains_0 5 rfl rfl)
theorem dX3_gains_6 : decode cX3_gains 6 = .ok (.aload_n 0, 1) := dk_42 (dk_at dksX3_gains_0 6 rfl rfl)
theorem dX3_gains_7 : decode cX3_gains 7 = .ok (.invokevirtual 65, 3) := dk_182 0 65 (dk_at dksX3_gains_0 7 rfl rfl)
theorem dX3_gains_10 : decode cX3_gains 10 = .ok (.iload_n 2, 1) := dk_28 (dk_at dksX3_gains_0 10 rfl rfl)
theorem dX3_gains_11 : decode cX3_gains 11 = .ok (.ireturn, 1) := dk_172 (dk_at dksX3_gains_0 11 rfl rfl)
abbrev cX3_is : ByteArray := prog_16_method_13_code
def yX3_is : MethodName := ⟨RX3, "is", "(I)Z"⟩
def dkwX3_is_7 : List UInt8 := [4, 46, 184, 0, 75, 172]
abbrev dktX3_is_7 : List UInt8 := dkwX3_is_7 ++ []
def dkwX3_is_6 : List UInt8 := [160, 0, 12, 28, 4, 100, 16, 10, 112, 167, 0, 4, 3, 79, 42, 180, 0, 15, 3, 46, 42, 180, 0, 15]
abbrev dktX3_is_6 : List UInt8 := dkwX3_is_6 ++ dktX3_is_7
def dkwX3_is_5 : List UInt8 := [160, 0, 12, 28, 4, 100, 16, 10, 112, 167, 0, 4, 3, 79, 42, 180, 0, 22, 4, 42, 180, 0, 29, 5]
abbrev dktX3_is_5 : List UInt8 := dkwX3_is_5 ++ dktX3_is_6
def dkwX3_is_4 : List UInt8 := [180, 0, 29, 5, 160, 0, 15, 28, 4, 100, 16, 20, 100, 16, 10, 108, 167, 0, 21, 42, 180, 0, 29, 4]
abbrev dktX3_is_4 : List UInt8 := dkwX3_is_4 ++ dktX3_is_5
def dkwX3_is_3 : List UInt8 := [167, 0, 14, 28, 16, 20, 163, 0, 7, 4, 167, 0, 4, 5, 181, 0, 29, 42, 180, 0, 22, 3, 42]
abbrev dktX3_is_3 : List UInt8 := dkwX3_is_3 ++ dktX3_is_4
def dkwX3_is_2 : List UInt8 := [79, 42, 28, 16, 10, 164, 0, 7, 4, 167, 0, 4, 3, 181, 0, 32, 42, 28, 154, 0, 7, 3]
abbrev dktX3_is_2 : List UInt8 := dkwX3_is_2 ++ dktX3_is_3
def dkwX3_is_1 : List UInt8 := [16, 16, 108, 16, 253, 96, 79, 42, 180, 0, 15, 4, 27, 16, 121, 108, 5, 108, 16, 8, 112, 16, 253, 96]
abbrev dktX3_is_1 : List UInt8 := dkwX3_is_1 ++ dktX3_is_2
def dkwX3_is_0 : List UInt8 := [27, 16, 121, 112, 61, 42, 27, 16, 121, 108, 5, 112, 181, 0, 25, 42, 180, 0, 15, 3, 27, 16, 121, 108]
abbrev dktX3_is_0 : List UInt8 := dkwX3_is_0 ++ dktX3_is_1
theorem dksX3_is_0 : cX3_is.data.toList.drop 0 = dktX3_is_0 := by decide +kernel
theorem dksX3_is_1 : cX3_is.data.toList.drop 24 = dktX3_is_1 := dk_seg dksX3_is_0 24 rfl rfl
theorem dksX3_is_2 : cX3_is.data.toList.drop 48 = dktX3_is_2 := dk_seg dksX3_is_1 24 rfl rfl
theorem dksX3_is_3 : cX3_is.data.toList.drop 70 = dktX3_is_3 := dk_seg dksX3_is_2 22 rfl rfl
theorem dksX3_is_4 : cX3_is.data.toList.drop 93 = dktX3_is_4 := dk_seg dksX3_is_3 23 rfl rfl
theorem dksX3_is_5 : cX3_is.data.toList.drop 117 = dktX3_is_5 := dk_seg dksX3_is_4 24 rfl rfl
theorem dksX3_is_6 : cX3_is.data.toList.drop 141 = dktX3_is_6 := dk_seg dksX3_is_5 24 rfl rfl
theorem dksX3_is_7 : cX3_is.data.toList.drop 165 = dktX3_is_7 := dk_seg dksX3_is_6 24 rfl rfl
theorem dX3_is_0 : decode cX3_is 0 = .ok (.iload_n 1, 1) := dk_27 (dk_at dksX3_is_0 0 rfl rfl)
theorem dX3_is_1 : decode cX3_is 1 = .ok (.bipush 121, 2) := dk_16 121 (dk_at dksX3_is_0 1 rfl rfl)
theorem dX3_is_3 : decode cX3_is 3 = .ok (.irem, 1) := dk_112 (dk_at dksX3_is_0 3 rfl rfl)
theorem dX3_is_4 : decode cX3_is 4 = .ok (.istore_n 2, 1) := dk_61 (dk_at dksX3_is_0 4 rfl rfl)
theorem dX3_is_5 : decode cX3_is 5 = .ok (.aload_n 0, 1) := dk_42 (dk_at dksX3_is_0 5 rfl rfl)
theorem dX3_is_6 : decode cX3_is 6 = .ok (.iload_n 1, 1) := dk_27 (dk_at dksX3_is_0 6 rfl rfl)
theorem dX3_is_7 : decode cX3_is 7 = .ok (.bipush 121, 2) := dk_16 121 (dk_at dksX3_is_0 7 rfl rfl)
theorem dX3_is_9 : decode cX3_is 9 = .ok (.idiv, 1) := dk_108 (dk_at dksX3_is_0 9 rfl rfl)
theorem dX3_is_10 : decode cX3_is 10 = .ok (.iconst 2, 1) := dk_5 (dk_at dksX3_is_0 10 rfl rfl)
theorem dX3_is_11 : decode cX3_is 11 = .ok (.irem, 1) := dk_112 (dk_at dksX3_is_0 11 rfl rfl)
theorem dX3_is_12 : decode cX3_is 12 = .ok (.putfield 25, 3) := dk_181 0 25 (dk_at dksX3_is_0 12 rfl rfl)
theorem dX3_is_15 : decode cX3_is 15 = .ok (.aload_n 0, 1) := dk_42 (dk_at dksX3_is_0 15 rfl rfl)
theorem dX3_is_16 : decode cX3_is 16 = .ok (.getfield 15, 3) := dk_180 0 15 (dk_at dksX3_is_0 16 rfl rfl)
theorem dX3_is_19 : decode cX3_is 19 = .ok (.iconst 0, 1) := dk_3 (dk_at dksX3_is_0 19 rfl rfl)
theorem dX3_is_20 : decode cX3_is 20 = .ok (.iload_n 1, 1) := dk_27 (dk_at dksX3_is_0 20 rfl rfl)
theorem dX3_is_21 : decode cX3_is 21 = .ok (.bipush 121, 2) := dk_16 121 (dk_at dksX3_is_0 21 rfl rfl)
theorem dX3_is_23 : decode cX3_is 23 = .ok (.idiv, 1) := dk_108 (dk_at dksX3_is_0 23 rfl rfl)
theorem dX3_is_24 : decode cX3_is 24 = .ok (.bipush 16, 2) := dk_16 16 (dk_at dksX3_is_1 0 rfl rfl)
theorem dX3_is_26 : decode cX3_is 26 = .ok (.idiv, 1) := dk_108 (dk_at dksX3_is_1 2 rfl rfl)
theorem dX3_is_27 : decode cX3_is 27 = .ok (.bipush (-3), 2) := dk_16 253 (dk_at dksX3_is_1 3 rfl rfl)
theorem dX3_is_29 : decode cX3_is 29 = .ok (.iadd, 1) := dk_96 (dk_at dksX3_is_1 5 rfl rfl)
theorem dX3_is_30 : decode cX3_is 30 = .ok (.iastore, 1) := dk_79 (dk_at dksX3_is_1 6 rfl rfl)
theorem dX3_is_31 : decode cX3_is 31 = .ok (.aload_n 0, 1) := dk_42 (dk_at dksX3_is_1 7 rfl rfl)
theorem dX3_is_32 : decode cX3_is 32 = .ok (.getfield 15, 3) := dk_180 0 15 (dk_at dksX3_is_1 8 rfl rfl)
theorem dX3_is_35 : decode cX3_is 35 = .ok (.iconst 1, 1) := dk_4 (dk_at dksX3_is_1 11 rfl rfl)
theorem dX3_is_36 : decode cX3_is 36 = .ok (.iload_n 1, 1) := dk_27 (dk_at dksX3_is_1 12 rfl rfl)
theorem dX3_is_37 : decode cX3_is 37 = .ok (.bipush 121, 2) := dk_16 121 (dk_at dksX3_is_1 13 rfl rfl)
theorem dX3_is_39 : decode cX3_is 39 = .ok (.idiv, 1) := dk_108 (dk_at dksX3_is_1 15 rfl rfl)
theorem dX3_is_40 : decode cX3_is 40 = .ok (.iconst 2, 1) := dk_5 (dk_at dksX3_is_1 16 rfl rfl)
theorem dX3_is_41 : decode cX3_is 41 = .ok (.idiv, 1) := dk_108 (dk_at dksX3_is_1 17 rfl rfl)
theorem dX3_is_42 : decode cX3_is 42 = .ok (.bipush 8, 2) := dk_16 8 (dk_at dksX3_is_1 18 rfl rfl)
theorem dX3_is_44 : decode cX3_is 44 = .ok (.irem, 1) := dk_112 (dk_at dksX3_is_1 20 rfl rfl)
theorem dX3_is_45 : decode cX3_is 45 = .ok (.bipush (-3), 2) := dk_16 253 (dk_at dksX3_is_1 21 rfl rfl)
theorem dX3_is_47 : decode cX3_is 47 = .ok (.iadd, 1) := dk_96 (dk_at dksX3_is_1 23 rfl rfl)
theorem dX3_is_48 : decode cX3_is 48 = .ok (.iastore, 1) := dk_79 (dk_at dksX3_is_2 0 rfl rfl)
theorem dX3_is_49 : decode cX3_is 49 = .ok (.aload_n 0, 1) := dk_42 (dk_at dksX3_is_2 1 rfl rfl)
theorem dX3_is_50 : decode cX3_is 50 = .ok (.iload_n 2, 1) := dk_28 (dk_at dksX3_is_2 2 rfl rfl)
theorem dX3_is_51 : decode cX3_is 51 = .ok (.bipush 10, 2) := dk_16 10 (dk_at dksX3_is_2 3 rfl rfl)
theorem dX3_is_53 : decode cX3_is 53 = .ok (.if_icmp .le 7, 3) := dk_164 0 7 (dk_at dksX3_is_2 5 rfl rfl)
theorem dX3_is_56 : decode cX3_is 56 = .ok (.iconst 1, 1) := dk_4 (dk_at dksX3_is_2 8 rfl rfl)
theorem dX3_is_57 : decode cX3_is 57 = .ok (.goto 4, 3) := dk_167 0 4 (dk_at dksX3_is_2 9 rfl rfl)
theorem dX3_is_60 : decode cX3_is 60 = .ok (.iconst 0, 1) := dk_3 (dk_at dksX3_is_2 12 rfl rfl)
theorem dX3_is_61 : decode cX3_is 61 = .ok (.putfield 32, 3) := dk_181 0 32 (dk_at dksX3_is_2 13 rfl rfl)
theorem dX3_is_64 : decode cX3_is 64 = .ok (.aload_n 0, 1) := dk_42 (dk_at dksX3_is_2 16 rfl rfl)
theorem dX3_is_65 : decode cX3_is 65 = .ok (.iload_n 2, 1) := dk_28 (dk_at dksX3_is_2 17 rfl rfl)
theorem dX3_is_66 : decode cX3_is 66 = .ok (.ifCond .ne 7, 3) := dk_154 0 7 (dk_at dksX3_is_2 18 rfl rfl)
theorem dX3_is_69 : decode cX3_is 69 = .ok (.iconst 0, 1) := dk_3 (dk_at dksX3_is_2 21 rfl rfl)
theorem dX3_is_70 : decode cX3_is 70 = .ok (.goto 14, 3) := dk_167 0 14 (dk_at dksX3_is_3 0 rfl rfl)
theorem dX3_is_73 : decode cX3_is 73 = .ok (.iload_n 2, 1) := dk_28 (dk_at dksX3_is_3 3 rfl rfl)
theorem dX3_is_74 : decode cX3_is 74 = .ok (.bipush 20, 2) := dk_16 20 (dk_at dksX3_is_3 4 rfl rfl)
theorem dX3_is_76 : decode cX3_is 76 = .ok (.if_icmp .gt 7, 3) := dk_163 0 7 (dk_at dksX3_is_3 6 rfl rfl)
theorem dX3_is_79 : decode cX3_is 79 = .ok (.iconst 1, 1) := dk_4 (dk_at dksX3_is_3 9 rfl rfl)
theorem dX3_is_80 : decode cX3_is 80 = .ok (.goto 4, 3) := dk_167 0 4 (dk_at dksX3_is_3 10 rfl rfl)
theorem dX3_is_83 : decode cX3_is 83 = .ok (.iconst 2, 1) := dk_5 (dk_at dksX3_is_3 13 rfl rfl)
theorem dX3_is_84 : decode cX3_is 84 = .ok (.putfield 29, 3) := dk_181 0 29 (dk_at dksX3_is_3 14 rfl rfl)
theorem dX3_is_87 : decode cX3_is 87 = .ok (.aload_n 0, 1) := dk_42 (dk_at dksX3_is_3 17 rfl rfl)
theorem dX3_is_88 : decode cX3_is 88 = .ok (.getfield 22, 3) := dk_180 0 22 (dk_at dksX3_is_3 18 rfl rfl)
theorem dX3_is_91 : decode cX3_is 91 = .ok (.iconst 0, 1) := dk_3 (dk_at dksX3_is_3 21 rfl rfl)
theorem dX3_is_92 : decode cX3_is 92 = .ok (.aload_n 0, 1) := dk_42 (dk_at dksX3_is_3 22 rfl rfl)
theorem dX3_is_93 : decode cX3_is 93 = .ok (.getfield 29, 3) := dk_180 0 29 (dk_at dksX3_is_4 0 rfl rfl)
theorem dX3_is_96 : decode cX3_is 96 = .ok (.iconst 2, 1) := dk_5 (dk_at dksX3_is_4 3 rfl rfl)
theorem dX3_is_97 : decode cX3_is 97 = .ok (.if_icmp .ne 15, 3) := dk_160 0 15 (dk_at dksX3_is_4 4 rfl rfl)
theorem dX3_is_100 : decode cX3_is 100 = .ok (.iload_n 2, 1) := dk_28 (dk_at dksX3_is_4 7 rfl rfl)
theorem dX3_is_101 : decode cX3_is 101 = .ok (.iconst 1, 1) := dk_4 (dk_at dksX3_is_4 8 rfl rfl)
theorem dX3_is_102 : decode cX3_is 102 = .ok (.isub, 1) := dk_100 (dk_at dksX3_is_4 9 rfl rfl)
theorem dX3_is_103 : decode cX3_is 103 = .ok (.bipush 20, 2) := dk_16 20 (dk_at dksX3_is_4 10 rfl rfl)
theorem dX3_is_105 : decode cX3_is 105 = .ok (.isub, 1) := dk_100 (dk_at dksX3_is_4 12 rfl rfl)
theorem dX3_is_106 : decode cX3_is 106 = .ok (.bipush 10, 2) := dk_16 10 (dk_at dksX3_is_4 13 rfl rfl)
theorem dX3_is_108 : decode cX3_is 108 = .ok (.idiv, 1) := dk_108 (dk_at dksX3_is_4 15 rfl rfl)
theorem dX3_is_109 : decode cX3_is 109 = .ok (.goto 21, 3) := dk_167 0 21 (dk_at dksX3_is_4 16 rfl rfl)
theorem dX3_is_112 : decode cX3_is 112 = .ok (.aload_n 0, 1) := dk_42 (dk_at dksX3_is_4 19 rfl rfl)
theorem dX3_is_113 : decode cX3_is 113 = .ok (.getfield 29, 3) := dk_180 0 29 (dk_at dksX3_is_4 20 rfl rfl)
theorem dX3_is_116 : decode cX3_is 116 = .ok (.iconst 1, 1) := dk_4 (dk_at dksX3_is_4 23 rfl rfl)
theorem dX3_is_117 : decode cX3_is 117 = .ok (.if_icmp .ne 12, 3) := dk_160 0 12 (dk_at dksX3_is_5 0 rfl rfl)
theorem dX3_is_120 : decode cX3_is 120 = .ok (.iload_n 2, 1) := dk_28 (dk_at dksX3_is_5 3 rfl rfl)
theorem dX3_is_121 : decode cX3_is 121 = .ok (.iconst 1, 1) := dk_4 (dk_at dksX3_is_5 4 rfl rfl)
theorem dX3_is_122 : decode cX3_is 122 = .ok (.isub, 1) := dk_100 (dk_at dksX3_is_5 5 rfl rfl)
theorem dX3_is_123 : decode cX3_is 123 = .ok (.bipush 10, 2) := dk_16 10 (dk_at dksX3_is_5 6 rfl rfl)
theorem dX3_is_125 : decode cX3_is 125 = .ok (.irem, 1) := dk_112 (dk_at dksX3_is_5 8 rfl rfl)
theorem dX3_is_126 : decode cX3_is 126 = .ok (.goto 4, 3) := dk_167 0 4 (dk_at dksX3_is_5 9 rfl rfl)
theorem dX3_is_129 : decode cX3_is 129 = .ok (.iconst 0, 1) := dk_3 (dk_at dksX3_is_5 12 rfl rfl)
theorem dX3_is_130 : decode cX3_is 130 = .ok (.iastore, 1) := dk_79 (dk_at dksX3_is_5 13 rfl rfl)
theorem dX3_is_131 : decode cX3_is 131 = .ok (.aload_n 0, 1) := dk_42 (dk_at dksX3_is_5 14 rfl rfl)
theorem dX3_is_132 : decode cX3_is 132 = .ok (.getfield 22, 3) := dk_180 0 22 (dk_at dksX3_is_5 15 rfl rfl)
theorem dX3_is_135 : decode cX3_is 135 = .ok (.iconst 1, 1) := dk_4 (dk_at dksX3_is_5 18 rfl rfl)
theorem dX3_is_136 : decode cX3_is 136 = .ok (.aload_n 0, 1) := dk_42 (dk_at dksX3_is_5 19 rfl rfl)
theorem dX3_is_137 : decode cX3_is 137 = .ok (.getfield 29, 3) := dk_180 0 29 (dk_at dksX3_is_5 20 rfl rfl)
theorem dX3_is_140 : decode cX3_is 140 = .ok (.iconst 2, 1) := dk_5 (dk_at dksX3_is_5 23 rfl rfl)
theorem dX3_is_141 : decode cX3_is 141 = .ok (.if_icmp .ne 12, 3) := dk_160 0 12 (dk_at dksX3_is_6 0 rfl rfl)
theorem dX3_is_144 : decode cX3_is 144 = .ok (.iload_n 2, 1) := dk_28 (dk_at dksX3_is_6 3 rfl rfl)
theorem dX3_is_145 : decode cX3_is 145 = .ok (.iconst 1, 1) := dk_4 (dk_at dksX3_is_6 4 rfl rfl)
theorem dX3_is_146 : decode cX3_is 146 = .ok (.isub, 1) := dk_100 (dk_at dksX3_is_6 5 rfl rfl)
theorem dX3_is_147 : decode cX3_is 147 = .ok (.bipush 10, 2) := dk_16 10 (dk_at dksX3_is_6 6 rfl rfl)
theorem dX3_is_149 : decode cX3_is 149 = .ok (.irem, 1) := dk_112 (dk_at dksX3_is_6 8 rfl rfl)
theorem dX3_is_150 : decode cX3_is 150 = .ok (.goto 4, 3) := dk_167 0 4 (dk_at dksX3_is_6 9 rfl rfl)
theorem dX3_is_153 : decode cX3_is 153 = .ok (.iconst 0, 1) := dk_3 (dk_at dksX3_is_6 12 rfl rfl)
theorem dX3_is_154 : decode cX3_is 154 = .ok (.iastore, 1) := dk_79 (dk_at dksX3_is_6 13 rfl rfl)
theorem dX3_is_155 : decode cX3_is 155 = .ok (.aload_n 0, 1) := dk_42 (dk_at dksX3_is_6 14 rfl rfl)
theorem dX3_is_156 : decode cX3_is 156 = .ok (.getfield 15, 3) := dk_180 0 15 (dk_at dksX3_is_6 15 rfl rfl)
theorem dX3_is_159 : decode cX3_is 159 = .ok (.iconst 0, 1) := dk_3 (dk_at dksX3_is_6 18 rfl rfl)
theorem dX3_is_160 : decode cX3_is 160 = .ok (.iaload, 1) := dk_46 (dk_at dksX3_is_6 19 rfl rfl)
theorem dX3_is_161 : decode cX3_is 161 = .ok (.aload_n 0, 1) := dk_42 (dk_at dksX3_is_6 20 rfl rfl)
theorem dX3_is_162 : decode cX3_is 162 = .ok (.getfield 15, 3) := dk_180 0 15 (dk_at dksX3_is_6 21 rfl rfl)
theorem dX3_is_165 : decode cX3_is 165 = .ok (.iconst 1, 1) := dk_4 (dk_at dksX3_is_7 0 rfl rfl)
theorem dX3_is_166 : decode cX3_is 166 = .ok (.iaload, 1) := dk_46 (dk_at dksX3_is_7 1 rfl rfl)
theorem dX3_is_167 : decode cX3_is 167 = .ok (.invokestatic 75, 3) := dk_184 0 75 (dk_at dksX3_is_7 2 rfl rfl)
theorem dX3_is_170 : decode cX3_is 170 = .ok (.ireturn, 1) := dk_172 (dk_at dksX3_is_7 5 rfl rfl)
abbrev cX3_code : ByteArray := prog_16_method_12_code
def yX3_code : MethodName := ⟨RX3, "code", "()I"⟩
def dkwX3_code_4 : List UInt8 := [42, 180, 0, 25, 96, 16, 121, 104, 27, 96, 172]
abbrev dktX3_code_4 : List UInt8 := dkwX3_code_4 ++ []
def dkwX3_code_3 : List UInt8 := [16, 8, 42, 180, 0, 15, 3, 46, 16, 253, 100, 104, 42, 180, 0, 15, 4, 46, 96, 16, 253, 100, 5, 104]
abbrev dktX3_code_3 : List UInt8 := dkwX3_code_3 ++ dktX3_code_4
def dkwX3_code_2 : List UInt8 := [167, 0, 22, 16, 21, 16, 10, 42, 180, 0, 22, 3, 46, 104, 96, 42, 180, 0, 22, 4, 46, 96, 60]
abbrev dktX3_code_2 : List UInt8 := dkwX3_code_2 ++ dktX3_code_3
def dkwX3_code_1 : List UInt8 := [46, 96, 167, 0, 42, 42, 180, 0, 29, 4, 160, 0, 15, 16, 11, 42, 180, 0, 22, 3, 46, 96]
abbrev dktX3_code_1 : List UInt8 := dkwX3_code_1 ++ dktX3_code_2
def dkwX3_code_0 : List UInt8 := [42, 180, 0, 29, 154, 0, 7, 3, 167, 0, 60, 42, 180, 0, 32, 154, 0, 14, 4, 42, 180, 0, 22, 3]
abbrev dktX3_code_0 : List UInt8 := dkwX3_code_0 ++ dktX3_code_1
theorem dksX3_code_0 : cX3_code.data.toList.drop 0 = dktX3_code_0 := by decide +kernel
theorem dksX3_code_1 : cX3_code.data.toList.drop 24 = dktX3_code_1 := dk_seg dksX3_code_0 24 rfl rfl
theorem dksX3_code_2 : cX3_code.data.toList.drop 46 = dktX3_code_2 := dk_seg dksX3_code_1 22 rfl rfl
theorem dksX3_code_3 : cX3_code.data.toList.drop 69 = dktX3_code_3 := dk_seg dksX3_code_2 23 rfl rfl
theorem dksX3_code_4 : cX3_code.data.toList.drop 93 = dktX3_code_4 := dk_seg dksX3_code_3 24 rfl rfl
theorem dX3_code_0 : decode cX3_code 0 = .ok (.aload_n 0, 1) := dk_42 (dk_at dksX3_code_0 0 rfl rfl)
theorem dX3_code_1 : decode cX3_code 1 = .ok (.getfield 29, 3) := dk_180 0 29 (dk_at dksX3_code_0 1 rfl rfl)
theorem dX3_code_4 : decode cX3_code 4 = .ok (.ifCond .ne 7, 3) := dk_154 0 7 (dk_at dksX3_code_0 4 rfl rfl)
theorem dX3_code_7 : decode cX3_code 7 = .ok (.iconst 0, 1) := dk_3 (dk_at dksX3_code_0 7 rfl rfl)
theorem dX3_code_8 : decode cX3_code 8 = .ok (.goto 60, 3) := dk_167 0 60 (dk_at dksX3_code_0 8 rfl rfl)
theorem dX3_code_11 : decode cX3_code 11 = .ok (.aload_n 0, 1) := dk_42 (dk_at dksX3_code_0 11 rfl rfl)
theorem dX3_code_12 : decode cX3_code 12 = .ok (.getfield 32, 3) := dk_180 0 32 (dk_at dksX3_code_0 12 rfl rfl)
theorem dX3_code_15 : decode cX3_code 15 = .ok (.ifCond .ne 14, 3) := dk_154 0 14 (dk_at dksX3_code_0 15 rfl rfl)
theorem dX3_code_18 : decode cX3_code 18 = .ok (.iconst 1, 1) := dk_4 (dk_at dksX3_code_0 18 rfl rfl)
theorem dX3_code_19 : decode cX3_code 19 = .ok (.aload_n 0, 1) := dk_42 (dk_at dksX3_code_0 19 rfl rfl)
theorem dX3_code_20 : decode cX3_code 20 = .ok (.getfield 22, 3) := dk_180 0 22 (dk_at dksX3_code_0 20 rfl rfl)
theorem dX3_code_23 : decode cX3_code 23 = .ok (.iconst 0, 1) := dk_3 (dk_at dksX3_code_0 23 rfl rfl)
theorem dX3_code_24 : decode cX3_code 24 = .ok (.iaload, 1) := dk_46 (dk_at dksX3_code_1 0 rfl rfl)
theorem dX3_code_25 : decode cX3_code 25 = .ok (.iadd, 1) := dk_96 (dk_at dksX3_code_1 1 rfl rfl)
theorem dX3_code_26 : decode cX3_code 26 = .ok (.goto 42, 3) := dk_167 0 42 (dk_at dksX3_code_1 2 rfl rfl)
theorem dX3_code_29 : decode cX3_code 29 = .ok (.aload_n 0, 1) := dk_42 (dk_at dksX3_code_1 5 rfl rfl)
theorem dX3_code_30 : decode cX3_code 30 = .ok (.getfield 29, 3) := dk_180 0 29 (dk_at dksX3_code_1 6 rfl rfl)
theorem dX3_code_33 : decode cX3_code 33 = .ok (.iconst 1, 1) := dk_4 (dk_at dksX3_code_1 9 rfl rfl)
theorem dX3_code_34 : decode cX3_code 34 = .ok (.if_icmp .ne 15, 3) := dk_160 0 15 (dk_at dksX3_code_1 10 rfl rfl)
theorem dX3_code_37 : decode cX3_code 37 = .ok (.bipush 11, 2) := dk_16 11 (dk_at dksX3_code_1 13 rfl rfl)
theorem dX3_code_39 : decode cX3_code 39 = .ok (.aload_n 0, 1) := dk_42 (dk_at dksX3_code_1 15 rfl rfl)
theorem dX3_code_40 : decode cX3_code 40 = .ok (.getfield 22, 3) := dk_180 0 22 (dk_at dksX3_code_1 16 rfl rfl)
theorem dX3_code_43 : decode cX3_code 43 = .ok (.iconst 0, 1) := dk_3 (dk_at dksX3_code_1 19 rfl rfl)
theorem dX3_code_44 : decode cX3_code 44 = .ok (.iaload, 1) := dk_46 (dk_at dksX3_code_1 20 rfl rfl)
theorem dX3_code_45 : decode cX3_code 45 = .ok (.iadd, 1) := dk_96 (dk_at dksX3_code_1 21 rfl rfl)
theorem dX3_code_46 : decode cX3_code 46 = .ok (.goto 22, 3) := dk_167 0 22 (dk_at dksX3_code_2 0 rfl rfl)
theorem dX3_code_49 : decode cX3_code 49 = .ok (.bipush 21, 2) := dk_16 21 (dk_at dksX3_code_2 3 rfl rfl)
theorem dX3_code_51 : decode cX3_code 51 = .ok (.bipush 10, 2) := dk_16 10 (dk_at dksX3_code_2 5 rfl rfl)
theorem dX3_code_53 : decode cX3_code 53 = .ok (.aload_n 0, 1) := dk_42 (dk_at dksX3_code_2 7 rfl rfl)
theorem dX3_code_54 : decode cX3_code 54 = .ok (.getfield 22, 3) := dk_180 0 22 (dk_at dksX3_code_2 8 rfl rfl)
theorem dX3_code_57 : decode cX3_code 57 = .ok (.iconst 0, 1) := dk_3 (dk_at dksX3_code_2 11 rfl rfl)
theorem dX3_code_58 : decode cX3_code 58 = .ok (.iaload, 1) := dk_46 (dk_at dksX3_code_2 12 rfl rfl)
theorem dX3_code_59 : decode cX3_code 59 = .ok (.imul, 1) := dk_104 (dk_at dksX3_code_2 13 rfl rfl)
theorem dX3_code_60 : decode cX3_code 60 = .ok (.iadd, 1) := dk_96 (dk_at dksX3_code_2 14 rfl rfl)
theorem dX3_code_61 : decode cX3_code 61 = .ok (.aload_n 0, 1) := dk_42 (dk_at dksX3_code_2 15 rfl rfl)
theorem dX3_code_62 : decode cX3_code 62 = .ok (.getfield 22, 3) := dk_180 0 22 (dk_at dksX3_code_2 16 rfl rfl)
theorem dX3_code_65 : decode cX3_code 65 = .ok (.iconst 1, 1) := dk_4 (dk_at dksX3_code_2 19 rfl rfl)
theorem dX3_code_66 : decode cX3_code 66 = .ok (.iaload, 1) := dk_46 (dk_at dksX3_code_2 20 rfl rfl)
theorem dX3_code_67 : decode cX3_code 67 = .ok (.iadd, 1) := dk_96 (dk_at dksX3_code_2 21 rfl rfl)
theorem dX3_code_68 : decode cX3_code 68 = .ok (.istore_n 1, 1) := dk_60 (dk_at dksX3_code_2 22 rfl rfl)
theorem dX3_code_69 : decode cX3_code 69 = .ok (.bipush 8, 2) := dk_16 8 (dk_at dksX3_code_3 0 rfl rfl)
theorem dX3_code_71 : decode cX3_code 71 = .ok (.aload_n 0, 1) := dk_42 (dk_at dksX3_code_3 2 rfl rfl)
theorem dX3_code_72 : decode cX3_code 72 = .ok (.getfield 15, 3) := dk_180 0 15 (dk_at dksX3_code_3 3 rfl rfl)
theorem dX3_code_75 : decode cX3_code 75 = .ok (.iconst 0, 1) := dk_3 (dk_at dksX3_code_3 6 rfl rfl)
theorem dX3_code_76 : decode cX3_code 76 = .ok (.iaload, 1) := dk_46 (dk_at dksX3_code_3 7 rfl rfl)
theorem dX3_code_77 : decode cX3_code 77 = .ok (.bipush (-3), 2) := dk_16 253 (dk_at dksX3_code_3 8 rfl rfl)
theorem dX3_code_79 : decode cX3_code 79 = .ok (.isub, 1) := dk_100 (dk_at dksX3_code_3 10 rfl rfl)
theorem dX3_code_80 : decode cX3_code 80 = .ok (.imul, 1) := dk_104 (dk_at dksX3_code_3 11 rfl rfl)
theorem dX3_code_81 : decode cX3_code 81 = .ok (.aload_n 0, 1) := dk_42 (dk_at dksX3_code_3 12 rfl rfl)
theorem dX3_code_82 : decode cX3_code 82 = .ok (.getfield 15, 3) := dk_180 0 15 (dk_at dksX3_code_3 13 rfl rfl)
theorem dX3_code_85 : decode cX3_code 85 = .ok (.iconst 1, 1) := dk_4 (dk_at dksX3_code_3 16 rfl rfl)
theorem dX3_code_86 : decode cX3_code 86 = .ok (.iaload, 1) := dk_46 (dk_at dksX3_code_3 17 rfl rfl)
theorem dX3_code_87 : decode cX3_code 87 = .ok (.iadd, 1) := dk_96 (dk_at dksX3_code_3 18 rfl rfl)
theorem dX3_code_88 : decode cX3_code 88 = .ok (.bipush (-3), 2) := dk_16 253 (dk_at dksX3_code_3 19 rfl rfl)
theorem dX3_code_90 : decode cX3_code 90 = .ok (.isub, 1) := dk_100 (dk_at dksX3_code_3 21 rfl rfl)
theorem dX3_code_91 : decode cX3_code 91 = .ok (.iconst 2, 1) := dk_5 (dk_at dksX3_code_3 22 rfl rfl)
theorem dX3_code_92 : decode cX3_code 92 = .ok (.imul, 1) := dk_104 (dk_at dksX3_code_3 23 rfl rfl)
theorem dX3_code_93 : decode cX3_code 93 = .ok (.aload_n 0, 1) := dk_42 (dk_at dksX3_code_4 0 rfl rfl)
theorem dX3_code_94 : decode cX3_code 94 = .ok (.getfield 25, 3) := dk_180 0 25 (dk_at dksX3_code_4 1 rfl rfl)
theorem dX3_code_97 : decode cX3_code 97 = .ok (.iadd, 1) := dk_96 (dk_at dksX3_code_4 4 rfl rfl)
theorem dX3_code_98 : decode cX3_code 98 = .ok (.bipush 121, 2) := dk_16 121 (dk_at dksX3_code_4 5 rfl rfl)
theorem dX3_code_100 : decode cX3_code 100 = .ok (.imul, 1) := dk_104 (dk_at dksX3_code_4 7 rfl rfl)
theorem dX3_code_101 : decode cX3_code 101 = .ok (.iload_n 1, 1) := dk_27 (dk_at dksX3_code_4 8 rfl rfl)
theorem dX3_code_102 : decode cX3_code 102 = .ok (.iadd, 1) := dk_96 (dk_at dksX3_code_4 9 rfl rfl)
theorem dX3_code_103 : decode cX3_code 103 = .ok (.ireturn, 1) := dk_172 (dk_at dksX3_code_4 10 rfl rfl)
abbrev cX4_init : ByteArray := prog_11_method_1_code
def yX4_init : MethodName := ⟨RX4, "<init>", "()V"⟩
def dkwX4_init_0 : List UInt8 := [42, 183, 0, 3, 42, 17, 1, 144, 188, 8, 181, 0, 9, 42, 2, 181, 0, 15, 177]
abbrev dktX4_init_0 : List UInt8 := dkwX4_init_0 ++ []
theorem dksX4_init_0 : cX4_init.data.toList.drop 0 = dktX4_init_0 := by decide +kernel
theorem dX4_init_0 : decode cX4_init 0 = .ok (.aload_n 0, 1) := dk_42 (dk_at dksX4_init_0 0 rfl rfl)
theorem dX4_init_1 : decode cX4_init 1 = .ok (.invokespecial 3, 3) := dk_183 0 3 (dk_at dksX4_init_0 1 rfl rfl)
theorem dX4_init_4 : decode cX4_init 4 = .ok (.aload_n 0, 1) := dk_42 (dk_at dksX4_init_0 4 rfl rfl)
theorem dX4_init_5 : decode cX4_init 5 = .ok (.sipush 400, 3) := dk_17 1 144 (dk_at dksX4_init_0 5 rfl rfl)
theorem dX4_init_8 : decode cX4_init 8 = .ok (.newarray .byte, 2) := dk_188_8 (dk_at dksX4_init_0 8 rfl rfl)
theorem dX4_init_10 : decode cX4_init 10 = .ok (.putfield 9, 3) := dk_181 0 9 (dk_at dksX4_init_0 10 rfl rfl)
theorem dX4_init_13 : decode cX4_init 13 = .ok (.aload_n 0, 1) := dk_42 (dk_at dksX4_init_0 13 rfl rfl)
theorem dX4_init_14 : decode cX4_init 14 = .ok (.iconst (-1), 1) := dk_2 (dk_at dksX4_init_0 14 rfl rfl)
theorem dX4_init_15 : decode cX4_init 15 = .ok (.putfield 15, 3) := dk_181 0 15 (dk_at dksX4_init_0 15 rfl rfl)
theorem dX4_init_18 : decode cX4_init 18 = .ok (.return_, 1) := dk_177 (dk_at dksX4_init_0 18 rfl rfl)
abbrev cX4_add : ByteArray := prog_11_method_2_code
def yX4_add : MethodName := ⟨RX4, "add", "([I)I"⟩
def dkwX4_add_3 : List UInt8 := [132, 6, 248, 167, 255, 223, 132, 4, 1, 167, 255, 201, 42, 180, 0, 19, 172]
abbrev dktX4_add_3 : List UInt8 := dkwX4_add_3 ++ []
def dkwX4_add_2 : List UInt8 := [180, 0, 9, 42, 180, 0, 19, 21, 5, 21, 6, 122, 145, 84, 42, 89, 180, 0, 19, 4, 96, 181, 0, 19]
abbrev dktX4_add_2 : List UInt8 := dkwX4_add_2 ++ dktX4_add_3
def dkwX4_add_1 : List UInt8 := [21, 4, 29, 162, 0, 55, 44, 21, 4, 46, 54, 5, 16, 24, 54, 6, 21, 6, 155, 0, 34, 42]
abbrev dktX4_add_1 : List UInt8 := dkwX4_add_1 ++ dktX4_add_2
def dkwX4_add_0 : List UInt8 := [42, 180, 0, 19, 16, 20, 96, 17, 1, 144, 164, 0, 5, 2, 172, 43, 77, 44, 190, 62, 3, 54, 4]
abbrev dktX4_add_0 : List UInt8 := dkwX4_add_0 ++ dktX4_add_1
theorem dksX4_add_0 : cX4_add.data.toList.drop 0 = dktX4_add_0 := by decide +kernel
theorem dksX4_add_1 : cX4_add.data.toList.drop 23 = dktX4_add_1 := dk_seg dksX4_add_0 23 rfl rfl
theorem dksX4_add_2 : cX4_add.data.toList.drop 45 = dktX4_add_2 := dk_seg dksX4_add_1 22 rfl rfl
theorem dksX4_add_3 : cX4_add.data.toList.drop 69 = dktX4_add_3 := dk_seg dksX4_add_2 24 rfl rfl
theorem dX4_add_0 : decode cX4_add 0 = .ok (.aload_n 0, 1) := dk_42 (dk_at dksX4_add_0 0 rfl rfl)
theorem dX4_add_1 : decode cX4_add 1 = .ok (.getfield 19, 3) := dk_180 0 19 (dk_at dksX4_add_0 1 rfl rfl)
theorem dX4_add_4 : decode cX4_add 4 = .ok (.bipush 20, 2) := dk_16 20 (dk_at dksX4_add_0 4 rfl rfl)
theorem dX4_add_6 : decode cX4_add 6 = .ok (.iadd, 1) := dk_96 (dk_at dksX4_add_0 6 rfl rfl)
theorem dX4_add_7 : decode cX4_add 7 = .ok (.sipush 400, 3) := dk_17 1 144 (dk_at dksX4_add_0 7 rfl rfl)
theorem dX4_add_10 : decode cX4_add 10 = .ok (.if_icmp .le 5, 3) := dk_164 0 5 (dk_at dksX4_add_0 10 rfl rfl)
theorem dX4_add_13 : decode cX4_add 13 = .ok (.iconst (-1), 1) := dk_2 (dk_at dksX4_add_0 13 rfl rfl)
theorem dX4_add_14 : decode cX4_add 14 = .ok (.ireturn, 1) := dk_172 (dk_at dksX4_add_0 14 rfl rfl)
theorem dX4_add_15 : decode cX4_add 15 = .ok (.aload_n 1, 1) := dk_43 (dk_at dksX4_add_0 15 rfl rfl)
theorem dX4_add_16 : decode cX4_add 16 = .ok (.astore_n 2, 1) := dk_77 (dk_at dksX4_add_0 16 rfl rfl)
theorem dX4_add_17 : decode cX4_add 17 = .ok (.aload_n 2, 1) := dk_44 (dk_at dksX4_add_0 17 rfl rfl)
theorem dX4_add_18 : decode cX4_add 18 = .ok (.arraylength, 1) := dk_190 (dk_at dksX4_add_0 18 rfl rfl)
theorem dX4_add_19 : decode cX4_add 19 = .ok (.istore_n 3, 1) := dk_62 (dk_at dksX4_add_0 19 rfl rfl)
theorem dX4_add_20 : decode cX4_add 20 = .ok (.iconst 0, 1) := dk_3 (dk_at dksX4_add_0 20 rfl rfl)
theorem dX4_add_21 : decode cX4_add 21 = .ok (.istore 4, 2) := dk_54 4 (dk_at dksX4_add_0 21 rfl rfl)
theorem dX4_add_23 : decode cX4_add 23 = .ok (.iload 4, 2) := dk_21 4 (dk_at dksX4_add_1 0 rfl rfl)
theorem dX4_add_25 : decode cX4_add 25 = .ok (.iload_n 3, 1) := dk_29 (dk_at dksX4_add_1 2 rfl rfl)
theorem dX4_add_26 : decode cX4_add 26 = .ok (.if_icmp .ge 55, 3) := dk_162 0 55 (dk_at dksX4_add_1 3 rfl rfl)
theorem dX4_add_29 : decode cX4_add 29 = .ok (.aload_n 2, 1) := dk_44 (dk_at dksX4_add_1 6 rfl rfl)
theorem dX4_add_30 : decode cX4_add 30 = .ok (.iload 4, 2) := dk_21 4 (dk_at dksX4_add_1 7 rfl rfl)
theorem dX4_add_32 : decode cX4_add 32 = .ok (.iaload, 1) := dk_46 (dk_at dksX4_add_1 9 rfl rfl)
theorem dX4_add_33 : decode cX4_add 33 = .ok (.istore 5, 2) := dk_54 5 (dk_at dksX4_add_1 10 rfl rfl)
theorem dX4_add_35 : decode cX4_add 35 = .ok (.bipush 24, 2) := dk_16 24 (dk_at dksX4_add_1 12 rfl rfl)
theorem dX4_add_37 : decode cX4_add 37 = .ok (.istore 6, 2) := dk_54 6 (dk_at dksX4_add_1 14 rfl rfl)
theorem dX4_add_39 : decode cX4_add 39 = .ok (.iload 6, 2) := dk_21 6 (dk_at dksX4_add_1 16 rfl rfl)
theorem dX4_add_41 : decode cX4_add 41 = .ok (.ifCond .lt 34, 3) := dk_155 0 34 (dk_at dksX4_add_1 18 rfl rfl)
theorem dX4_add_44 : decode cX4_add 44 = .ok (.aload_n 0, 1) := dk_42 (dk_at dksX4_add_1 21 rfl rfl)
theorem dX4_add_45 : decode cX4_add 45 = .ok (.getfield 9, 3) := dk_180 0 9 (dk_at dksX4_add_2 0 rfl rfl)
theorem dX4_add_48 : decode cX4_add 48 = .ok (.aload_n 0, 1) := dk_42 (dk_at dksX4_add_2 3 rfl rfl)
theorem dX4_add_49 : decode cX4_add 49 = .ok (.getfield 19, 3) := dk_180 0 19 (dk_at dksX4_add_2 4 rfl rfl)
theorem dX4_add_52 : decode cX4_add 52 = .ok (.iload 5, 2) := dk_21 5 (dk_at dksX4_add_2 7 rfl rfl)
theorem dX4_add_54 : decode cX4_add 54 = .ok (.iload 6, 2) := dk_21 6 (dk_at dksX4_add_2 9 rfl rfl)
theorem dX4_add_56 : decode cX4_add 56 = .ok (.ishr, 1) := dk_122 (dk_at dksX4_add_2 11 rfl rfl)
theorem dX4_add_57 : decode cX4_add 57 = .ok (.i2b, 1) := dk_145 (dk_at dksX4_add_2 12 rfl rfl)
theorem dX4_add_58 : decode cX4_add 58 = .ok (.bastore, 1) := dk_84 (dk_at dksX4_add_2 13 rfl rfl)
theorem dX4_add_59 : decode cX4_add 59 = .ok (.aload_n 0, 1) := dk_42 (dk_at dksX4_add_2 14 rfl rfl)
theorem dX4_add_60 : decode cX4_add 60 = .ok (.dup, 1) := dk_89 (dk_at dksX4_add_2 15 rfl rfl)
theorem dX4_add_61 : decode cX4_add 61 = .ok (.getfield 19, 3) := dk_180 0 19 (dk_at dksX4_add_2 16 rfl rfl)
theorem dX4_add_64 : decode cX4_add 64 = .ok (.iconst 1, 1) := dk_4 (dk_at dksX4_add_2 19 rfl rfl)
theorem dX4_add_65 : decode cX4_add 65 = .ok (.iadd, 1) := dk_96 (dk_at dksX4_add_2 20 rfl rfl)
theorem dX4_add_66 : decode cX4_add 66 = .ok (.putfield 19, 3) := dk_181 0 19 (dk_at dksX4_add_2 21 rfl rfl)
theorem dX4_add_69 : decode cX4_add 69 = .ok (.iinc 6 (-8), 3) := dk_132 6 248 (dk_at dksX4_add_3 0 rfl rfl)
theorem dX4_add_72 : decode cX4_add 72 = .ok (.goto (-33), 3) := dk_167 255 223 (dk_at dksX4_add_3 3 rfl rfl)
theorem dX4_add_75 : decode cX4_add 75 = .ok (.iinc 4 1, 3) := dk_132 4 1 (dk_at dksX4_add_3 6 rfl rfl)
theorem dX4_add_78 : decode cX4_add 78 = .ok (.goto (-55), 3) := dk_167 255 201 (dk_at dksX4_add_3 9 rfl rfl)
theorem dX4_add_81 : decode cX4_add 81 = .ok (.aload_n 0, 1) := dk_42 (dk_at dksX4_add_3 12 rfl rfl)
theorem dX4_add_82 : decode cX4_add 82 = .ok (.getfield 19, 3) := dk_180 0 19 (dk_at dksX4_add_3 13 rfl rfl)
theorem dX4_add_85 : decode cX4_add 85 = .ok (.ireturn, 1) := dk_172 (dk_at dksX4_add_3 16 rfl rfl)
abbrev cX4_cut : ByteArray := prog_11_method_3_code
def yX4_cut : MethodName := ⟨RX4, "cut", "(I)Z"⟩
def dkwX4_cut_0 : List UInt8 := [27, 155, 0, 11, 27, 42, 180, 0, 19, 164, 0, 5, 3, 172, 42, 27, 181, 0, 19, 4, 172]
abbrev dktX4_cut_0 : List UInt8 := dkwX4_cut_0 ++ []
theorem dksX4_cut_0 : cX4_cut.data.toList.drop 0 = dktX4_cut_0 := by decide +kernel
theorem dX4_cut_0 : decode cX4_cut 0 = .ok (.iload_n 1, 1) := dk_27 (dk_at dksX4_cut_0 0 rfl rfl)
theorem dX4_cut_1 : decode cX4_cut 1 = .ok (.ifCond .lt 11, 3) := dk_155 0 11 (dk_at dksX4_cut_0 1 rfl rfl)
theorem dX4_cut_4 : decode cX4_cut 4 = .ok (.iload_n 1, 1) := dk_27 (dk_at dksX4_cut_0 4 rfl rfl)
theorem dX4_cut_5 : decode cX4_cut 5 = .ok (.aload_n 0, 1) := dk_42 (dk_at dksX4_cut_0 5 rfl rfl)
theorem dX4_cut_6 : decode cX4_cut 6 = .ok (.getfield 19, 3) := dk_180 0 19 (dk_at dksX4_cut_0 6 rfl rfl)
theorem dX4_cut_9 : decode cX4_cut 9 = .ok (.if_icmp .le 5, 3) := dk_164 0 5 (dk_at dksX4_cut_0 9 rfl rfl)
theorem dX4_cut_12 : decode cX4_cut 12 = .ok (.iconst 0, 1) := dk_3 (dk_at dksX4_cut_0 12 rfl rfl)
theorem dX4_cut_13 : decode cX4_cut 13 = .ok (.ireturn, 1) := dk_172 (dk_at dksX4_cut_0 13 rfl rfl)
theorem dX4_cut_14 : decode cX4_cut 14 = .ok (.aload_n 0, 1) := dk_42 (dk_at dksX4_cut_0 14 rfl rfl)
theorem dX4_cut_15 : decode cX4_cut 15 = .ok (.iload_n 1, 1) := dk_27 (dk_at dksX4_cut_0 15 rfl rfl)
theorem dX4_cut_16 : decode cX4_cut 16 = .ok (.putfield 19, 3) := dk_181 0 19 (dk_at dksX4_cut_0 16 rfl rfl)
theorem dX4_cut_19 : decode cX4_cut 19 = .ok (.iconst 1, 1) := dk_4 (dk_at dksX4_cut_0 19 rfl rfl)
theorem dX4_cut_20 : decode cX4_cut 20 = .ok (.ireturn, 1) := dk_172 (dk_at dksX4_cut_0 20 rfl rfl)
abbrev cX4_begins : ByteArray := prog_11_method_4_code
def yX4_begins : MethodName := ⟨RX4, "begins", "()V"⟩
def dkwX4_begins_0 : List UInt8 := [42, 42, 180, 0, 19, 181, 0, 22, 42, 3, 181, 0, 19, 42, 3, 181, 0, 25, 42, 3, 181, 0, 28, 177]
abbrev dktX4_begins_0 : List UInt8 := dkwX4_begins_0 ++ []
theorem dksX4_begins_0 : cX4_begins.data.toList.drop 0 = dktX4_begins_0 := by decide +kernel
theorem dX4_begins_0 : decode cX4_begins 0 = .ok (.aload_n 0, 1) := dk_42 (dk_at dksX4_begins_0 0 rfl rfl)
theorem dX4_begins_1 : decode cX4_begins 1 = .ok (.aload_n 0, 1) := dk_42 (dk_at dksX4_begins_0 1 rfl rfl)
theorem dX4_begins_2 : decode cX4_begins 2 = .ok (.getfield 19, 3) := dk_180 0 19 (dk_at dksX4_begins_0 2 rfl rfl)
theorem dX4_begins_5 : decode cX4_begins 5 = .ok (.putfield 22, 3) := dk_181 0 22 (dk_at dksX4_begins_0 5 rfl rfl)
theorem dX4_begins_8 : decode cX4_begins 8 = .ok (.aload_n 0, 1) := dk_42 (dk_at dksX4_begins_0 8 rfl rfl)
theorem dX4_begins_9 : decode cX4_begins 9 = .ok (.iconst 0, 1) := dk_3 (dk_at dksX4_begins_0 9 rfl rfl)
theorem dX4_begins_10 : decode cX4_begins 10 = .ok (.putfield 19, 3) := dk_181 0 19 (dk_at dksX4_begins_0 10 rfl rfl)
theorem dX4_begins_13 : decode cX4_begins 13 = .ok (.aload_n 0, 1) := dk_42 (dk_at dksX4_begins_0 13 rfl rfl)
theorem dX4_begins_14 : decode cX4_begins 14 = .ok (.iconst 0, 1) := dk_3 (dk_at dksX4_begins_0 14 rfl rfl)
theorem dX4_begins_15 : decode cX4_begins 15 = .ok (.putfield 25, 3) := dk_181 0 25 (dk_at dksX4_begins_0 15 rfl rfl)
theorem dX4_begins_18 : decode cX4_begins 18 = .ok (.aload_n 0, 1) := dk_42 (dk_at dksX4_begins_0 18 rfl rfl)
theorem dX4_begins_19 : decode cX4_begins 19 = .ok (.iconst 0, 1) := dk_3 (dk_at dksX4_begins_0 19 rfl rfl)
theorem dX4_begins_20 : decode cX4_begins 20 = .ok (.putfield 28, 3) := dk_181 0 28 (dk_at dksX4_begins_0 20 rfl rfl)
theorem dX4_begins_23 : decode cX4_begins 23 = .ok (.return_, 1) := dk_177 (dk_at dksX4_begins_0 23 rfl rfl)
abbrev cX4_isOver : ByteArray := prog_11_method_7_code
def yX4_isOver : MethodName := ⟨RX4, "isOver", "()Z"⟩
def dkwX4_isOver_0 : List UInt8 := [42, 182, 0, 38, 42, 180, 0, 25, 42, 180, 0, 22, 160, 0, 7, 4, 167, 0, 4, 3, 172]
abbrev dktX4_isOver_0 : List UInt8 := dkwX4_isOver_0 ++ []
theorem dksX4_isOver_0 : cX4_isOver.data.toList.drop 0 = dktX4_isOver_0 := by decide +kernel
theorem dX4_isOver_0 : decode cX4_isOver 0 = .ok (.aload_n 0, 1) := dk_42 (dk_at dksX4_isOver_0 0 rfl rfl)
theorem dX4_isOver_1 : decode cX4_isOver 1 = .ok (.invokevirtual 38, 3) := dk_182 0 38 (dk_at dksX4_isOver_0 1 rfl rfl)
theorem dX4_isOver_4 : decode cX4_isOver 4 = .ok (.aload_n 0, 1) := dk_42 (dk_at dksX4_isOver_0 4 rfl rfl)
theorem dX4_isOver_5 : decode cX4_isOver 5 = .ok (.getfield 25, 3) := dk_180 0 25 (dk_at dksX4_isOver_0 5 rfl rfl)
theorem dX4_isOver_8 : decode cX4_isOver 8 = .ok (.aload_n 0, 1) := dk_42 (dk_at dksX4_isOver_0 8 rfl rfl)
theorem dX4_isOver_9 : decode cX4_isOver 9 = .ok (.getfield 22, 3) := dk_180 0 22 (dk_at dksX4_isOver_0 9 rfl rfl)
theorem dX4_isOver_12 : decode cX4_isOver 12 = .ok (.if_icmp .ne 7, 3) := dk_160 0 7 (dk_at dksX4_isOver_0 12 rfl rfl)
theorem dX4_isOver_15 : decode cX4_isOver 15 = .ok (.iconst 1, 1) := dk_4 (dk_at dksX4_isOver_0 15 rfl rfl)
theorem dX4_isOver_16 : decode cX4_isOver 16 = .ok (.goto 4, 3) := dk_167 0 4 (dk_at dksX4_isOver_0 16 rfl rfl)
theorem dX4_isOver_19 : decode cX4_isOver 19 = .ok (.iconst 0, 1) := dk_3 (dk_at dksX4_isOver_0 19 rfl rfl)
theorem dX4_isOver_20 : decode cX4_isOver 20 = .ok (.ireturn, 1) := dk_172 (dk_at dksX4_isOver_0 20 rfl rfl)
abbrev cX4_blanks : ByteArray := prog_11_method_6_code
def yX4_blanks : MethodName := ⟨RX4, "blanks", "()V"⟩
def dkwX4_blanks_1 : List UInt8 := [167, 255, 233, 42, 42, 180, 0, 25, 181, 0, 35, 177]
abbrev dktX4_blanks_1 : List UInt8 := dkwX4_blanks_1 ++ []
def dkwX4_blanks_0 : List UInt8 := [42, 42, 180, 0, 25, 182, 0, 31, 16, 32, 160, 0, 16, 42, 89, 180, 0, 25, 4, 96, 181, 0, 25]
abbrev dktX4_blanks_0 : List UInt8 := dkwX4_blanks_0 ++ dktX4_blanks_1
theorem dksX4_blanks_0 : cX4_blanks.data.toList.drop 0 = dktX4_blanks_0 := by decide +kernel
theorem dksX4_blanks_1 : cX4_blanks.data.toList.drop 23 = dktX4_blanks_1 := dk_seg dksX4_blanks_0 23 rfl rfl
theorem dX4_blanks_0 : decode cX4_blanks 0 = .ok (.aload_n 0, 1) := dk_42 (dk_at dksX4_blanks_0 0 rfl rfl)
theorem dX4_blanks_1 : decode cX4_blanks 1 = .ok (.aload_n 0, 1) := dk_42 (dk_at dksX4_blanks_0 1 rfl rfl)
theorem dX4_blanks_2 : decode cX4_blanks 2 = .ok (.getfield 25, 3) := dk_180 0 25 (dk_at dksX4_blanks_0 2 rfl rfl)
theorem dX4_blanks_5 : decode cX4_blanks 5 = .ok (.invokevirtual 31, 3) := dk_182 0 31 (dk_at dksX4_blanks_0 5 rfl rfl)
theorem dX4_blanks_8 : decode cX4_blanks 8 = .ok (.bipush 32, 2) := dk_16 32 (dk_at dksX4_blanks_0 8 rfl rfl)
theorem dX4_blanks_10 : decode cX4_blanks 10 = .ok (.if_icmp .ne 16, 3) := dk_160 0 16 (dk_at dksX4_blanks_0 10 rfl rfl)
theorem dX4_blanks_13 : decode cX4_blanks 13 = .ok (.aload_n 0, 1) := dk_42 (dk_at dksX4_blanks_0 13 rfl rfl)
theorem dX4_blanks_14 : decode cX4_blanks 14 = .ok (.dup, 1) := dk_89 (dk_at dksX4_blanks_0 14 rfl rfl)
theorem dX4_blanks_15 : decode cX4_blanks 15 = .ok (.getfield 25, 3) := dk_180 0 25 (dk_at dksX4_blanks_0 15 rfl rfl)
theorem dX4_blanks_18 : decode cX4_blanks 18 = .ok (.iconst 1, 1) := dk_4 (dk_at dksX4_blanks_0 18 rfl rfl)
theorem dX4_blanks_19 : decode cX4_blanks 19 = .ok (.iadd, 1) := dk_96 (dk_at dksX4_blanks_0 19 rfl rfl)
theorem dX4_blanks_20 : decode cX4_blanks 20 = .ok (.putfield 25, 3) := dk_181 0 25 (dk_at dksX4_blanks_0 20 rfl rfl)
theorem dX4_blanks_23 : decode cX4_blanks 23 = .ok (.goto (-23), 3) := dk_167 255 233 (dk_at dksX4_blanks_1 0 rfl rfl)
theorem dX4_blanks_26 : decode cX4_blanks 26 = .ok (.aload_n 0, 1) := dk_42 (dk_at dksX4_blanks_1 3 rfl rfl)
theorem dX4_blanks_27 : decode cX4_blanks 27 = .ok (.aload_n 0, 1) := dk_42 (dk_at dksX4_blanks_1 4 rfl rfl)
theorem dX4_blanks_28 : decode cX4_blanks 28 = .ok (.getfield 25, 3) := dk_180 0 25 (dk_at dksX4_blanks_1 5 rfl rfl)
theorem dX4_blanks_31 : decode cX4_blanks 31 = .ok (.putfield 35, 3) := dk_181 0 35 (dk_at dksX4_blanks_1 8 rfl rfl)
theorem dX4_blanks_34 : decode cX4_blanks 34 = .ok (.return_, 1) := dk_177 (dk_at dksX4_blanks_1 11 rfl rfl)
abbrev cX4_byteAt : ByteArray := prog_11_method_5_code
def yX4_byteAt : MethodName := ⟨RX4, "byteAt", "(I)I"⟩
def dkwX4_byteAt_0 : List UInt8 := [27, 42, 180, 0, 22, 162, 0, 12, 42, 180, 0, 9, 27, 51, 167, 0, 4, 2, 172]
abbrev dktX4_byteAt_0 : List UInt8 := dkwX4_byteAt_0 ++ []
theorem dksX4_byteAt_0 : cX4_byteAt.data.toList.drop 0 = dktX4_byteAt_0 := by decide +kernel
theorem dX4_byteAt_0 : decode cX4_byteAt 0 = .ok (.iload_n 1, 1) := dk_27 (dk_at dksX4_byteAt_0 0 rfl rfl)
theorem dX4_byteAt_1 : decode cX4_byteAt 1 = .ok (.aload_n 0, 1) := dk_42 (dk_at dksX4_byteAt_0 1 rfl rfl)
theorem dX4_byteAt_2 : decode cX4_byteAt 2 = .ok (.getfield 22, 3) := dk_180 0 22 (dk_at dksX4_byteAt_0 2 rfl rfl)
theorem dX4_byteAt_5 : decode cX4_byteAt 5 = .ok (.if_icmp .ge 12, 3) := dk_162 0 12 (dk_at dksX4_byteAt_0 5 rfl rfl)
theorem dX4_byteAt_8 : decode cX4_byteAt 8 = .ok (.aload_n 0, 1) := dk_42 (dk_at dksX4_byteAt_0 8 rfl rfl)
theorem dX4_byteAt_9 : decode cX4_byteAt 9 = .ok (.getfield 9, 3) := dk_180 0 9 (dk_at dksX4_byteAt_0 9 rfl rfl)
theorem dX4_byteAt_12 : decode cX4_byteAt 12 = .ok (.iload_n 1, 1) := dk_27 (dk_at dksX4_byteAt_0 12 rfl rfl)
theorem dX4_byteAt_13 : decode cX4_byteAt 13 = .ok (.baload, 1) := dk_51 (dk_at dksX4_byteAt_0 13 rfl rfl)
theorem dX4_byteAt_14 : decode cX4_byteAt 14 = .ok (.goto 4, 3) := dk_167 0 4 (dk_at dksX4_byteAt_0 14 rfl rfl)
theorem dX4_byteAt_17 : decode cX4_byteAt 17 = .ok (.iconst (-1), 1) := dk_2 (dk_at dksX4_byteAt_0 17 rfl rfl)
theorem dX4_byteAt_18 : decode cX4_byteAt 18 = .ok (.ireturn, 1) := dk_172 (dk_at dksX4_byteAt_0 18 rfl rfl)
abbrev cX4_word : ByteArray := prog_11_method_8_code
def yX4_word : MethodName := ⟨RX4, "word", "()Ljava/lang/String;"⟩
def dkwX4_word_3 : List UInt8 := [167, 255, 233, 43, 182, 0, 52, 176]
abbrev dktX4_word_3 : List UInt8 := dkwX4_word_3 ++ []
def dkwX4_word_2 : List UInt8 := [28, 42, 180, 0, 25, 162, 0, 21, 43, 42, 180, 0, 9, 28, 51, 146, 182, 0, 48, 87, 132, 2, 1]
abbrev dktX4_word_2 : List UInt8 := dkwX4_word_2 ++ dktX4_word_3
def dkwX4_word_1 : List UInt8 := [180, 0, 25, 4, 96, 181, 0, 25, 167, 255, 228, 187, 0, 45, 89, 183, 0, 47, 76, 42, 180, 0, 35, 61]
abbrev dktX4_word_1 : List UInt8 := dkwX4_word_1 ++ dktX4_word_2
def dkwX4_word_0 : List UInt8 := [42, 182, 0, 38, 42, 42, 180, 0, 25, 182, 0, 31, 16, 97, 16, 122, 184, 0, 41, 153, 0, 16, 42, 89]
abbrev dktX4_word_0 : List UInt8 := dkwX4_word_0 ++ dktX4_word_1
theorem dksX4_word_0 : cX4_word.data.toList.drop 0 = dktX4_word_0 := by decide +kernel
theorem dksX4_word_1 : cX4_word.data.toList.drop 24 = dktX4_word_1 := dk_seg dksX4_word_0 24 rfl rfl
theorem dksX4_word_2 : cX4_word.data.toList.drop 48 = dktX4_word_2 := dk_seg dksX4_word_1 24 rfl rfl
theorem dksX4_word_3 : cX4_word.data.toList.drop 71 = dktX4_word_3 := dk_seg dksX4_word_2 23 rfl rfl
theorem dX4_word_0 : decode cX4_word 0 = .ok (.aload_n 0, 1) := dk_42 (dk_at dksX4_word_0 0 rfl rfl)
theorem dX4_word_1 : decode cX4_word 1 = .ok (.invokevirtual 38, 3) := dk_182 0 38 (dk_at dksX4_word_0 1 rfl rfl)
theorem dX4_word_4 : decode cX4_word 4 = .ok (.aload_n 0, 1) := dk_42 (dk_at dksX4_word_0 4 rfl rfl)
theorem dX4_word_5 : decode cX4_word 5 = .ok (.aload_n 0, 1) := dk_42 (dk_at dksX4_word_0 5 rfl rfl)
theorem dX4_word_6 : decode cX4_word 6 = .ok (.getfield 25, 3) := dk_180 0 25 (dk_at dksX4_word_0 6 rfl rfl)
theorem dX4_word_9 : decode cX4_word 9 = .ok (.invokevirtual 31, 3) := dk_182 0 31 (dk_at dksX4_word_0 9 rfl rfl)
theorem dX4_word_12 : decode cX4_word 12 = .ok (.bipush 97, 2) := dk_16 97 (dk_at dksX4_word_0 12 rfl rfl)
theorem dX4_word_14 : decode cX4_word 14 = .ok (.bipush 122, 2) := dk_16 122 (dk_at dksX4_word_0 14 rfl rfl)
theorem dX4_word_16 : decode cX4_word 16 = .ok (.invokestatic 41, 3) := dk_184 0 41 (dk_at dksX4_word_0 16 rfl rfl)
theorem dX4_word_19 : decode cX4_word 19 = .ok (.ifCond .eq 16, 3) := dk_153 0 16 (dk_at dksX4_word_0 19 rfl rfl)
theorem dX4_word_22 : decode cX4_word 22 = .ok (.aload_n 0, 1) := dk_42 (dk_at dksX4_word_0 22 rfl rfl)
theorem dX4_word_23 : decode cX4_word 23 = .ok (.dup, 1) := dk_89 (dk_at dksX4_word_0 23 rfl rfl)
theorem dX4_word_24 : decode cX4_word 24 = .ok (.getfield 25, 3) := dk_180 0 25 (dk_at dksX4_word_1 0 rfl rfl)
theorem dX4_word_27 : decode cX4_word 27 = .ok (.iconst 1, 1) := dk_4 (dk_at dksX4_word_1 3 rfl rfl)
theorem dX4_word_28 : decode cX4_word 28 = .ok (.iadd, 1) := dk_96 (dk_at dksX4_word_1 4 rfl rfl)
theorem dX4_word_29 : decode cX4_word 29 = .ok (.putfield 25, 3) := dk_181 0 25 (dk_at dksX4_word_1 5 rfl rfl)
theorem dX4_word_32 : decode cX4_word 32 = .ok (.goto (-28), 3) := dk_167 255 228 (dk_at dksX4_word_1 8 rfl rfl)
theorem dX4_word_35 : decode cX4_word 35 = .ok (.new 45, 3) := dk_187 0 45 (dk_at dksX4_word_1 11 rfl rfl)
theorem dX4_word_38 : decode cX4_word 38 = .ok (.dup, 1) := dk_89 (dk_at dksX4_word_1 14 rfl rfl)
theorem dX4_word_39 : decode cX4_word 39 = .ok (.invokespecial 47, 3) := dk_183 0 47 (dk_at dksX4_word_1 15 rfl rfl)
theorem dX4_word_42 : decode cX4_word 42 = .ok (.astore_n 1, 1) := dk_76 (dk_at dksX4_word_1 18 rfl rfl)
theorem dX4_word_43 : decode cX4_word 43 = .ok (.aload_n 0, 1) := dk_42 (dk_at dksX4_word_1 19 rfl rfl)
theorem dX4_word_44 : decode cX4_word 44 = .ok (.getfield 35, 3) := dk_180 0 35 (dk_at dksX4_word_1 20 rfl rfl)
theorem dX4_word_47 : decode cX4_word 47 = .ok (.istore_n 2, 1) := dk_61 (dk_at dksX4_word_1 23 rfl rfl)
theorem dX4_word_48 : decode cX4_word 48 = .ok (.iload_n 2, 1) := dk_28 (dk_at dksX4_word_2 0 rfl rfl)
theorem dX4_word_49 : decode cX4_word 49 = .ok (.aload_n 0, 1) := dk_42 (dk_at dksX4_word_2 1 rfl rfl)
theorem dX4_word_50 : decode cX4_word 50 = .ok (.getfield 25, 3) := dk_180 0 25 (dk_at dksX4_word_2 2 rfl rfl)
theorem dX4_word_53 : decode cX4_word 53 = .ok (.if_icmp .ge 21, 3) := dk_162 0 21 (dk_at dksX4_word_2 5 rfl rfl)
theorem dX4_word_56 : decode cX4_word 56 = .ok (.aload_n 1, 1) := dk_43 (dk_at dksX4_word_2 8 rfl rfl)
theorem dX4_word_57 : decode cX4_word 57 = .ok (.aload_n 0, 1) := dk_42 (dk_at dksX4_word_2 9 rfl rfl)
theorem dX4_word_58 : decode cX4_word 58 = .ok (.getfield 9, 3) := dk_180 0 9 (dk_at dksX4_word_2 10 rfl rfl)
theorem dX4_word_61 : decode cX4_word 61 = .ok (.iload_n 2, 1) := dk_28 (dk_at dksX4_word_2 13 rfl rfl)
theorem dX4_word_62 : decode cX4_word 62 = .ok (.baload, 1) := dk_51 (dk_at dksX4_word_2 14 rfl rfl)
theorem dX4_word_63 : decode cX4_word 63 = .ok (.i2c, 1) := dk_146 (dk_at dksX4_word_2 15 rfl rfl)
theorem dX4_word_64 : decode cX4_word 64 = .ok (.invokevirtual 48, 3) := dk_182 0 48 (dk_at dksX4_word_2 16 rfl rfl)
theorem dX4_word_67 : decode cX4_word 67 = .ok (.pop, 1) := dk_87 (dk_at dksX4_word_2 19 rfl rfl)
theorem dX4_word_68 : decode cX4_word 68 = .ok (.iinc 2 1, 3) := dk_132 2 1 (dk_at dksX4_word_2 20 rfl rfl)
theorem dX4_word_71 : decode cX4_word 71 = .ok (.goto (-23), 3) := dk_167 255 233 (dk_at dksX4_word_3 0 rfl rfl)
theorem dX4_word_74 : decode cX4_word 74 = .ok (.aload_n 1, 1) := dk_43 (dk_at dksX4_word_3 3 rfl rfl)
theorem dX4_word_75 : decode cX4_word 75 = .ok (.invokevirtual 52, 3) := dk_182 0 52 (dk_at dksX4_word_3 4 rfl rfl)
theorem dX4_word_78 : decode cX4_word 78 = .ok (.areturn, 1) := dk_176 (dk_at dksX4_word_3 7 rfl rfl)
abbrev cX4_wrong : ByteArray := prog_11_method_14_code
def yX4_wrong : MethodName := ⟨RX4, "wrong", "()LChaseCourt$Wrong;"⟩
def dkwX4_wrong_0 : List UInt8 := [187, 0, 72, 89, 183, 0, 74, 176]
abbrev dktX4_wrong_0 : List UInt8 := dkwX4_wrong_0 ++ []
theorem dksX4_wrong_0 : cX4_wrong.data.toList.drop 0 = dktX4_wrong_0 := by decide +kernel
theorem dX4_wrong_0 : decode cX4_wrong 0 = .ok (.new 72, 3) := dk_187 0 72 (dk_at dksX4_wrong_0 0 rfl rfl)
theorem dX4_wrong_3 : decode cX4_wrong 3 = .ok (.dup, 1) := dk_89 (dk_at dksX4_wrong_0 3 rfl rfl)
theorem dX4_wrong_4 : decode cX4_wrong 4 = .ok (.invokespecial 74, 3) := dk_183 0 74 (dk_at dksX4_wrong_0 4 rfl rfl)
theorem dX4_wrong_7 : decode cX4_wrong 7 = .ok (.areturn, 1) := dk_176 (dk_at dksX4_wrong_0 7 rfl rfl)
abbrev cX4_number : ByteArray := prog_11_method_12_code
def yX4_number : MethodName := ⟨RX4, "number", "(II)I"⟩
def dkwX4_number_4 : List UInt8 := [163, 0, 12, 29, 27, 28, 184, 0, 41, 154, 0, 8, 42, 182, 0, 65, 191, 29, 172]
abbrev dktX4_number_4 : List UInt8 := dkwX4_number_4 ++ []
def dkwX4_number_3 : List UInt8 := [167, 255, 194, 42, 180, 0, 25, 42, 180, 0, 35, 159, 0, 25, 42, 180, 0, 25, 42, 180, 0, 35, 100, 6]
abbrev dktX4_number_3 : List UInt8 := dkwX4_number_3 ++ dktX4_number_4
def dkwX4_number_2 : List UInt8 := [182, 0, 31, 96, 16, 48, 100, 167, 0, 4, 29, 62, 42, 89, 180, 0, 25, 4, 96, 181, 0, 25]
abbrev dktX4_number_2 : List UInt8 := dkwX4_number_2 ++ dktX4_number_3
def dkwX4_number_1 : List UInt8 := [42, 180, 0, 25, 42, 180, 0, 35, 100, 6, 162, 0, 22, 16, 10, 29, 104, 42, 42, 180, 0, 25]
abbrev dktX4_number_1 : List UInt8 := dkwX4_number_1 ++ dktX4_number_2
def dkwX4_number_0 : List UInt8 := [42, 182, 0, 38, 3, 62, 42, 42, 180, 0, 25, 182, 0, 31, 16, 48, 16, 57, 184, 0, 41, 153, 0, 50]
abbrev dktX4_number_0 : List UInt8 := dkwX4_number_0 ++ dktX4_number_1
theorem dksX4_number_0 : cX4_number.data.toList.drop 0 = dktX4_number_0 := by decide +kernel
theorem dksX4_number_1 : cX4_number.data.toList.drop 24 = dktX4_number_1 := dk_seg dksX4_number_0 24 rfl rfl
theorem dksX4_number_2 : cX4_number.data.toList.drop 46 = dktX4_number_2 := dk_seg dksX4_number_1 22 rfl rfl
theorem dksX4_number_3 : cX4_number.data.toList.drop 68 = dktX4_number_3 := dk_seg dksX4_number_2 22 rfl rfl
theorem dksX4_number_4 : cX4_number.data.toList.drop 92 = dktX4_number_4 := dk_seg dksX4_number_3 24 rfl rfl
theorem dX4_number_0 : decode cX4_number 0 = .ok (.aload_n 0, 1) := dk_42 (dk_at dksX4_number_0 0 rfl rfl)
theorem dX4_number_1 : decode cX4_number 1 = .ok (.invokevirtual 38, 3) := dk_182 0 38 (dk_at dksX4_number_0 1 rfl rfl)
theorem dX4_number_4 : decode cX4_number 4 = .ok (.iconst 0, 1) := dk_3 (dk_at dksX4_number_0 4 rfl rfl)
theorem dX4_number_5 : decode cX4_number 5 = .ok (.istore_n 3, 1) := dk_62 (dk_at dksX4_number_0 5 rfl rfl)
theorem dX4_number_6 : decode cX4_number 6 = .ok (.aload_n 0, 1) := dk_42 (dk_at dksX4_number_0 6 rfl rfl)
theorem dX4_number_7 : decode cX4_number 7 = .ok (.aload_n 0, 1) := dk_42 (dk_at dksX4_number_0 7 rfl rfl)
theorem dX4_number_8 : decode cX4_number 8 = .ok (.getfield 25, 3) := dk_180 0 25 (dk_at dksX4_number_0 8 rfl rfl)
theorem dX4_number_11 : decode cX4_number 11 = .ok (.invokevirtual 31, 3) := dk_182 0 31 (dk_at dksX4_number_0 11 rfl rfl)
theorem dX4_number_14 : decode cX4_number 14 = .ok (.bipush 48, 2) := dk_16 48 (dk_at dksX4_number_0 14 rfl rfl)
theorem dX4_number_16 : decode cX4_number 16 = .ok (.bipush 57, 2) := dk_16 57 (dk_at dksX4_number_0 16 rfl rfl)
theorem dX4_number_18 : decode cX4_number 18 = .ok (.invokestatic 41, 3) := dk_184 0 41 (dk_at dksX4_number_0 18 rfl rfl)
theorem dX4_number_21 : decode cX4_number 21 = .ok (.ifCond .eq 50, 3) := dk_153 0 50 (dk_at dksX4_number_0 21 rfl rfl)
theorem dX4_number_24 : decode cX4_number 24 = .ok (.aload_n 0, 1) := dk_42 (dk_at dksX4_number_1 0 rfl rfl)
theorem dX4_number_25 : decode cX4_number 25 = .ok (.getfield 25, 3) := dk_180 0 25 (dk_at dksX4_number_1 1 rfl rfl)
theorem dX4_number_28 : decode cX4_number 28 = .ok (.aload_n 0, 1) := dk_42 (dk_at dksX4_number_1 4 rfl rfl)
theorem dX4_number_29 : decode cX4_number 29 = .ok (.getfield 35, 3) := dk_180 0 35 (dk_at dksX4_number_1 5 rfl rfl)
theorem dX4_number_32 : decode cX4_number 32 = .ok (.isub, 1) := dk_100 (dk_at dksX4_number_1 8 rfl rfl)
theorem dX4_number_33 : decode cX4_number 33 = .ok (.iconst 3, 1) := dk_6 (dk_at dksX4_number_1 9 rfl rfl)
theorem dX4_number_34 : decode cX4_number 34 = .ok (.if_icmp .ge 22, 3) := dk_162 0 22 (dk_at dksX4_number_1 10 rfl rfl)
theorem dX4_number_37 : decode cX4_number 37 = .ok (.bipush 10, 2) := dk_16 10 (dk_at dksX4_number_1 13 rfl rfl)
theorem dX4_number_39 : decode cX4_number 39 = .ok (.iload_n 3, 1) := dk_29 (dk_at dksX4_number_1 15 rfl rfl)
theorem dX4_number_40 : decode cX4_number 40 = .ok (.imul, 1) := dk_104 (dk_at dksX4_number_1 16 rfl rfl)
theorem dX4_number_41 : decode cX4_number 41 = .ok (.aload_n 0, 1) := dk_42 (dk_at dksX4_number_1 17 rfl rfl)
theorem dX4_number_42 : decode cX4_number 42 = .ok (.aload_n 0, 1) := dk_42 (dk_at dksX4_number_1 18 rfl rfl)
theorem dX4_number_43 : decode cX4_number 43 = .ok (.getfield 25, 3) := dk_180 0 25 (dk_at dksX4_number_1 19 rfl rfl)
theorem dX4_number_46 : decode cX4_number 46 = .ok (.invokevirtual 31, 3) := dk_182 0 31 (dk_at dksX4_number_2 0 rfl rfl)
theorem dX4_number_49 : decode cX4_number 49 = .ok (.iadd, 1) := dk_96 (dk_at dksX4_number_2 3 rfl rfl)
theorem dX4_number_50 : decode cX4_number 50 = .ok (.bipush 48, 2) := dk_16 48 (dk_at dksX4_number_2 4 rfl rfl)
theorem dX4_number_52 : decode cX4_number 52 = .ok (.isub, 1) := dk_100 (dk_at dksX4_number_2 6 rfl rfl)
theorem dX4_number_53 : decode cX4_number 53 = .ok (.goto 4, 3) := dk_167 0 4 (dk_at dksX4_number_2 7 rfl rfl)
theorem dX4_number_56 : decode cX4_number 56 = .ok (.iload_n 3, 1) := dk_29 (dk_at dksX4_number_2 10 rfl rfl)
theorem dX4_number_57 : decode cX4_number 57 = .ok (.istore_n 3, 1) := dk_62 (dk_at dksX4_number_2 11 rfl rfl)
theorem dX4_number_58 : decode cX4_number 58 = .ok (.aload_n 0, 1) := dk_42 (dk_at dksX4_number_2 12 rfl rfl)
theorem dX4_number_59 : decode cX4_number 59 = .ok (.dup, 1) := dk_89 (dk_at dksX4_number_2 13 rfl rfl)
theorem dX4_number_60 : decode cX4_number 60 = .ok (.getfield 25, 3) := dk_180 0 25 (dk_at dksX4_number_2 14 rfl rfl)
theorem dX4_number_63 : decode cX4_number 63 = .ok (.iconst 1, 1) := dk_4 (dk_at dksX4_number_2 17 rfl rfl)
theorem dX4_number_64 : decode cX4_number 64 = .ok (.iadd, 1) := dk_96 (dk_at dksX4_number_2 18 rfl rfl)
theorem dX4_number_65 : decode cX4_number 65 = .ok (.putfield 25, 3) := dk_181 0 25 (dk_at dksX4_number_2 19 rfl rfl)
theorem dX4_number_68 : decode cX4_number 68 = .ok (.goto (-62), 3) := dk_167 255 194 (dk_at dksX4_number_3 0 rfl rfl)
theorem dX4_number_71 : decode cX4_number 71 = .ok (.aload_n 0, 1) := dk_42 (dk_at dksX4_number_3 3 rfl rfl)
theorem dX4_number_72 : decode cX4_number 72 = .ok (.getfield 25, 3) := dk_180 0 25 (dk_at dksX4_number_3 4 rfl rfl)
theorem dX4_number_75 : decode cX4_number 75 = .ok (.aload_n 0, 1) := dk_42 (dk_at dksX4_number_3 7 rfl rfl)
theorem dX4_number_76 : decode cX4_number 76 = .ok (.getfield 35, 3) := dk_180 0 35 (dk_at dksX4_number_3 8 rfl rfl)
theorem dX4_number_79 : decode cX4_number 79 = .ok (.if_icmp .eq 25, 3) := dk_159 0 25 (dk_at dksX4_number_3 11 rfl rfl)
theorem dX4_number_82 : decode cX4_number 82 = .ok (.aload_n 0, 1) := dk_42 (dk_at dksX4_number_3 14 rfl rfl)
theorem dX4_number_83 : decode cX4_number 83 = .ok (.getfield 25, 3) := dk_180 0 25 (dk_at dksX4_number_3 15 rfl rfl)
theorem dX4_number_86 : decode cX4_number 86 = .ok (.aload_n 0, 1) := dk_42 (dk_at dksX4_number_3 18 rfl rfl)
theorem dX4_number_87 : decode cX4_number 87 = .ok (.getfield 35, 3) := dk_180 0 35 (dk_at dksX4_number_3 19 rfl rfl)
theorem dX4_number_90 : decode cX4_number 90 = .ok (.isub, 1) := dk_100 (dk_at dksX4_number_3 22 rfl rfl)
theorem dX4_number_91 : decode cX4_number 91 = .ok (.iconst 3, 1) := dk_6 (dk_at dksX4_number_3 23 rfl rfl)
theorem dX4_number_92 : decode cX4_number 92 = .ok (.if_icmp .gt 12, 3) := dk_163 0 12 (dk_at dksX4_number_4 0 rfl rfl)
theorem dX4_number_95 : decode cX4_number 95 = .ok (.iload_n 3, 1) := dk_29 (dk_at dksX4_number_4 3 rfl rfl)
theorem dX4_number_96 : decode cX4_number 96 = .ok (.iload_n 1, 1) := dk_27 (dk_at dksX4_number_4 4 rfl rfl)
theorem dX4_number_97 : decode cX4_number 97 = .ok (.iload_n 2, 1) := dk_28 (dk_at dksX4_number_4 5 rfl rfl)
theorem dX4_number_98 : decode cX4_number 98 = .ok (.invokestatic 41, 3) := dk_184 0 41 (dk_at dksX4_number_4 6 rfl rfl)
theorem dX4_number_101 : decode cX4_number 101 = .ok (.ifCond .ne 8, 3) := dk_154 0 8 (dk_at dksX4_number_4 9 rfl rfl)
theorem dX4_number_104 : decode cX4_number 104 = .ok (.aload_n 0, 1) := dk_42 (dk_at dksX4_number_4 12 rfl rfl)
theorem dX4_number_105 : decode cX4_number 105 = .ok (.invokevirtual 65, 3) := dk_182 0 65 (dk_at dksX4_number_4 13 rfl rfl)
theorem dX4_number_108 : decode cX4_number 108 = .ok (.athrow, 1) := dk_191 (dk_at dksX4_number_4 16 rfl rfl)
theorem dX4_number_109 : decode cX4_number 109 = .ok (.iload_n 3, 1) := dk_29 (dk_at dksX4_number_4 17 rfl rfl)
theorem dX4_number_110 : decode cX4_number 110 = .ok (.ireturn, 1) := dk_172 (dk_at dksX4_number_4 18 rfl rfl)
abbrev cX4_sign : ByteArray := prog_11_method_10_code
def yX4_sign : MethodName := ⟨RX4, "sign", "(I)Z"⟩
def dkwX4_sign_1 : List UInt8 := [96, 181, 0, 25, 4, 172]
abbrev dktX4_sign_1 : List UInt8 := dkwX4_sign_1 ++ []
def dkwX4_sign_0 : List UInt8 := [42, 182, 0, 38, 42, 42, 180, 0, 25, 182, 0, 31, 27, 159, 0, 5, 3, 172, 42, 89, 180, 0, 25, 4]
abbrev dktX4_sign_0 : List UInt8 := dkwX4_sign_0 ++ dktX4_sign_1
theorem dksX4_sign_0 : cX4_sign.data.toList.drop 0 = dktX4_sign_0 := by decide +kernel
theorem dksX4_sign_1 : cX4_sign.data.toList.drop 24 = dktX4_sign_1 := dk_seg dksX4_sign_0 24 rfl rfl
theorem dX4_sign_0 : decode cX4_sign 0 = .ok (.aload_n 0, 1) := dk_42 (dk_at dksX4_sign_0 0 rfl rfl)
theorem dX4_sign_1 : decode cX4_sign 1 = .ok (.invokevirtual 38, 3) := dk_182 0 38 (dk_at dksX4_sign_0 1 rfl rfl)
theorem dX4_sign_4 : decode cX4_sign 4 = .ok (.aload_n 0, 1) := dk_42 (dk_at dksX4_sign_0 4 rfl rfl)
theorem dX4_sign_5 : decode cX4_sign 5 = .ok (.aload_n 0, 1) := dk_42 (dk_at dksX4_sign_0 5 rfl rfl)
theorem dX4_sign_6 : decode cX4_sign 6 = .ok (.getfield 25, 3) := dk_180 0 25 (dk_at dksX4_sign_0 6 rfl rfl)
theorem dX4_sign_9 : decode cX4_sign 9 = .ok (.invokevirtual 31, 3) := dk_182 0 31 (dk_at dksX4_sign_0 9 rfl rfl)
theorem dX4_sign_12 : decode cX4_sign 12 = .ok (.iload_n 1, 1) := dk_27 (dk_at dksX4_sign_0 12 rfl rfl)
theorem dX4_sign_13 : decode cX4_sign 13 = .ok (.if_icmp .eq 5, 3) := dk_159 0 5 (dk_at dksX4_sign_0 13 rfl rfl)
theorem dX4_sign_16 : decode cX4_sign 16 = .ok (.iconst 0, 1) := dk_3 (dk_at dksX4_sign_0 16 rfl rfl)
theorem dX4_sign_17 : decode cX4_sign 17 = .ok (.ireturn, 1) := dk_172 (dk_at dksX4_sign_0 17 rfl rfl)
theorem dX4_sign_18 : decode cX4_sign 18 = .ok (.aload_n 0, 1) := dk_42 (dk_at dksX4_sign_0 18 rfl rfl)
theorem dX4_sign_19 : decode cX4_sign 19 = .ok (.dup, 1) := dk_89 (dk_at dksX4_sign_0 19 rfl rfl)
theorem dX4_sign_20 : decode cX4_sign 20 = .ok (.getfield 25, 3) := dk_180 0 25 (dk_at dksX4_sign_0 20 rfl rfl)
theorem dX4_sign_23 : decode cX4_sign 23 = .ok (.iconst 1, 1) := dk_4 (dk_at dksX4_sign_0 23 rfl rfl)
theorem dX4_sign_24 : decode cX4_sign 24 = .ok (.iadd, 1) := dk_96 (dk_at dksX4_sign_1 0 rfl rfl)
theorem dX4_sign_25 : decode cX4_sign 25 = .ok (.putfield 25, 3) := dk_181 0 25 (dk_at dksX4_sign_1 1 rfl rfl)
theorem dX4_sign_28 : decode cX4_sign 28 = .ok (.iconst 1, 1) := dk_4 (dk_at dksX4_sign_1 4 rfl rfl)
theorem dX4_sign_29 : decode cX4_sign 29 = .ok (.ireturn, 1) := dk_172 (dk_at dksX4_sign_1 5 rfl rfl)
abbrev cX4_passes : ByteArray := prog_11_method_9_code
def yX4_passes : MethodName := ⟨RX4, "passes", "(Ljava/lang/String;)Z"⟩
def dkwX4_passes_0 : List UInt8 := [42, 182, 0, 56, 43, 182, 0, 59, 153, 0, 5, 4, 172, 42, 42, 180, 0, 35, 181, 0, 25, 3, 172]
abbrev dktX4_passes_0 : List UInt8 := dkwX4_passes_0 ++ []
theorem dksX4_passes_0 : cX4_passes.data.toList.drop 0 = dktX4_passes_0 := by decide +kernel
theorem dX4_passes_0 : decode cX4_passes 0 = .ok (.aload_n 0, 1) := dk_42 (dk_at dksX4_passes_0 0 rfl rfl)
theorem dX4_passes_1 : decode cX4_passes 1 = .ok (.invokevirtual 56, 3) := dk_182 0 56 (dk_at dksX4_passes_0 1 rfl rfl)
theorem dX4_passes_4 : decode cX4_passes 4 = .ok (.aload_n 1, 1) := dk_43 (dk_at dksX4_passes_0 4 rfl rfl)
theorem dX4_passes_5 : decode cX4_passes 5 = .ok (.invokevirtual 59, 3) := dk_182 0 59 (dk_at dksX4_passes_0 5 rfl rfl)
theorem dX4_passes_8 : decode cX4_passes 8 = .ok (.ifCond .eq 5, 3) := dk_153 0 5 (dk_at dksX4_passes_0 8 rfl rfl)
theorem dX4_passes_11 : decode cX4_passes 11 = .ok (.iconst 1, 1) := dk_4 (dk_at dksX4_passes_0 11 rfl rfl)
theorem dX4_passes_12 : decode cX4_passes 12 = .ok (.ireturn, 1) := dk_172 (dk_at dksX4_passes_0 12 rfl rfl)
theorem dX4_passes_13 : decode cX4_passes 13 = .ok (.aload_n 0, 1) := dk_42 (dk_at dksX4_passes_0 13 rfl rfl)
theorem dX4_passes_14 : decode cX4_passes 14 = .ok (.aload_n 0, 1) := dk_42 (dk_at dksX4_passes_0 14 rfl rfl)
theorem dX4_passes_15 : decode cX4_passes 15 = .ok (.getfield 35, 3) := dk_180 0 35 (dk_at dksX4_passes_0 15 rfl rfl)
theorem dX4_passes_18 : decode cX4_passes 18 = .ok (.putfield 25, 3) := dk_181 0 25 (dk_at dksX4_passes_0 18 rfl rfl)
theorem dX4_passes_21 : decode cX4_passes 21 = .ok (.iconst 0, 1) := dk_3 (dk_at dksX4_passes_0 21 rfl rfl)
theorem dX4_passes_22 : decode cX4_passes 22 = .ok (.ireturn, 1) := dk_172 (dk_at dksX4_passes_0 22 rfl rfl)
abbrev cX4_goesDeeper : ByteArray := prog_11_method_15_code
def yX4_goesDeeper : MethodName := ⟨RX4, "goesDeeper", "()V"⟩
def dkwX4_goesDeeper_1 : List UInt8 := [177]
abbrev dktX4_goesDeeper_1 : List UInt8 := dkwX4_goesDeeper_1 ++ []
def dkwX4_goesDeeper_0 : List UInt8 := [42, 180, 0, 28, 16, 6, 160, 0, 8, 42, 182, 0, 65, 191, 42, 89, 180, 0, 28, 4, 96, 181, 0, 28]
abbrev dktX4_goesDeeper_0 : List UInt8 := dkwX4_goesDeeper_0 ++ dktX4_goesDeeper_1
theorem dksX4_goesDeeper_0 : cX4_goesDeeper.data.toList.drop 0 = dktX4_goesDeeper_0 := by decide +kernel
theorem dksX4_goesDeeper_1 : cX4_goesDeeper.data.toList.drop 24 = dktX4_goesDeeper_1 := dk_seg dksX4_goesDeeper_0 24 rfl rfl
theorem dX4_goesDeeper_0 : decode cX4_goesDeeper 0 = .ok (.aload_n 0, 1) := dk_42 (dk_at dksX4_goesDeeper_0 0 rfl rfl)
theorem dX4_goesDeeper_1 : decode cX4_goesDeeper 1 = .ok (.getfield 28, 3) := dk_180 0 28 (dk_at dksX4_goesDeeper_0 1 rfl rfl)
theorem dX4_goesDeeper_4 : decode cX4_goesDeeper 4 = .ok (.bipush 6, 2) := dk_16 6 (dk_at dksX4_goesDeeper_0 4 rfl rfl)
theorem dX4_goesDeeper_6 : decode cX4_goesDeeper 6 = .ok (.if_icmp .ne 8, 3) := dk_160 0 8 (dk_at dksX4_goesDeeper_0 6 rfl rfl)
theorem dX4_goesDeeper_9 : decode cX4_goesDeeper 9 = .ok (.aload_n 0, 1) := dk_42 (dk_at dksX4_goesDeeper_0 9 rfl rfl)
theorem dX4_goesDeeper_10 : decode cX4_goesDeeper 10 = .ok (.invokevirtual 65, 3) := dk_182 0 65 (dk_at dksX4_goesDeeper_0 10 rfl rfl)
theorem dX4_goesDeeper_13 : decode cX4_goesDeeper 13 = .ok (.athrow, 1) := dk_191 (dk_at dksX4_goesDeeper_0 13 rfl rfl)
theorem dX4_goesDeeper_14 : decode cX4_goesDeeper 14 = .ok (.aload_n 0, 1) := dk_42 (dk_at dksX4_goesDeeper_0 14 rfl rfl)
theorem dX4_goesDeeper_15 : decode cX4_goesDeeper 15 = .ok (.dup, 1) := dk_89 (dk_at dksX4_goesDeeper_0 15 rfl rfl)
theorem dX4_goesDeeper_16 : decode cX4_goesDeeper 16 = .ok (.getfield 28, 3) := dk_180 0 28 (dk_at dksX4_goesDeeper_0 16 rfl rfl)
theorem dX4_goesDeeper_19 : decode cX4_goesDeeper 19 = .ok (.iconst 1, 1) := dk_4 (dk_at dksX4_goesDeeper_0 19 rfl rfl)
theorem dX4_goesDeeper_20 : decode cX4_goesDeeper 20 = .ok (.iadd, 1) := dk_96 (dk_at dksX4_goesDeeper_0 20 rfl rfl)
theorem dX4_goesDeeper_21 : decode cX4_goesDeeper 21 = .ok (.putfield 28, 3) := dk_181 0 28 (dk_at dksX4_goesDeeper_0 21 rfl rfl)
theorem dX4_goesDeeper_24 : decode cX4_goesDeeper 24 = .ok (.return_, 1) := dk_177 (dk_at dksX4_goesDeeper_1 0 rfl rfl)
abbrev cX4_comesUp : ByteArray := prog_11_method_16_code
def yX4_comesUp : MethodName := ⟨RX4, "comesUp", "()V"⟩
def dkwX4_comesUp_0 : List UInt8 := [42, 89, 180, 0, 28, 4, 100, 181, 0, 28, 177]
abbrev dktX4_comesUp_0 : List UInt8 := dkwX4_comesUp_0 ++ []
theorem dksX4_comesUp_0 : cX4_comesUp.data.toList.drop 0 = dktX4_comesUp_0 := by decide +kernel
theorem dX4_comesUp_0 : decode cX4_comesUp 0 = .ok (.aload_n 0, 1) := dk_42 (dk_at dksX4_comesUp_0 0 rfl rfl)
theorem dX4_comesUp_1 : decode cX4_comesUp 1 = .ok (.dup, 1) := dk_89 (dk_at dksX4_comesUp_0 1 rfl rfl)
theorem dX4_comesUp_2 : decode cX4_comesUp 2 = .ok (.getfield 28, 3) := dk_180 0 28 (dk_at dksX4_comesUp_0 2 rfl rfl)
theorem dX4_comesUp_5 : decode cX4_comesUp 5 = .ok (.iconst 1, 1) := dk_4 (dk_at dksX4_comesUp_0 5 rfl rfl)
theorem dX4_comesUp_6 : decode cX4_comesUp 6 = .ok (.isub, 1) := dk_100 (dk_at dksX4_comesUp_0 6 rfl rfl)
theorem dX4_comesUp_7 : decode cX4_comesUp 7 = .ok (.putfield 28, 3) := dk_181 0 28 (dk_at dksX4_comesUp_0 7 rfl rfl)
theorem dX4_comesUp_10 : decode cX4_comesUp 10 = .ok (.return_, 1) := dk_177 (dk_at dksX4_comesUp_0 10 rfl rfl)
abbrev cX4_isFigure : ByteArray := prog_11_method_11_code
def yX4_isFigure : MethodName := ⟨RX4, "isFigure", "()Z"⟩
def dkwX4_isFigure_0 : List UInt8 := [42, 182, 0, 38, 42, 42, 180, 0, 25, 182, 0, 31, 16, 48, 16, 57, 184, 0, 41, 172]
abbrev dktX4_isFigure_0 : List UInt8 := dkwX4_isFigure_0 ++ []
theorem dksX4_isFigure_0 : cX4_isFigure.data.toList.drop 0 = dktX4_isFigure_0 := by decide +kernel
theorem dX4_isFigure_0 : decode cX4_isFigure 0 = .ok (.aload_n 0, 1) := dk_42 (dk_at dksX4_isFigure_0 0 rfl rfl)
theorem dX4_isFigure_1 : decode cX4_isFigure 1 = .ok (.invokevirtual 38, 3) := dk_182 0 38 (dk_at dksX4_isFigure_0 1 rfl rfl)
theorem dX4_isFigure_4 : decode cX4_isFigure 4 = .ok (.aload_n 0, 1) := dk_42 (dk_at dksX4_isFigure_0 4 rfl rfl)
theorem dX4_isFigure_5 : decode cX4_isFigure 5 = .ok (.aload_n 0, 1) := dk_42 (dk_at dksX4_isFigure_0 5 rfl rfl)
theorem dX4_isFigure_6 : decode cX4_isFigure 6 = .ok (.getfield 25, 3) := dk_180 0 25 (dk_at dksX4_isFigure_0 6 rfl rfl)
theorem dX4_isFigure_9 : decode cX4_isFigure 9 = .ok (.invokevirtual 31, 3) := dk_182 0 31 (dk_at dksX4_isFigure_0 9 rfl rfl)
theorem dX4_isFigure_12 : decode cX4_isFigure 12 = .ok (.bipush 48, 2) := dk_16 48 (dk_at dksX4_isFigure_0 12 rfl rfl)
theorem dX4_isFigure_14 : decode cX4_isFigure 14 = .ok (.bipush 57, 2) := dk_16 57 (dk_at dksX4_isFigure_0 14 rfl rfl)
theorem dX4_isFigure_16 : decode cX4_isFigure 16 = .ok (.invokestatic 41, 3) := dk_184 0 41 (dk_at dksX4_isFigure_0 16 rfl rfl)
theorem dX4_isFigure_19 : decode cX4_isFigure 19 = .ok (.ireturn, 1) := dk_172 (dk_at dksX4_isFigure_0 19 rfl rfl)
abbrev cX5_init : ByteArray := prog_15_method_1_code
def yX5_init : MethodName := ⟨RX5, "<init>", "(LChaseCourt;)V"⟩
def dkwX5_init_0 : List UInt8 := [42, 43, 181, 0, 3, 42, 183, 0, 9, 177]
abbrev dktX5_init_0 : List UInt8 := dkwX5_init_0 ++ []
theorem dksX5_init_0 : cX5_init.data.toList.drop 0 = dktX5_init_0 := by decide +kernel
theorem dX5_init_0 : decode cX5_init 0 = .ok (.aload_n 0, 1) := dk_42 (dk_at dksX5_init_0 0 rfl rfl)
theorem dX5_init_1 : decode cX5_init 1 = .ok (.aload_n 1, 1) := dk_43 (dk_at dksX5_init_0 1 rfl rfl)
theorem dX5_init_2 : decode cX5_init 2 = .ok (.putfield 3, 3) := dk_181 0 3 (dk_at dksX5_init_0 2 rfl rfl)
theorem dX5_init_5 : decode cX5_init 5 = .ok (.aload_n 0, 1) := dk_42 (dk_at dksX5_init_0 5 rfl rfl)
theorem dX5_init_6 : decode cX5_init 6 = .ok (.invokespecial 9, 3) := dk_183 0 9 (dk_at dksX5_init_0 6 rfl rfl)
theorem dX5_init_9 : decode cX5_init 9 = .ok (.return_, 1) := dk_177 (dk_at dksX5_init_0 9 rfl rfl)
abbrev cX5_at : ByteArray := prog_15_method_2_code
def yX5_at : MethodName := ⟨RX5, "at", "(LChaseCourt$Score;I)LChaseCourt$Scene;"⟩
def dkwX5_at_0 : List UInt8 := [42, 43, 181, 0, 15, 42, 28, 181, 0, 19, 42, 176]
abbrev dktX5_at_0 : List UInt8 := dkwX5_at_0 ++ []
theorem dksX5_at_0 : cX5_at.data.toList.drop 0 = dktX5_at_0 := by decide +kernel
theorem dX5_at_0 : decode cX5_at 0 = .ok (.aload_n 0, 1) := dk_42 (dk_at dksX5_at_0 0 rfl rfl)
theorem dX5_at_1 : decode cX5_at 1 = .ok (.aload_n 1, 1) := dk_43 (dk_at dksX5_at_0 1 rfl rfl)
theorem dX5_at_2 : decode cX5_at 2 = .ok (.putfield 15, 3) := dk_181 0 15 (dk_at dksX5_at_0 2 rfl rfl)
theorem dX5_at_5 : decode cX5_at 5 = .ok (.aload_n 0, 1) := dk_42 (dk_at dksX5_at_0 5 rfl rfl)
theorem dX5_at_6 : decode cX5_at 6 = .ok (.iload_n 2, 1) := dk_28 (dk_at dksX5_at_0 6 rfl rfl)
theorem dX5_at_7 : decode cX5_at 7 = .ok (.putfield 19, 3) := dk_181 0 19 (dk_at dksX5_at_0 7 rfl rfl)
theorem dX5_at_10 : decode cX5_at 10 = .ok (.aload_n 0, 1) := dk_42 (dk_at dksX5_at_0 10 rfl rfl)
theorem dX5_at_11 : decode cX5_at 11 = .ok (.areturn, 1) := dk_176 (dk_at dksX5_at_0 11 rfl rfl)
abbrev cX5_serves : ByteArray := prog_15_method_4_code
def yX5_serves : MethodName := ⟨RX5, "serves", "()Z"⟩
def dkwX5_serves_0 : List UInt8 := [42, 180, 0, 15, 180, 0, 48, 42, 180, 0, 19, 160, 0, 7, 4, 167, 0, 4, 3, 172]
abbrev dktX5_serves_0 : List UInt8 := dkwX5_serves_0 ++ []
theorem dksX5_serves_0 : cX5_serves.data.toList.drop 0 = dktX5_serves_0 := by decide +kernel
theorem dX5_serves_0 : decode cX5_serves 0 = .ok (.aload_n 0, 1) := dk_42 (dk_at dksX5_serves_0 0 rfl rfl)
theorem dX5_serves_1 : decode cX5_serves 1 = .ok (.getfield 15, 3) := dk_180 0 15 (dk_at dksX5_serves_0 1 rfl rfl)
theorem dX5_serves_4 : decode cX5_serves 4 = .ok (.getfield 48, 3) := dk_180 0 48 (dk_at dksX5_serves_0 4 rfl rfl)
theorem dX5_serves_7 : decode cX5_serves 7 = .ok (.aload_n 0, 1) := dk_42 (dk_at dksX5_serves_0 7 rfl rfl)
theorem dX5_serves_8 : decode cX5_serves 8 = .ok (.getfield 19, 3) := dk_180 0 19 (dk_at dksX5_serves_0 8 rfl rfl)
theorem dX5_serves_11 : decode cX5_serves 11 = .ok (.if_icmp .ne 7, 3) := dk_160 0 7 (dk_at dksX5_serves_0 11 rfl rfl)
theorem dX5_serves_14 : decode cX5_serves 14 = .ok (.iconst 1, 1) := dk_4 (dk_at dksX5_serves_0 14 rfl rfl)
theorem dX5_serves_15 : decode cX5_serves 15 = .ok (.goto 4, 3) := dk_167 0 4 (dk_at dksX5_serves_0 15 rfl rfl)
theorem dX5_serves_18 : decode cX5_serves 18 = .ok (.iconst 0, 1) := dk_3 (dk_at dksX5_serves_0 18 rfl rfl)
theorem dX5_serves_19 : decode cX5_serves 19 = .ok (.ireturn, 1) := dk_172 (dk_at dksX5_serves_0 19 rfl rfl)
abbrev cX5_of : ByteArray := prog_15_method_3_code
def yX5_of : MethodName := ⟨RX5, "of", "(LChaseCourt$Fact;)I"⟩
def dkwX5_of_6 : List UInt8 := [180, 0, 45, 42, 180, 0, 19, 46, 172]
abbrev dktX5_of_6 : List UInt8 := dkwX5_of_6 ++ []
def dkwX5_of_5 : List UInt8 := [42, 180, 0, 15, 180, 0, 35, 4, 100, 46, 172, 42, 180, 0, 15, 180, 0, 35, 172, 42, 180, 0, 15]
abbrev dktX5_of_5 : List UInt8 := dkwX5_of_5 ++ dktX5_of_6
def dkwX5_of_4 : List UInt8 := [167, 0, 34, 42, 180, 0, 15, 180, 0, 38, 42, 180, 0, 15, 180, 0, 41, 153, 0, 7, 3, 167, 0, 12]
abbrev dktX5_of_4 : List UInt8 := dkwX5_of_4 ++ dktX5_of_5
def dkwX5_of_3 : List UInt8 := [42, 180, 0, 19, 100, 46, 16, 253, 100, 172, 42, 180, 0, 15, 180, 0, 35, 154, 0, 8, 16, 10]
abbrev dktX5_of_3 : List UInt8 := dkwX5_of_3 ++ dktX5_of_4
def dkwX5_of_2 : List UInt8 := [42, 180, 0, 15, 180, 0, 29, 42, 180, 0, 19, 46, 16, 253, 100, 172, 42, 180, 0, 15, 180, 0, 29, 4]
abbrev dktX5_of_2 : List UInt8 := dkwX5_of_2 ++ dktX5_of_3
def dkwX5_of_1 : List UInt8 := [170, 0, 0, 0, 0, 0, 0, 121, 0, 0, 0, 0, 0, 0, 0, 3, 0, 0, 0, 32, 0, 0, 0, 48, 0, 0, 0, 66, 0, 0, 0, 113]
abbrev dktX5_of_1 : List UInt8 := dkwX5_of_1 ++ dktX5_of_2
def dkwX5_of_0 : List UInt8 := [43, 182, 0, 23]
abbrev dktX5_of_0 : List UInt8 := dkwX5_of_0 ++ dktX5_of_1
theorem dksX5_of_0 : cX5_of.data.toList.drop 0 = dktX5_of_0 := by decide +kernel
theorem dksX5_of_1 : cX5_of.data.toList.drop 4 = dktX5_of_1 := dk_seg dksX5_of_0 4 rfl rfl
theorem dksX5_of_2 : cX5_of.data.toList.drop 36 = dktX5_of_2 := dk_seg dksX5_of_1 32 rfl rfl
theorem dksX5_of_3 : cX5_of.data.toList.drop 60 = dktX5_of_3 := dk_seg dksX5_of_2 24 rfl rfl
theorem dksX5_of_4 : cX5_of.data.toList.drop 82 = dktX5_of_4 := dk_seg dksX5_of_3 22 rfl rfl
theorem dksX5_of_5 : cX5_of.data.toList.drop 106 = dktX5_of_5 := dk_seg dksX5_of_4 24 rfl rfl
theorem dksX5_of_6 : cX5_of.data.toList.drop 129 = dktX5_of_6 := dk_seg dksX5_of_5 23 rfl rfl
theorem dX5_of_0 : decode cX5_of 0 = .ok (.aload_n 1, 1) := dk_43 (dk_at dksX5_of_0 0 rfl rfl)
theorem dX5_of_1 : decode cX5_of 1 = .ok (.invokevirtual 23, 3) := dk_182 0 23 (dk_at dksX5_of_0 1 rfl rfl)
theorem dX5_of_4 : decode cX5_of 4 = .ok (.tableswitch 121 0 3 #[32, 48, 66, 113], 32) := by decide +kernel
theorem dX5_of_36 : decode cX5_of 36 = .ok (.aload_n 0, 1) := dk_42 (dk_at dksX5_of_2 0 rfl rfl)
theorem dX5_of_37 : decode cX5_of 37 = .ok (.getfield 15, 3) := dk_180 0 15 (dk_at dksX5_of_2 1 rfl rfl)
theorem dX5_of_40 : decode cX5_of 40 = .ok (.getfield 29, 3) := dk_180 0 29 (dk_at dksX5_of_2 4 rfl rfl)
theorem dX5_of_43 : decode cX5_of 43 = .ok (.aload_n 0, 1) := dk_42 (dk_at dksX5_of_2 7 rfl rfl)
theorem dX5_of_44 : decode cX5_of 44 = .ok (.getfield 19, 3) := dk_180 0 19 (dk_at dksX5_of_2 8 rfl rfl)
theorem dX5_of_47 : decode cX5_of 47 = .ok (.iaload, 1) := dk_46 (dk_at dksX5_of_2 11 rfl rfl)
theorem dX5_of_48 : decode cX5_of 48 = .ok (.bipush (-3), 2) := dk_16 253 (dk_at dksX5_of_2 12 rfl rfl)
theorem dX5_of_50 : decode cX5_of 50 = .ok (.isub, 1) := dk_100 (dk_at dksX5_of_2 14 rfl rfl)
theorem dX5_of_51 : decode cX5_of 51 = .ok (.ireturn, 1) := dk_172 (dk_at dksX5_of_2 15 rfl rfl)
theorem dX5_of_52 : decode cX5_of 52 = .ok (.aload_n 0, 1) := dk_42 (dk_at dksX5_of_2 16 rfl rfl)
theorem dX5_of_53 : decode cX5_of 53 = .ok (.getfield 15, 3) := dk_180 0 15 (dk_at dksX5_of_2 17 rfl rfl)
theorem dX5_of_56 : decode cX5_of 56 = .ok (.getfield 29, 3) := dk_180 0 29 (dk_at dksX5_of_2 20 rfl rfl)
theorem dX5_of_59 : decode cX5_of 59 = .ok (.iconst 1, 1) := dk_4 (dk_at dksX5_of_2 23 rfl rfl)
theorem dX5_of_60 : decode cX5_of 60 = .ok (.aload_n 0, 1) := dk_42 (dk_at dksX5_of_3 0 rfl rfl)
theorem dX5_of_61 : decode cX5_of 61 = .ok (.getfield 19, 3) := dk_180 0 19 (dk_at dksX5_of_3 1 rfl rfl)
theorem dX5_of_64 : decode cX5_of 64 = .ok (.isub, 1) := dk_100 (dk_at dksX5_of_3 4 rfl rfl)
theorem dX5_of_65 : decode cX5_of 65 = .ok (.iaload, 1) := dk_46 (dk_at dksX5_of_3 5 rfl rfl)
theorem dX5_of_66 : decode cX5_of 66 = .ok (.bipush (-3), 2) := dk_16 253 (dk_at dksX5_of_3 6 rfl rfl)
theorem dX5_of_68 : decode cX5_of 68 = .ok (.isub, 1) := dk_100 (dk_at dksX5_of_3 8 rfl rfl)
theorem dX5_of_69 : decode cX5_of 69 = .ok (.ireturn, 1) := dk_172 (dk_at dksX5_of_3 9 rfl rfl)
theorem dX5_of_70 : decode cX5_of 70 = .ok (.aload_n 0, 1) := dk_42 (dk_at dksX5_of_3 10 rfl rfl)
theorem dX5_of_71 : decode cX5_of 71 = .ok (.getfield 15, 3) := dk_180 0 15 (dk_at dksX5_of_3 11 rfl rfl)
theorem dX5_of_74 : decode cX5_of 74 = .ok (.getfield 35, 3) := dk_180 0 35 (dk_at dksX5_of_3 14 rfl rfl)
theorem dX5_of_77 : decode cX5_of 77 = .ok (.ifCond .ne 8, 3) := dk_154 0 8 (dk_at dksX5_of_3 17 rfl rfl)
theorem dX5_of_80 : decode cX5_of 80 = .ok (.bipush 10, 2) := dk_16 10 (dk_at dksX5_of_3 20 rfl rfl)
theorem dX5_of_82 : decode cX5_of 82 = .ok (.goto 34, 3) := dk_167 0 34 (dk_at dksX5_of_4 0 rfl rfl)
theorem dX5_of_85 : decode cX5_of 85 = .ok (.aload_n 0, 1) := dk_42 (dk_at dksX5_of_4 3 rfl rfl)
theorem dX5_of_86 : decode cX5_of 86 = .ok (.getfield 15, 3) := dk_180 0 15 (dk_at dksX5_of_4 4 rfl rfl)
theorem dX5_of_89 : decode cX5_of 89 = .ok (.getfield 38, 3) := dk_180 0 38 (dk_at dksX5_of_4 7 rfl rfl)
theorem dX5_of_92 : decode cX5_of 92 = .ok (.aload_n 0, 1) := dk_42 (dk_at dksX5_of_4 10 rfl rfl)
theorem dX5_of_93 : decode cX5_of 93 = .ok (.getfield 15, 3) := dk_180 0 15 (dk_at dksX5_of_4 11 rfl rfl)
theorem dX5_of_96 : decode cX5_of 96 = .ok (.getfield 41, 3) := dk_180 0 41 (dk_at dksX5_of_4 14 rfl rfl)
theorem dX5_of_99 : decode cX5_of 99 = .ok (.ifCond .eq 7, 3) := dk_153 0 7 (dk_at dksX5_of_4 17 rfl rfl)
theorem dX5_of_102 : decode cX5_of 102 = .ok (.iconst 0, 1) := dk_3 (dk_at dksX5_of_4 20 rfl rfl)
theorem dX5_of_103 : decode cX5_of 103 = .ok (.goto 12, 3) := dk_167 0 12 (dk_at dksX5_of_4 21 rfl rfl)
theorem dX5_of_106 : decode cX5_of 106 = .ok (.aload_n 0, 1) := dk_42 (dk_at dksX5_of_5 0 rfl rfl)
theorem dX5_of_107 : decode cX5_of 107 = .ok (.getfield 15, 3) := dk_180 0 15 (dk_at dksX5_of_5 1 rfl rfl)
theorem dX5_of_110 : decode cX5_of 110 = .ok (.getfield 35, 3) := dk_180 0 35 (dk_at dksX5_of_5 4 rfl rfl)
theorem dX5_of_113 : decode cX5_of 113 = .ok (.iconst 1, 1) := dk_4 (dk_at dksX5_of_5 7 rfl rfl)
theorem dX5_of_114 : decode cX5_of 114 = .ok (.isub, 1) := dk_100 (dk_at dksX5_of_5 8 rfl rfl)
theorem dX5_of_115 : decode cX5_of 115 = .ok (.iaload, 1) := dk_46 (dk_at dksX5_of_5 9 rfl rfl)
theorem dX5_of_116 : decode cX5_of 116 = .ok (.ireturn, 1) := dk_172 (dk_at dksX5_of_5 10 rfl rfl)
theorem dX5_of_117 : decode cX5_of 117 = .ok (.aload_n 0, 1) := dk_42 (dk_at dksX5_of_5 11 rfl rfl)
theorem dX5_of_118 : decode cX5_of 118 = .ok (.getfield 15, 3) := dk_180 0 15 (dk_at dksX5_of_5 12 rfl rfl)
theorem dX5_of_121 : decode cX5_of 121 = .ok (.getfield 35, 3) := dk_180 0 35 (dk_at dksX5_of_5 15 rfl rfl)
theorem dX5_of_124 : decode cX5_of 124 = .ok (.ireturn, 1) := dk_172 (dk_at dksX5_of_5 18 rfl rfl)
theorem dX5_of_125 : decode cX5_of 125 = .ok (.aload_n 0, 1) := dk_42 (dk_at dksX5_of_5 19 rfl rfl)
theorem dX5_of_126 : decode cX5_of 126 = .ok (.getfield 15, 3) := dk_180 0 15 (dk_at dksX5_of_5 20 rfl rfl)
theorem dX5_of_129 : decode cX5_of 129 = .ok (.getfield 45, 3) := dk_180 0 45 (dk_at dksX5_of_6 0 rfl rfl)
theorem dX5_of_132 : decode cX5_of 132 = .ok (.aload_n 0, 1) := dk_42 (dk_at dksX5_of_6 3 rfl rfl)
theorem dX5_of_133 : decode cX5_of 133 = .ok (.getfield 19, 3) := dk_180 0 19 (dk_at dksX5_of_6 4 rfl rfl)
theorem dX5_of_136 : decode cX5_of 136 = .ok (.iaload, 1) := dk_46 (dk_at dksX5_of_6 7 rfl rfl)
theorem dX5_of_137 : decode cX5_of 137 = .ok (.ireturn, 1) := dk_172 (dk_at dksX5_of_6 8 rfl rfl)
abbrev cX6_init : ByteArray := prog_3_method_1_code
def yX6_init : MethodName := ⟨RX6, "<init>", "(LChaseCourt;)V"⟩
def dkwX6_init_1 : List UInt8 := [181, 0, 19, 42, 7, 188, 10, 181, 0, 22, 42, 2, 181, 0, 25, 177]
abbrev dktX6_init_1 : List UInt8 := dkwX6_init_1 ++ []
def dkwX6_init_0 : List UInt8 := [42, 43, 181, 0, 3, 42, 183, 0, 9, 42, 17, 60, 128, 188, 10, 181, 0, 15, 42, 17, 60, 128, 188, 10]
abbrev dktX6_init_0 : List UInt8 := dkwX6_init_0 ++ dktX6_init_1
theorem dksX6_init_0 : cX6_init.data.toList.drop 0 = dktX6_init_0 := by decide +kernel
theorem dksX6_init_1 : cX6_init.data.toList.drop 24 = dktX6_init_1 := dk_seg dksX6_init_0 24 rfl rfl
theorem dX6_init_0 : decode cX6_init 0 = .ok (.aload_n 0, 1) := dk_42 (dk_at dksX6_init_0 0 rfl rfl)
theorem dX6_init_1 : decode cX6_init 1 = .ok (.aload_n 1, 1) := dk_43 (dk_at dksX6_init_0 1 rfl rfl)
theorem dX6_init_2 : decode cX6_init 2 = .ok (.putfield 3, 3) := dk_181 0 3 (dk_at dksX6_init_0 2 rfl rfl)
theorem dX6_init_5 : decode cX6_init 5 = .ok (.aload_n 0, 1) := dk_42 (dk_at dksX6_init_0 5 rfl rfl)
theorem dX6_init_6 : decode cX6_init 6 = .ok (.invokespecial 9, 3) := dk_183 0 9 (dk_at dksX6_init_0 6 rfl rfl)
theorem dX6_init_9 : decode cX6_init 9 = .ok (.aload_n 0, 1) := dk_42 (dk_at dksX6_init_0 9 rfl rfl)
theorem dX6_init_10 : decode cX6_init 10 = .ok (.sipush 15488, 3) := dk_17 60 128 (dk_at dksX6_init_0 10 rfl rfl)
theorem dX6_init_13 : decode cX6_init 13 = .ok (.newarray .int, 2) := dk_188_10 (dk_at dksX6_init_0 13 rfl rfl)
theorem dX6_init_15 : decode cX6_init 15 = .ok (.putfield 15, 3) := dk_181 0 15 (dk_at dksX6_init_0 15 rfl rfl)
theorem dX6_init_18 : decode cX6_init 18 = .ok (.aload_n 0, 1) := dk_42 (dk_at dksX6_init_0 18 rfl rfl)
theorem dX6_init_19 : decode cX6_init 19 = .ok (.sipush 15488, 3) := dk_17 60 128 (dk_at dksX6_init_0 19 rfl rfl)
theorem dX6_init_22 : decode cX6_init 22 = .ok (.newarray .int, 2) := dk_188_10 (dk_at dksX6_init_0 22 rfl rfl)
theorem dX6_init_24 : decode cX6_init 24 = .ok (.putfield 19, 3) := dk_181 0 19 (dk_at dksX6_init_1 0 rfl rfl)
theorem dX6_init_27 : decode cX6_init 27 = .ok (.aload_n 0, 1) := dk_42 (dk_at dksX6_init_1 3 rfl rfl)
theorem dX6_init_28 : decode cX6_init 28 = .ok (.iconst 4, 1) := dk_7 (dk_at dksX6_init_1 4 rfl rfl)
theorem dX6_init_29 : decode cX6_init 29 = .ok (.newarray .int, 2) := dk_188_10 (dk_at dksX6_init_1 5 rfl rfl)
theorem dX6_init_31 : decode cX6_init 31 = .ok (.putfield 22, 3) := dk_181 0 22 (dk_at dksX6_init_1 7 rfl rfl)
theorem dX6_init_34 : decode cX6_init 34 = .ok (.aload_n 0, 1) := dk_42 (dk_at dksX6_init_1 10 rfl rfl)
theorem dX6_init_35 : decode cX6_init 35 = .ok (.iconst (-1), 1) := dk_2 (dk_at dksX6_init_1 11 rfl rfl)
theorem dX6_init_36 : decode cX6_init 36 = .ok (.putfield 25, 3) := dk_181 0 25 (dk_at dksX6_init_1 12 rfl rfl)
theorem dX6_init_39 : decode cX6_init 39 = .ok (.return_, 1) := dk_177 (dk_at dksX6_init_1 15 rfl rfl)
abbrev cX6_wins : ByteArray := prog_3_method_3_code
def yX6_wins : MethodName := ⟨RX6, "wins", "(I)LChaseCourt$Chances;"⟩
def dkwX6_wins_1 : List UInt8 := [3, 79, 132, 2, 1, 167, 255, 229, 42, 2, 182, 0, 36, 176]
abbrev dktX6_wins_1 : List UInt8 := dkwX6_wins_1 ++ []
def dkwX6_wins_0 : List UInt8 := [3, 61, 28, 7, 162, 0, 28, 42, 180, 0, 22, 28, 28, 5, 108, 27, 160, 0, 8, 18, 35, 167, 0, 4]
abbrev dktX6_wins_0 : List UInt8 := dkwX6_wins_0 ++ dktX6_wins_1
theorem dksX6_wins_0 : cX6_wins.data.toList.drop 0 = dktX6_wins_0 := by decide +kernel
theorem dksX6_wins_1 : cX6_wins.data.toList.drop 24 = dktX6_wins_1 := dk_seg dksX6_wins_0 24 rfl rfl
theorem dX6_wins_0 : decode cX6_wins 0 = .ok (.iconst 0, 1) := dk_3 (dk_at dksX6_wins_0 0 rfl rfl)
theorem dX6_wins_1 : decode cX6_wins 1 = .ok (.istore_n 2, 1) := dk_61 (dk_at dksX6_wins_0 1 rfl rfl)
theorem dX6_wins_2 : decode cX6_wins 2 = .ok (.iload_n 2, 1) := dk_28 (dk_at dksX6_wins_0 2 rfl rfl)
theorem dX6_wins_3 : decode cX6_wins 3 = .ok (.iconst 4, 1) := dk_7 (dk_at dksX6_wins_0 3 rfl rfl)
theorem dX6_wins_4 : decode cX6_wins 4 = .ok (.if_icmp .ge 28, 3) := dk_162 0 28 (dk_at dksX6_wins_0 4 rfl rfl)
theorem dX6_wins_7 : decode cX6_wins 7 = .ok (.aload_n 0, 1) := dk_42 (dk_at dksX6_wins_0 7 rfl rfl)
theorem dX6_wins_8 : decode cX6_wins 8 = .ok (.getfield 22, 3) := dk_180 0 22 (dk_at dksX6_wins_0 8 rfl rfl)
theorem dX6_wins_11 : decode cX6_wins 11 = .ok (.iload_n 2, 1) := dk_28 (dk_at dksX6_wins_0 11 rfl rfl)
theorem dX6_wins_12 : decode cX6_wins 12 = .ok (.iload_n 2, 1) := dk_28 (dk_at dksX6_wins_0 12 rfl rfl)
theorem dX6_wins_13 : decode cX6_wins 13 = .ok (.iconst 2, 1) := dk_5 (dk_at dksX6_wins_0 13 rfl rfl)
theorem dX6_wins_14 : decode cX6_wins 14 = .ok (.idiv, 1) := dk_108 (dk_at dksX6_wins_0 14 rfl rfl)
theorem dX6_wins_15 : decode cX6_wins 15 = .ok (.iload_n 1, 1) := dk_27 (dk_at dksX6_wins_0 15 rfl rfl)
theorem dX6_wins_16 : decode cX6_wins 16 = .ok (.if_icmp .ne 8, 3) := dk_160 0 8 (dk_at dksX6_wins_0 16 rfl rfl)
theorem dX6_wins_19 : decode cX6_wins 19 = .ok (.ldc 35, 2) := dk_18 35 (dk_at dksX6_wins_0 19 rfl rfl)
theorem dX6_wins_21 : decode cX6_wins 21 = .ok (.goto 4, 3) := dk_167 0 4 (dk_at dksX6_wins_0 21 rfl rfl)
theorem dX6_wins_24 : decode cX6_wins 24 = .ok (.iconst 0, 1) := dk_3 (dk_at dksX6_wins_1 0 rfl rfl)
theorem dX6_wins_25 : decode cX6_wins 25 = .ok (.iastore, 1) := dk_79 (dk_at dksX6_wins_1 1 rfl rfl)
theorem dX6_wins_26 : decode cX6_wins 26 = .ok (.iinc 2 1, 3) := dk_132 2 1 (dk_at dksX6_wins_1 2 rfl rfl)
theorem dX6_wins_29 : decode cX6_wins 29 = .ok (.goto (-27), 3) := dk_167 255 229 (dk_at dksX6_wins_1 5 rfl rfl)
theorem dX6_wins_32 : decode cX6_wins 32 = .ok (.aload_n 0, 1) := dk_42 (dk_at dksX6_wins_1 8 rfl rfl)
theorem dX6_wins_33 : decode cX6_wins 33 = .ok (.iconst (-1), 1) := dk_2 (dk_at dksX6_wins_1 9 rfl rfl)
theorem dX6_wins_34 : decode cX6_wins 34 = .ok (.invokevirtual 36, 3) := dk_182 0 36 (dk_at dksX6_wins_1 10 rfl rfl)
theorem dX6_wins_37 : decode cX6_wins 37 = .ok (.areturn, 1) := dk_176 (dk_at dksX6_wins_1 13 rfl rfl)
abbrev cX6_begins : ByteArray := prog_3_method_2_code
def yX6_begins : MethodName := ⟨RX6, "begins", "(I)LChaseCourt$Chances;"⟩
def dkwX6_begins_0 : List UInt8 := [42, 27, 181, 0, 25, 42, 180, 0, 15, 3, 184, 0, 29, 42, 176]
abbrev dktX6_begins_0 : List UInt8 := dkwX6_begins_0 ++ []
theorem dksX6_begins_0 : cX6_begins.data.toList.drop 0 = dktX6_begins_0 := by decide +kernel
theorem dX6_begins_0 : decode cX6_begins 0 = .ok (.aload_n 0, 1) := dk_42 (dk_at dksX6_begins_0 0 rfl rfl)
theorem dX6_begins_1 : decode cX6_begins 1 = .ok (.iload_n 1, 1) := dk_27 (dk_at dksX6_begins_0 1 rfl rfl)
theorem dX6_begins_2 : decode cX6_begins 2 = .ok (.putfield 25, 3) := dk_181 0 25 (dk_at dksX6_begins_0 2 rfl rfl)
theorem dX6_begins_5 : decode cX6_begins 5 = .ok (.aload_n 0, 1) := dk_42 (dk_at dksX6_begins_0 5 rfl rfl)
theorem dX6_begins_6 : decode cX6_begins 6 = .ok (.getfield 15, 3) := dk_180 0 15 (dk_at dksX6_begins_0 6 rfl rfl)
theorem dX6_begins_9 : decode cX6_begins 9 = .ok (.iconst 0, 1) := dk_3 (dk_at dksX6_begins_0 9 rfl rfl)
theorem dX6_begins_10 : decode cX6_begins 10 = .ok (.invokestatic 29, 3) := dk_184 0 29 (dk_at dksX6_begins_0 10 rfl rfl)
theorem dX6_begins_13 : decode cX6_begins 13 = .ok (.aload_n 0, 1) := dk_42 (dk_at dksX6_begins_0 13 rfl rfl)
theorem dX6_begins_14 : decode cX6_begins 14 = .ok (.areturn, 1) := dk_176 (dk_at dksX6_begins_0 14 rfl rfl)
abbrev cX6_after : ByteArray := prog_3_method_10_code
def yX6_after : MethodName := ⟨RX6, "after", "(I)LChaseCourt$Chances;"⟩
def dkwX6_after_0 : List UInt8 := [3, 61, 28, 27, 162, 0, 13, 42, 182, 0, 81, 132, 2, 1, 167, 255, 244, 42, 176]
abbrev dktX6_after_0 : List UInt8 := dkwX6_after_0 ++ []
theorem dksX6_after_0 : cX6_after.data.toList.drop 0 = dktX6_after_0 := by decide +kernel
theorem dX6_after_0 : decode cX6_after 0 = .ok (.iconst 0, 1) := dk_3 (dk_at dksX6_after_0 0 rfl rfl)
theorem dX6_after_1 : decode cX6_after 1 = .ok (.istore_n 2, 1) := dk_61 (dk_at dksX6_after_0 1 rfl rfl)
theorem dX6_after_2 : decode cX6_after 2 = .ok (.iload_n 2, 1) := dk_28 (dk_at dksX6_after_0 2 rfl rfl)
theorem dX6_after_3 : decode cX6_after 3 = .ok (.iload_n 1, 1) := dk_27 (dk_at dksX6_after_0 3 rfl rfl)
theorem dX6_after_4 : decode cX6_after 4 = .ok (.if_icmp .ge 13, 3) := dk_162 0 13 (dk_at dksX6_after_0 4 rfl rfl)
theorem dX6_after_7 : decode cX6_after 7 = .ok (.aload_n 0, 1) := dk_42 (dk_at dksX6_after_0 7 rfl rfl)
theorem dX6_after_8 : decode cX6_after 8 = .ok (.invokevirtual 81, 3) := dk_182 0 81 (dk_at dksX6_after_0 8 rfl rfl)
theorem dX6_after_11 : decode cX6_after 11 = .ok (.iinc 2 1, 3) := dk_132 2 1 (dk_at dksX6_after_0 11 rfl rfl)
theorem dX6_after_14 : decode cX6_after 14 = .ok (.goto (-12), 3) := dk_167 255 244 (dk_at dksX6_after_0 14 rfl rfl)
theorem dX6_after_17 : decode cX6_after 17 = .ok (.aload_n 0, 1) := dk_42 (dk_at dksX6_after_0 17 rfl rfl)
theorem dX6_after_18 : decode cX6_after 18 = .ok (.areturn, 1) := dk_176 (dk_at dksX6_after_0 18 rfl rfl)
abbrev cX6_more : ByteArray := prog_3_method_9_code
def yX6_more : MethodName := ⟨RX6, "more", "()V"⟩
def dkwX6_more_2 : List UInt8 := [180, 0, 19, 181, 0, 15, 42, 43, 181, 0, 19, 177]
abbrev dktX6_more_2 : List UInt8 := dkwX6_more_2 ++ []
def dkwX6_more_1 : List UInt8 := [180, 0, 19, 27, 42, 27, 182, 0, 78, 79, 132, 1, 1, 167, 255, 223, 42, 180, 0, 15, 76, 42, 42]
abbrev dktX6_more_1 : List UInt8 := dkwX6_more_1 ++ dktX6_more_2
def dkwX6_more_0 : List UInt8 := [3, 60, 27, 17, 60, 128, 162, 0, 32, 42, 180, 0, 3, 180, 0, 74, 27, 51, 153, 0, 14, 42]
abbrev dktX6_more_0 : List UInt8 := dkwX6_more_0 ++ dktX6_more_1
theorem dksX6_more_0 : cX6_more.data.toList.drop 0 = dktX6_more_0 := by decide +kernel
theorem dksX6_more_1 : cX6_more.data.toList.drop 22 = dktX6_more_1 := dk_seg dksX6_more_0 22 rfl rfl
theorem dksX6_more_2 : cX6_more.data.toList.drop 45 = dktX6_more_2 := dk_seg dksX6_more_1 23 rfl rfl
theorem dX6_more_0 : decode cX6_more 0 = .ok (.iconst 0, 1) := dk_3 (dk_at dksX6_more_0 0 rfl rfl)
theorem dX6_more_1 : decode cX6_more 1 = .ok (.istore_n 1, 1) := dk_60 (dk_at dksX6_more_0 1 rfl rfl)
theorem dX6_more_2 : decode cX6_more 2 = .ok (.iload_n 1, 1) := dk_27 (dk_at dksX6_more_0 2 rfl rfl)
theorem dX6_more_3 : decode cX6_more 3 = .ok (.sipush 15488, 3) := dk_17 60 128 (dk_at dksX6_more_0 3 rfl rfl)
theorem dX6_more_6 : decode cX6_more 6 = .ok (.if_icmp .ge 32, 3) := dk_162 0 32 (dk_at dksX6_more_0 6 rfl rfl)
theorem dX6_more_9 : decode cX6_more 9 = .ok (.aload_n 0, 1) := dk_42 (dk_at dksX6_more_0 9 rfl rfl)
theorem dX6_more_10 : decode cX6_more 10 = .ok (.getfield 3, 3) := dk_180 0 3 (dk_at dksX6_more_0 10 rfl rfl)
theorem dX6_more_13 : decode cX6_more 13 = .ok (.getfield 74, 3) := dk_180 0 74 (dk_at dksX6_more_0 13 rfl rfl)
theorem dX6_more_16 : decode cX6_more 16 = .ok (.iload_n 1, 1) := dk_27 (dk_at dksX6_more_0 16 rfl rfl)
theorem dX6_more_17 : decode cX6_more 17 = .ok (.baload, 1) := dk_51 (dk_at dksX6_more_0 17 rfl rfl)
theorem dX6_more_18 : decode cX6_more 18 = .ok (.ifCond .eq 14, 3) := dk_153 0 14 (dk_at dksX6_more_0 18 rfl rfl)
theorem dX6_more_21 : decode cX6_more 21 = .ok (.aload_n 0, 1) := dk_42 (dk_at dksX6_more_0 21 rfl rfl)
theorem dX6_more_22 : decode cX6_more 22 = .ok (.getfield 19, 3) := dk_180 0 19 (dk_at dksX6_more_1 0 rfl rfl)
theorem dX6_more_25 : decode cX6_more 25 = .ok (.iload_n 1, 1) := dk_27 (dk_at dksX6_more_1 3 rfl rfl)
theorem dX6_more_26 : decode cX6_more 26 = .ok (.aload_n 0, 1) := dk_42 (dk_at dksX6_more_1 4 rfl rfl)
theorem dX6_more_27 : decode cX6_more 27 = .ok (.iload_n 1, 1) := dk_27 (dk_at dksX6_more_1 5 rfl rfl)
theorem dX6_more_28 : decode cX6_more 28 = .ok (.invokevirtual 78, 3) := dk_182 0 78 (dk_at dksX6_more_1 6 rfl rfl)
theorem dX6_more_31 : decode cX6_more 31 = .ok (.iastore, 1) := dk_79 (dk_at dksX6_more_1 9 rfl rfl)
theorem dX6_more_32 : decode cX6_more 32 = .ok (.iinc 1 1, 3) := dk_132 1 1 (dk_at dksX6_more_1 10 rfl rfl)
theorem dX6_more_35 : decode cX6_more 35 = .ok (.goto (-33), 3) := dk_167 255 223 (dk_at dksX6_more_1 13 rfl rfl)
theorem dX6_more_38 : decode cX6_more 38 = .ok (.aload_n 0, 1) := dk_42 (dk_at dksX6_more_1 16 rfl rfl)
theorem dX6_more_39 : decode cX6_more 39 = .ok (.getfield 15, 3) := dk_180 0 15 (dk_at dksX6_more_1 17 rfl rfl)
theorem dX6_more_42 : decode cX6_more 42 = .ok (.astore_n 1, 1) := dk_76 (dk_at dksX6_more_1 20 rfl rfl)
theorem dX6_more_43 : decode cX6_more 43 = .ok (.aload_n 0, 1) := dk_42 (dk_at dksX6_more_1 21 rfl rfl)
theorem dX6_more_44 : decode cX6_more 44 = .ok (.aload_n 0, 1) := dk_42 (dk_at dksX6_more_1 22 rfl rfl)
theorem dX6_more_45 : decode cX6_more 45 = .ok (.getfield 19, 3) := dk_180 0 19 (dk_at dksX6_more_2 0 rfl rfl)
theorem dX6_more_48 : decode cX6_more 48 = .ok (.putfield 15, 3) := dk_181 0 15 (dk_at dksX6_more_2 3 rfl rfl)
theorem dX6_more_51 : decode cX6_more 51 = .ok (.aload_n 0, 1) := dk_42 (dk_at dksX6_more_2 6 rfl rfl)
theorem dX6_more_52 : decode cX6_more 52 = .ok (.aload_n 1, 1) := dk_43 (dk_at dksX6_more_2 7 rfl rfl)
theorem dX6_more_53 : decode cX6_more 53 = .ok (.putfield 19, 3) := dk_181 0 19 (dk_at dksX6_more_2 8 rfl rfl)
theorem dX6_more_56 : decode cX6_more 56 = .ok (.return_, 1) := dk_177 (dk_at dksX6_more_2 11 rfl rfl)
abbrev cX6_going : ByteArray := prog_3_method_8_code
def yX6_going : MethodName := ⟨RX6, "going", "(I)I"⟩
def dkwX6_going_2 : List UInt8 := [182, 0, 71, 182, 0, 59, 182, 0, 63, 172]
abbrev dktX6_going_2 : List UInt8 := dkwX6_going_2 ++ []
def dkwX6_going_1 : List UInt8 := [27, 42, 27, 27, 16, 121, 108, 5, 112, 42, 180, 0, 25, 160, 0, 7, 4, 167, 0, 4, 3, 42, 27]
abbrev dktX6_going_1 : List UInt8 := dkwX6_going_1 ++ dktX6_going_2
def dkwX6_going_0 : List UInt8 := [42, 180, 0, 25, 2, 160, 0, 18, 42, 27, 42, 180, 0, 3, 180, 0, 67, 27, 51, 182, 0, 63, 172, 42]
abbrev dktX6_going_0 : List UInt8 := dkwX6_going_0 ++ dktX6_going_1
theorem dksX6_going_0 : cX6_going.data.toList.drop 0 = dktX6_going_0 := by decide +kernel
theorem dksX6_going_1 : cX6_going.data.toList.drop 24 = dktX6_going_1 := dk_seg dksX6_going_0 24 rfl rfl
theorem dksX6_going_2 : cX6_going.data.toList.drop 47 = dktX6_going_2 := dk_seg dksX6_going_1 23 rfl rfl
theorem dX6_going_0 : decode cX6_going 0 = .ok (.aload_n 0, 1) := dk_42 (dk_at dksX6_going_0 0 rfl rfl)
theorem dX6_going_1 : decode cX6_going 1 = .ok (.getfield 25, 3) := dk_180 0 25 (dk_at dksX6_going_0 1 rfl rfl)
theorem dX6_going_4 : decode cX6_going 4 = .ok (.iconst (-1), 1) := dk_2 (dk_at dksX6_going_0 4 rfl rfl)
theorem dX6_going_5 : decode cX6_going 5 = .ok (.if_icmp .ne 18, 3) := dk_160 0 18 (dk_at dksX6_going_0 5 rfl rfl)
theorem dX6_going_8 : decode cX6_going 8 = .ok (.aload_n 0, 1) := dk_42 (dk_at dksX6_going_0 8 rfl rfl)
theorem dX6_going_9 : decode cX6_going 9 = .ok (.iload_n 1, 1) := dk_27 (dk_at dksX6_going_0 9 rfl rfl)
theorem dX6_going_10 : decode cX6_going 10 = .ok (.aload_n 0, 1) := dk_42 (dk_at dksX6_going_0 10 rfl rfl)
theorem dX6_going_11 : decode cX6_going 11 = .ok (.getfield 3, 3) := dk_180 0 3 (dk_at dksX6_going_0 11 rfl rfl)
theorem dX6_going_14 : decode cX6_going 14 = .ok (.getfield 67, 3) := dk_180 0 67 (dk_at dksX6_going_0 14 rfl rfl)
theorem dX6_going_17 : decode cX6_going 17 = .ok (.iload_n 1, 1) := dk_27 (dk_at dksX6_going_0 17 rfl rfl)
theorem dX6_going_18 : decode cX6_going 18 = .ok (.baload, 1) := dk_51 (dk_at dksX6_going_0 18 rfl rfl)
theorem dX6_going_19 : decode cX6_going 19 = .ok (.invokevirtual 63, 3) := dk_182 0 63 (dk_at dksX6_going_0 19 rfl rfl)
theorem dX6_going_22 : decode cX6_going 22 = .ok (.ireturn, 1) := dk_172 (dk_at dksX6_going_0 22 rfl rfl)
theorem dX6_going_23 : decode cX6_going 23 = .ok (.aload_n 0, 1) := dk_42 (dk_at dksX6_going_0 23 rfl rfl)
theorem dX6_going_24 : decode cX6_going 24 = .ok (.iload_n 1, 1) := dk_27 (dk_at dksX6_going_1 0 rfl rfl)
theorem dX6_going_25 : decode cX6_going 25 = .ok (.aload_n 0, 1) := dk_42 (dk_at dksX6_going_1 1 rfl rfl)
theorem dX6_going_26 : decode cX6_going 26 = .ok (.iload_n 1, 1) := dk_27 (dk_at dksX6_going_1 2 rfl rfl)
theorem dX6_going_27 : decode cX6_going 27 = .ok (.iload_n 1, 1) := dk_27 (dk_at dksX6_going_1 3 rfl rfl)
theorem dX6_going_28 : decode cX6_going 28 = .ok (.bipush 121, 2) := dk_16 121 (dk_at dksX6_going_1 4 rfl rfl)
theorem dX6_going_30 : decode cX6_going 30 = .ok (.idiv, 1) := dk_108 (dk_at dksX6_going_1 6 rfl rfl)
theorem dX6_going_31 : decode cX6_going 31 = .ok (.iconst 2, 1) := dk_5 (dk_at dksX6_going_1 7 rfl rfl)
theorem dX6_going_32 : decode cX6_going 32 = .ok (.irem, 1) := dk_112 (dk_at dksX6_going_1 8 rfl rfl)
theorem dX6_going_33 : decode cX6_going 33 = .ok (.aload_n 0, 1) := dk_42 (dk_at dksX6_going_1 9 rfl rfl)
theorem dX6_going_34 : decode cX6_going 34 = .ok (.getfield 25, 3) := dk_180 0 25 (dk_at dksX6_going_1 10 rfl rfl)
theorem dX6_going_37 : decode cX6_going 37 = .ok (.if_icmp .ne 7, 3) := dk_160 0 7 (dk_at dksX6_going_1 13 rfl rfl)
theorem dX6_going_40 : decode cX6_going 40 = .ok (.iconst 1, 1) := dk_4 (dk_at dksX6_going_1 16 rfl rfl)
theorem dX6_going_41 : decode cX6_going 41 = .ok (.goto 4, 3) := dk_167 0 4 (dk_at dksX6_going_1 17 rfl rfl)
theorem dX6_going_44 : decode cX6_going 44 = .ok (.iconst 0, 1) := dk_3 (dk_at dksX6_going_1 20 rfl rfl)
theorem dX6_going_45 : decode cX6_going 45 = .ok (.aload_n 0, 1) := dk_42 (dk_at dksX6_going_1 21 rfl rfl)
theorem dX6_going_46 : decode cX6_going 46 = .ok (.iload_n 1, 1) := dk_27 (dk_at dksX6_going_1 22 rfl rfl)
theorem dX6_going_47 : decode cX6_going 47 = .ok (.invokevirtual 71, 3) := dk_182 0 71 (dk_at dksX6_going_2 0 rfl rfl)
theorem dX6_going_50 : decode cX6_going 50 = .ok (.invokevirtual 59, 3) := dk_182 0 59 (dk_at dksX6_going_2 3 rfl rfl)
theorem dX6_going_53 : decode cX6_going 53 = .ok (.invokevirtual 63, 3) := dk_182 0 63 (dk_at dksX6_going_2 6 rfl rfl)
theorem dX6_going_56 : decode cX6_going 56 = .ok (.ireturn, 1) := dk_172 (dk_at dksX6_going_2 9 rfl rfl)
abbrev cX6_by : ByteArray := prog_3_method_5_code
def yX6_by : MethodName := ⟨RX6, "by", "(II)I"⟩
def dkwX6_by_3 : List UInt8 := [167, 255, 208, 22, 4, 20, 0, 57, 109, 136, 172]
abbrev dktX6_by_3 : List UInt8 := dkwX6_by_3 ++ []
def dkwX6_by_2 : List UInt8 := [180, 0, 50, 16, 12, 27, 104, 21, 6, 96, 46, 182, 0, 53, 133, 105, 97, 55, 4, 132, 6, 1]
abbrev dktX6_by_2 : List UInt8 := dkwX6_by_2 ++ dktX6_by_3
def dkwX6_by_1 : List UInt8 := [162, 0, 47, 45, 21, 6, 46, 158, 0, 34, 22, 4, 45, 21, 6, 46, 133, 42, 42, 180, 0, 3]
abbrev dktX6_by_1 : List UInt8 := dkwX6_by_1 ++ dktX6_by_2
def dkwX6_by_0 : List UInt8 := [42, 180, 0, 3, 180, 0, 40, 180, 0, 44, 28, 50, 78, 9, 55, 4, 3, 54, 6, 21, 6, 16, 12]
abbrev dktX6_by_0 : List UInt8 := dkwX6_by_0 ++ dktX6_by_1
theorem dksX6_by_0 : cX6_by.data.toList.drop 0 = dktX6_by_0 := by decide +kernel
theorem dksX6_by_1 : cX6_by.data.toList.drop 23 = dktX6_by_1 := dk_seg dksX6_by_0 23 rfl rfl
theorem dksX6_by_2 : cX6_by.data.toList.drop 45 = dktX6_by_2 := dk_seg dksX6_by_1 22 rfl rfl
theorem dksX6_by_3 : cX6_by.data.toList.drop 67 = dktX6_by_3 := dk_seg dksX6_by_2 22 rfl rfl
theorem dX6_by_0 : decode cX6_by 0 = .ok (.aload_n 0, 1) := dk_42 (dk_at dksX6_by_0 0 rfl rfl)
theorem dX6_by_1 : decode cX6_by 1 = .ok (.getfield 3, 3) := dk_180 0 3 (dk_at dksX6_by_0 1 rfl rfl)
theorem dX6_by_4 : decode cX6_by 4 = .ok (.getfield 40, 3) := dk_180 0 40 (dk_at dksX6_by_0 4 rfl rfl)
theorem dX6_by_7 : decode cX6_by 7 = .ok (.getfield 44, 3) := dk_180 0 44 (dk_at dksX6_by_0 7 rfl rfl)
theorem dX6_by_10 : decode cX6_by 10 = .ok (.iload_n 2, 1) := dk_28 (dk_at dksX6_by_0 10 rfl rfl)
theorem dX6_by_11 : decode cX6_by 11 = .ok (.aaload, 1) := dk_50 (dk_at dksX6_by_0 11 rfl rfl)
theorem dX6_by_12 : decode cX6_by 12 = .ok (.astore_n 3, 1) := dk_78 (dk_at dksX6_by_0 12 rfl rfl)
theorem dX6_by_13 : decode cX6_by 13 = .ok (.lconst 0, 1) := dk_9 (dk_at dksX6_by_0 13 rfl rfl)
theorem dX6_by_14 : decode cX6_by 14 = .ok (.lstore 4, 2) := dk_55 4 (dk_at dksX6_by_0 14 rfl rfl)
theorem dX6_by_16 : decode cX6_by 16 = .ok (.iconst 0, 1) := dk_3 (dk_at dksX6_by_0 16 rfl rfl)
theorem dX6_by_17 : decode cX6_by 17 = .ok (.istore 6, 2) := dk_54 6 (dk_at dksX6_by_0 17 rfl rfl)
theorem dX6_by_19 : decode cX6_by 19 = .ok (.iload 6, 2) := dk_21 6 (dk_at dksX6_by_0 19 rfl rfl)
theorem dX6_by_21 : decode cX6_by 21 = .ok (.bipush 12, 2) := dk_16 12 (dk_at dksX6_by_0 21 rfl rfl)
theorem dX6_by_23 : decode cX6_by 23 = .ok (.if_icmp .ge 47, 3) := dk_162 0 47 (dk_at dksX6_by_1 0 rfl rfl)
theorem dX6_by_26 : decode cX6_by 26 = .ok (.aload_n 3, 1) := dk_45 (dk_at dksX6_by_1 3 rfl rfl)
theorem dX6_by_27 : decode cX6_by 27 = .ok (.iload 6, 2) := dk_21 6 (dk_at dksX6_by_1 4 rfl rfl)
theorem dX6_by_29 : decode cX6_by 29 = .ok (.iaload, 1) := dk_46 (dk_at dksX6_by_1 6 rfl rfl)
theorem dX6_by_30 : decode cX6_by 30 = .ok (.ifCond .le 34, 3) := dk_158 0 34 (dk_at dksX6_by_1 7 rfl rfl)
theorem dX6_by_33 : decode cX6_by 33 = .ok (.lload 4, 2) := dk_22 4 (dk_at dksX6_by_1 10 rfl rfl)
theorem dX6_by_35 : decode cX6_by 35 = .ok (.aload_n 3, 1) := dk_45 (dk_at dksX6_by_1 12 rfl rfl)
theorem dX6_by_36 : decode cX6_by 36 = .ok (.iload 6, 2) := dk_21 6 (dk_at dksX6_by_1 13 rfl rfl)
theorem dX6_by_38 : decode cX6_by 38 = .ok (.iaload, 1) := dk_46 (dk_at dksX6_by_1 15 rfl rfl)
theorem dX6_by_39 : decode cX6_by 39 = .ok (.i2l, 1) := dk_133 (dk_at dksX6_by_1 16 rfl rfl)
theorem dX6_by_40 : decode cX6_by 40 = .ok (.aload_n 0, 1) := dk_42 (dk_at dksX6_by_1 17 rfl rfl)
theorem dX6_by_41 : decode cX6_by 41 = .ok (.aload_n 0, 1) := dk_42 (dk_at dksX6_by_1 18 rfl rfl)
theorem dX6_by_42 : decode cX6_by 42 = .ok (.getfield 3, 3) := dk_180 0 3 (dk_at dksX6_by_1 19 rfl rfl)
theorem dX6_by_45 : decode cX6_by 45 = .ok (.getfield 50, 3) := dk_180 0 50 (dk_at dksX6_by_2 0 rfl rfl)
theorem dX6_by_48 : decode cX6_by 48 = .ok (.bipush 12, 2) := dk_16 12 (dk_at dksX6_by_2 3 rfl rfl)
theorem dX6_by_50 : decode cX6_by 50 = .ok (.iload_n 1, 1) := dk_27 (dk_at dksX6_by_2 5 rfl rfl)
theorem dX6_by_51 : decode cX6_by 51 = .ok (.imul, 1) := dk_104 (dk_at dksX6_by_2 6 rfl rfl)
theorem dX6_by_52 : decode cX6_by 52 = .ok (.iload 6, 2) := dk_21 6 (dk_at dksX6_by_2 7 rfl rfl)
theorem dX6_by_54 : decode cX6_by 54 = .ok (.iadd, 1) := dk_96 (dk_at dksX6_by_2 9 rfl rfl)
theorem dX6_by_55 : decode cX6_by 55 = .ok (.iaload, 1) := dk_46 (dk_at dksX6_by_2 10 rfl rfl)
theorem dX6_by_56 : decode cX6_by 56 = .ok (.invokevirtual 53, 3) := dk_182 0 53 (dk_at dksX6_by_2 11 rfl rfl)
theorem dX6_by_59 : decode cX6_by 59 = .ok (.i2l, 1) := dk_133 (dk_at dksX6_by_2 14 rfl rfl)
theorem dX6_by_60 : decode cX6_by 60 = .ok (.lmul, 1) := dk_105 (dk_at dksX6_by_2 15 rfl rfl)
theorem dX6_by_61 : decode cX6_by 61 = .ok (.ladd, 1) := dk_97 (dk_at dksX6_by_2 16 rfl rfl)
theorem dX6_by_62 : decode cX6_by 62 = .ok (.lstore 4, 2) := dk_55 4 (dk_at dksX6_by_2 17 rfl rfl)
theorem dX6_by_64 : decode cX6_by 64 = .ok (.iinc 6 1, 3) := dk_132 6 1 (dk_at dksX6_by_2 19 rfl rfl)
theorem dX6_by_67 : decode cX6_by 67 = .ok (.goto (-48), 3) := dk_167 255 208 (dk_at dksX6_by_3 0 rfl rfl)
theorem dX6_by_70 : decode cX6_by 70 = .ok (.lload 4, 2) := dk_22 4 (dk_at dksX6_by_3 3 rfl rfl)
theorem dX6_by_72 : decode cX6_by 72 = .ok (.ldc2_w 57, 3) := dk_20 0 57 (dk_at dksX6_by_3 5 rfl rfl)
theorem dX6_by_75 : decode cX6_by 75 = .ok (.ldiv, 1) := dk_109 (dk_at dksX6_by_3 8 rfl rfl)
theorem dX6_by_76 : decode cX6_by 76 = .ok (.l2i, 1) := dk_136 (dk_at dksX6_by_3 9 rfl rfl)
theorem dX6_by_77 : decode cX6_by 77 = .ok (.ireturn, 1) := dk_172 (dk_at dksX6_by_3 10 rfl rfl)
abbrev cX6_at : ByteArray := prog_3_method_4_code
def yX6_at : MethodName := ⟨RX6, "at", "(I)I"⟩
def dkwX6_at_0 : List UInt8 := [27, 156, 0, 14, 42, 180, 0, 22, 2, 27, 100, 46, 167, 0, 9, 42, 180, 0, 15, 27, 46, 172]
abbrev dktX6_at_0 : List UInt8 := dkwX6_at_0 ++ []
theorem dksX6_at_0 : cX6_at.data.toList.drop 0 = dktX6_at_0 := by decide +kernel
theorem dX6_at_0 : decode cX6_at 0 = .ok (.iload_n 1, 1) := dk_27 (dk_at dksX6_at_0 0 rfl rfl)
theorem dX6_at_1 : decode cX6_at 1 = .ok (.ifCond .ge 14, 3) := dk_156 0 14 (dk_at dksX6_at_0 1 rfl rfl)
theorem dX6_at_4 : decode cX6_at 4 = .ok (.aload_n 0, 1) := dk_42 (dk_at dksX6_at_0 4 rfl rfl)
theorem dX6_at_5 : decode cX6_at 5 = .ok (.getfield 22, 3) := dk_180 0 22 (dk_at dksX6_at_0 5 rfl rfl)
theorem dX6_at_8 : decode cX6_at 8 = .ok (.iconst (-1), 1) := dk_2 (dk_at dksX6_at_0 8 rfl rfl)
theorem dX6_at_9 : decode cX6_at 9 = .ok (.iload_n 1, 1) := dk_27 (dk_at dksX6_at_0 9 rfl rfl)
theorem dX6_at_10 : decode cX6_at 10 = .ok (.isub, 1) := dk_100 (dk_at dksX6_at_0 10 rfl rfl)
theorem dX6_at_11 : decode cX6_at 11 = .ok (.iaload, 1) := dk_46 (dk_at dksX6_at_0 11 rfl rfl)
theorem dX6_at_12 : decode cX6_at 12 = .ok (.goto 9, 3) := dk_167 0 9 (dk_at dksX6_at_0 12 rfl rfl)
theorem dX6_at_15 : decode cX6_at 15 = .ok (.aload_n 0, 1) := dk_42 (dk_at dksX6_at_0 15 rfl rfl)
theorem dX6_at_16 : decode cX6_at 16 = .ok (.getfield 15, 3) := dk_180 0 15 (dk_at dksX6_at_0 16 rfl rfl)
theorem dX6_at_19 : decode cX6_at 19 = .ok (.iload_n 1, 1) := dk_27 (dk_at dksX6_at_0 19 rfl rfl)
theorem dX6_at_20 : decode cX6_at 20 = .ok (.iaload, 1) := dk_46 (dk_at dksX6_at_0 20 rfl rfl)
theorem dX6_at_21 : decode cX6_at 21 = .ok (.ireturn, 1) := dk_172 (dk_at dksX6_at_0 21 rfl rfl)
abbrev cX6_bestStyle : ByteArray := prog_3_method_6_code
def yX6_bestStyle : MethodName := ⟨RX6, "bestStyle", "(I)I"⟩
def dkwX6_bestStyle_3 : List UInt8 := [132, 5, 1, 167, 255, 210, 29, 172]
abbrev dktX6_bestStyle_3 : List UInt8 := dkwX6_bestStyle_3 ++ []
def dkwX6_bestStyle_2 : List UInt8 := [29, 2, 159, 0, 13, 21, 6, 21, 4, 163, 0, 6, 167, 0, 10, 21, 5, 62, 21, 6, 54, 4]
abbrev dktX6_bestStyle_2 : List UInt8 := dkwX6_bestStyle_2 ++ dktX6_bestStyle_3
def dkwX6_bestStyle_1 : List UInt8 := [3, 54, 5, 21, 5, 7, 162, 0, 46, 42, 27, 42, 27, 28, 21, 5, 182, 0, 59, 182, 0, 63, 54, 6]
abbrev dktX6_bestStyle_1 : List UInt8 := dkwX6_bestStyle_1 ++ dktX6_bestStyle_2
def dkwX6_bestStyle_0 : List UInt8 := [27, 16, 121, 108, 5, 112, 42, 180, 0, 25, 160, 0, 7, 4, 167, 0, 4, 3, 61, 2, 62, 3, 54, 4]
abbrev dktX6_bestStyle_0 : List UInt8 := dkwX6_bestStyle_0 ++ dktX6_bestStyle_1
theorem dksX6_bestStyle_0 : cX6_bestStyle.data.toList.drop 0 = dktX6_bestStyle_0 := by decide +kernel
theorem dksX6_bestStyle_1 : cX6_bestStyle.data.toList.drop 24 = dktX6_bestStyle_1 := dk_seg dksX6_bestStyle_0 24 rfl rfl
theorem dksX6_bestStyle_2 : cX6_bestStyle.data.toList.drop 48 = dktX6_bestStyle_2 := dk_seg dksX6_bestStyle_1 24 rfl rfl
theorem dksX6_bestStyle_3 : cX6_bestStyle.data.toList.drop 70 = dktX6_bestStyle_3 := dk_seg dksX6_bestStyle_2 22 rfl rfl
theorem dX6_bestStyle_0 : decode cX6_bestStyle 0 = .ok (.iload_n 1, 1) := dk_27 (dk_at dksX6_bestStyle_0 0 rfl rfl)
theorem dX6_bestStyle_1 : decode cX6_bestStyle 1 = .ok (.bipush 121, 2) := dk_16 121 (dk_at dksX6_bestStyle_0 1 rfl rfl)
theorem dX6_bestStyle_3 : decode cX6_bestStyle 3 = .ok (.idiv, 1) := dk_108 (dk_at dksX6_bestStyle_0 3 rfl rfl)
theorem dX6_bestStyle_4 : decode cX6_bestStyle 4 = .ok (.iconst 2, 1) := dk_5 (dk_at dksX6_bestStyle_0 4 rfl rfl)
theorem dX6_bestStyle_5 : decode cX6_bestStyle 5 = .ok (.irem, 1) := dk_112 (dk_at dksX6_bestStyle_0 5 rfl rfl)
theorem dX6_bestStyle_6 : decode cX6_bestStyle 6 = .ok (.aload_n 0, 1) := dk_42 (dk_at dksX6_bestStyle_0 6 rfl rfl)
theorem dX6_bestStyle_7 : decode cX6_bestStyle 7 = .ok (.getfield 25, 3) := dk_180 0 25 (dk_at dksX6_bestStyle_0 7 rfl rfl)
theorem dX6_bestStyle_10 : decode cX6_bestStyle 10 = .ok (.if_icmp .ne 7, 3) := dk_160 0 7 (dk_at dksX6_bestStyle_0 10 rfl rfl)
theorem dX6_bestStyle_13 : decode cX6_bestStyle 13 = .ok (.iconst 1, 1) := dk_4 (dk_at dksX6_bestStyle_0 13 rfl rfl)
theorem dX6_bestStyle_14 : decode cX6_bestStyle 14 = .ok (.goto 4, 3) := dk_167 0 4 (dk_at dksX6_bestStyle_0 14 rfl rfl)
theorem dX6_bestStyle_17 : decode cX6_bestStyle 17 = .ok (.iconst 0, 1) := dk_3 (dk_at dksX6_bestStyle_0 17 rfl rfl)
theorem dX6_bestStyle_18 : decode cX6_bestStyle 18 = .ok (.istore_n 2, 1) := dk_61 (dk_at dksX6_bestStyle_0 18 rfl rfl)
theorem dX6_bestStyle_19 : decode cX6_bestStyle 19 = .ok (.iconst (-1), 1) := dk_2 (dk_at dksX6_bestStyle_0 19 rfl rfl)
theorem dX6_bestStyle_20 : decode cX6_bestStyle 20 = .ok (.istore_n 3, 1) := dk_62 (dk_at dksX6_bestStyle_0 20 rfl rfl)
theorem dX6_bestStyle_21 : decode cX6_bestStyle 21 = .ok (.iconst 0, 1) := dk_3 (dk_at dksX6_bestStyle_0 21 rfl rfl)
theorem dX6_bestStyle_22 : decode cX6_bestStyle 22 = .ok (.istore 4, 2) := dk_54 4 (dk_at dksX6_bestStyle_0 22 rfl rfl)
theorem dX6_bestStyle_24 : decode cX6_bestStyle 24 = .ok (.iconst 0, 1) := dk_3 (dk_at dksX6_bestStyle_1 0 rfl rfl)
theorem dX6_bestStyle_25 : decode cX6_bestStyle 25 = .ok (.istore 5, 2) := dk_54 5 (dk_at dksX6_bestStyle_1 1 rfl rfl)
theorem dX6_bestStyle_27 : decode cX6_bestStyle 27 = .ok (.iload 5, 2) := dk_21 5 (dk_at dksX6_bestStyle_1 3 rfl rfl)
theorem dX6_bestStyle_29 : decode cX6_bestStyle 29 = .ok (.iconst 4, 1) := dk_7 (dk_at dksX6_bestStyle_1 5 rfl rfl)
theorem dX6_bestStyle_30 : decode cX6_bestStyle 30 = .ok (.if_icmp .ge 46, 3) := dk_162 0 46 (dk_at dksX6_bestStyle_1 6 rfl rfl)
theorem dX6_bestStyle_33 : decode cX6_bestStyle 33 = .ok (.aload_n 0, 1) := dk_42 (dk_at dksX6_bestStyle_1 9 rfl rfl)
theorem dX6_bestStyle_34 : decode cX6_bestStyle 34 = .ok (.iload_n 1, 1) := dk_27 (dk_at dksX6_bestStyle_1 10 rfl rfl)
theorem dX6_bestStyle_35 : decode cX6_bestStyle 35 = .ok (.aload_n 0, 1) := dk_42 (dk_at dksX6_bestStyle_1 11 rfl rfl)
theorem dX6_bestStyle_36 : decode cX6_bestStyle 36 = .ok (.iload_n 1, 1) := dk_27 (dk_at dksX6_bestStyle_1 12 rfl rfl)
theorem dX6_bestStyle_37 : decode cX6_bestStyle 37 = .ok (.iload_n 2, 1) := dk_28 (dk_at dksX6_bestStyle_1 13 rfl rfl)
theorem dX6_bestStyle_38 : decode cX6_bestStyle 38 = .ok (.iload 5, 2) := dk_21 5 (dk_at dksX6_bestStyle_1 14 rfl rfl)
theorem dX6_bestStyle_40 : decode cX6_bestStyle 40 = .ok (.invokevirtual 59, 3) := dk_182 0 59 (dk_at dksX6_bestStyle_1 16 rfl rfl)
theorem dX6_bestStyle_43 : decode cX6_bestStyle 43 = .ok (.invokevirtual 63, 3) := dk_182 0 63 (dk_at dksX6_bestStyle_1 19 rfl rfl)
theorem dX6_bestStyle_46 : decode cX6_bestStyle 46 = .ok (.istore 6, 2) := dk_54 6 (dk_at dksX6_bestStyle_1 22 rfl rfl)
theorem dX6_bestStyle_48 : decode cX6_bestStyle 48 = .ok (.iload_n 3, 1) := dk_29 (dk_at dksX6_bestStyle_2 0 rfl rfl)
theorem dX6_bestStyle_49 : decode cX6_bestStyle 49 = .ok (.iconst (-1), 1) := dk_2 (dk_at dksX6_bestStyle_2 1 rfl rfl)
theorem dX6_bestStyle_50 : decode cX6_bestStyle 50 = .ok (.if_icmp .eq 13, 3) := dk_159 0 13 (dk_at dksX6_bestStyle_2 2 rfl rfl)
theorem dX6_bestStyle_53 : decode cX6_bestStyle 53 = .ok (.iload 6, 2) := dk_21 6 (dk_at dksX6_bestStyle_2 5 rfl rfl)
theorem dX6_bestStyle_55 : decode cX6_bestStyle 55 = .ok (.iload 4, 2) := dk_21 4 (dk_at dksX6_bestStyle_2 7 rfl rfl)
theorem dX6_bestStyle_57 : decode cX6_bestStyle 57 = .ok (.if_icmp .gt 6, 3) := dk_163 0 6 (dk_at dksX6_bestStyle_2 9 rfl rfl)
theorem dX6_bestStyle_60 : decode cX6_bestStyle 60 = .ok (.goto 10, 3) := dk_167 0 10 (dk_at dksX6_bestStyle_2 12 rfl rfl)
theorem dX6_bestStyle_63 : decode cX6_bestStyle 63 = .ok (.iload 5, 2) := dk_21 5 (dk_at dksX6_bestStyle_2 15 rfl rfl)
theorem dX6_bestStyle_65 : decode cX6_bestStyle 65 = .ok (.istore_n 3, 1) := dk_62 (dk_at dksX6_bestStyle_2 17 rfl rfl)
theorem dX6_bestStyle_66 : decode cX6_bestStyle 66 = .ok (.iload 6, 2) := dk_21 6 (dk_at dksX6_bestStyle_2 18 rfl rfl)
theorem dX6_bestStyle_68 : decode cX6_bestStyle 68 = .ok (.istore 4, 2) := dk_54 4 (dk_at dksX6_bestStyle_2 20 rfl rfl)
theorem dX6_bestStyle_70 : decode cX6_bestStyle 70 = .ok (.iinc 5 1, 3) := dk_132 5 1 (dk_at dksX6_bestStyle_3 0 rfl rfl)
theorem dX6_bestStyle_73 : decode cX6_bestStyle 73 = .ok (.goto (-46), 3) := dk_167 255 210 (dk_at dksX6_bestStyle_3 3 rfl rfl)
theorem dX6_bestStyle_76 : decode cX6_bestStyle 76 = .ok (.iload_n 3, 1) := dk_29 (dk_at dksX6_bestStyle_3 6 rfl rfl)
theorem dX6_bestStyle_77 : decode cX6_bestStyle 77 = .ok (.ireturn, 1) := dk_172 (dk_at dksX6_bestStyle_3 7 rfl rfl)
abbrev cX6_with : ByteArray := prog_3_method_7_code
def yX6_with : MethodName := ⟨RX6, "with", "(IZI)I"⟩
def dkwX6_with_1 : List UInt8 := [180, 0, 3, 180, 0, 67, 27, 51, 7, 108, 7, 104, 29, 96, 172]
abbrev dktX6_with_1 : List UInt8 := dkwX6_with_1 ++ []
def dkwX6_with_0 : List UInt8 := [28, 153, 0, 21, 7, 29, 104, 42, 180, 0, 3, 180, 0, 67, 27, 51, 7, 112, 96, 167, 0, 18, 42]
abbrev dktX6_with_0 : List UInt8 := dkwX6_with_0 ++ dktX6_with_1
theorem dksX6_with_0 : cX6_with.data.toList.drop 0 = dktX6_with_0 := by decide +kernel
theorem dksX6_with_1 : cX6_with.data.toList.drop 23 = dktX6_with_1 := dk_seg dksX6_with_0 23 rfl rfl
theorem dX6_with_0 : decode cX6_with 0 = .ok (.iload_n 2, 1) := dk_28 (dk_at dksX6_with_0 0 rfl rfl)
theorem dX6_with_1 : decode cX6_with 1 = .ok (.ifCond .eq 21, 3) := dk_153 0 21 (dk_at dksX6_with_0 1 rfl rfl)
theorem dX6_with_4 : decode cX6_with 4 = .ok (.iconst 4, 1) := dk_7 (dk_at dksX6_with_0 4 rfl rfl)
theorem dX6_with_5 : decode cX6_with 5 = .ok (.iload_n 3, 1) := dk_29 (dk_at dksX6_with_0 5 rfl rfl)
theorem dX6_with_6 : decode cX6_with 6 = .ok (.imul, 1) := dk_104 (dk_at dksX6_with_0 6 rfl rfl)
theorem dX6_with_7 : decode cX6_with 7 = .ok (.aload_n 0, 1) := dk_42 (dk_at dksX6_with_0 7 rfl rfl)
theorem dX6_with_8 : decode cX6_with 8 = .ok (.getfield 3, 3) := dk_180 0 3 (dk_at dksX6_with_0 8 rfl rfl)
theorem dX6_with_11 : decode cX6_with 11 = .ok (.getfield 67, 3) := dk_180 0 67 (dk_at dksX6_with_0 11 rfl rfl)
theorem dX6_with_14 : decode cX6_with 14 = .ok (.iload_n 1, 1) := dk_27 (dk_at dksX6_with_0 14 rfl rfl)
theorem dX6_with_15 : decode cX6_with 15 = .ok (.baload, 1) := dk_51 (dk_at dksX6_with_0 15 rfl rfl)
theorem dX6_with_16 : decode cX6_with 16 = .ok (.iconst 4, 1) := dk_7 (dk_at dksX6_with_0 16 rfl rfl)
theorem dX6_with_17 : decode cX6_with 17 = .ok (.irem, 1) := dk_112 (dk_at dksX6_with_0 17 rfl rfl)
theorem dX6_with_18 : decode cX6_with 18 = .ok (.iadd, 1) := dk_96 (dk_at dksX6_with_0 18 rfl rfl)
theorem dX6_with_19 : decode cX6_with 19 = .ok (.goto 18, 3) := dk_167 0 18 (dk_at dksX6_with_0 19 rfl rfl)
theorem dX6_with_22 : decode cX6_with 22 = .ok (.aload_n 0, 1) := dk_42 (dk_at dksX6_with_0 22 rfl rfl)
theorem dX6_with_23 : decode cX6_with 23 = .ok (.getfield 3, 3) := dk_180 0 3 (dk_at dksX6_with_1 0 rfl rfl)
theorem dX6_with_26 : decode cX6_with 26 = .ok (.getfield 67, 3) := dk_180 0 67 (dk_at dksX6_with_1 3 rfl rfl)
theorem dX6_with_29 : decode cX6_with 29 = .ok (.iload_n 1, 1) := dk_27 (dk_at dksX6_with_1 6 rfl rfl)
theorem dX6_with_30 : decode cX6_with 30 = .ok (.baload, 1) := dk_51 (dk_at dksX6_with_1 7 rfl rfl)
theorem dX6_with_31 : decode cX6_with 31 = .ok (.iconst 4, 1) := dk_7 (dk_at dksX6_with_1 8 rfl rfl)
theorem dX6_with_32 : decode cX6_with 32 = .ok (.idiv, 1) := dk_108 (dk_at dksX6_with_1 9 rfl rfl)
theorem dX6_with_33 : decode cX6_with 33 = .ok (.iconst 4, 1) := dk_7 (dk_at dksX6_with_1 10 rfl rfl)
theorem dX6_with_34 : decode cX6_with 34 = .ok (.imul, 1) := dk_104 (dk_at dksX6_with_1 11 rfl rfl)
theorem dX6_with_35 : decode cX6_with 35 = .ok (.iload_n 3, 1) := dk_29 (dk_at dksX6_with_1 12 rfl rfl)
theorem dX6_with_36 : decode cX6_with 36 = .ok (.iadd, 1) := dk_96 (dk_at dksX6_with_1 13 rfl rfl)
theorem dX6_with_37 : decode cX6_with 37 = .ok (.ireturn, 1) := dk_172 (dk_at dksX6_with_1 14 rfl rfl)
abbrev cX7_init : ByteArray := prog_14_method_1_code
def yX7_init : MethodName := ⟨RX7, "<init>", "(LChaseCourt;)V"⟩
def dkwX7_init_1 : List UInt8 := [181, 0, 19, 177]
abbrev dktX7_init_1 : List UInt8 := dkwX7_init_1 ++ []
def dkwX7_init_0 : List UInt8 := [42, 43, 181, 0, 3, 42, 183, 0, 9, 42, 17, 60, 128, 188, 10, 181, 0, 15, 42, 17, 60, 128, 188, 10]
abbrev dktX7_init_0 : List UInt8 := dkwX7_init_0 ++ dktX7_init_1
theorem dksX7_init_0 : cX7_init.data.toList.drop 0 = dktX7_init_0 := by decide +kernel
theorem dksX7_init_1 : cX7_init.data.toList.drop 24 = dktX7_init_1 := dk_seg dksX7_init_0 24 rfl rfl
theorem dX7_init_0 : decode cX7_init 0 = .ok (.aload_n 0, 1) := dk_42 (dk_at dksX7_init_0 0 rfl rfl)
theorem dX7_init_1 : decode cX7_init 1 = .ok (.aload_n 1, 1) := dk_43 (dk_at dksX7_init_0 1 rfl rfl)
theorem dX7_init_2 : decode cX7_init 2 = .ok (.putfield 3, 3) := dk_181 0 3 (dk_at dksX7_init_0 2 rfl rfl)
theorem dX7_init_5 : decode cX7_init 5 = .ok (.aload_n 0, 1) := dk_42 (dk_at dksX7_init_0 5 rfl rfl)
theorem dX7_init_6 : decode cX7_init 6 = .ok (.invokespecial 9, 3) := dk_183 0 9 (dk_at dksX7_init_0 6 rfl rfl)
theorem dX7_init_9 : decode cX7_init 9 = .ok (.aload_n 0, 1) := dk_42 (dk_at dksX7_init_0 9 rfl rfl)
theorem dX7_init_10 : decode cX7_init 10 = .ok (.sipush 15488, 3) := dk_17 60 128 (dk_at dksX7_init_0 10 rfl rfl)
theorem dX7_init_13 : decode cX7_init 13 = .ok (.newarray .int, 2) := dk_188_10 (dk_at dksX7_init_0 13 rfl rfl)
theorem dX7_init_15 : decode cX7_init 15 = .ok (.putfield 15, 3) := dk_181 0 15 (dk_at dksX7_init_0 15 rfl rfl)
theorem dX7_init_18 : decode cX7_init 18 = .ok (.aload_n 0, 1) := dk_42 (dk_at dksX7_init_0 18 rfl rfl)
theorem dX7_init_19 : decode cX7_init 19 = .ok (.sipush 15488, 3) := dk_17 60 128 (dk_at dksX7_init_0 19 rfl rfl)
theorem dX7_init_22 : decode cX7_init 22 = .ok (.newarray .int, 2) := dk_188_10 (dk_at dksX7_init_0 22 rfl rfl)
theorem dX7_init_24 : decode cX7_init 24 = .ok (.putfield 19, 3) := dk_181 0 19 (dk_at dksX7_init_1 0 rfl rfl)
theorem dX7_init_27 : decode cX7_init 27 = .ok (.return_, 1) := dk_177 (dk_at dksX7_init_1 3 rfl rfl)
abbrev cX7_goes : ByteArray := prog_14_method_4_code
def yX7_goes : MethodName := ⟨RX7, "goes", "(III)I"⟩
def dkwX7_goes_7 : List UInt8 := [42, 25, 5, 181, 0, 19, 132, 4, 1, 167, 255, 114, 42, 180, 0, 15, 29, 46, 172]
abbrev dktX7_goes_7 : List UInt8 := dkwX7_goes_7 ++ []
def dkwX7_goes_6 : List UInt8 := [3, 181, 0, 64, 132, 5, 1, 167, 255, 159, 42, 180, 0, 15, 58, 5, 42, 42, 180, 0, 19, 181, 0, 15]
abbrev dktX7_goes_6 : List UInt8 := dkwX7_goes_6 ++ dktX7_goes_7
def dkwX7_goes_5 : List UInt8 := [21, 7, 184, 0, 82, 79, 21, 5, 29, 160, 0, 19, 42, 21, 7, 21, 6, 164, 0, 7, 4, 167, 0, 4]
abbrev dktX7_goes_5 : List UInt8 := dkwX7_goes_5 ++ dktX7_goes_6
def dkwX7_goes_4 : List UInt8 := [180, 0, 78, 5, 21, 5, 104, 27, 96, 46, 182, 0, 81, 54, 7, 42, 180, 0, 19, 21, 5, 21, 6]
abbrev dktX7_goes_4 : List UInt8 := dkwX7_goes_4 ++ dktX7_goes_5
def dkwX7_goes_3 : List UInt8 := [167, 0, 73, 42, 21, 5, 182, 0, 75, 54, 6, 42, 180, 0, 3, 180, 0, 22, 42, 180, 0, 3]
abbrev dktX7_goes_3 : List UInt8 := dkwX7_goes_3 ++ dktX7_goes_4
def dkwX7_goes_2 : List UInt8 := [54, 5, 21, 5, 17, 60, 128, 162, 0, 95, 42, 180, 0, 3, 180, 0, 71, 21, 5, 51, 154, 0, 6]
abbrev dktX7_goes_2 : List UInt8 := dkwX7_goes_2 ++ dktX7_goes_3
def dkwX7_goes_1 : List UInt8 := [181, 0, 64, 3, 54, 4, 21, 4, 28, 162, 0, 142, 42, 180, 0, 3, 180, 0, 22, 182, 0, 68, 3]
abbrev dktX7_goes_1 : List UInt8 := dkwX7_goes_1 ++ dktX7_goes_2
def dkwX7_goes_0 : List UInt8 := [42, 180, 0, 15, 3, 184, 0, 54, 42, 180, 0, 3, 180, 0, 22, 27, 182, 0, 60, 87, 42, 3]
abbrev dktX7_goes_0 : List UInt8 := dkwX7_goes_0 ++ dktX7_goes_1
theorem dksX7_goes_0 : cX7_goes.data.toList.drop 0 = dktX7_goes_0 := by decide +kernel
theorem dksX7_goes_1 : cX7_goes.data.toList.drop 22 = dktX7_goes_1 := dk_seg dksX7_goes_0 22 rfl rfl
theorem dksX7_goes_2 : cX7_goes.data.toList.drop 45 = dktX7_goes_2 := dk_seg dksX7_goes_1 23 rfl rfl
theorem dksX7_goes_3 : cX7_goes.data.toList.drop 68 = dktX7_goes_3 := dk_seg dksX7_goes_2 23 rfl rfl
theorem dksX7_goes_4 : cX7_goes.data.toList.drop 90 = dktX7_goes_4 := dk_seg dksX7_goes_3 22 rfl rfl
theorem dksX7_goes_5 : cX7_goes.data.toList.drop 113 = dktX7_goes_5 := dk_seg dksX7_goes_4 23 rfl rfl
theorem dksX7_goes_6 : cX7_goes.data.toList.drop 137 = dktX7_goes_6 := dk_seg dksX7_goes_5 24 rfl rfl
theorem dksX7_goes_7 : cX7_goes.data.toList.drop 161 = dktX7_goes_7 := dk_seg dksX7_goes_6 24 rfl rfl
theorem dX7_goes_0 : decode cX7_goes 0 = .ok (.aload_n 0, 1) := dk_42 (dk_at dksX7_goes_0 0 rfl rfl)
theorem dX7_goes_1 : decode cX7_goes 1 = .ok (.getfield 15, 3) := dk_180 0 15 (dk_at dksX7_goes_0 1 rfl rfl)
theorem dX7_goes_4 : decode cX7_goes 4 = .ok (.iconst 0, 1) := dk_3 (dk_at dksX7_goes_0 4 rfl rfl)
theorem dX7_goes_5 : decode cX7_goes 5 = .ok (.invokestatic 54, 3) := dk_184 0 54 (dk_at dksX7_goes_0 5 rfl rfl)
theorem dX7_goes_8 : decode cX7_goes 8 = .ok (.aload_n 0, 1) := dk_42 (dk_at dksX7_goes_0 8 rfl rfl)
theorem dX7_goes_9 : decode cX7_goes 9 = .ok (.getfield 3, 3) := dk_180 0 3 (dk_at dksX7_goes_0 9 rfl rfl)
theorem dX7_goes_12 : decode cX7_goes 12 = .ok (.getfield 22, 3) := dk_180 0 22 (dk_at dksX7_goes_0 12 rfl rfl)
theorem dX7_goes_15 : decode cX7_goes 15 = .ok (.iload_n 1, 1) := dk_27 (dk_at dksX7_goes_0 15 rfl rfl)
theorem dX7_goes_16 : decode cX7_goes 16 = .ok (.invokevirtual 60, 3) := dk_182 0 60 (dk_at dksX7_goes_0 16 rfl rfl)
theorem dX7_goes_19 : decode cX7_goes 19 = .ok (.pop, 1) := dk_87 (dk_at dksX7_goes_0 19 rfl rfl)
theorem dX7_goes_20 : decode cX7_goes 20 = .ok (.aload_n 0, 1) := dk_42 (dk_at dksX7_goes_0 20 rfl rfl)
theorem dX7_goes_21 : decode cX7_goes 21 = .ok (.iconst 0, 1) := dk_3 (dk_at dksX7_goes_0 21 rfl rfl)
theorem dX7_goes_22 : decode cX7_goes 22 = .ok (.putfield 64, 3) := dk_181 0 64 (dk_at dksX7_goes_1 0 rfl rfl)
theorem dX7_goes_25 : decode cX7_goes 25 = .ok (.iconst 0, 1) := dk_3 (dk_at dksX7_goes_1 3 rfl rfl)
theorem dX7_goes_26 : decode cX7_goes 26 = .ok (.istore 4, 2) := dk_54 4 (dk_at dksX7_goes_1 4 rfl rfl)
theorem dX7_goes_28 : decode cX7_goes 28 = .ok (.iload 4, 2) := dk_21 4 (dk_at dksX7_goes_1 6 rfl rfl)
theorem dX7_goes_30 : decode cX7_goes 30 = .ok (.iload_n 2, 1) := dk_28 (dk_at dksX7_goes_1 8 rfl rfl)
theorem dX7_goes_31 : decode cX7_goes 31 = .ok (.if_icmp .ge 142, 3) := dk_162 0 142 (dk_at dksX7_goes_1 9 rfl rfl)
theorem dX7_goes_34 : decode cX7_goes 34 = .ok (.aload_n 0, 1) := dk_42 (dk_at dksX7_goes_1 12 rfl rfl)
theorem dX7_goes_35 : decode cX7_goes 35 = .ok (.getfield 3, 3) := dk_180 0 3 (dk_at dksX7_goes_1 13 rfl rfl)
theorem dX7_goes_38 : decode cX7_goes 38 = .ok (.getfield 22, 3) := dk_180 0 22 (dk_at dksX7_goes_1 16 rfl rfl)
theorem dX7_goes_41 : decode cX7_goes 41 = .ok (.invokevirtual 68, 3) := dk_182 0 68 (dk_at dksX7_goes_1 19 rfl rfl)
theorem dX7_goes_44 : decode cX7_goes 44 = .ok (.iconst 0, 1) := dk_3 (dk_at dksX7_goes_1 22 rfl rfl)
theorem dX7_goes_45 : decode cX7_goes 45 = .ok (.istore 5, 2) := dk_54 5 (dk_at dksX7_goes_2 0 rfl rfl)
theorem dX7_goes_47 : decode cX7_goes 47 = .ok (.iload 5, 2) := dk_21 5 (dk_at dksX7_goes_2 2 rfl rfl)
theorem dX7_goes_49 : decode cX7_goes 49 = .ok (.sipush 15488, 3) := dk_17 60 128 (dk_at dksX7_goes_2 4 rfl rfl)
theorem dX7_goes_52 : decode cX7_goes 52 = .ok (.if_icmp .ge 95, 3) := dk_162 0 95 (dk_at dksX7_goes_2 7 rfl rfl)
theorem dX7_goes_55 : decode cX7_goes 55 = .ok (.aload_n 0, 1) := dk_42 (dk_at dksX7_goes_2 10 rfl rfl)
theorem dX7_goes_56 : decode cX7_goes 56 = .ok (.getfield 3, 3) := dk_180 0 3 (dk_at dksX7_goes_2 11 rfl rfl)
theorem dX7_goes_59 : decode cX7_goes 59 = .ok (.getfield 71, 3) := dk_180 0 71 (dk_at dksX7_goes_2 14 rfl rfl)
theorem dX7_goes_62 : decode cX7_goes 62 = .ok (.iload 5, 2) := dk_21 5 (dk_at dksX7_goes_2 17 rfl rfl)
theorem dX7_goes_64 : decode cX7_goes 64 = .ok (.baload, 1) := dk_51 (dk_at dksX7_goes_2 19 rfl rfl)
theorem dX7_goes_65 : decode cX7_goes 65 = .ok (.ifCond .ne 6, 3) := dk_154 0 6 (dk_at dksX7_goes_2 20 rfl rfl)
theorem dX7_goes_68 : decode cX7_goes 68 = .ok (.goto 73, 3) := dk_167 0 73 (dk_at dksX7_goes_3 0 rfl rfl)
theorem dX7_goes_71 : decode cX7_goes 71 = .ok (.aload_n 0, 1) := dk_42 (dk_at dksX7_goes_3 3 rfl rfl)
theorem dX7_goes_72 : decode cX7_goes 72 = .ok (.iload 5, 2) := dk_21 5 (dk_at dksX7_goes_3 4 rfl rfl)
theorem dX7_goes_74 : decode cX7_goes 74 = .ok (.invokevirtual 75, 3) := dk_182 0 75 (dk_at dksX7_goes_3 6 rfl rfl)
theorem dX7_goes_77 : decode cX7_goes 77 = .ok (.istore 6, 2) := dk_54 6 (dk_at dksX7_goes_3 9 rfl rfl)
theorem dX7_goes_79 : decode cX7_goes 79 = .ok (.aload_n 0, 1) := dk_42 (dk_at dksX7_goes_3 11 rfl rfl)
theorem dX7_goes_80 : decode cX7_goes 80 = .ok (.getfield 3, 3) := dk_180 0 3 (dk_at dksX7_goes_3 12 rfl rfl)
theorem dX7_goes_83 : decode cX7_goes 83 = .ok (.getfield 22, 3) := dk_180 0 22 (dk_at dksX7_goes_3 15 rfl rfl)
theorem dX7_goes_86 : decode cX7_goes 86 = .ok (.aload_n 0, 1) := dk_42 (dk_at dksX7_goes_3 18 rfl rfl)
theorem dX7_goes_87 : decode cX7_goes 87 = .ok (.getfield 3, 3) := dk_180 0 3 (dk_at dksX7_goes_3 19 rfl rfl)
theorem dX7_goes_90 : decode cX7_goes 90 = .ok (.getfield 78, 3) := dk_180 0 78 (dk_at dksX7_goes_4 0 rfl rfl)
theorem dX7_goes_93 : decode cX7_goes 93 = .ok (.iconst 2, 1) := dk_5 (dk_at dksX7_goes_4 3 rfl rfl)
theorem dX7_goes_94 : decode cX7_goes 94 = .ok (.iload 5, 2) := dk_21 5 (dk_at dksX7_goes_4 4 rfl rfl)
theorem dX7_goes_96 : decode cX7_goes 96 = .ok (.imul, 1) := dk_104 (dk_at dksX7_goes_4 6 rfl rfl)
theorem dX7_goes_97 : decode cX7_goes 97 = .ok (.iload_n 1, 1) := dk_27 (dk_at dksX7_goes_4 7 rfl rfl)
theorem dX7_goes_98 : decode cX7_goes 98 = .ok (.iadd, 1) := dk_96 (dk_at dksX7_goes_4 8 rfl rfl)
theorem dX7_goes_99 : decode cX7_goes 99 = .ok (.iaload, 1) := dk_46 (dk_at dksX7_goes_4 9 rfl rfl)
theorem dX7_goes_100 : decode cX7_goes 100 = .ok (.invokevirtual 81, 3) := dk_182 0 81 (dk_at dksX7_goes_4 10 rfl rfl)
theorem dX7_goes_103 : decode cX7_goes 103 = .ok (.istore 7, 2) := dk_54 7 (dk_at dksX7_goes_4 13 rfl rfl)
theorem dX7_goes_105 : decode cX7_goes 105 = .ok (.aload_n 0, 1) := dk_42 (dk_at dksX7_goes_4 15 rfl rfl)
theorem dX7_goes_106 : decode cX7_goes 106 = .ok (.getfield 19, 3) := dk_180 0 19 (dk_at dksX7_goes_4 16 rfl rfl)
theorem dX7_goes_109 : decode cX7_goes 109 = .ok (.iload 5, 2) := dk_21 5 (dk_at dksX7_goes_4 19 rfl rfl)
theorem dX7_goes_111 : decode cX7_goes 111 = .ok (.iload 6, 2) := dk_21 6 (dk_at dksX7_goes_4 21 rfl rfl)
theorem dX7_goes_113 : decode cX7_goes 113 = .ok (.iload 7, 2) := dk_21 7 (dk_at dksX7_goes_5 0 rfl rfl)
theorem dX7_goes_115 : decode cX7_goes 115 = .ok (.invokestatic 82, 3) := dk_184 0 82 (dk_at dksX7_goes_5 2 rfl rfl)
theorem dX7_goes_118 : decode cX7_goes 118 = .ok (.iastore, 1) := dk_79 (dk_at dksX7_goes_5 5 rfl rfl)
theorem dX7_goes_119 : decode cX7_goes 119 = .ok (.iload 5, 2) := dk_21 5 (dk_at dksX7_goes_5 6 rfl rfl)
theorem dX7_goes_121 : decode cX7_goes 121 = .ok (.iload_n 3, 1) := dk_29 (dk_at dksX7_goes_5 8 rfl rfl)
theorem dX7_goes_122 : decode cX7_goes 122 = .ok (.if_icmp .ne 19, 3) := dk_160 0 19 (dk_at dksX7_goes_5 9 rfl rfl)
theorem dX7_goes_125 : decode cX7_goes 125 = .ok (.aload_n 0, 1) := dk_42 (dk_at dksX7_goes_5 12 rfl rfl)
theorem dX7_goes_126 : decode cX7_goes 126 = .ok (.iload 7, 2) := dk_21 7 (dk_at dksX7_goes_5 13 rfl rfl)
theorem dX7_goes_128 : decode cX7_goes 128 = .ok (.iload 6, 2) := dk_21 6 (dk_at dksX7_goes_5 15 rfl rfl)
theorem dX7_goes_130 : decode cX7_goes 130 = .ok (.if_icmp .le 7, 3) := dk_164 0 7 (dk_at dksX7_goes_5 17 rfl rfl)
theorem dX7_goes_133 : decode cX7_goes 133 = .ok (.iconst 1, 1) := dk_4 (dk_at dksX7_goes_5 20 rfl rfl)
theorem dX7_goes_134 : decode cX7_goes 134 = .ok (.goto 4, 3) := dk_167 0 4 (dk_at dksX7_goes_5 21 rfl rfl)
theorem dX7_goes_137 : decode cX7_goes 137 = .ok (.iconst 0, 1) := dk_3 (dk_at dksX7_goes_6 0 rfl rfl)
theorem dX7_goes_138 : decode cX7_goes 138 = .ok (.putfield 64, 3) := dk_181 0 64 (dk_at dksX7_goes_6 1 rfl rfl)
theorem dX7_goes_141 : decode cX7_goes 141 = .ok (.iinc 5 1, 3) := dk_132 5 1 (dk_at dksX7_goes_6 4 rfl rfl)
theorem dX7_goes_144 : decode cX7_goes 144 = .ok (.goto (-97), 3) := dk_167 255 159 (dk_at dksX7_goes_6 7 rfl rfl)
theorem dX7_goes_147 : decode cX7_goes 147 = .ok (.aload_n 0, 1) := dk_42 (dk_at dksX7_goes_6 10 rfl rfl)
theorem dX7_goes_148 : decode cX7_goes 148 = .ok (.getfield 15, 3) := dk_180 0 15 (dk_at dksX7_goes_6 11 rfl rfl)
theorem dX7_goes_151 : decode cX7_goes 151 = .ok (.astore 5, 2) := dk_58 5 (dk_at dksX7_goes_6 14 rfl rfl)
theorem dX7_goes_153 : decode cX7_goes 153 = .ok (.aload_n 0, 1) := dk_42 (dk_at dksX7_goes_6 16 rfl rfl)
theorem dX7_goes_154 : decode cX7_goes 154 = .ok (.aload_n 0, 1) := dk_42 (dk_at dksX7_goes_6 17 rfl rfl)
theorem dX7_goes_155 : decode cX7_goes 155 = .ok (.getfield 19, 3) := dk_180 0 19 (dk_at dksX7_goes_6 18 rfl rfl)
theorem dX7_goes_158 : decode cX7_goes 158 = .ok (.putfield 15, 3) := dk_181 0 15 (dk_at dksX7_goes_6 21 rfl rfl)
theorem dX7_goes_161 : decode cX7_goes 161 = .ok (.aload_n 0, 1) := dk_42 (dk_at dksX7_goes_7 0 rfl rfl)
theorem dX7_goes_162 : decode cX7_goes 162 = .ok (.aload 5, 2) := dk_25 5 (dk_at dksX7_goes_7 1 rfl rfl)
theorem dX7_goes_164 : decode cX7_goes 164 = .ok (.putfield 19, 3) := dk_181 0 19 (dk_at dksX7_goes_7 3 rfl rfl)
theorem dX7_goes_167 : decode cX7_goes 167 = .ok (.iinc 4 1, 3) := dk_132 4 1 (dk_at dksX7_goes_7 6 rfl rfl)
theorem dX7_goes_170 : decode cX7_goes 170 = .ok (.goto (-142), 3) := dk_167 255 114 (dk_at dksX7_goes_7 9 rfl rfl)
theorem dX7_goes_173 : decode cX7_goes 173 = .ok (.aload_n 0, 1) := dk_42 (dk_at dksX7_goes_7 12 rfl rfl)
theorem dX7_goes_174 : decode cX7_goes 174 = .ok (.getfield 15, 3) := dk_180 0 15 (dk_at dksX7_goes_7 13 rfl rfl)
theorem dX7_goes_177 : decode cX7_goes 177 = .ok (.iload_n 3, 1) := dk_29 (dk_at dksX7_goes_7 16 rfl rfl)
theorem dX7_goes_178 : decode cX7_goes 178 = .ok (.iaload, 1) := dk_46 (dk_at dksX7_goes_7 17 rfl rfl)
theorem dX7_goes_179 : decode cX7_goes 179 = .ok (.ireturn, 1) := dk_172 (dk_at dksX7_goes_7 18 rfl rfl)
abbrev cX7_by : ByteArray := prog_14_method_3_code
def yX7_by : MethodName := ⟨RX7, "by", "(I)I"⟩
def dkwX7_by_3 : List UInt8 := [167, 255, 210, 33, 20, 0, 52, 109, 136, 172]
abbrev dktX7_by_3 : List UInt8 := dkwX7_by_3 ++ []
def dkwX7_by_2 : List UInt8 := [180, 0, 3, 180, 0, 45, 16, 12, 27, 104, 21, 5, 96, 46, 182, 0, 48, 133, 105, 97, 66, 132, 5, 1]
abbrev dktX7_by_2 : List UInt8 := dkwX7_by_2 ++ dktX7_by_3
def dkwX7_by_1 : List UInt8 := [54, 5, 21, 5, 16, 12, 162, 0, 45, 44, 21, 5, 46, 158, 0, 32, 33, 44, 21, 5, 46, 133, 42, 42]
abbrev dktX7_by_1 : List UInt8 := dkwX7_by_1 ++ dktX7_by_2
def dkwX7_by_0 : List UInt8 := [42, 180, 0, 3, 180, 0, 31, 180, 0, 35, 42, 180, 0, 3, 180, 0, 41, 27, 51, 50, 77, 9, 66, 3]
abbrev dktX7_by_0 : List UInt8 := dkwX7_by_0 ++ dktX7_by_1
theorem dksX7_by_0 : cX7_by.data.toList.drop 0 = dktX7_by_0 := by decide +kernel
theorem dksX7_by_1 : cX7_by.data.toList.drop 24 = dktX7_by_1 := dk_seg dksX7_by_0 24 rfl rfl
theorem dksX7_by_2 : cX7_by.data.toList.drop 48 = dktX7_by_2 := dk_seg dksX7_by_1 24 rfl rfl
theorem dksX7_by_3 : cX7_by.data.toList.drop 72 = dktX7_by_3 := dk_seg dksX7_by_2 24 rfl rfl
theorem dX7_by_0 : decode cX7_by 0 = .ok (.aload_n 0, 1) := dk_42 (dk_at dksX7_by_0 0 rfl rfl)
theorem dX7_by_1 : decode cX7_by 1 = .ok (.getfield 3, 3) := dk_180 0 3 (dk_at dksX7_by_0 1 rfl rfl)
theorem dX7_by_4 : decode cX7_by 4 = .ok (.getfield 31, 3) := dk_180 0 31 (dk_at dksX7_by_0 4 rfl rfl)
theorem dX7_by_7 : decode cX7_by 7 = .ok (.getfield 35, 3) := dk_180 0 35 (dk_at dksX7_by_0 7 rfl rfl)
theorem dX7_by_10 : decode cX7_by 10 = .ok (.aload_n 0, 1) := dk_42 (dk_at dksX7_by_0 10 rfl rfl)
theorem dX7_by_11 : decode cX7_by 11 = .ok (.getfield 3, 3) := dk_180 0 3 (dk_at dksX7_by_0 11 rfl rfl)
theorem dX7_by_14 : decode cX7_by 14 = .ok (.getfield 41, 3) := dk_180 0 41 (dk_at dksX7_by_0 14 rfl rfl)
theorem dX7_by_17 : decode cX7_by 17 = .ok (.iload_n 1, 1) := dk_27 (dk_at dksX7_by_0 17 rfl rfl)
theorem dX7_by_18 : decode cX7_by 18 = .ok (.baload, 1) := dk_51 (dk_at dksX7_by_0 18 rfl rfl)
theorem dX7_by_19 : decode cX7_by 19 = .ok (.aaload, 1) := dk_50 (dk_at dksX7_by_0 19 rfl rfl)
theorem dX7_by_20 : decode cX7_by 20 = .ok (.astore_n 2, 1) := dk_77 (dk_at dksX7_by_0 20 rfl rfl)
theorem dX7_by_21 : decode cX7_by 21 = .ok (.lconst 0, 1) := dk_9 (dk_at dksX7_by_0 21 rfl rfl)
theorem dX7_by_22 : decode cX7_by 22 = .ok (.lstore_n 3, 1) := dk_66 (dk_at dksX7_by_0 22 rfl rfl)
theorem dX7_by_23 : decode cX7_by 23 = .ok (.iconst 0, 1) := dk_3 (dk_at dksX7_by_0 23 rfl rfl)
theorem dX7_by_24 : decode cX7_by 24 = .ok (.istore 5, 2) := dk_54 5 (dk_at dksX7_by_1 0 rfl rfl)
theorem dX7_by_26 : decode cX7_by 26 = .ok (.iload 5, 2) := dk_21 5 (dk_at dksX7_by_1 2 rfl rfl)
theorem dX7_by_28 : decode cX7_by 28 = .ok (.bipush 12, 2) := dk_16 12 (dk_at dksX7_by_1 4 rfl rfl)
theorem dX7_by_30 : decode cX7_by 30 = .ok (.if_icmp .ge 45, 3) := dk_162 0 45 (dk_at dksX7_by_1 6 rfl rfl)
theorem dX7_by_33 : decode cX7_by 33 = .ok (.aload_n 2, 1) := dk_44 (dk_at dksX7_by_1 9 rfl rfl)
theorem dX7_by_34 : decode cX7_by 34 = .ok (.iload 5, 2) := dk_21 5 (dk_at dksX7_by_1 10 rfl rfl)
theorem dX7_by_36 : decode cX7_by 36 = .ok (.iaload, 1) := dk_46 (dk_at dksX7_by_1 12 rfl rfl)
theorem dX7_by_37 : decode cX7_by 37 = .ok (.ifCond .le 32, 3) := dk_158 0 32 (dk_at dksX7_by_1 13 rfl rfl)
theorem dX7_by_40 : decode cX7_by 40 = .ok (.lload_n 3, 1) := dk_33 (dk_at dksX7_by_1 16 rfl rfl)
theorem dX7_by_41 : decode cX7_by 41 = .ok (.aload_n 2, 1) := dk_44 (dk_at dksX7_by_1 17 rfl rfl)
theorem dX7_by_42 : decode cX7_by 42 = .ok (.iload 5, 2) := dk_21 5 (dk_at dksX7_by_1 18 rfl rfl)
theorem dX7_by_44 : decode cX7_by 44 = .ok (.iaload, 1) := dk_46 (dk_at dksX7_by_1 20 rfl rfl)
theorem dX7_by_45 : decode cX7_by 45 = .ok (.i2l, 1) := dk_133 (dk_at dksX7_by_1 21 rfl rfl)
theorem dX7_by_46 : decode cX7_by 46 = .ok (.aload_n 0, 1) := dk_42 (dk_at dksX7_by_1 22 rfl rfl)
theorem dX7_by_47 : decode cX7_by 47 = .ok (.aload_n 0, 1) := dk_42 (dk_at dksX7_by_1 23 rfl rfl)
theorem dX7_by_48 : decode cX7_by 48 = .ok (.getfield 3, 3) := dk_180 0 3 (dk_at dksX7_by_2 0 rfl rfl)
theorem dX7_by_51 : decode cX7_by 51 = .ok (.getfield 45, 3) := dk_180 0 45 (dk_at dksX7_by_2 3 rfl rfl)
theorem dX7_by_54 : decode cX7_by 54 = .ok (.bipush 12, 2) := dk_16 12 (dk_at dksX7_by_2 6 rfl rfl)
theorem dX7_by_56 : decode cX7_by 56 = .ok (.iload_n 1, 1) := dk_27 (dk_at dksX7_by_2 8 rfl rfl)
theorem dX7_by_57 : decode cX7_by 57 = .ok (.imul, 1) := dk_104 (dk_at dksX7_by_2 9 rfl rfl)
theorem dX7_by_58 : decode cX7_by 58 = .ok (.iload 5, 2) := dk_21 5 (dk_at dksX7_by_2 10 rfl rfl)
theorem dX7_by_60 : decode cX7_by 60 = .ok (.iadd, 1) := dk_96 (dk_at dksX7_by_2 12 rfl rfl)
theorem dX7_by_61 : decode cX7_by 61 = .ok (.iaload, 1) := dk_46 (dk_at dksX7_by_2 13 rfl rfl)
theorem dX7_by_62 : decode cX7_by 62 = .ok (.invokevirtual 48, 3) := dk_182 0 48 (dk_at dksX7_by_2 14 rfl rfl)
theorem dX7_by_65 : decode cX7_by 65 = .ok (.i2l, 1) := dk_133 (dk_at dksX7_by_2 17 rfl rfl)
theorem dX7_by_66 : decode cX7_by 66 = .ok (.lmul, 1) := dk_105 (dk_at dksX7_by_2 18 rfl rfl)
theorem dX7_by_67 : decode cX7_by 67 = .ok (.ladd, 1) := dk_97 (dk_at dksX7_by_2 19 rfl rfl)
theorem dX7_by_68 : decode cX7_by 68 = .ok (.lstore_n 3, 1) := dk_66 (dk_at dksX7_by_2 20 rfl rfl)
theorem dX7_by_69 : decode cX7_by 69 = .ok (.iinc 5 1, 3) := dk_132 5 1 (dk_at dksX7_by_2 21 rfl rfl)
theorem dX7_by_72 : decode cX7_by 72 = .ok (.goto (-46), 3) := dk_167 255 210 (dk_at dksX7_by_3 0 rfl rfl)
theorem dX7_by_75 : decode cX7_by 75 = .ok (.lload_n 3, 1) := dk_33 (dk_at dksX7_by_3 3 rfl rfl)
theorem dX7_by_76 : decode cX7_by 76 = .ok (.ldc2_w 52, 3) := dk_20 0 52 (dk_at dksX7_by_3 4 rfl rfl)
theorem dX7_by_79 : decode cX7_by 79 = .ok (.ldiv, 1) := dk_109 (dk_at dksX7_by_3 7 rfl rfl)
theorem dX7_by_80 : decode cX7_by 80 = .ok (.l2i, 1) := dk_136 (dk_at dksX7_by_3 8 rfl rfl)
theorem dX7_by_81 : decode cX7_by 81 = .ok (.ireturn, 1) := dk_172 (dk_at dksX7_by_3 9 rfl rfl)
abbrev cX7_at : ByteArray := prog_14_method_2_code
def yX7_at : MethodName := ⟨RX7, "at", "(I)I"⟩
def dkwX7_at_1 : List UInt8 := [180, 0, 15, 27, 46, 172]
abbrev dktX7_at_1 : List UInt8 := dkwX7_at_1 ++ []
def dkwX7_at_0 : List UInt8 := [27, 156, 0, 20, 42, 180, 0, 3, 180, 0, 22, 180, 0, 26, 2, 27, 100, 46, 167, 0, 9, 42]
abbrev dktX7_at_0 : List UInt8 := dkwX7_at_0 ++ dktX7_at_1
theorem dksX7_at_0 : cX7_at.data.toList.drop 0 = dktX7_at_0 := by decide +kernel
theorem dksX7_at_1 : cX7_at.data.toList.drop 22 = dktX7_at_1 := dk_seg dksX7_at_0 22 rfl rfl
theorem dX7_at_0 : decode cX7_at 0 = .ok (.iload_n 1, 1) := dk_27 (dk_at dksX7_at_0 0 rfl rfl)
theorem dX7_at_1 : decode cX7_at 1 = .ok (.ifCond .ge 20, 3) := dk_156 0 20 (dk_at dksX7_at_0 1 rfl rfl)
theorem dX7_at_4 : decode cX7_at 4 = .ok (.aload_n 0, 1) := dk_42 (dk_at dksX7_at_0 4 rfl rfl)
theorem dX7_at_5 : decode cX7_at 5 = .ok (.getfield 3, 3) := dk_180 0 3 (dk_at dksX7_at_0 5 rfl rfl)
theorem dX7_at_8 : decode cX7_at 8 = .ok (.getfield 22, 3) := dk_180 0 22 (dk_at dksX7_at_0 8 rfl rfl)
theorem dX7_at_11 : decode cX7_at 11 = .ok (.getfield 26, 3) := dk_180 0 26 (dk_at dksX7_at_0 11 rfl rfl)
theorem dX7_at_14 : decode cX7_at 14 = .ok (.iconst (-1), 1) := dk_2 (dk_at dksX7_at_0 14 rfl rfl)
theorem dX7_at_15 : decode cX7_at 15 = .ok (.iload_n 1, 1) := dk_27 (dk_at dksX7_at_0 15 rfl rfl)
theorem dX7_at_16 : decode cX7_at 16 = .ok (.isub, 1) := dk_100 (dk_at dksX7_at_0 16 rfl rfl)
theorem dX7_at_17 : decode cX7_at 17 = .ok (.iaload, 1) := dk_46 (dk_at dksX7_at_0 17 rfl rfl)
theorem dX7_at_18 : decode cX7_at 18 = .ok (.goto 9, 3) := dk_167 0 9 (dk_at dksX7_at_0 18 rfl rfl)
theorem dX7_at_21 : decode cX7_at 21 = .ok (.aload_n 0, 1) := dk_42 (dk_at dksX7_at_0 21 rfl rfl)
theorem dX7_at_22 : decode cX7_at 22 = .ok (.getfield 15, 3) := dk_180 0 15 (dk_at dksX7_at_1 0 rfl rfl)
theorem dX7_at_25 : decode cX7_at 25 = .ok (.iload_n 1, 1) := dk_27 (dk_at dksX7_at_1 3 rfl rfl)
theorem dX7_at_26 : decode cX7_at 26 = .ok (.iaload, 1) := dk_46 (dk_at dksX7_at_1 4 rfl rfl)
theorem dX7_at_27 : decode cX7_at 27 = .ok (.ireturn, 1) := dk_172 (dk_at dksX7_at_1 5 rfl rfl)
abbrev cX8_init : ByteArray := prog_2_method_1_code
def yX8_init : MethodName := ⟨RX8, "<init>", "(LChaseCourt;)V"⟩
def dkwX8_init_2 : List UInt8 := [17, 16, 0, 188, 11, 181, 0, 28, 42, 17, 16, 0, 188, 11, 181, 0, 32, 177]
abbrev dktX8_init_2 : List UInt8 := dkwX8_init_2 ++ []
def dkwX8_init_1 : List UInt8 := [181, 0, 19, 42, 17, 16, 0, 188, 10, 181, 0, 22, 42, 17, 16, 0, 188, 10, 181, 0, 25, 42]
abbrev dktX8_init_1 : List UInt8 := dkwX8_init_1 ++ dktX8_init_2
def dkwX8_init_0 : List UInt8 := [42, 43, 181, 0, 3, 42, 183, 0, 9, 42, 17, 16, 0, 188, 10, 181, 0, 15, 42, 17, 16, 0, 188, 10]
abbrev dktX8_init_0 : List UInt8 := dkwX8_init_0 ++ dktX8_init_1
theorem dksX8_init_0 : cX8_init.data.toList.drop 0 = dktX8_init_0 := by decide +kernel
theorem dksX8_init_1 : cX8_init.data.toList.drop 24 = dktX8_init_1 := dk_seg dksX8_init_0 24 rfl rfl
theorem dksX8_init_2 : cX8_init.data.toList.drop 46 = dktX8_init_2 := dk_seg dksX8_init_1 22 rfl rfl
theorem dX8_init_0 : decode cX8_init 0 = .ok (.aload_n 0, 1) := dk_42 (dk_at dksX8_init_0 0 rfl rfl)
theorem dX8_init_1 : decode cX8_init 1 = .ok (.aload_n 1, 1) := dk_43 (dk_at dksX8_init_0 1 rfl rfl)
theorem dX8_init_2 : decode cX8_init 2 = .ok (.putfield 3, 3) := dk_181 0 3 (dk_at dksX8_init_0 2 rfl rfl)
theorem dX8_init_5 : decode cX8_init 5 = .ok (.aload_n 0, 1) := dk_42 (dk_at dksX8_init_0 5 rfl rfl)
theorem dX8_init_6 : decode cX8_init 6 = .ok (.invokespecial 9, 3) := dk_183 0 9 (dk_at dksX8_init_0 6 rfl rfl)
theorem dX8_init_9 : decode cX8_init 9 = .ok (.aload_n 0, 1) := dk_42 (dk_at dksX8_init_0 9 rfl rfl)
theorem dX8_init_10 : decode cX8_init 10 = .ok (.sipush 4096, 3) := dk_17 16 0 (dk_at dksX8_init_0 10 rfl rfl)
theorem dX8_init_13 : decode cX8_init 13 = .ok (.newarray .int, 2) := dk_188_10 (dk_at dksX8_init_0 13 rfl rfl)
theorem dX8_init_15 : decode cX8_init 15 = .ok (.putfield 15, 3) := dk_181 0 15 (dk_at dksX8_init_0 15 rfl rfl)
theorem dX8_init_18 : decode cX8_init 18 = .ok (.aload_n 0, 1) := dk_42 (dk_at dksX8_init_0 18 rfl rfl)
theorem dX8_init_19 : decode cX8_init 19 = .ok (.sipush 4096, 3) := dk_17 16 0 (dk_at dksX8_init_0 19 rfl rfl)
theorem dX8_init_22 : decode cX8_init 22 = .ok (.newarray .int, 2) := dk_188_10 (dk_at dksX8_init_0 22 rfl rfl)
theorem dX8_init_24 : decode cX8_init 24 = .ok (.putfield 19, 3) := dk_181 0 19 (dk_at dksX8_init_1 0 rfl rfl)
theorem dX8_init_27 : decode cX8_init 27 = .ok (.aload_n 0, 1) := dk_42 (dk_at dksX8_init_1 3 rfl rfl)
theorem dX8_init_28 : decode cX8_init 28 = .ok (.sipush 4096, 3) := dk_17 16 0 (dk_at dksX8_init_1 4 rfl rfl)
theorem dX8_init_31 : decode cX8_init 31 = .ok (.newarray .int, 2) := dk_188_10 (dk_at dksX8_init_1 7 rfl rfl)
theorem dX8_init_33 : decode cX8_init 33 = .ok (.putfield 22, 3) := dk_181 0 22 (dk_at dksX8_init_1 9 rfl rfl)
theorem dX8_init_36 : decode cX8_init 36 = .ok (.aload_n 0, 1) := dk_42 (dk_at dksX8_init_1 12 rfl rfl)
theorem dX8_init_37 : decode cX8_init 37 = .ok (.sipush 4096, 3) := dk_17 16 0 (dk_at dksX8_init_1 13 rfl rfl)
theorem dX8_init_40 : decode cX8_init 40 = .ok (.newarray .int, 2) := dk_188_10 (dk_at dksX8_init_1 16 rfl rfl)
theorem dX8_init_42 : decode cX8_init 42 = .ok (.putfield 25, 3) := dk_181 0 25 (dk_at dksX8_init_1 18 rfl rfl)
theorem dX8_init_45 : decode cX8_init 45 = .ok (.aload_n 0, 1) := dk_42 (dk_at dksX8_init_1 21 rfl rfl)
theorem dX8_init_46 : decode cX8_init 46 = .ok (.sipush 4096, 3) := dk_17 16 0 (dk_at dksX8_init_2 0 rfl rfl)
theorem dX8_init_49 : decode cX8_init 49 = .ok (.newarray .long, 2) := dk_188_11 (dk_at dksX8_init_2 3 rfl rfl)
theorem dX8_init_51 : decode cX8_init 51 = .ok (.putfield 28, 3) := dk_181 0 28 (dk_at dksX8_init_2 5 rfl rfl)
theorem dX8_init_54 : decode cX8_init 54 = .ok (.aload_n 0, 1) := dk_42 (dk_at dksX8_init_2 8 rfl rfl)
theorem dX8_init_55 : decode cX8_init 55 = .ok (.sipush 4096, 3) := dk_17 16 0 (dk_at dksX8_init_2 9 rfl rfl)
theorem dX8_init_58 : decode cX8_init 58 = .ok (.newarray .long, 2) := dk_188_11 (dk_at dksX8_init_2 12 rfl rfl)
theorem dX8_init_60 : decode cX8_init 60 = .ok (.putfield 32, 3) := dk_181 0 32 (dk_at dksX8_init_2 14 rfl rfl)
theorem dX8_init_63 : decode cX8_init 63 = .ok (.return_, 1) := dk_177 (dk_at dksX8_init_2 17 rfl rfl)
abbrev cX8_begins : ByteArray := prog_2_method_5_code
def yX8_begins : MethodName := ⟨RX8, "begins", "(LChaseCourt$Score;)V"⟩
def dkwX8_begins_1 : List UInt8 := [180, 0, 28, 3, 10, 80, 177]
abbrev dktX8_begins_1 : List UInt8 := dkwX8_begins_1 ++ []
def dkwX8_begins_0 : List UInt8 := [42, 4, 181, 0, 52, 42, 180, 0, 15, 3, 42, 43, 182, 0, 55, 79, 42, 180, 0, 19, 3, 3, 79, 42]
abbrev dktX8_begins_0 : List UInt8 := dkwX8_begins_0 ++ dktX8_begins_1
theorem dksX8_begins_0 : cX8_begins.data.toList.drop 0 = dktX8_begins_0 := by decide +kernel
theorem dksX8_begins_1 : cX8_begins.data.toList.drop 24 = dktX8_begins_1 := dk_seg dksX8_begins_0 24 rfl rfl
theorem dX8_begins_0 : decode cX8_begins 0 = .ok (.aload_n 0, 1) := dk_42 (dk_at dksX8_begins_0 0 rfl rfl)
theorem dX8_begins_1 : decode cX8_begins 1 = .ok (.iconst 1, 1) := dk_4 (dk_at dksX8_begins_0 1 rfl rfl)
theorem dX8_begins_2 : decode cX8_begins 2 = .ok (.putfield 52, 3) := dk_181 0 52 (dk_at dksX8_begins_0 2 rfl rfl)
theorem dX8_begins_5 : decode cX8_begins 5 = .ok (.aload_n 0, 1) := dk_42 (dk_at dksX8_begins_0 5 rfl rfl)
theorem dX8_begins_6 : decode cX8_begins 6 = .ok (.getfield 15, 3) := dk_180 0 15 (dk_at dksX8_begins_0 6 rfl rfl)
theorem dX8_begins_9 : decode cX8_begins 9 = .ok (.iconst 0, 1) := dk_3 (dk_at dksX8_begins_0 9 rfl rfl)
theorem dX8_begins_10 : decode cX8_begins 10 = .ok (.aload_n 0, 1) := dk_42 (dk_at dksX8_begins_0 10 rfl rfl)
theorem dX8_begins_11 : decode cX8_begins 11 = .ok (.aload_n 1, 1) := dk_43 (dk_at dksX8_begins_0 11 rfl rfl)
theorem dX8_begins_12 : decode cX8_begins 12 = .ok (.invokevirtual 55, 3) := dk_182 0 55 (dk_at dksX8_begins_0 12 rfl rfl)
theorem dX8_begins_15 : decode cX8_begins 15 = .ok (.iastore, 1) := dk_79 (dk_at dksX8_begins_0 15 rfl rfl)
theorem dX8_begins_16 : decode cX8_begins 16 = .ok (.aload_n 0, 1) := dk_42 (dk_at dksX8_begins_0 16 rfl rfl)
theorem dX8_begins_17 : decode cX8_begins 17 = .ok (.getfield 19, 3) := dk_180 0 19 (dk_at dksX8_begins_0 17 rfl rfl)
theorem dX8_begins_20 : decode cX8_begins 20 = .ok (.iconst 0, 1) := dk_3 (dk_at dksX8_begins_0 20 rfl rfl)
theorem dX8_begins_21 : decode cX8_begins 21 = .ok (.iconst 0, 1) := dk_3 (dk_at dksX8_begins_0 21 rfl rfl)
theorem dX8_begins_22 : decode cX8_begins 22 = .ok (.iastore, 1) := dk_79 (dk_at dksX8_begins_0 22 rfl rfl)
theorem dX8_begins_23 : decode cX8_begins 23 = .ok (.aload_n 0, 1) := dk_42 (dk_at dksX8_begins_0 23 rfl rfl)
theorem dX8_begins_24 : decode cX8_begins 24 = .ok (.getfield 28, 3) := dk_180 0 28 (dk_at dksX8_begins_1 0 rfl rfl)
theorem dX8_begins_27 : decode cX8_begins 27 = .ok (.iconst 0, 1) := dk_3 (dk_at dksX8_begins_1 3 rfl rfl)
theorem dX8_begins_28 : decode cX8_begins 28 = .ok (.lconst 1, 1) := dk_10 (dk_at dksX8_begins_1 4 rfl rfl)
theorem dX8_begins_29 : decode cX8_begins 29 = .ok (.lastore, 1) := dk_80 (dk_at dksX8_begins_1 5 rfl rfl)
theorem dX8_begins_30 : decode cX8_begins 30 = .ok (.return_, 1) := dk_177 (dk_at dksX8_begins_1 6 rfl rfl)
abbrev cX8_key : ByteArray := prog_2_method_2_code
def yX8_key : MethodName := ⟨RX8, "key", "(LChaseCourt$Score;)I"⟩
def dkwX8_key_1 : List UInt8 := [172]
abbrev dktX8_key_1 : List UInt8 := dkwX8_key_1 ++ []
def dkwX8_key_0 : List UInt8 := [43, 182, 0, 35, 16, 16, 104, 43, 180, 0, 41, 3, 46, 96, 16, 16, 104, 43, 180, 0, 41, 4, 46, 96]
abbrev dktX8_key_0 : List UInt8 := dkwX8_key_0 ++ dktX8_key_1
theorem dksX8_key_0 : cX8_key.data.toList.drop 0 = dktX8_key_0 := by decide +kernel
theorem dksX8_key_1 : cX8_key.data.toList.drop 24 = dktX8_key_1 := dk_seg dksX8_key_0 24 rfl rfl
theorem dX8_key_0 : decode cX8_key 0 = .ok (.aload_n 1, 1) := dk_43 (dk_at dksX8_key_0 0 rfl rfl)
theorem dX8_key_1 : decode cX8_key 1 = .ok (.invokevirtual 35, 3) := dk_182 0 35 (dk_at dksX8_key_0 1 rfl rfl)
theorem dX8_key_4 : decode cX8_key 4 = .ok (.bipush 16, 2) := dk_16 16 (dk_at dksX8_key_0 4 rfl rfl)
theorem dX8_key_6 : decode cX8_key 6 = .ok (.imul, 1) := dk_104 (dk_at dksX8_key_0 6 rfl rfl)
theorem dX8_key_7 : decode cX8_key 7 = .ok (.aload_n 1, 1) := dk_43 (dk_at dksX8_key_0 7 rfl rfl)
theorem dX8_key_8 : decode cX8_key 8 = .ok (.getfield 41, 3) := dk_180 0 41 (dk_at dksX8_key_0 8 rfl rfl)
theorem dX8_key_11 : decode cX8_key 11 = .ok (.iconst 0, 1) := dk_3 (dk_at dksX8_key_0 11 rfl rfl)
theorem dX8_key_12 : decode cX8_key 12 = .ok (.iaload, 1) := dk_46 (dk_at dksX8_key_0 12 rfl rfl)
theorem dX8_key_13 : decode cX8_key 13 = .ok (.iadd, 1) := dk_96 (dk_at dksX8_key_0 13 rfl rfl)
theorem dX8_key_14 : decode cX8_key 14 = .ok (.bipush 16, 2) := dk_16 16 (dk_at dksX8_key_0 14 rfl rfl)
theorem dX8_key_16 : decode cX8_key 16 = .ok (.imul, 1) := dk_104 (dk_at dksX8_key_0 16 rfl rfl)
theorem dX8_key_17 : decode cX8_key 17 = .ok (.aload_n 1, 1) := dk_43 (dk_at dksX8_key_0 17 rfl rfl)
theorem dX8_key_18 : decode cX8_key 18 = .ok (.getfield 41, 3) := dk_180 0 41 (dk_at dksX8_key_0 18 rfl rfl)
theorem dX8_key_21 : decode cX8_key 21 = .ok (.iconst 1, 1) := dk_4 (dk_at dksX8_key_0 21 rfl rfl)
theorem dX8_key_22 : decode cX8_key 22 = .ok (.iaload, 1) := dk_46 (dk_at dksX8_key_0 22 rfl rfl)
theorem dX8_key_23 : decode cX8_key 23 = .ok (.iadd, 1) := dk_96 (dk_at dksX8_key_0 23 rfl rfl)
theorem dX8_key_24 : decode cX8_key 24 = .ok (.ireturn, 1) := dk_172 (dk_at dksX8_key_1 0 rfl rfl)
abbrev cX8_goes : ByteArray := prog_2_method_7_code
def yX8_goes : MethodName := ⟨RX8, "goes", "(II)V"⟩
def dkwX8_goes_9 : List UInt8 := [180, 0, 52, 184, 0, 96, 177]
abbrev dktX8_goes_9 : List UInt8 := dkwX8_goes_9 ++ []
def dkwX8_goes_8 : List UInt8 := [180, 0, 19, 3, 42, 180, 0, 52, 184, 0, 96, 42, 180, 0, 32, 3, 42, 180, 0, 28, 3, 42]
abbrev dktX8_goes_8 : List UInt8 := dkwX8_goes_8 ++ dktX8_goes_9
def dkwX8_goes_7 : List UInt8 := [180, 0, 22, 3, 42, 180, 0, 15, 3, 42, 180, 0, 52, 184, 0, 96, 42, 180, 0, 25, 3, 42]
abbrev dktX8_goes_7 : List UInt8 := dkwX8_goes_7 ++ dktX8_goes_8
def dkwX8_goes_6 : List UInt8 := [182, 0, 86, 132, 6, 1, 167, 255, 219, 132, 3, 1, 167, 255, 114, 42, 42, 180, 0, 48, 181, 0, 52, 42]
abbrev dktX8_goes_6 : List UInt8 := dkwX8_goes_6 ++ dktX8_goes_7
def dkwX8_goes_5 : List UInt8 := [29, 27, 21, 5, 21, 6, 96, 28, 21, 5, 100, 184, 0, 90, 21, 6, 160, 0, 7, 3, 167, 0, 4, 4]
abbrev dktX8_goes_5 : List UInt8 := dkwX8_goes_5 ++ dktX8_goes_6
def dkwX8_goes_4 : List UInt8 := [154, 0, 14, 42, 29, 27, 28, 3, 182, 0, 86, 167, 0, 46, 2, 54, 6, 21, 6, 5, 162, 0, 37, 42]
abbrev dktX8_goes_4 : List UInt8 := dkwX8_goes_4 ++ dktX8_goes_5
def dkwX8_goes_3 : List UInt8 := [167, 0, 4, 3, 54, 4, 42, 180, 0, 3, 180, 0, 59, 180, 0, 83, 3, 46, 54, 5, 21, 4]
abbrev dktX8_goes_3 : List UInt8 := dkwX8_goes_3 ++ dktX8_goes_4
def dkwX8_goes_2 : List UInt8 := [167, 0, 101, 42, 180, 0, 3, 180, 0, 59, 180, 0, 79, 153, 0, 12, 27, 5, 160, 0, 7, 4]
abbrev dktX8_goes_2 : List UInt8 := dkwX8_goes_2 ++ dktX8_goes_3
def dkwX8_goes_1 : List UInt8 := [180, 0, 3, 180, 0, 59, 182, 0, 63, 42, 180, 0, 3, 180, 0, 59, 182, 0, 75, 153, 0, 6]
abbrev dktX8_goes_1 : List UInt8 := dkwX8_goes_1 ++ dktX8_goes_2
def dkwX8_goes_0 : List UInt8 := [42, 3, 181, 0, 48, 3, 62, 29, 42, 180, 0, 52, 162, 0, 140, 42, 42, 180, 0, 15, 29, 46, 42]
abbrev dktX8_goes_0 : List UInt8 := dkwX8_goes_0 ++ dktX8_goes_1
theorem dksX8_goes_0 : cX8_goes.data.toList.drop 0 = dktX8_goes_0 := by decide +kernel
theorem dksX8_goes_1 : cX8_goes.data.toList.drop 23 = dktX8_goes_1 := dk_seg dksX8_goes_0 23 rfl rfl
theorem dksX8_goes_2 : cX8_goes.data.toList.drop 45 = dktX8_goes_2 := dk_seg dksX8_goes_1 22 rfl rfl
theorem dksX8_goes_3 : cX8_goes.data.toList.drop 67 = dktX8_goes_3 := dk_seg dksX8_goes_2 22 rfl rfl
theorem dksX8_goes_4 : cX8_goes.data.toList.drop 89 = dktX8_goes_4 := dk_seg dksX8_goes_3 22 rfl rfl
theorem dksX8_goes_5 : cX8_goes.data.toList.drop 113 = dktX8_goes_5 := dk_seg dksX8_goes_4 24 rfl rfl
theorem dksX8_goes_6 : cX8_goes.data.toList.drop 137 = dktX8_goes_6 := dk_seg dksX8_goes_5 24 rfl rfl
theorem dksX8_goes_7 : cX8_goes.data.toList.drop 161 = dktX8_goes_7 := dk_seg dksX8_goes_6 24 rfl rfl
theorem dksX8_goes_8 : cX8_goes.data.toList.drop 183 = dktX8_goes_8 := dk_seg dksX8_goes_7 22 rfl rfl
theorem dksX8_goes_9 : cX8_goes.data.toList.drop 205 = dktX8_goes_9 := dk_seg dksX8_goes_8 22 rfl rfl
theorem dX8_goes_0 : decode cX8_goes 0 = .ok (.aload_n 0, 1) := dk_42 (dk_at dksX8_goes_0 0 rfl rfl)
theorem dX8_goes_1 : decode cX8_goes 1 = .ok (.iconst 0, 1) := dk_3 (dk_at dksX8_goes_0 1 rfl rfl)
theorem dX8_goes_2 : decode cX8_goes 2 = .ok (.putfield 48, 3) := dk_181 0 48 (dk_at dksX8_goes_0 2 rfl rfl)
theorem dX8_goes_5 : decode cX8_goes 5 = .ok (.iconst 0, 1) := dk_3 (dk_at dksX8_goes_0 5 rfl rfl)
theorem dX8_goes_6 : decode cX8_goes 6 = .ok (.istore_n 3, 1) := dk_62 (dk_at dksX8_goes_0 6 rfl rfl)
theorem dX8_goes_7 : decode cX8_goes 7 = .ok (.iload_n 3, 1) := dk_29 (dk_at dksX8_goes_0 7 rfl rfl)
theorem dX8_goes_8 : decode cX8_goes 8 = .ok (.aload_n 0, 1) := dk_42 (dk_at dksX8_goes_0 8 rfl rfl)
theorem dX8_goes_9 : decode cX8_goes 9 = .ok (.getfield 52, 3) := dk_180 0 52 (dk_at dksX8_goes_0 9 rfl rfl)
theorem dX8_goes_12 : decode cX8_goes 12 = .ok (.if_icmp .ge 140, 3) := dk_162 0 140 (dk_at dksX8_goes_0 12 rfl rfl)
theorem dX8_goes_15 : decode cX8_goes 15 = .ok (.aload_n 0, 1) := dk_42 (dk_at dksX8_goes_0 15 rfl rfl)
theorem dX8_goes_16 : decode cX8_goes 16 = .ok (.aload_n 0, 1) := dk_42 (dk_at dksX8_goes_0 16 rfl rfl)
theorem dX8_goes_17 : decode cX8_goes 17 = .ok (.getfield 15, 3) := dk_180 0 15 (dk_at dksX8_goes_0 17 rfl rfl)
theorem dX8_goes_20 : decode cX8_goes 20 = .ok (.iload_n 3, 1) := dk_29 (dk_at dksX8_goes_0 20 rfl rfl)
theorem dX8_goes_21 : decode cX8_goes 21 = .ok (.iaload, 1) := dk_46 (dk_at dksX8_goes_0 21 rfl rfl)
theorem dX8_goes_22 : decode cX8_goes 22 = .ok (.aload_n 0, 1) := dk_42 (dk_at dksX8_goes_0 22 rfl rfl)
theorem dX8_goes_23 : decode cX8_goes 23 = .ok (.getfield 3, 3) := dk_180 0 3 (dk_at dksX8_goes_1 0 rfl rfl)
theorem dX8_goes_26 : decode cX8_goes 26 = .ok (.getfield 59, 3) := dk_180 0 59 (dk_at dksX8_goes_1 3 rfl rfl)
theorem dX8_goes_29 : decode cX8_goes 29 = .ok (.invokevirtual 63, 3) := dk_182 0 63 (dk_at dksX8_goes_1 6 rfl rfl)
theorem dX8_goes_32 : decode cX8_goes 32 = .ok (.aload_n 0, 1) := dk_42 (dk_at dksX8_goes_1 9 rfl rfl)
theorem dX8_goes_33 : decode cX8_goes 33 = .ok (.getfield 3, 3) := dk_180 0 3 (dk_at dksX8_goes_1 10 rfl rfl)
theorem dX8_goes_36 : decode cX8_goes 36 = .ok (.getfield 59, 3) := dk_180 0 59 (dk_at dksX8_goes_1 13 rfl rfl)
theorem dX8_goes_39 : decode cX8_goes 39 = .ok (.invokevirtual 75, 3) := dk_182 0 75 (dk_at dksX8_goes_1 16 rfl rfl)
theorem dX8_goes_42 : decode cX8_goes 42 = .ok (.ifCond .eq 6, 3) := dk_153 0 6 (dk_at dksX8_goes_1 19 rfl rfl)
theorem dX8_goes_45 : decode cX8_goes 45 = .ok (.goto 101, 3) := dk_167 0 101 (dk_at dksX8_goes_2 0 rfl rfl)
theorem dX8_goes_48 : decode cX8_goes 48 = .ok (.aload_n 0, 1) := dk_42 (dk_at dksX8_goes_2 3 rfl rfl)
theorem dX8_goes_49 : decode cX8_goes 49 = .ok (.getfield 3, 3) := dk_180 0 3 (dk_at dksX8_goes_2 4 rfl rfl)
theorem dX8_goes_52 : decode cX8_goes 52 = .ok (.getfield 59, 3) := dk_180 0 59 (dk_at dksX8_goes_2 7 rfl rfl)
theorem dX8_goes_55 : decode cX8_goes 55 = .ok (.getfield 79, 3) := dk_180 0 79 (dk_at dksX8_goes_2 10 rfl rfl)
theorem dX8_goes_58 : decode cX8_goes 58 = .ok (.ifCond .eq 12, 3) := dk_153 0 12 (dk_at dksX8_goes_2 13 rfl rfl)
theorem dX8_goes_61 : decode cX8_goes 61 = .ok (.iload_n 1, 1) := dk_27 (dk_at dksX8_goes_2 16 rfl rfl)
theorem dX8_goes_62 : decode cX8_goes 62 = .ok (.iconst 2, 1) := dk_5 (dk_at dksX8_goes_2 17 rfl rfl)
theorem dX8_goes_63 : decode cX8_goes 63 = .ok (.if_icmp .ne 7, 3) := dk_160 0 7 (dk_at dksX8_goes_2 18 rfl rfl)
theorem dX8_goes_66 : decode cX8_goes 66 = .ok (.iconst 1, 1) := dk_4 (dk_at dksX8_goes_2 21 rfl rfl)
theorem dX8_goes_67 : decode cX8_goes 67 = .ok (.goto 4, 3) := dk_167 0 4 (dk_at dksX8_goes_3 0 rfl rfl)
theorem dX8_goes_70 : decode cX8_goes 70 = .ok (.iconst 0, 1) := dk_3 (dk_at dksX8_goes_3 3 rfl rfl)
theorem dX8_goes_71 : decode cX8_goes 71 = .ok (.istore 4, 2) := dk_54 4 (dk_at dksX8_goes_3 4 rfl rfl)
theorem dX8_goes_73 : decode cX8_goes 73 = .ok (.aload_n 0, 1) := dk_42 (dk_at dksX8_goes_3 6 rfl rfl)
theorem dX8_goes_74 : decode cX8_goes 74 = .ok (.getfield 3, 3) := dk_180 0 3 (dk_at dksX8_goes_3 7 rfl rfl)
theorem dX8_goes_77 : decode cX8_goes 77 = .ok (.getfield 59, 3) := dk_180 0 59 (dk_at dksX8_goes_3 10 rfl rfl)
theorem dX8_goes_80 : decode cX8_goes 80 = .ok (.getfield 83, 3) := dk_180 0 83 (dk_at dksX8_goes_3 13 rfl rfl)
theorem dX8_goes_83 : decode cX8_goes 83 = .ok (.iconst 0, 1) := dk_3 (dk_at dksX8_goes_3 16 rfl rfl)
theorem dX8_goes_84 : decode cX8_goes 84 = .ok (.iaload, 1) := dk_46 (dk_at dksX8_goes_3 17 rfl rfl)
theorem dX8_goes_85 : decode cX8_goes 85 = .ok (.istore 5, 2) := dk_54 5 (dk_at dksX8_goes_3 18 rfl rfl)
theorem dX8_goes_87 : decode cX8_goes 87 = .ok (.iload 4, 2) := dk_21 4 (dk_at dksX8_goes_3 20 rfl rfl)
theorem dX8_goes_89 : decode cX8_goes 89 = .ok (.ifCond .ne 14, 3) := dk_154 0 14 (dk_at dksX8_goes_4 0 rfl rfl)
theorem dX8_goes_92 : decode cX8_goes 92 = .ok (.aload_n 0, 1) := dk_42 (dk_at dksX8_goes_4 3 rfl rfl)
theorem dX8_goes_93 : decode cX8_goes 93 = .ok (.iload_n 3, 1) := dk_29 (dk_at dksX8_goes_4 4 rfl rfl)
theorem dX8_goes_94 : decode cX8_goes 94 = .ok (.iload_n 1, 1) := dk_27 (dk_at dksX8_goes_4 5 rfl rfl)
theorem dX8_goes_95 : decode cX8_goes 95 = .ok (.iload_n 2, 1) := dk_28 (dk_at dksX8_goes_4 6 rfl rfl)
theorem dX8_goes_96 : decode cX8_goes 96 = .ok (.iconst 0, 1) := dk_3 (dk_at dksX8_goes_4 7 rfl rfl)
theorem dX8_goes_97 : decode cX8_goes 97 = .ok (.invokevirtual 86, 3) := dk_182 0 86 (dk_at dksX8_goes_4 8 rfl rfl)
theorem dX8_goes_100 : decode cX8_goes 100 = .ok (.goto 46, 3) := dk_167 0 46 (dk_at dksX8_goes_4 11 rfl rfl)
theorem dX8_goes_103 : decode cX8_goes 103 = .ok (.iconst (-1), 1) := dk_2 (dk_at dksX8_goes_4 14 rfl rfl)
theorem dX8_goes_104 : decode cX8_goes 104 = .ok (.istore 6, 2) := dk_54 6 (dk_at dksX8_goes_4 15 rfl rfl)
theorem dX8_goes_106 : decode cX8_goes 106 = .ok (.iload 6, 2) := dk_21 6 (dk_at dksX8_goes_4 17 rfl rfl)
theorem dX8_goes_108 : decode cX8_goes 108 = .ok (.iconst 2, 1) := dk_5 (dk_at dksX8_goes_4 19 rfl rfl)
theorem dX8_goes_109 : decode cX8_goes 109 = .ok (.if_icmp .ge 37, 3) := dk_162 0 37 (dk_at dksX8_goes_4 20 rfl rfl)
theorem dX8_goes_112 : decode cX8_goes 112 = .ok (.aload_n 0, 1) := dk_42 (dk_at dksX8_goes_4 23 rfl rfl)
theorem dX8_goes_113 : decode cX8_goes 113 = .ok (.iload_n 3, 1) := dk_29 (dk_at dksX8_goes_5 0 rfl rfl)
theorem dX8_goes_114 : decode cX8_goes 114 = .ok (.iload_n 1, 1) := dk_27 (dk_at dksX8_goes_5 1 rfl rfl)
theorem dX8_goes_115 : decode cX8_goes 115 = .ok (.iload 5, 2) := dk_21 5 (dk_at dksX8_goes_5 2 rfl rfl)
theorem dX8_goes_117 : decode cX8_goes 117 = .ok (.iload 6, 2) := dk_21 6 (dk_at dksX8_goes_5 4 rfl rfl)
theorem dX8_goes_119 : decode cX8_goes 119 = .ok (.iadd, 1) := dk_96 (dk_at dksX8_goes_5 6 rfl rfl)
theorem dX8_goes_120 : decode cX8_goes 120 = .ok (.iload_n 2, 1) := dk_28 (dk_at dksX8_goes_5 7 rfl rfl)
theorem dX8_goes_121 : decode cX8_goes 121 = .ok (.iload 5, 2) := dk_21 5 (dk_at dksX8_goes_5 8 rfl rfl)
theorem dX8_goes_123 : decode cX8_goes 123 = .ok (.isub, 1) := dk_100 (dk_at dksX8_goes_5 10 rfl rfl)
theorem dX8_goes_124 : decode cX8_goes 124 = .ok (.invokestatic 90, 3) := dk_184 0 90 (dk_at dksX8_goes_5 11 rfl rfl)
theorem dX8_goes_127 : decode cX8_goes 127 = .ok (.iload 6, 2) := dk_21 6 (dk_at dksX8_goes_5 14 rfl rfl)
theorem dX8_goes_129 : decode cX8_goes 129 = .ok (.if_icmp .ne 7, 3) := dk_160 0 7 (dk_at dksX8_goes_5 16 rfl rfl)
theorem dX8_goes_132 : decode cX8_goes 132 = .ok (.iconst 0, 1) := dk_3 (dk_at dksX8_goes_5 19 rfl rfl)
theorem dX8_goes_133 : decode cX8_goes 133 = .ok (.goto 4, 3) := dk_167 0 4 (dk_at dksX8_goes_5 20 rfl rfl)
theorem dX8_goes_136 : decode cX8_goes 136 = .ok (.iconst 1, 1) := dk_4 (dk_at dksX8_goes_5 23 rfl rfl)
theorem dX8_goes_137 : decode cX8_goes 137 = .ok (.invokevirtual 86, 3) := dk_182 0 86 (dk_at dksX8_goes_6 0 rfl rfl)
theorem dX8_goes_140 : decode cX8_goes 140 = .ok (.iinc 6 1, 3) := dk_132 6 1 (dk_at dksX8_goes_6 3 rfl rfl)
theorem dX8_goes_143 : decode cX8_goes 143 = .ok (.goto (-37), 3) := dk_167 255 219 (dk_at dksX8_goes_6 6 rfl rfl)
theorem dX8_goes_146 : decode cX8_goes 146 = .ok (.iinc 3 1, 3) := dk_132 3 1 (dk_at dksX8_goes_6 9 rfl rfl)
theorem dX8_goes_149 : decode cX8_goes 149 = .ok (.goto (-142), 3) := dk_167 255 114 (dk_at dksX8_goes_6 12 rfl rfl)
theorem dX8_goes_152 : decode cX8_goes 152 = .ok (.aload_n 0, 1) := dk_42 (dk_at dksX8_goes_6 15 rfl rfl)
theorem dX8_goes_153 : decode cX8_goes 153 = .ok (.aload_n 0, 1) := dk_42 (dk_at dksX8_goes_6 16 rfl rfl)
theorem dX8_goes_154 : decode cX8_goes 154 = .ok (.getfield 48, 3) := dk_180 0 48 (dk_at dksX8_goes_6 17 rfl rfl)
theorem dX8_goes_157 : decode cX8_goes 157 = .ok (.putfield 52, 3) := dk_181 0 52 (dk_at dksX8_goes_6 20 rfl rfl)
theorem dX8_goes_160 : decode cX8_goes 160 = .ok (.aload_n 0, 1) := dk_42 (dk_at dksX8_goes_6 23 rfl rfl)
theorem dX8_goes_161 : decode cX8_goes 161 = .ok (.getfield 22, 3) := dk_180 0 22 (dk_at dksX8_goes_7 0 rfl rfl)
theorem dX8_goes_164 : decode cX8_goes 164 = .ok (.iconst 0, 1) := dk_3 (dk_at dksX8_goes_7 3 rfl rfl)
theorem dX8_goes_165 : decode cX8_goes 165 = .ok (.aload_n 0, 1) := dk_42 (dk_at dksX8_goes_7 4 rfl rfl)
theorem dX8_goes_166 : decode cX8_goes 166 = .ok (.getfield 15, 3) := dk_180 0 15 (dk_at dksX8_goes_7 5 rfl rfl)
theorem dX8_goes_169 : decode cX8_goes 169 = .ok (.iconst 0, 1) := dk_3 (dk_at dksX8_goes_7 8 rfl rfl)
theorem dX8_goes_170 : decode cX8_goes 170 = .ok (.aload_n 0, 1) := dk_42 (dk_at dksX8_goes_7 9 rfl rfl)
theorem dX8_goes_171 : decode cX8_goes 171 = .ok (.getfield 52, 3) := dk_180 0 52 (dk_at dksX8_goes_7 10 rfl rfl)
theorem dX8_goes_174 : decode cX8_goes 174 = .ok (.invokestatic 96, 3) := dk_184 0 96 (dk_at dksX8_goes_7 13 rfl rfl)
theorem dX8_goes_177 : decode cX8_goes 177 = .ok (.aload_n 0, 1) := dk_42 (dk_at dksX8_goes_7 16 rfl rfl)
theorem dX8_goes_178 : decode cX8_goes 178 = .ok (.getfield 25, 3) := dk_180 0 25 (dk_at dksX8_goes_7 17 rfl rfl)
theorem dX8_goes_181 : decode cX8_goes 181 = .ok (.iconst 0, 1) := dk_3 (dk_at dksX8_goes_7 20 rfl rfl)
theorem dX8_goes_182 : decode cX8_goes 182 = .ok (.aload_n 0, 1) := dk_42 (dk_at dksX8_goes_7 21 rfl rfl)
theorem dX8_goes_183 : decode cX8_goes 183 = .ok (.getfield 19, 3) := dk_180 0 19 (dk_at dksX8_goes_8 0 rfl rfl)
theorem dX8_goes_186 : decode cX8_goes 186 = .ok (.iconst 0, 1) := dk_3 (dk_at dksX8_goes_8 3 rfl rfl)
theorem dX8_goes_187 : decode cX8_goes 187 = .ok (.aload_n 0, 1) := dk_42 (dk_at dksX8_goes_8 4 rfl rfl)
theorem dX8_goes_188 : decode cX8_goes 188 = .ok (.getfield 52, 3) := dk_180 0 52 (dk_at dksX8_goes_8 5 rfl rfl)
theorem dX8_goes_191 : decode cX8_goes 191 = .ok (.invokestatic 96, 3) := dk_184 0 96 (dk_at dksX8_goes_8 8 rfl rfl)
theorem dX8_goes_194 : decode cX8_goes 194 = .ok (.aload_n 0, 1) := dk_42 (dk_at dksX8_goes_8 11 rfl rfl)
theorem dX8_goes_195 : decode cX8_goes 195 = .ok (.getfield 32, 3) := dk_180 0 32 (dk_at dksX8_goes_8 12 rfl rfl)
theorem dX8_goes_198 : decode cX8_goes 198 = .ok (.iconst 0, 1) := dk_3 (dk_at dksX8_goes_8 15 rfl rfl)
theorem dX8_goes_199 : decode cX8_goes 199 = .ok (.aload_n 0, 1) := dk_42 (dk_at dksX8_goes_8 16 rfl rfl)
theorem dX8_goes_200 : decode cX8_goes 200 = .ok (.getfield 28, 3) := dk_180 0 28 (dk_at dksX8_goes_8 17 rfl rfl)
theorem dX8_goes_203 : decode cX8_goes 203 = .ok (.iconst 0, 1) := dk_3 (dk_at dksX8_goes_8 20 rfl rfl)
theorem dX8_goes_204 : decode cX8_goes 204 = .ok (.aload_n 0, 1) := dk_42 (dk_at dksX8_goes_8 21 rfl rfl)
theorem dX8_goes_205 : decode cX8_goes 205 = .ok (.getfield 52, 3) := dk_180 0 52 (dk_at dksX8_goes_9 0 rfl rfl)
theorem dX8_goes_208 : decode cX8_goes 208 = .ok (.invokestatic 96, 3) := dk_184 0 96 (dk_at dksX8_goes_9 3 rfl rfl)
theorem dX8_goes_211 : decode cX8_goes 211 = .ok (.return_, 1) := dk_177 (dk_at dksX8_goes_9 6 rfl rfl)
abbrev cX8_open : ByteArray := prog_2_method_3_code
def yX8_open : MethodName := ⟨RX8, "open", "(ILChaseCourt$Score;)V"⟩
def dkwX8_open_1 : List UInt8 := [180, 0, 41, 4, 27, 16, 16, 112, 79, 177]
abbrev dktX8_open_1 : List UInt8 := dkwX8_open_1 ++ []
def dkwX8_open_0 : List UInt8 := [44, 27, 17, 1, 0, 108, 182, 0, 44, 87, 44, 180, 0, 41, 3, 27, 16, 16, 108, 16, 16, 112, 79, 44]
abbrev dktX8_open_0 : List UInt8 := dkwX8_open_0 ++ dktX8_open_1
theorem dksX8_open_0 : cX8_open.data.toList.drop 0 = dktX8_open_0 := by decide +kernel
theorem dksX8_open_1 : cX8_open.data.toList.drop 24 = dktX8_open_1 := dk_seg dksX8_open_0 24 rfl rfl
theorem dX8_open_0 : decode cX8_open 0 = .ok (.aload_n 2, 1) := dk_44 (dk_at dksX8_open_0 0 rfl rfl)
theorem dX8_open_1 : decode cX8_open 1 = .ok (.iload_n 1, 1) := dk_27 (dk_at dksX8_open_0 1 rfl rfl)
theorem dX8_open_2 : decode cX8_open 2 = .ok (.sipush 256, 3) := dk_17 1 0 (dk_at dksX8_open_0 2 rfl rfl)
theorem dX8_open_5 : decode cX8_open 5 = .ok (.idiv, 1) := dk_108 (dk_at dksX8_open_0 5 rfl rfl)
theorem dX8_open_6 : decode cX8_open 6 = .ok (.invokevirtual 44, 3) := dk_182 0 44 (dk_at dksX8_open_0 6 rfl rfl)
theorem dX8_open_9 : decode cX8_open 9 = .ok (.pop, 1) := dk_87 (dk_at dksX8_open_0 9 rfl rfl)
theorem dX8_open_10 : decode cX8_open 10 = .ok (.aload_n 2, 1) := dk_44 (dk_at dksX8_open_0 10 rfl rfl)
theorem dX8_open_11 : decode cX8_open 11 = .ok (.getfield 41, 3) := dk_180 0 41 (dk_at dksX8_open_0 11 rfl rfl)
theorem dX8_open_14 : decode cX8_open 14 = .ok (.iconst 0, 1) := dk_3 (dk_at dksX8_open_0 14 rfl rfl)
theorem dX8_open_15 : decode cX8_open 15 = .ok (.iload_n 1, 1) := dk_27 (dk_at dksX8_open_0 15 rfl rfl)
theorem dX8_open_16 : decode cX8_open 16 = .ok (.bipush 16, 2) := dk_16 16 (dk_at dksX8_open_0 16 rfl rfl)
theorem dX8_open_18 : decode cX8_open 18 = .ok (.idiv, 1) := dk_108 (dk_at dksX8_open_0 18 rfl rfl)
theorem dX8_open_19 : decode cX8_open 19 = .ok (.bipush 16, 2) := dk_16 16 (dk_at dksX8_open_0 19 rfl rfl)
theorem dX8_open_21 : decode cX8_open 21 = .ok (.irem, 1) := dk_112 (dk_at dksX8_open_0 21 rfl rfl)
theorem dX8_open_22 : decode cX8_open 22 = .ok (.iastore, 1) := dk_79 (dk_at dksX8_open_0 22 rfl rfl)
theorem dX8_open_23 : decode cX8_open 23 = .ok (.aload_n 2, 1) := dk_44 (dk_at dksX8_open_0 23 rfl rfl)
theorem dX8_open_24 : decode cX8_open 24 = .ok (.getfield 41, 3) := dk_180 0 41 (dk_at dksX8_open_1 0 rfl rfl)
theorem dX8_open_27 : decode cX8_open 27 = .ok (.iconst 1, 1) := dk_4 (dk_at dksX8_open_1 3 rfl rfl)
theorem dX8_open_28 : decode cX8_open 28 = .ok (.iload_n 1, 1) := dk_27 (dk_at dksX8_open_1 4 rfl rfl)
theorem dX8_open_29 : decode cX8_open 29 = .ok (.bipush 16, 2) := dk_16 16 (dk_at dksX8_open_1 5 rfl rfl)
theorem dX8_open_31 : decode cX8_open 31 = .ok (.irem, 1) := dk_112 (dk_at dksX8_open_1 7 rfl rfl)
theorem dX8_open_32 : decode cX8_open 32 = .ok (.iastore, 1) := dk_79 (dk_at dksX8_open_1 8 rfl rfl)
theorem dX8_open_33 : decode cX8_open 33 = .ok (.return_, 1) := dk_177 (dk_at dksX8_open_1 9 rfl rfl)
abbrev cX8_calls : ByteArray := prog_2_method_6_code
def yX8_calls : MethodName := ⟨RX8, "calls", "(IIII)V"⟩
def dkwX8_calls_2 : List UInt8 := [21, 4, 96, 42, 180, 0, 28, 27, 47, 182, 0, 71, 177]
abbrev dktX8_calls_2 : List UInt8 := dkwX8_calls_2 ++ []
def dkwX8_calls_1 : List UInt8 := [28, 29, 182, 0, 67, 87, 42, 42, 42, 180, 0, 3, 180, 0, 59, 182, 0, 55, 42, 180, 0, 19, 27, 46]
abbrev dktX8_calls_1 : List UInt8 := dkwX8_calls_1 ++ dktX8_calls_2
def dkwX8_calls_0 : List UInt8 := [42, 42, 180, 0, 15, 27, 46, 42, 180, 0, 3, 180, 0, 59, 182, 0, 63, 42, 180, 0, 3, 180, 0, 59]
abbrev dktX8_calls_0 : List UInt8 := dkwX8_calls_0 ++ dktX8_calls_1
theorem dksX8_calls_0 : cX8_calls.data.toList.drop 0 = dktX8_calls_0 := by decide +kernel
theorem dksX8_calls_1 : cX8_calls.data.toList.drop 24 = dktX8_calls_1 := dk_seg dksX8_calls_0 24 rfl rfl
theorem dksX8_calls_2 : cX8_calls.data.toList.drop 48 = dktX8_calls_2 := dk_seg dksX8_calls_1 24 rfl rfl
theorem dX8_calls_0 : decode cX8_calls 0 = .ok (.aload_n 0, 1) := dk_42 (dk_at dksX8_calls_0 0 rfl rfl)
theorem dX8_calls_1 : decode cX8_calls 1 = .ok (.aload_n 0, 1) := dk_42 (dk_at dksX8_calls_0 1 rfl rfl)
theorem dX8_calls_2 : decode cX8_calls 2 = .ok (.getfield 15, 3) := dk_180 0 15 (dk_at dksX8_calls_0 2 rfl rfl)
theorem dX8_calls_5 : decode cX8_calls 5 = .ok (.iload_n 1, 1) := dk_27 (dk_at dksX8_calls_0 5 rfl rfl)
theorem dX8_calls_6 : decode cX8_calls 6 = .ok (.iaload, 1) := dk_46 (dk_at dksX8_calls_0 6 rfl rfl)
theorem dX8_calls_7 : decode cX8_calls 7 = .ok (.aload_n 0, 1) := dk_42 (dk_at dksX8_calls_0 7 rfl rfl)
theorem dX8_calls_8 : decode cX8_calls 8 = .ok (.getfield 3, 3) := dk_180 0 3 (dk_at dksX8_calls_0 8 rfl rfl)
theorem dX8_calls_11 : decode cX8_calls 11 = .ok (.getfield 59, 3) := dk_180 0 59 (dk_at dksX8_calls_0 11 rfl rfl)
theorem dX8_calls_14 : decode cX8_calls 14 = .ok (.invokevirtual 63, 3) := dk_182 0 63 (dk_at dksX8_calls_0 14 rfl rfl)
theorem dX8_calls_17 : decode cX8_calls 17 = .ok (.aload_n 0, 1) := dk_42 (dk_at dksX8_calls_0 17 rfl rfl)
theorem dX8_calls_18 : decode cX8_calls 18 = .ok (.getfield 3, 3) := dk_180 0 3 (dk_at dksX8_calls_0 18 rfl rfl)
theorem dX8_calls_21 : decode cX8_calls 21 = .ok (.getfield 59, 3) := dk_180 0 59 (dk_at dksX8_calls_0 21 rfl rfl)
theorem dX8_calls_24 : decode cX8_calls 24 = .ok (.iload_n 2, 1) := dk_28 (dk_at dksX8_calls_1 0 rfl rfl)
theorem dX8_calls_25 : decode cX8_calls 25 = .ok (.iload_n 3, 1) := dk_29 (dk_at dksX8_calls_1 1 rfl rfl)
theorem dX8_calls_26 : decode cX8_calls 26 = .ok (.invokevirtual 67, 3) := dk_182 0 67 (dk_at dksX8_calls_1 2 rfl rfl)
theorem dX8_calls_29 : decode cX8_calls 29 = .ok (.pop, 1) := dk_87 (dk_at dksX8_calls_1 5 rfl rfl)
theorem dX8_calls_30 : decode cX8_calls 30 = .ok (.aload_n 0, 1) := dk_42 (dk_at dksX8_calls_1 6 rfl rfl)
theorem dX8_calls_31 : decode cX8_calls 31 = .ok (.aload_n 0, 1) := dk_42 (dk_at dksX8_calls_1 7 rfl rfl)
theorem dX8_calls_32 : decode cX8_calls 32 = .ok (.aload_n 0, 1) := dk_42 (dk_at dksX8_calls_1 8 rfl rfl)
theorem dX8_calls_33 : decode cX8_calls 33 = .ok (.getfield 3, 3) := dk_180 0 3 (dk_at dksX8_calls_1 9 rfl rfl)
theorem dX8_calls_36 : decode cX8_calls 36 = .ok (.getfield 59, 3) := dk_180 0 59 (dk_at dksX8_calls_1 12 rfl rfl)
theorem dX8_calls_39 : decode cX8_calls 39 = .ok (.invokevirtual 55, 3) := dk_182 0 55 (dk_at dksX8_calls_1 15 rfl rfl)
theorem dX8_calls_42 : decode cX8_calls 42 = .ok (.aload_n 0, 1) := dk_42 (dk_at dksX8_calls_1 18 rfl rfl)
theorem dX8_calls_43 : decode cX8_calls 43 = .ok (.getfield 19, 3) := dk_180 0 19 (dk_at dksX8_calls_1 19 rfl rfl)
theorem dX8_calls_46 : decode cX8_calls 46 = .ok (.iload_n 1, 1) := dk_27 (dk_at dksX8_calls_1 22 rfl rfl)
theorem dX8_calls_47 : decode cX8_calls 47 = .ok (.iaload, 1) := dk_46 (dk_at dksX8_calls_1 23 rfl rfl)
theorem dX8_calls_48 : decode cX8_calls 48 = .ok (.iload 4, 2) := dk_21 4 (dk_at dksX8_calls_2 0 rfl rfl)
theorem dX8_calls_50 : decode cX8_calls 50 = .ok (.iadd, 1) := dk_96 (dk_at dksX8_calls_2 2 rfl rfl)
theorem dX8_calls_51 : decode cX8_calls 51 = .ok (.aload_n 0, 1) := dk_42 (dk_at dksX8_calls_2 3 rfl rfl)
theorem dX8_calls_52 : decode cX8_calls 52 = .ok (.getfield 28, 3) := dk_180 0 28 (dk_at dksX8_calls_2 4 rfl rfl)
theorem dX8_calls_55 : decode cX8_calls 55 = .ok (.iload_n 1, 1) := dk_27 (dk_at dksX8_calls_2 7 rfl rfl)
theorem dX8_calls_56 : decode cX8_calls 56 = .ok (.laload, 1) := dk_47 (dk_at dksX8_calls_2 8 rfl rfl)
theorem dX8_calls_57 : decode cX8_calls 57 = .ok (.invokevirtual 71, 3) := dk_182 0 71 (dk_at dksX8_calls_2 9 rfl rfl)
theorem dX8_calls_60 : decode cX8_calls 60 = .ok (.return_, 1) := dk_177 (dk_at dksX8_calls_2 12 rfl rfl)
abbrev cX8_comes : ByteArray := prog_2_method_4_code
def yX8_comes : MethodName := ⟨RX8, "comes", "(IIJ)V"⟩
def dkwX8_comes_5 : List UInt8 := [180, 0, 25, 21, 5, 28, 79, 177]
abbrev dktX8_comes_5 : List UInt8 := dkwX8_comes_5 ++ []
def dkwX8_comes_4 : List UInt8 := [180, 0, 25, 21, 5, 46, 162, 0, 7, 33, 167, 0, 12, 42, 180, 0, 32, 21, 5, 47, 33, 97, 80, 42]
abbrev dktX8_comes_4 : List UInt8 := dkwX8_comes_4 ++ dktX8_comes_5
def dkwX8_comes_3 : List UInt8 := [21, 5, 9, 80, 28, 42, 180, 0, 25, 21, 5, 46, 164, 0, 4, 177, 42, 180, 0, 32, 21, 5, 28, 42]
abbrev dktX8_comes_3 : List UInt8 := dkwX8_comes_3 ++ dktX8_comes_4
def dkwX8_comes_2 : List UInt8 := [181, 0, 48, 42, 180, 0, 22, 21, 5, 27, 79, 42, 180, 0, 25, 21, 5, 28, 79, 42, 180, 0, 32]
abbrev dktX8_comes_2 : List UInt8 := dkwX8_comes_2 ++ dktX8_comes_3
def dkwX8_comes_1 : List UInt8 := [132, 5, 1, 167, 255, 233, 21, 5, 42, 180, 0, 48, 160, 0, 37, 42, 89, 180, 0, 48, 4, 96]
abbrev dktX8_comes_1 : List UInt8 := dkwX8_comes_1 ++ dktX8_comes_2
def dkwX8_comes_0 : List UInt8 := [3, 54, 5, 21, 5, 42, 180, 0, 48, 162, 0, 20, 42, 180, 0, 22, 21, 5, 46, 27, 159, 0, 9]
abbrev dktX8_comes_0 : List UInt8 := dkwX8_comes_0 ++ dktX8_comes_1
theorem dksX8_comes_0 : cX8_comes.data.toList.drop 0 = dktX8_comes_0 := by decide +kernel
theorem dksX8_comes_1 : cX8_comes.data.toList.drop 23 = dktX8_comes_1 := dk_seg dksX8_comes_0 23 rfl rfl
theorem dksX8_comes_2 : cX8_comes.data.toList.drop 45 = dktX8_comes_2 := dk_seg dksX8_comes_1 22 rfl rfl
theorem dksX8_comes_3 : cX8_comes.data.toList.drop 68 = dktX8_comes_3 := dk_seg dksX8_comes_2 23 rfl rfl
theorem dksX8_comes_4 : cX8_comes.data.toList.drop 92 = dktX8_comes_4 := dk_seg dksX8_comes_3 24 rfl rfl
theorem dksX8_comes_5 : cX8_comes.data.toList.drop 116 = dktX8_comes_5 := dk_seg dksX8_comes_4 24 rfl rfl
theorem dX8_comes_0 : decode cX8_comes 0 = .ok (.iconst 0, 1) := dk_3 (dk_at dksX8_comes_0 0 rfl rfl)
theorem dX8_comes_1 : decode cX8_comes 1 = .ok (.istore 5, 2) := dk_54 5 (dk_at dksX8_comes_0 1 rfl rfl)
theorem dX8_comes_3 : decode cX8_comes 3 = .ok (.iload 5, 2) := dk_21 5 (dk_at dksX8_comes_0 3 rfl rfl)
theorem dX8_comes_5 : decode cX8_comes 5 = .ok (.aload_n 0, 1) := dk_42 (dk_at dksX8_comes_0 5 rfl rfl)
theorem dX8_comes_6 : decode cX8_comes 6 = .ok (.getfield 48, 3) := dk_180 0 48 (dk_at dksX8_comes_0 6 rfl rfl)
theorem dX8_comes_9 : decode cX8_comes 9 = .ok (.if_icmp .ge 20, 3) := dk_162 0 20 (dk_at dksX8_comes_0 9 rfl rfl)
theorem dX8_comes_12 : decode cX8_comes 12 = .ok (.aload_n 0, 1) := dk_42 (dk_at dksX8_comes_0 12 rfl rfl)
theorem dX8_comes_13 : decode cX8_comes 13 = .ok (.getfield 22, 3) := dk_180 0 22 (dk_at dksX8_comes_0 13 rfl rfl)
theorem dX8_comes_16 : decode cX8_comes 16 = .ok (.iload 5, 2) := dk_21 5 (dk_at dksX8_comes_0 16 rfl rfl)
theorem dX8_comes_18 : decode cX8_comes 18 = .ok (.iaload, 1) := dk_46 (dk_at dksX8_comes_0 18 rfl rfl)
theorem dX8_comes_19 : decode cX8_comes 19 = .ok (.iload_n 1, 1) := dk_27 (dk_at dksX8_comes_0 19 rfl rfl)
theorem dX8_comes_20 : decode cX8_comes 20 = .ok (.if_icmp .eq 9, 3) := dk_159 0 9 (dk_at dksX8_comes_0 20 rfl rfl)
theorem dX8_comes_23 : decode cX8_comes 23 = .ok (.iinc 5 1, 3) := dk_132 5 1 (dk_at dksX8_comes_1 0 rfl rfl)
theorem dX8_comes_26 : decode cX8_comes 26 = .ok (.goto (-23), 3) := dk_167 255 233 (dk_at dksX8_comes_1 3 rfl rfl)
theorem dX8_comes_29 : decode cX8_comes 29 = .ok (.iload 5, 2) := dk_21 5 (dk_at dksX8_comes_1 6 rfl rfl)
theorem dX8_comes_31 : decode cX8_comes 31 = .ok (.aload_n 0, 1) := dk_42 (dk_at dksX8_comes_1 8 rfl rfl)
theorem dX8_comes_32 : decode cX8_comes 32 = .ok (.getfield 48, 3) := dk_180 0 48 (dk_at dksX8_comes_1 9 rfl rfl)
theorem dX8_comes_35 : decode cX8_comes 35 = .ok (.if_icmp .ne 37, 3) := dk_160 0 37 (dk_at dksX8_comes_1 12 rfl rfl)
theorem dX8_comes_38 : decode cX8_comes 38 = .ok (.aload_n 0, 1) := dk_42 (dk_at dksX8_comes_1 15 rfl rfl)
theorem dX8_comes_39 : decode cX8_comes 39 = .ok (.dup, 1) := dk_89 (dk_at dksX8_comes_1 16 rfl rfl)
theorem dX8_comes_40 : decode cX8_comes 40 = .ok (.getfield 48, 3) := dk_180 0 48 (dk_at dksX8_comes_1 17 rfl rfl)
theorem dX8_comes_43 : decode cX8_comes 43 = .ok (.iconst 1, 1) := dk_4 (dk_at dksX8_comes_1 20 rfl rfl)
theorem dX8_comes_44 : decode cX8_comes 44 = .ok (.iadd, 1) := dk_96 (dk_at dksX8_comes_1 21 rfl rfl)
theorem dX8_comes_45 : decode cX8_comes 45 = .ok (.putfield 48, 3) := dk_181 0 48 (dk_at dksX8_comes_2 0 rfl rfl)
theorem dX8_comes_48 : decode cX8_comes 48 = .ok (.aload_n 0, 1) := dk_42 (dk_at dksX8_comes_2 3 rfl rfl)
theorem dX8_comes_49 : decode cX8_comes 49 = .ok (.getfield 22, 3) := dk_180 0 22 (dk_at dksX8_comes_2 4 rfl rfl)
theorem dX8_comes_52 : decode cX8_comes 52 = .ok (.iload 5, 2) := dk_21 5 (dk_at dksX8_comes_2 7 rfl rfl)
theorem dX8_comes_54 : decode cX8_comes 54 = .ok (.iload_n 1, 1) := dk_27 (dk_at dksX8_comes_2 9 rfl rfl)
theorem dX8_comes_55 : decode cX8_comes 55 = .ok (.iastore, 1) := dk_79 (dk_at dksX8_comes_2 10 rfl rfl)
theorem dX8_comes_56 : decode cX8_comes 56 = .ok (.aload_n 0, 1) := dk_42 (dk_at dksX8_comes_2 11 rfl rfl)
theorem dX8_comes_57 : decode cX8_comes 57 = .ok (.getfield 25, 3) := dk_180 0 25 (dk_at dksX8_comes_2 12 rfl rfl)
theorem dX8_comes_60 : decode cX8_comes 60 = .ok (.iload 5, 2) := dk_21 5 (dk_at dksX8_comes_2 15 rfl rfl)
theorem dX8_comes_62 : decode cX8_comes 62 = .ok (.iload_n 2, 1) := dk_28 (dk_at dksX8_comes_2 17 rfl rfl)
theorem dX8_comes_63 : decode cX8_comes 63 = .ok (.iastore, 1) := dk_79 (dk_at dksX8_comes_2 18 rfl rfl)
theorem dX8_comes_64 : decode cX8_comes 64 = .ok (.aload_n 0, 1) := dk_42 (dk_at dksX8_comes_2 19 rfl rfl)
theorem dX8_comes_65 : decode cX8_comes 65 = .ok (.getfield 32, 3) := dk_180 0 32 (dk_at dksX8_comes_2 20 rfl rfl)
theorem dX8_comes_68 : decode cX8_comes 68 = .ok (.iload 5, 2) := dk_21 5 (dk_at dksX8_comes_3 0 rfl rfl)
theorem dX8_comes_70 : decode cX8_comes 70 = .ok (.lconst 0, 1) := dk_9 (dk_at dksX8_comes_3 2 rfl rfl)
theorem dX8_comes_71 : decode cX8_comes 71 = .ok (.lastore, 1) := dk_80 (dk_at dksX8_comes_3 3 rfl rfl)
theorem dX8_comes_72 : decode cX8_comes 72 = .ok (.iload_n 2, 1) := dk_28 (dk_at dksX8_comes_3 4 rfl rfl)
theorem dX8_comes_73 : decode cX8_comes 73 = .ok (.aload_n 0, 1) := dk_42 (dk_at dksX8_comes_3 5 rfl rfl)
theorem dX8_comes_74 : decode cX8_comes 74 = .ok (.getfield 25, 3) := dk_180 0 25 (dk_at dksX8_comes_3 6 rfl rfl)
theorem dX8_comes_77 : decode cX8_comes 77 = .ok (.iload 5, 2) := dk_21 5 (dk_at dksX8_comes_3 9 rfl rfl)
theorem dX8_comes_79 : decode cX8_comes 79 = .ok (.iaload, 1) := dk_46 (dk_at dksX8_comes_3 11 rfl rfl)
theorem dX8_comes_80 : decode cX8_comes 80 = .ok (.if_icmp .le 4, 3) := dk_164 0 4 (dk_at dksX8_comes_3 12 rfl rfl)
theorem dX8_comes_83 : decode cX8_comes 83 = .ok (.return_, 1) := dk_177 (dk_at dksX8_comes_3 15 rfl rfl)
theorem dX8_comes_84 : decode cX8_comes 84 = .ok (.aload_n 0, 1) := dk_42 (dk_at dksX8_comes_3 16 rfl rfl)
theorem dX8_comes_85 : decode cX8_comes 85 = .ok (.getfield 32, 3) := dk_180 0 32 (dk_at dksX8_comes_3 17 rfl rfl)
theorem dX8_comes_88 : decode cX8_comes 88 = .ok (.iload 5, 2) := dk_21 5 (dk_at dksX8_comes_3 20 rfl rfl)
theorem dX8_comes_90 : decode cX8_comes 90 = .ok (.iload_n 2, 1) := dk_28 (dk_at dksX8_comes_3 22 rfl rfl)
theorem dX8_comes_91 : decode cX8_comes 91 = .ok (.aload_n 0, 1) := dk_42 (dk_at dksX8_comes_3 23 rfl rfl)
theorem dX8_comes_92 : decode cX8_comes 92 = .ok (.getfield 25, 3) := dk_180 0 25 (dk_at dksX8_comes_4 0 rfl rfl)
theorem dX8_comes_95 : decode cX8_comes 95 = .ok (.iload 5, 2) := dk_21 5 (dk_at dksX8_comes_4 3 rfl rfl)
theorem dX8_comes_97 : decode cX8_comes 97 = .ok (.iaload, 1) := dk_46 (dk_at dksX8_comes_4 5 rfl rfl)
theorem dX8_comes_98 : decode cX8_comes 98 = .ok (.if_icmp .ge 7, 3) := dk_162 0 7 (dk_at dksX8_comes_4 6 rfl rfl)
theorem dX8_comes_101 : decode cX8_comes 101 = .ok (.lload_n 3, 1) := dk_33 (dk_at dksX8_comes_4 9 rfl rfl)
theorem dX8_comes_102 : decode cX8_comes 102 = .ok (.goto 12, 3) := dk_167 0 12 (dk_at dksX8_comes_4 10 rfl rfl)
theorem dX8_comes_105 : decode cX8_comes 105 = .ok (.aload_n 0, 1) := dk_42 (dk_at dksX8_comes_4 13 rfl rfl)
theorem dX8_comes_106 : decode cX8_comes 106 = .ok (.getfield 32, 3) := dk_180 0 32 (dk_at dksX8_comes_4 14 rfl rfl)
theorem dX8_comes_109 : decode cX8_comes 109 = .ok (.iload 5, 2) := dk_21 5 (dk_at dksX8_comes_4 17 rfl rfl)
theorem dX8_comes_111 : decode cX8_comes 111 = .ok (.laload, 1) := dk_47 (dk_at dksX8_comes_4 19 rfl rfl)
theorem dX8_comes_112 : decode cX8_comes 112 = .ok (.lload_n 3, 1) := dk_33 (dk_at dksX8_comes_4 20 rfl rfl)
theorem dX8_comes_113 : decode cX8_comes 113 = .ok (.ladd, 1) := dk_97 (dk_at dksX8_comes_4 21 rfl rfl)
theorem dX8_comes_114 : decode cX8_comes 114 = .ok (.lastore, 1) := dk_80 (dk_at dksX8_comes_4 22 rfl rfl)
theorem dX8_comes_115 : decode cX8_comes 115 = .ok (.aload_n 0, 1) := dk_42 (dk_at dksX8_comes_4 23 rfl rfl)
theorem dX8_comes_116 : decode cX8_comes 116 = .ok (.getfield 25, 3) := dk_180 0 25 (dk_at dksX8_comes_5 0 rfl rfl)
theorem dX8_comes_119 : decode cX8_comes 119 = .ok (.iload 5, 2) := dk_21 5 (dk_at dksX8_comes_5 3 rfl rfl)
theorem dX8_comes_121 : decode cX8_comes 121 = .ok (.iload_n 2, 1) := dk_28 (dk_at dksX8_comes_5 5 rfl rfl)
theorem dX8_comes_122 : decode cX8_comes 122 = .ok (.iastore, 1) := dk_79 (dk_at dksX8_comes_5 6 rfl rfl)
theorem dX8_comes_123 : decode cX8_comes 123 = .ok (.return_, 1) := dk_177 (dk_at dksX8_comes_5 7 rfl rfl)
abbrev cX8_answer : ByteArray := prog_2_method_8_code
def yX8_answer : MethodName := ⟨RX8, "answer", "(IIIIZ)J"⟩
def dkwX8_answer_9 : List UInt8 := [153, 0, 8, 22, 7, 167, 0, 6, 21, 6, 133, 173]
abbrev dktX8_answer_9 : List UInt8 := dkwX8_answer_9 ++ []
def dkwX8_answer_8 : List UInt8 := [21, 6, 2, 160, 0, 18, 21, 5, 153, 0, 7, 9, 167, 0, 22, 20, 0, 105, 167, 0, 16, 21, 5]
abbrev dktX8_answer_8 : List UInt8 := dkwX8_answer_8 ++ dktX8_answer_9
def dkwX8_answer_7 : List UInt8 := [180, 0, 28, 21, 9, 47, 55, 7, 42, 180, 0, 19, 21, 9, 46, 54, 6, 132, 9, 1, 167, 255, 85]
abbrev dktX8_answer_7 : List UInt8 := dkwX8_answer_7 ++ dktX8_answer_8
def dkwX8_answer_6 : List UInt8 := [21, 9, 46, 21, 6, 160, 0, 16, 22, 7, 42, 180, 0, 28, 21, 9, 47, 97, 167, 0, 10, 42]
abbrev dktX8_answer_6 : List UInt8 := dkwX8_answer_6 ++ dktX8_answer_7
def dkwX8_answer_5 : List UInt8 := [2, 159, 0, 18, 42, 180, 0, 19, 21, 9, 46, 21, 6, 164, 0, 6, 167, 0, 46, 42, 180, 0, 19]
abbrev dktX8_answer_5 : List UInt8 := dkwX8_answer_5 ++ dktX8_answer_6
def dkwX8_answer_4 : List UInt8 := [180, 0, 41, 4, 46, 21, 4, 160, 0, 7, 4, 167, 0, 4, 3, 54, 10, 21, 10, 153, 0, 67, 21, 6]
abbrev dktX8_answer_4 : List UInt8 := dkwX8_answer_4 ++ dktX8_answer_5
def dkwX8_answer_3 : List UInt8 := [180, 0, 3, 180, 0, 59, 180, 0, 41, 3, 46, 29, 160, 0, 24, 42, 180, 0, 3, 180, 0, 59]
abbrev dktX8_answer_3 : List UInt8 := dkwX8_answer_3 ++ dktX8_answer_4
def dkwX8_answer_2 : List UInt8 := [46, 27, 160, 0, 56, 42, 180, 0, 3, 180, 0, 59, 180, 0, 102, 4, 46, 28, 160, 0, 40, 42]
abbrev dktX8_answer_2 : List UInt8 := dkwX8_answer_2 ++ dktX8_answer_3
def dkwX8_answer_1 : List UInt8 := [21, 9, 46, 42, 180, 0, 3, 180, 0, 59, 182, 0, 63, 42, 180, 0, 3, 180, 0, 59, 180, 0, 102, 3]
abbrev dktX8_answer_1 : List UInt8 := dkwX8_answer_1 ++ dktX8_answer_2
def dkwX8_answer_0 : List UInt8 := [2, 54, 6, 9, 55, 7, 3, 54, 9, 21, 9, 42, 180, 0, 52, 162, 0, 168, 42, 42, 180, 0, 15]
abbrev dktX8_answer_0 : List UInt8 := dkwX8_answer_0 ++ dktX8_answer_1
theorem dksX8_answer_0 : cX8_answer.data.toList.drop 0 = dktX8_answer_0 := by decide +kernel
theorem dksX8_answer_1 : cX8_answer.data.toList.drop 23 = dktX8_answer_1 := dk_seg dksX8_answer_0 23 rfl rfl
theorem dksX8_answer_2 : cX8_answer.data.toList.drop 47 = dktX8_answer_2 := dk_seg dksX8_answer_1 24 rfl rfl
theorem dksX8_answer_3 : cX8_answer.data.toList.drop 69 = dktX8_answer_3 := dk_seg dksX8_answer_2 22 rfl rfl
theorem dksX8_answer_4 : cX8_answer.data.toList.drop 91 = dktX8_answer_4 := dk_seg dksX8_answer_3 22 rfl rfl
theorem dksX8_answer_5 : cX8_answer.data.toList.drop 115 = dktX8_answer_5 := dk_seg dksX8_answer_4 24 rfl rfl
theorem dksX8_answer_6 : cX8_answer.data.toList.drop 138 = dktX8_answer_6 := dk_seg dksX8_answer_5 23 rfl rfl
theorem dksX8_answer_7 : cX8_answer.data.toList.drop 160 = dktX8_answer_7 := dk_seg dksX8_answer_6 22 rfl rfl
theorem dksX8_answer_8 : cX8_answer.data.toList.drop 183 = dktX8_answer_8 := dk_seg dksX8_answer_7 23 rfl rfl
theorem dksX8_answer_9 : cX8_answer.data.toList.drop 206 = dktX8_answer_9 := dk_seg dksX8_answer_8 23 rfl rfl
theorem dX8_answer_0 : decode cX8_answer 0 = .ok (.iconst (-1), 1) := dk_2 (dk_at dksX8_answer_0 0 rfl rfl)
theorem dX8_answer_1 : decode cX8_answer 1 = .ok (.istore 6, 2) := dk_54 6 (dk_at dksX8_answer_0 1 rfl rfl)
theorem dX8_answer_3 : decode cX8_answer 3 = .ok (.lconst 0, 1) := dk_9 (dk_at dksX8_answer_0 3 rfl rfl)
theorem dX8_answer_4 : decode cX8_answer 4 = .ok (.lstore 7, 2) := dk_55 7 (dk_at dksX8_answer_0 4 rfl rfl)
theorem dX8_answer_6 : decode cX8_answer 6 = .ok (.iconst 0, 1) := dk_3 (dk_at dksX8_answer_0 6 rfl rfl)
theorem dX8_answer_7 : decode cX8_answer 7 = .ok (.istore 9, 2) := dk_54 9 (dk_at dksX8_answer_0 7 rfl rfl)
theorem dX8_answer_9 : decode cX8_answer 9 = .ok (.iload 9, 2) := dk_21 9 (dk_at dksX8_answer_0 9 rfl rfl)
theorem dX8_answer_11 : decode cX8_answer 11 = .ok (.aload_n 0, 1) := dk_42 (dk_at dksX8_answer_0 11 rfl rfl)
theorem dX8_answer_12 : decode cX8_answer 12 = .ok (.getfield 52, 3) := dk_180 0 52 (dk_at dksX8_answer_0 12 rfl rfl)
theorem dX8_answer_15 : decode cX8_answer 15 = .ok (.if_icmp .ge 168, 3) := dk_162 0 168 (dk_at dksX8_answer_0 15 rfl rfl)
theorem dX8_answer_18 : decode cX8_answer 18 = .ok (.aload_n 0, 1) := dk_42 (dk_at dksX8_answer_0 18 rfl rfl)
theorem dX8_answer_19 : decode cX8_answer 19 = .ok (.aload_n 0, 1) := dk_42 (dk_at dksX8_answer_0 19 rfl rfl)
theorem dX8_answer_20 : decode cX8_answer 20 = .ok (.getfield 15, 3) := dk_180 0 15 (dk_at dksX8_answer_0 20 rfl rfl)
theorem dX8_answer_23 : decode cX8_answer 23 = .ok (.iload 9, 2) := dk_21 9 (dk_at dksX8_answer_1 0 rfl rfl)
theorem dX8_answer_25 : decode cX8_answer 25 = .ok (.iaload, 1) := dk_46 (dk_at dksX8_answer_1 2 rfl rfl)
theorem dX8_answer_26 : decode cX8_answer 26 = .ok (.aload_n 0, 1) := dk_42 (dk_at dksX8_answer_1 3 rfl rfl)
theorem dX8_answer_27 : decode cX8_answer 27 = .ok (.getfield 3, 3) := dk_180 0 3 (dk_at dksX8_answer_1 4 rfl rfl)
theorem dX8_answer_30 : decode cX8_answer 30 = .ok (.getfield 59, 3) := dk_180 0 59 (dk_at dksX8_answer_1 7 rfl rfl)
theorem dX8_answer_33 : decode cX8_answer 33 = .ok (.invokevirtual 63, 3) := dk_182 0 63 (dk_at dksX8_answer_1 10 rfl rfl)
theorem dX8_answer_36 : decode cX8_answer 36 = .ok (.aload_n 0, 1) := dk_42 (dk_at dksX8_answer_1 13 rfl rfl)
theorem dX8_answer_37 : decode cX8_answer 37 = .ok (.getfield 3, 3) := dk_180 0 3 (dk_at dksX8_answer_1 14 rfl rfl)
theorem dX8_answer_40 : decode cX8_answer 40 = .ok (.getfield 59, 3) := dk_180 0 59 (dk_at dksX8_answer_1 17 rfl rfl)
theorem dX8_answer_43 : decode cX8_answer 43 = .ok (.getfield 102, 3) := dk_180 0 102 (dk_at dksX8_answer_1 20 rfl rfl)
theorem dX8_answer_46 : decode cX8_answer 46 = .ok (.iconst 0, 1) := dk_3 (dk_at dksX8_answer_1 23 rfl rfl)
theorem dX8_answer_47 : decode cX8_answer 47 = .ok (.iaload, 1) := dk_46 (dk_at dksX8_answer_2 0 rfl rfl)
theorem dX8_answer_48 : decode cX8_answer 48 = .ok (.iload_n 1, 1) := dk_27 (dk_at dksX8_answer_2 1 rfl rfl)
theorem dX8_answer_49 : decode cX8_answer 49 = .ok (.if_icmp .ne 56, 3) := dk_160 0 56 (dk_at dksX8_answer_2 2 rfl rfl)
theorem dX8_answer_52 : decode cX8_answer 52 = .ok (.aload_n 0, 1) := dk_42 (dk_at dksX8_answer_2 5 rfl rfl)
theorem dX8_answer_53 : decode cX8_answer 53 = .ok (.getfield 3, 3) := dk_180 0 3 (dk_at dksX8_answer_2 6 rfl rfl)
theorem dX8_answer_56 : decode cX8_answer 56 = .ok (.getfield 59, 3) := dk_180 0 59 (dk_at dksX8_answer_2 9 rfl rfl)
theorem dX8_answer_59 : decode cX8_answer 59 = .ok (.getfield 102, 3) := dk_180 0 102 (dk_at dksX8_answer_2 12 rfl rfl)
theorem dX8_answer_62 : decode cX8_answer 62 = .ok (.iconst 1, 1) := dk_4 (dk_at dksX8_answer_2 15 rfl rfl)
theorem dX8_answer_63 : decode cX8_answer 63 = .ok (.iaload, 1) := dk_46 (dk_at dksX8_answer_2 16 rfl rfl)
theorem dX8_answer_64 : decode cX8_answer 64 = .ok (.iload_n 2, 1) := dk_28 (dk_at dksX8_answer_2 17 rfl rfl)
theorem dX8_answer_65 : decode cX8_answer 65 = .ok (.if_icmp .ne 40, 3) := dk_160 0 40 (dk_at dksX8_answer_2 18 rfl rfl)
theorem dX8_answer_68 : decode cX8_answer 68 = .ok (.aload_n 0, 1) := dk_42 (dk_at dksX8_answer_2 21 rfl rfl)
theorem dX8_answer_69 : decode cX8_answer 69 = .ok (.getfield 3, 3) := dk_180 0 3 (dk_at dksX8_answer_3 0 rfl rfl)
theorem dX8_answer_72 : decode cX8_answer 72 = .ok (.getfield 59, 3) := dk_180 0 59 (dk_at dksX8_answer_3 3 rfl rfl)
theorem dX8_answer_75 : decode cX8_answer 75 = .ok (.getfield 41, 3) := dk_180 0 41 (dk_at dksX8_answer_3 6 rfl rfl)
theorem dX8_answer_78 : decode cX8_answer 78 = .ok (.iconst 0, 1) := dk_3 (dk_at dksX8_answer_3 9 rfl rfl)
theorem dX8_answer_79 : decode cX8_answer 79 = .ok (.iaload, 1) := dk_46 (dk_at dksX8_answer_3 10 rfl rfl)
theorem dX8_answer_80 : decode cX8_answer 80 = .ok (.iload_n 3, 1) := dk_29 (dk_at dksX8_answer_3 11 rfl rfl)
theorem dX8_answer_81 : decode cX8_answer 81 = .ok (.if_icmp .ne 24, 3) := dk_160 0 24 (dk_at dksX8_answer_3 12 rfl rfl)
theorem dX8_answer_84 : decode cX8_answer 84 = .ok (.aload_n 0, 1) := dk_42 (dk_at dksX8_answer_3 15 rfl rfl)
theorem dX8_answer_85 : decode cX8_answer 85 = .ok (.getfield 3, 3) := dk_180 0 3 (dk_at dksX8_answer_3 16 rfl rfl)
theorem dX8_answer_88 : decode cX8_answer 88 = .ok (.getfield 59, 3) := dk_180 0 59 (dk_at dksX8_answer_3 19 rfl rfl)
theorem dX8_answer_91 : decode cX8_answer 91 = .ok (.getfield 41, 3) := dk_180 0 41 (dk_at dksX8_answer_4 0 rfl rfl)
theorem dX8_answer_94 : decode cX8_answer 94 = .ok (.iconst 1, 1) := dk_4 (dk_at dksX8_answer_4 3 rfl rfl)
theorem dX8_answer_95 : decode cX8_answer 95 = .ok (.iaload, 1) := dk_46 (dk_at dksX8_answer_4 4 rfl rfl)
theorem dX8_answer_96 : decode cX8_answer 96 = .ok (.iload 4, 2) := dk_21 4 (dk_at dksX8_answer_4 5 rfl rfl)
theorem dX8_answer_98 : decode cX8_answer 98 = .ok (.if_icmp .ne 7, 3) := dk_160 0 7 (dk_at dksX8_answer_4 7 rfl rfl)
theorem dX8_answer_101 : decode cX8_answer 101 = .ok (.iconst 1, 1) := dk_4 (dk_at dksX8_answer_4 10 rfl rfl)
theorem dX8_answer_102 : decode cX8_answer 102 = .ok (.goto 4, 3) := dk_167 0 4 (dk_at dksX8_answer_4 11 rfl rfl)
theorem dX8_answer_105 : decode cX8_answer 105 = .ok (.iconst 0, 1) := dk_3 (dk_at dksX8_answer_4 14 rfl rfl)
theorem dX8_answer_106 : decode cX8_answer 106 = .ok (.istore 10, 2) := dk_54 10 (dk_at dksX8_answer_4 15 rfl rfl)
theorem dX8_answer_108 : decode cX8_answer 108 = .ok (.iload 10, 2) := dk_21 10 (dk_at dksX8_answer_4 17 rfl rfl)
theorem dX8_answer_110 : decode cX8_answer 110 = .ok (.ifCond .eq 67, 3) := dk_153 0 67 (dk_at dksX8_answer_4 19 rfl rfl)
theorem dX8_answer_113 : decode cX8_answer 113 = .ok (.iload 6, 2) := dk_21 6 (dk_at dksX8_answer_4 22 rfl rfl)
theorem dX8_answer_115 : decode cX8_answer 115 = .ok (.iconst (-1), 1) := dk_2 (dk_at dksX8_answer_5 0 rfl rfl)
theorem dX8_answer_116 : decode cX8_answer 116 = .ok (.if_icmp .eq 18, 3) := dk_159 0 18 (dk_at dksX8_answer_5 1 rfl rfl)
theorem dX8_answer_119 : decode cX8_answer 119 = .ok (.aload_n 0, 1) := dk_42 (dk_at dksX8_answer_5 4 rfl rfl)
theorem dX8_answer_120 : decode cX8_answer 120 = .ok (.getfield 19, 3) := dk_180 0 19 (dk_at dksX8_answer_5 5 rfl rfl)
theorem dX8_answer_123 : decode cX8_answer 123 = .ok (.iload 9, 2) := dk_21 9 (dk_at dksX8_answer_5 8 rfl rfl)
theorem dX8_answer_125 : decode cX8_answer 125 = .ok (.iaload, 1) := dk_46 (dk_at dksX8_answer_5 10 rfl rfl)
theorem dX8_answer_126 : decode cX8_answer 126 = .ok (.iload 6, 2) := dk_21 6 (dk_at dksX8_answer_5 11 rfl rfl)
theorem dX8_answer_128 : decode cX8_answer 128 = .ok (.if_icmp .le 6, 3) := dk_164 0 6 (dk_at dksX8_answer_5 13 rfl rfl)
theorem dX8_answer_131 : decode cX8_answer 131 = .ok (.goto 46, 3) := dk_167 0 46 (dk_at dksX8_answer_5 16 rfl rfl)
theorem dX8_answer_134 : decode cX8_answer 134 = .ok (.aload_n 0, 1) := dk_42 (dk_at dksX8_answer_5 19 rfl rfl)
theorem dX8_answer_135 : decode cX8_answer 135 = .ok (.getfield 19, 3) := dk_180 0 19 (dk_at dksX8_answer_5 20 rfl rfl)
theorem dX8_answer_138 : decode cX8_answer 138 = .ok (.iload 9, 2) := dk_21 9 (dk_at dksX8_answer_6 0 rfl rfl)
theorem dX8_answer_140 : decode cX8_answer 140 = .ok (.iaload, 1) := dk_46 (dk_at dksX8_answer_6 2 rfl rfl)
theorem dX8_answer_141 : decode cX8_answer 141 = .ok (.iload 6, 2) := dk_21 6 (dk_at dksX8_answer_6 3 rfl rfl)
theorem dX8_answer_143 : decode cX8_answer 143 = .ok (.if_icmp .ne 16, 3) := dk_160 0 16 (dk_at dksX8_answer_6 5 rfl rfl)
theorem dX8_answer_146 : decode cX8_answer 146 = .ok (.lload 7, 2) := dk_22 7 (dk_at dksX8_answer_6 8 rfl rfl)
theorem dX8_answer_148 : decode cX8_answer 148 = .ok (.aload_n 0, 1) := dk_42 (dk_at dksX8_answer_6 10 rfl rfl)
theorem dX8_answer_149 : decode cX8_answer 149 = .ok (.getfield 28, 3) := dk_180 0 28 (dk_at dksX8_answer_6 11 rfl rfl)
theorem dX8_answer_152 : decode cX8_answer 152 = .ok (.iload 9, 2) := dk_21 9 (dk_at dksX8_answer_6 14 rfl rfl)
theorem dX8_answer_154 : decode cX8_answer 154 = .ok (.laload, 1) := dk_47 (dk_at dksX8_answer_6 16 rfl rfl)
theorem dX8_answer_155 : decode cX8_answer 155 = .ok (.ladd, 1) := dk_97 (dk_at dksX8_answer_6 17 rfl rfl)
theorem dX8_answer_156 : decode cX8_answer 156 = .ok (.goto 10, 3) := dk_167 0 10 (dk_at dksX8_answer_6 18 rfl rfl)
theorem dX8_answer_159 : decode cX8_answer 159 = .ok (.aload_n 0, 1) := dk_42 (dk_at dksX8_answer_6 21 rfl rfl)
theorem dX8_answer_160 : decode cX8_answer 160 = .ok (.getfield 28, 3) := dk_180 0 28 (dk_at dksX8_answer_7 0 rfl rfl)
theorem dX8_answer_163 : decode cX8_answer 163 = .ok (.iload 9, 2) := dk_21 9 (dk_at dksX8_answer_7 3 rfl rfl)
theorem dX8_answer_165 : decode cX8_answer 165 = .ok (.laload, 1) := dk_47 (dk_at dksX8_answer_7 5 rfl rfl)
theorem dX8_answer_166 : decode cX8_answer 166 = .ok (.lstore 7, 2) := dk_55 7 (dk_at dksX8_answer_7 6 rfl rfl)
theorem dX8_answer_168 : decode cX8_answer 168 = .ok (.aload_n 0, 1) := dk_42 (dk_at dksX8_answer_7 8 rfl rfl)
theorem dX8_answer_169 : decode cX8_answer 169 = .ok (.getfield 19, 3) := dk_180 0 19 (dk_at dksX8_answer_7 9 rfl rfl)
theorem dX8_answer_172 : decode cX8_answer 172 = .ok (.iload 9, 2) := dk_21 9 (dk_at dksX8_answer_7 12 rfl rfl)
theorem dX8_answer_174 : decode cX8_answer 174 = .ok (.iaload, 1) := dk_46 (dk_at dksX8_answer_7 14 rfl rfl)
theorem dX8_answer_175 : decode cX8_answer 175 = .ok (.istore 6, 2) := dk_54 6 (dk_at dksX8_answer_7 15 rfl rfl)
theorem dX8_answer_177 : decode cX8_answer 177 = .ok (.iinc 9 1, 3) := dk_132 9 1 (dk_at dksX8_answer_7 17 rfl rfl)
theorem dX8_answer_180 : decode cX8_answer 180 = .ok (.goto (-171), 3) := dk_167 255 85 (dk_at dksX8_answer_7 20 rfl rfl)
theorem dX8_answer_183 : decode cX8_answer 183 = .ok (.iload 6, 2) := dk_21 6 (dk_at dksX8_answer_8 0 rfl rfl)
theorem dX8_answer_185 : decode cX8_answer 185 = .ok (.iconst (-1), 1) := dk_2 (dk_at dksX8_answer_8 2 rfl rfl)
theorem dX8_answer_186 : decode cX8_answer 186 = .ok (.if_icmp .ne 18, 3) := dk_160 0 18 (dk_at dksX8_answer_8 3 rfl rfl)
theorem dX8_answer_189 : decode cX8_answer 189 = .ok (.iload 5, 2) := dk_21 5 (dk_at dksX8_answer_8 6 rfl rfl)
theorem dX8_answer_191 : decode cX8_answer 191 = .ok (.ifCond .eq 7, 3) := dk_153 0 7 (dk_at dksX8_answer_8 8 rfl rfl)
theorem dX8_answer_194 : decode cX8_answer 194 = .ok (.lconst 0, 1) := dk_9 (dk_at dksX8_answer_8 11 rfl rfl)
theorem dX8_answer_195 : decode cX8_answer 195 = .ok (.goto 22, 3) := dk_167 0 22 (dk_at dksX8_answer_8 12 rfl rfl)
theorem dX8_answer_198 : decode cX8_answer 198 = .ok (.ldc2_w 105, 3) := dk_20 0 105 (dk_at dksX8_answer_8 15 rfl rfl)
theorem dX8_answer_201 : decode cX8_answer 201 = .ok (.goto 16, 3) := dk_167 0 16 (dk_at dksX8_answer_8 18 rfl rfl)
theorem dX8_answer_204 : decode cX8_answer 204 = .ok (.iload 5, 2) := dk_21 5 (dk_at dksX8_answer_8 21 rfl rfl)
theorem dX8_answer_206 : decode cX8_answer 206 = .ok (.ifCond .eq 8, 3) := dk_153 0 8 (dk_at dksX8_answer_9 0 rfl rfl)
theorem dX8_answer_209 : decode cX8_answer 209 = .ok (.lload 7, 2) := dk_22 7 (dk_at dksX8_answer_9 3 rfl rfl)
theorem dX8_answer_211 : decode cX8_answer 211 = .ok (.goto 6, 3) := dk_167 0 6 (dk_at dksX8_answer_9 5 rfl rfl)
theorem dX8_answer_214 : decode cX8_answer 214 = .ok (.iload 6, 2) := dk_21 6 (dk_at dksX8_answer_9 8 rfl rfl)
theorem dX8_answer_216 : decode cX8_answer 216 = .ok (.i2l, 1) := dk_133 (dk_at dksX8_answer_9 10 rfl rfl)
theorem dX8_answer_217 : decode cX8_answer 217 = .ok (.lreturn, 1) := dk_173 (dk_at dksX8_answer_9 11 rfl rfl)
abbrev cX10_init : ByteArray := prog_19_method_1_code
def yX10_init : MethodName := ⟨RX10, "<init>", "()V"⟩
def dkwX10_init_0 : List UInt8 := [42, 1, 1, 3, 3, 183, 0, 1, 177]
abbrev dktX10_init_0 : List UInt8 := dkwX10_init_0 ++ []
theorem dksX10_init_0 : cX10_init.data.toList.drop 0 = dktX10_init_0 := by decide +kernel
theorem dX10_init_0 : decode cX10_init 0 = .ok (.aload_n 0, 1) := dk_42 (dk_at dksX10_init_0 0 rfl rfl)
theorem dX10_init_1 : decode cX10_init 1 = .ok (.aconst_null, 1) := dk_1 (dk_at dksX10_init_0 1 rfl rfl)
theorem dX10_init_2 : decode cX10_init 2 = .ok (.aconst_null, 1) := dk_1 (dk_at dksX10_init_0 2 rfl rfl)
theorem dX10_init_3 : decode cX10_init 3 = .ok (.iconst 0, 1) := dk_3 (dk_at dksX10_init_0 3 rfl rfl)
theorem dX10_init_4 : decode cX10_init 4 = .ok (.iconst 0, 1) := dk_3 (dk_at dksX10_init_0 4 rfl rfl)
theorem dX10_init_5 : decode cX10_init 5 = .ok (.invokespecial 1, 3) := dk_183 0 1 (dk_at dksX10_init_0 5 rfl rfl)
theorem dX10_init_8 : decode cX10_init 8 = .ok (.return_, 1) := dk_177 (dk_at dksX10_init_0 8 rfl rfl)
abbrev cX11_init : ByteArray := prog_13_method_1_code
def yX11_init : MethodName := ⟨RX11, "<init>", "()V"⟩
def dkwX11_init_0 : List UInt8 := [42, 183, 0, 1, 42, 187, 0, 7, 89, 183, 0, 9, 181, 0, 10, 177]
abbrev dktX11_init_0 : List UInt8 := dkwX11_init_0 ++ []
theorem dksX11_init_0 : cX11_init.data.toList.drop 0 = dktX11_init_0 := by decide +kernel
theorem dX11_init_0 : decode cX11_init 0 = .ok (.aload_n 0, 1) := dk_42 (dk_at dksX11_init_0 0 rfl rfl)
theorem dX11_init_1 : decode cX11_init 1 = .ok (.invokespecial 1, 3) := dk_183 0 1 (dk_at dksX11_init_0 1 rfl rfl)
theorem dX11_init_4 : decode cX11_init 4 = .ok (.aload_n 0, 1) := dk_42 (dk_at dksX11_init_0 4 rfl rfl)
theorem dX11_init_5 : decode cX11_init 5 = .ok (.new 7, 3) := dk_187 0 7 (dk_at dksX11_init_0 5 rfl rfl)
theorem dX11_init_8 : decode cX11_init 8 = .ok (.dup, 1) := dk_89 (dk_at dksX11_init_0 8 rfl rfl)
theorem dX11_init_9 : decode cX11_init 9 = .ok (.invokespecial 9, 3) := dk_183 0 9 (dk_at dksX11_init_0 9 rfl rfl)
theorem dX11_init_12 : decode cX11_init 12 = .ok (.putfield 10, 3) := dk_181 0 10 (dk_at dksX11_init_0 12 rfl rfl)
theorem dX11_init_15 : decode cX11_init 15 = .ok (.return_, 1) := dk_177 (dk_at dksX11_init_0 15 rfl rfl)
abbrev cX11_style : ByteArray := prog_13_method_2_code
def yX11_style : MethodName := ⟨RX11, "style", "(LChaseCourt$Scene;)I"⟩
def dkwX11_style_2 : List UInt8 := [180, 0, 36, 172, 132, 2, 1, 167, 255, 205, 3, 172]
abbrev dktX11_style_2 : List UInt8 := dkwX11_style_2 ++ []
def dkwX11_style_1 : List UInt8 := [78, 45, 180, 0, 26, 198, 0, 16, 45, 180, 0, 26, 43, 185, 0, 30, 2, 0, 153, 0, 8, 45]
abbrev dktX11_style_1 : List UInt8 := dkwX11_style_1 ++ dktX11_style_2
def dkwX11_style_0 : List UInt8 := [3, 61, 28, 42, 180, 0, 10, 182, 0, 16, 162, 0, 46, 42, 180, 0, 10, 28, 182, 0, 20, 192, 0, 24]
abbrev dktX11_style_0 : List UInt8 := dkwX11_style_0 ++ dktX11_style_1
theorem dksX11_style_0 : cX11_style.data.toList.drop 0 = dktX11_style_0 := by decide +kernel
theorem dksX11_style_1 : cX11_style.data.toList.drop 24 = dktX11_style_1 := dk_seg dksX11_style_0 24 rfl rfl
theorem dksX11_style_2 : cX11_style.data.toList.drop 46 = dktX11_style_2 := dk_seg dksX11_style_1 22 rfl rfl
theorem dX11_style_0 : decode cX11_style 0 = .ok (.iconst 0, 1) := dk_3 (dk_at dksX11_style_0 0 rfl rfl)
theorem dX11_style_1 : decode cX11_style 1 = .ok (.istore_n 2, 1) := dk_61 (dk_at dksX11_style_0 1 rfl rfl)
theorem dX11_style_2 : decode cX11_style 2 = .ok (.iload_n 2, 1) := dk_28 (dk_at dksX11_style_0 2 rfl rfl)
theorem dX11_style_3 : decode cX11_style 3 = .ok (.aload_n 0, 1) := dk_42 (dk_at dksX11_style_0 3 rfl rfl)
theorem dX11_style_4 : decode cX11_style 4 = .ok (.getfield 10, 3) := dk_180 0 10 (dk_at dksX11_style_0 4 rfl rfl)
theorem dX11_style_7 : decode cX11_style 7 = .ok (.invokevirtual 16, 3) := dk_182 0 16 (dk_at dksX11_style_0 7 rfl rfl)
theorem dX11_style_10 : decode cX11_style 10 = .ok (.if_icmp .ge 46, 3) := dk_162 0 46 (dk_at dksX11_style_0 10 rfl rfl)
theorem dX11_style_13 : decode cX11_style 13 = .ok (.aload_n 0, 1) := dk_42 (dk_at dksX11_style_0 13 rfl rfl)
theorem dX11_style_14 : decode cX11_style 14 = .ok (.getfield 10, 3) := dk_180 0 10 (dk_at dksX11_style_0 14 rfl rfl)
theorem dX11_style_17 : decode cX11_style 17 = .ok (.iload_n 2, 1) := dk_28 (dk_at dksX11_style_0 17 rfl rfl)
theorem dX11_style_18 : decode cX11_style 18 = .ok (.invokevirtual 20, 3) := dk_182 0 20 (dk_at dksX11_style_0 18 rfl rfl)
theorem dX11_style_21 : decode cX11_style 21 = .ok (.checkcast 24, 3) := dk_192 0 24 (dk_at dksX11_style_0 21 rfl rfl)
theorem dX11_style_24 : decode cX11_style 24 = .ok (.astore_n 3, 1) := dk_78 (dk_at dksX11_style_1 0 rfl rfl)
theorem dX11_style_25 : decode cX11_style 25 = .ok (.aload_n 3, 1) := dk_45 (dk_at dksX11_style_1 1 rfl rfl)
theorem dX11_style_26 : decode cX11_style 26 = .ok (.getfield 26, 3) := dk_180 0 26 (dk_at dksX11_style_1 2 rfl rfl)
theorem dX11_style_29 : decode cX11_style 29 = .ok (.ifnull 16, 3) := dk_198 0 16 (dk_at dksX11_style_1 5 rfl rfl)
theorem dX11_style_32 : decode cX11_style 32 = .ok (.aload_n 3, 1) := dk_45 (dk_at dksX11_style_1 8 rfl rfl)
theorem dX11_style_33 : decode cX11_style 33 = .ok (.getfield 26, 3) := dk_180 0 26 (dk_at dksX11_style_1 9 rfl rfl)
theorem dX11_style_36 : decode cX11_style 36 = .ok (.aload_n 1, 1) := dk_43 (dk_at dksX11_style_1 12 rfl rfl)
theorem dX11_style_37 : decode cX11_style 37 = .ok (.invokeinterface 30 2, 5) := by decide +kernel
theorem dX11_style_42 : decode cX11_style 42 = .ok (.ifCond .eq 8, 3) := dk_153 0 8 (dk_at dksX11_style_1 18 rfl rfl)
theorem dX11_style_45 : decode cX11_style 45 = .ok (.aload_n 3, 1) := dk_45 (dk_at dksX11_style_1 21 rfl rfl)
theorem dX11_style_46 : decode cX11_style 46 = .ok (.getfield 36, 3) := dk_180 0 36 (dk_at dksX11_style_2 0 rfl rfl)
theorem dX11_style_49 : decode cX11_style 49 = .ok (.ireturn, 1) := dk_172 (dk_at dksX11_style_2 3 rfl rfl)
theorem dX11_style_50 : decode cX11_style 50 = .ok (.iinc 2 1, 3) := dk_132 2 1 (dk_at dksX11_style_2 4 rfl rfl)
theorem dX11_style_53 : decode cX11_style 53 = .ok (.goto (-51), 3) := dk_167 255 205 (dk_at dksX11_style_2 7 rfl rfl)
theorem dX11_style_56 : decode cX11_style 56 = .ok (.iconst 0, 1) := dk_3 (dk_at dksX11_style_2 10 rfl rfl)
theorem dX11_style_57 : decode cX11_style 57 = .ok (.ireturn, 1) := dk_172 (dk_at dksX11_style_2 11 rfl rfl)
abbrev cX12_init : ByteArray := prog_8_method_1_code
def yX12_init : MethodName := ⟨RX12, "<init>", "(ILChaseCourt$Cond;)V"⟩
def dkwX12_init_0 : List UInt8 := [42, 183, 0, 1, 42, 27, 181, 0, 7, 42, 44, 181, 0, 13, 177]
abbrev dktX12_init_0 : List UInt8 := dkwX12_init_0 ++ []
theorem dksX12_init_0 : cX12_init.data.toList.drop 0 = dktX12_init_0 := by decide +kernel
theorem dX12_init_0 : decode cX12_init 0 = .ok (.aload_n 0, 1) := dk_42 (dk_at dksX12_init_0 0 rfl rfl)
theorem dX12_init_1 : decode cX12_init 1 = .ok (.invokespecial 1, 3) := dk_183 0 1 (dk_at dksX12_init_0 1 rfl rfl)
theorem dX12_init_4 : decode cX12_init 4 = .ok (.aload_n 0, 1) := dk_42 (dk_at dksX12_init_0 4 rfl rfl)
theorem dX12_init_5 : decode cX12_init 5 = .ok (.iload_n 1, 1) := dk_27 (dk_at dksX12_init_0 5 rfl rfl)
theorem dX12_init_6 : decode cX12_init 6 = .ok (.putfield 7, 3) := dk_181 0 7 (dk_at dksX12_init_0 6 rfl rfl)
theorem dX12_init_9 : decode cX12_init 9 = .ok (.aload_n 0, 1) := dk_42 (dk_at dksX12_init_0 9 rfl rfl)
theorem dX12_init_10 : decode cX12_init 10 = .ok (.aload_n 2, 1) := dk_44 (dk_at dksX12_init_0 10 rfl rfl)
theorem dX12_init_11 : decode cX12_init 11 = .ok (.putfield 13, 3) := dk_181 0 13 (dk_at dksX12_init_0 11 rfl rfl)
theorem dX12_init_14 : decode cX12_init 14 = .ok (.return_, 1) := dk_177 (dk_at dksX12_init_0 14 rfl rfl)
abbrev cX13_init : ByteArray := prog_12_method_1_code
def yX13_init : MethodName := ⟨RX13, "<init>", "(Z)V"⟩
def dkwX13_init_0 : List UInt8 := [42, 183, 0, 1, 42, 187, 0, 7, 89, 183, 0, 9, 181, 0, 10, 42, 27, 181, 0, 16, 177]
abbrev dktX13_init_0 : List UInt8 := dkwX13_init_0 ++ []
theorem dksX13_init_0 : cX13_init.data.toList.drop 0 = dktX13_init_0 := by decide +kernel
theorem dX13_init_0 : decode cX13_init 0 = .ok (.aload_n 0, 1) := dk_42 (dk_at dksX13_init_0 0 rfl rfl)
theorem dX13_init_1 : decode cX13_init 1 = .ok (.invokespecial 1, 3) := dk_183 0 1 (dk_at dksX13_init_0 1 rfl rfl)
theorem dX13_init_4 : decode cX13_init 4 = .ok (.aload_n 0, 1) := dk_42 (dk_at dksX13_init_0 4 rfl rfl)
theorem dX13_init_5 : decode cX13_init 5 = .ok (.new 7, 3) := dk_187 0 7 (dk_at dksX13_init_0 5 rfl rfl)
theorem dX13_init_8 : decode cX13_init 8 = .ok (.dup, 1) := dk_89 (dk_at dksX13_init_0 8 rfl rfl)
theorem dX13_init_9 : decode cX13_init 9 = .ok (.invokespecial 9, 3) := dk_183 0 9 (dk_at dksX13_init_0 9 rfl rfl)
theorem dX13_init_12 : decode cX13_init 12 = .ok (.putfield 10, 3) := dk_181 0 10 (dk_at dksX13_init_0 12 rfl rfl)
theorem dX13_init_15 : decode cX13_init 15 = .ok (.aload_n 0, 1) := dk_42 (dk_at dksX13_init_0 15 rfl rfl)
theorem dX13_init_16 : decode cX13_init 16 = .ok (.iload_n 1, 1) := dk_27 (dk_at dksX13_init_0 16 rfl rfl)
theorem dX13_init_17 : decode cX13_init 17 = .ok (.putfield 16, 3) := dk_181 0 16 (dk_at dksX13_init_0 17 rfl rfl)
theorem dX13_init_20 : decode cX13_init 20 = .ok (.return_, 1) := dk_177 (dk_at dksX13_init_0 20 rfl rfl)
abbrev cX13_holds : ByteArray := prog_12_method_2_code
def yX13_holds : MethodName := ⟨RX13, "holds", "(LChaseCourt$Scene;)Z"⟩
def dkwX13_holds_2 : List UInt8 := [3, 172, 132, 2, 1, 167, 255, 205, 42, 180, 0, 16, 172]
abbrev dktX13_holds_2 : List UInt8 := dkwX13_holds_2 ++ []
def dkwX13_holds_1 : List UInt8 := [43, 185, 0, 30, 2, 0, 42, 180, 0, 16, 159, 0, 16, 42, 180, 0, 16, 154, 0, 7, 4, 167, 0, 4]
abbrev dktX13_holds_1 : List UInt8 := dkwX13_holds_1 ++ dktX13_holds_2
def dkwX13_holds_0 : List UInt8 := [3, 61, 28, 42, 180, 0, 10, 182, 0, 20, 162, 0, 46, 42, 180, 0, 10, 28, 182, 0, 24, 192, 0, 28]
abbrev dktX13_holds_0 : List UInt8 := dkwX13_holds_0 ++ dktX13_holds_1
theorem dksX13_holds_0 : cX13_holds.data.toList.drop 0 = dktX13_holds_0 := by decide +kernel
theorem dksX13_holds_1 : cX13_holds.data.toList.drop 24 = dktX13_holds_1 := dk_seg dksX13_holds_0 24 rfl rfl
theorem dksX13_holds_2 : cX13_holds.data.toList.drop 48 = dktX13_holds_2 := dk_seg dksX13_holds_1 24 rfl rfl
theorem dX13_holds_0 : decode cX13_holds 0 = .ok (.iconst 0, 1) := dk_3 (dk_at dksX13_holds_0 0 rfl rfl)
theorem dX13_holds_1 : decode cX13_holds 1 = .ok (.istore_n 2, 1) := dk_61 (dk_at dksX13_holds_0 1 rfl rfl)
theorem dX13_holds_2 : decode cX13_holds 2 = .ok (.iload_n 2, 1) := dk_28 (dk_at dksX13_holds_0 2 rfl rfl)
theorem dX13_holds_3 : decode cX13_holds 3 = .ok (.aload_n 0, 1) := dk_42 (dk_at dksX13_holds_0 3 rfl rfl)
theorem dX13_holds_4 : decode cX13_holds 4 = .ok (.getfield 10, 3) := dk_180 0 10 (dk_at dksX13_holds_0 4 rfl rfl)
theorem dX13_holds_7 : decode cX13_holds 7 = .ok (.invokevirtual 20, 3) := dk_182 0 20 (dk_at dksX13_holds_0 7 rfl rfl)
theorem dX13_holds_10 : decode cX13_holds 10 = .ok (.if_icmp .ge 46, 3) := dk_162 0 46 (dk_at dksX13_holds_0 10 rfl rfl)
theorem dX13_holds_13 : decode cX13_holds 13 = .ok (.aload_n 0, 1) := dk_42 (dk_at dksX13_holds_0 13 rfl rfl)
theorem dX13_holds_14 : decode cX13_holds 14 = .ok (.getfield 10, 3) := dk_180 0 10 (dk_at dksX13_holds_0 14 rfl rfl)
theorem dX13_holds_17 : decode cX13_holds 17 = .ok (.iload_n 2, 1) := dk_28 (dk_at dksX13_holds_0 17 rfl rfl)
theorem dX13_holds_18 : decode cX13_holds 18 = .ok (.invokevirtual 24, 3) := dk_182 0 24 (dk_at dksX13_holds_0 18 rfl rfl)
theorem dX13_holds_21 : decode cX13_holds 21 = .ok (.checkcast 28, 3) := dk_192 0 28 (dk_at dksX13_holds_0 21 rfl rfl)
theorem dX13_holds_24 : decode cX13_holds 24 = .ok (.aload_n 1, 1) := dk_43 (dk_at dksX13_holds_1 0 rfl rfl)
theorem dX13_holds_25 : decode cX13_holds 25 = .ok (.invokeinterface 30 2, 5) := by decide +kernel
theorem dX13_holds_30 : decode cX13_holds 30 = .ok (.aload_n 0, 1) := dk_42 (dk_at dksX13_holds_1 6 rfl rfl)
theorem dX13_holds_31 : decode cX13_holds 31 = .ok (.getfield 16, 3) := dk_180 0 16 (dk_at dksX13_holds_1 7 rfl rfl)
theorem dX13_holds_34 : decode cX13_holds 34 = .ok (.if_icmp .eq 16, 3) := dk_159 0 16 (dk_at dksX13_holds_1 10 rfl rfl)
theorem dX13_holds_37 : decode cX13_holds 37 = .ok (.aload_n 0, 1) := dk_42 (dk_at dksX13_holds_1 13 rfl rfl)
theorem dX13_holds_38 : decode cX13_holds 38 = .ok (.getfield 16, 3) := dk_180 0 16 (dk_at dksX13_holds_1 14 rfl rfl)
theorem dX13_holds_41 : decode cX13_holds 41 = .ok (.ifCond .ne 7, 3) := dk_154 0 7 (dk_at dksX13_holds_1 17 rfl rfl)
theorem dX13_holds_44 : decode cX13_holds 44 = .ok (.iconst 1, 1) := dk_4 (dk_at dksX13_holds_1 20 rfl rfl)
theorem dX13_holds_45 : decode cX13_holds 45 = .ok (.goto 4, 3) := dk_167 0 4 (dk_at dksX13_holds_1 21 rfl rfl)
theorem dX13_holds_48 : decode cX13_holds 48 = .ok (.iconst 0, 1) := dk_3 (dk_at dksX13_holds_2 0 rfl rfl)
theorem dX13_holds_49 : decode cX13_holds 49 = .ok (.ireturn, 1) := dk_172 (dk_at dksX13_holds_2 1 rfl rfl)
theorem dX13_holds_50 : decode cX13_holds 50 = .ok (.iinc 2 1, 3) := dk_132 2 1 (dk_at dksX13_holds_2 2 rfl rfl)
theorem dX13_holds_53 : decode cX13_holds 53 = .ok (.goto (-51), 3) := dk_167 255 205 (dk_at dksX13_holds_2 5 rfl rfl)
theorem dX13_holds_56 : decode cX13_holds 56 = .ok (.aload_n 0, 1) := dk_42 (dk_at dksX13_holds_2 8 rfl rfl)
theorem dX13_holds_57 : decode cX13_holds 57 = .ok (.getfield 16, 3) := dk_180 0 16 (dk_at dksX13_holds_2 9 rfl rfl)
theorem dX13_holds_60 : decode cX13_holds 60 = .ok (.ireturn, 1) := dk_172 (dk_at dksX13_holds_2 12 rfl rfl)
abbrev cX14_init : ByteArray := prog_9_method_1_code
def yX14_init : MethodName := ⟨RX14, "<init>", "(LChaseCourt$Cond;)V"⟩
def dkwX14_init_0 : List UInt8 := [42, 183, 0, 1, 42, 43, 181, 0, 7, 177]
abbrev dktX14_init_0 : List UInt8 := dkwX14_init_0 ++ []
theorem dksX14_init_0 : cX14_init.data.toList.drop 0 = dktX14_init_0 := by decide +kernel
theorem dX14_init_0 : decode cX14_init 0 = .ok (.aload_n 0, 1) := dk_42 (dk_at dksX14_init_0 0 rfl rfl)
theorem dX14_init_1 : decode cX14_init 1 = .ok (.invokespecial 1, 3) := dk_183 0 1 (dk_at dksX14_init_0 1 rfl rfl)
theorem dX14_init_4 : decode cX14_init 4 = .ok (.aload_n 0, 1) := dk_42 (dk_at dksX14_init_0 4 rfl rfl)
theorem dX14_init_5 : decode cX14_init 5 = .ok (.aload_n 1, 1) := dk_43 (dk_at dksX14_init_0 5 rfl rfl)
theorem dX14_init_6 : decode cX14_init 6 = .ok (.putfield 7, 3) := dk_181 0 7 (dk_at dksX14_init_0 6 rfl rfl)
theorem dX14_init_9 : decode cX14_init 9 = .ok (.return_, 1) := dk_177 (dk_at dksX14_init_0 9 rfl rfl)
abbrev cX14_holds : ByteArray := prog_9_method_2_code
def yX14_holds : MethodName := ⟨RX14, "holds", "(LChaseCourt$Scene;)Z"⟩
def dkwX14_holds_0 : List UInt8 := [42, 180, 0, 7, 43, 185, 0, 13, 2, 0, 154, 0, 7, 4, 167, 0, 4, 3, 172]
abbrev dktX14_holds_0 : List UInt8 := dkwX14_holds_0 ++ []
theorem dksX14_holds_0 : cX14_holds.data.toList.drop 0 = dktX14_holds_0 := by decide +kernel
theorem dX14_holds_0 : decode cX14_holds 0 = .ok (.aload_n 0, 1) := dk_42 (dk_at dksX14_holds_0 0 rfl rfl)
theorem dX14_holds_1 : decode cX14_holds 1 = .ok (.getfield 7, 3) := dk_180 0 7 (dk_at dksX14_holds_0 1 rfl rfl)
theorem dX14_holds_4 : decode cX14_holds 4 = .ok (.aload_n 1, 1) := dk_43 (dk_at dksX14_holds_0 4 rfl rfl)
theorem dX14_holds_5 : decode cX14_holds 5 = .ok (.invokeinterface 13 2, 5) := by decide +kernel
theorem dX14_holds_10 : decode cX14_holds 10 = .ok (.ifCond .ne 7, 3) := dk_154 0 7 (dk_at dksX14_holds_0 10 rfl rfl)
theorem dX14_holds_13 : decode cX14_holds 13 = .ok (.iconst 1, 1) := dk_4 (dk_at dksX14_holds_0 13 rfl rfl)
theorem dX14_holds_14 : decode cX14_holds 14 = .ok (.goto 4, 3) := dk_167 0 4 (dk_at dksX14_holds_0 14 rfl rfl)
theorem dX14_holds_17 : decode cX14_holds 17 = .ok (.iconst 0, 1) := dk_3 (dk_at dksX14_holds_0 17 rfl rfl)
theorem dX14_holds_18 : decode cX14_holds 18 = .ok (.ireturn, 1) := dk_172 (dk_at dksX14_holds_0 18 rfl rfl)
abbrev cX15_init : ByteArray := prog_6_method_1_code
def yX15_init : MethodName := ⟨RX15, "<init>", "(Z)V"⟩
def dkwX15_init_0 : List UInt8 := [42, 183, 0, 1, 42, 27, 181, 0, 7, 177]
abbrev dktX15_init_0 : List UInt8 := dkwX15_init_0 ++ []
theorem dksX15_init_0 : cX15_init.data.toList.drop 0 = dktX15_init_0 := by decide +kernel
theorem dX15_init_0 : decode cX15_init 0 = .ok (.aload_n 0, 1) := dk_42 (dk_at dksX15_init_0 0 rfl rfl)
theorem dX15_init_1 : decode cX15_init 1 = .ok (.invokespecial 1, 3) := dk_183 0 1 (dk_at dksX15_init_0 1 rfl rfl)
theorem dX15_init_4 : decode cX15_init 4 = .ok (.aload_n 0, 1) := dk_42 (dk_at dksX15_init_0 4 rfl rfl)
theorem dX15_init_5 : decode cX15_init 5 = .ok (.iload_n 1, 1) := dk_27 (dk_at dksX15_init_0 5 rfl rfl)
theorem dX15_init_6 : decode cX15_init 6 = .ok (.putfield 7, 3) := dk_181 0 7 (dk_at dksX15_init_0 6 rfl rfl)
theorem dX15_init_9 : decode cX15_init 9 = .ok (.return_, 1) := dk_177 (dk_at dksX15_init_0 9 rfl rfl)
abbrev cX15_holds : ByteArray := prog_6_method_2_code
def yX15_holds : MethodName := ⟨RX15, "holds", "(LChaseCourt$Scene;)Z"⟩
def dkwX15_holds_0 : List UInt8 := [42, 180, 0, 7, 153, 0, 10, 43, 182, 0, 13, 167, 0, 10, 43, 180, 0, 19, 180, 0, 23, 172]
abbrev dktX15_holds_0 : List UInt8 := dkwX15_holds_0 ++ []
theorem dksX15_holds_0 : cX15_holds.data.toList.drop 0 = dktX15_holds_0 := by decide +kernel
theorem dX15_holds_0 : decode cX15_holds 0 = .ok (.aload_n 0, 1) := dk_42 (dk_at dksX15_holds_0 0 rfl rfl)
theorem dX15_holds_1 : decode cX15_holds 1 = .ok (.getfield 7, 3) := dk_180 0 7 (dk_at dksX15_holds_0 1 rfl rfl)
theorem dX15_holds_4 : decode cX15_holds 4 = .ok (.ifCond .eq 10, 3) := dk_153 0 10 (dk_at dksX15_holds_0 4 rfl rfl)
theorem dX15_holds_7 : decode cX15_holds 7 = .ok (.aload_n 1, 1) := dk_43 (dk_at dksX15_holds_0 7 rfl rfl)
theorem dX15_holds_8 : decode cX15_holds 8 = .ok (.invokevirtual 13, 3) := dk_182 0 13 (dk_at dksX15_holds_0 8 rfl rfl)
theorem dX15_holds_11 : decode cX15_holds 11 = .ok (.goto 10, 3) := dk_167 0 10 (dk_at dksX15_holds_0 11 rfl rfl)
theorem dX15_holds_14 : decode cX15_holds 14 = .ok (.aload_n 1, 1) := dk_43 (dk_at dksX15_holds_0 14 rfl rfl)
theorem dX15_holds_15 : decode cX15_holds 15 = .ok (.getfield 19, 3) := dk_180 0 19 (dk_at dksX15_holds_0 15 rfl rfl)
theorem dX15_holds_18 : decode cX15_holds 18 = .ok (.getfield 23, 3) := dk_180 0 23 (dk_at dksX15_holds_0 18 rfl rfl)
theorem dX15_holds_21 : decode cX15_holds 21 = .ok (.ireturn, 1) := dk_172 (dk_at dksX15_holds_0 21 rfl rfl)
abbrev cX16_init : ByteArray := prog_17_method_1_code
def yX16_init : MethodName := ⟨RX16, "<init>", "()V"⟩
def dkwX16_init_0 : List UInt8 := [42, 183, 0, 1, 42, 187, 0, 7, 89, 183, 0, 9, 181, 0, 10, 177]
abbrev dktX16_init_0 : List UInt8 := dkwX16_init_0 ++ []
theorem dksX16_init_0 : cX16_init.data.toList.drop 0 = dktX16_init_0 := by decide +kernel
theorem dX16_init_0 : decode cX16_init 0 = .ok (.aload_n 0, 1) := dk_42 (dk_at dksX16_init_0 0 rfl rfl)
theorem dX16_init_1 : decode cX16_init 1 = .ok (.invokespecial 1, 3) := dk_183 0 1 (dk_at dksX16_init_0 1 rfl rfl)
theorem dX16_init_4 : decode cX16_init 4 = .ok (.aload_n 0, 1) := dk_42 (dk_at dksX16_init_0 4 rfl rfl)
theorem dX16_init_5 : decode cX16_init 5 = .ok (.new 7, 3) := dk_187 0 7 (dk_at dksX16_init_0 5 rfl rfl)
theorem dX16_init_8 : decode cX16_init 8 = .ok (.dup, 1) := dk_89 (dk_at dksX16_init_0 8 rfl rfl)
theorem dX16_init_9 : decode cX16_init 9 = .ok (.invokespecial 9, 3) := dk_183 0 9 (dk_at dksX16_init_0 9 rfl rfl)
theorem dX16_init_12 : decode cX16_init 12 = .ok (.putfield 10, 3) := dk_181 0 10 (dk_at dksX16_init_0 12 rfl rfl)
theorem dX16_init_15 : decode cX16_init 15 = .ok (.return_, 1) := dk_177 (dk_at dksX16_init_0 15 rfl rfl)
abbrev cX16_in : ByteArray := prog_17_method_2_code
def yX16_in : MethodName := ⟨RX16, "in", "(LChaseCourt$Scene;)I"⟩
def dkwX16_in_1 : List UInt8 := [192, 0, 24, 43, 182, 0, 26, 96, 61, 132, 3, 1, 167, 255, 224, 28, 172]
abbrev dktX16_in_1 : List UInt8 := dkwX16_in_1 ++ []
def dkwX16_in_0 : List UInt8 := [3, 61, 3, 62, 29, 42, 180, 0, 10, 182, 0, 16, 162, 0, 27, 28, 42, 180, 0, 10, 29, 182, 0, 20]
abbrev dktX16_in_0 : List UInt8 := dkwX16_in_0 ++ dktX16_in_1
theorem dksX16_in_0 : cX16_in.data.toList.drop 0 = dktX16_in_0 := by decide +kernel
theorem dksX16_in_1 : cX16_in.data.toList.drop 24 = dktX16_in_1 := dk_seg dksX16_in_0 24 rfl rfl
theorem dX16_in_0 : decode cX16_in 0 = .ok (.iconst 0, 1) := dk_3 (dk_at dksX16_in_0 0 rfl rfl)
theorem dX16_in_1 : decode cX16_in 1 = .ok (.istore_n 2, 1) := dk_61 (dk_at dksX16_in_0 1 rfl rfl)
theorem dX16_in_2 : decode cX16_in 2 = .ok (.iconst 0, 1) := dk_3 (dk_at dksX16_in_0 2 rfl rfl)
theorem dX16_in_3 : decode cX16_in 3 = .ok (.istore_n 3, 1) := dk_62 (dk_at dksX16_in_0 3 rfl rfl)
theorem dX16_in_4 : decode cX16_in 4 = .ok (.iload_n 3, 1) := dk_29 (dk_at dksX16_in_0 4 rfl rfl)
theorem dX16_in_5 : decode cX16_in 5 = .ok (.aload_n 0, 1) := dk_42 (dk_at dksX16_in_0 5 rfl rfl)
theorem dX16_in_6 : decode cX16_in 6 = .ok (.getfield 10, 3) := dk_180 0 10 (dk_at dksX16_in_0 6 rfl rfl)
theorem dX16_in_9 : decode cX16_in 9 = .ok (.invokevirtual 16, 3) := dk_182 0 16 (dk_at dksX16_in_0 9 rfl rfl)
theorem dX16_in_12 : decode cX16_in 12 = .ok (.if_icmp .ge 27, 3) := dk_162 0 27 (dk_at dksX16_in_0 12 rfl rfl)
theorem dX16_in_15 : decode cX16_in 15 = .ok (.iload_n 2, 1) := dk_28 (dk_at dksX16_in_0 15 rfl rfl)
theorem dX16_in_16 : decode cX16_in 16 = .ok (.aload_n 0, 1) := dk_42 (dk_at dksX16_in_0 16 rfl rfl)
theorem dX16_in_17 : decode cX16_in 17 = .ok (.getfield 10, 3) := dk_180 0 10 (dk_at dksX16_in_0 17 rfl rfl)
theorem dX16_in_20 : decode cX16_in 20 = .ok (.iload_n 3, 1) := dk_29 (dk_at dksX16_in_0 20 rfl rfl)
theorem dX16_in_21 : decode cX16_in 21 = .ok (.invokevirtual 20, 3) := dk_182 0 20 (dk_at dksX16_in_0 21 rfl rfl)
theorem dX16_in_24 : decode cX16_in 24 = .ok (.checkcast 24, 3) := dk_192 0 24 (dk_at dksX16_in_1 0 rfl rfl)
theorem dX16_in_27 : decode cX16_in 27 = .ok (.aload_n 1, 1) := dk_43 (dk_at dksX16_in_1 3 rfl rfl)
theorem dX16_in_28 : decode cX16_in 28 = .ok (.invokevirtual 26, 3) := dk_182 0 26 (dk_at dksX16_in_1 4 rfl rfl)
theorem dX16_in_31 : decode cX16_in 31 = .ok (.iadd, 1) := dk_96 (dk_at dksX16_in_1 7 rfl rfl)
theorem dX16_in_32 : decode cX16_in 32 = .ok (.istore_n 2, 1) := dk_61 (dk_at dksX16_in_1 8 rfl rfl)
theorem dX16_in_33 : decode cX16_in 33 = .ok (.iinc 3 1, 3) := dk_132 3 1 (dk_at dksX16_in_1 9 rfl rfl)
theorem dX16_in_36 : decode cX16_in 36 = .ok (.goto (-32), 3) := dk_167 255 224 (dk_at dksX16_in_1 12 rfl rfl)
theorem dX16_in_39 : decode cX16_in 39 = .ok (.iload_n 2, 1) := dk_28 (dk_at dksX16_in_1 15 rfl rfl)
theorem dX16_in_40 : decode cX16_in 40 = .ok (.ireturn, 1) := dk_172 (dk_at dksX16_in_1 16 rfl rfl)
abbrev cX17_init : ByteArray := prog_10_method_1_code
def yX17_init : MethodName := ⟨RX17, "<init>", "(ILChaseCourt$Fact;)V"⟩
def dkwX17_init_0 : List UInt8 := [42, 183, 0, 1, 42, 27, 181, 0, 7, 42, 44, 181, 0, 13, 177]
abbrev dktX17_init_0 : List UInt8 := dkwX17_init_0 ++ []
theorem dksX17_init_0 : cX17_init.data.toList.drop 0 = dktX17_init_0 := by decide +kernel
theorem dX17_init_0 : decode cX17_init 0 = .ok (.aload_n 0, 1) := dk_42 (dk_at dksX17_init_0 0 rfl rfl)
theorem dX17_init_1 : decode cX17_init 1 = .ok (.invokespecial 1, 3) := dk_183 0 1 (dk_at dksX17_init_0 1 rfl rfl)
theorem dX17_init_4 : decode cX17_init 4 = .ok (.aload_n 0, 1) := dk_42 (dk_at dksX17_init_0 4 rfl rfl)
theorem dX17_init_5 : decode cX17_init 5 = .ok (.iload_n 1, 1) := dk_27 (dk_at dksX17_init_0 5 rfl rfl)
theorem dX17_init_6 : decode cX17_init 6 = .ok (.putfield 7, 3) := dk_181 0 7 (dk_at dksX17_init_0 6 rfl rfl)
theorem dX17_init_9 : decode cX17_init 9 = .ok (.aload_n 0, 1) := dk_42 (dk_at dksX17_init_0 9 rfl rfl)
theorem dX17_init_10 : decode cX17_init 10 = .ok (.aload_n 2, 1) := dk_44 (dk_at dksX17_init_0 10 rfl rfl)
theorem dX17_init_11 : decode cX17_init 11 = .ok (.putfield 13, 3) := dk_181 0 13 (dk_at dksX17_init_0 11 rfl rfl)
theorem dX17_init_14 : decode cX17_init 14 = .ok (.return_, 1) := dk_177 (dk_at dksX17_init_0 14 rfl rfl)
abbrev cX17_in : ByteArray := prog_10_method_2_code
def yX17_in : MethodName := ⟨RX17, "in", "(LChaseCourt$Scene;)I"⟩
def dkwX17_in_0 : List UInt8 := [42, 180, 0, 13, 199, 0, 10, 42, 180, 0, 7, 167, 0, 11, 43, 42, 180, 0, 13, 182, 0, 17, 172]
abbrev dktX17_in_0 : List UInt8 := dkwX17_in_0 ++ []
theorem dksX17_in_0 : cX17_in.data.toList.drop 0 = dktX17_in_0 := by decide +kernel
theorem dX17_in_0 : decode cX17_in 0 = .ok (.aload_n 0, 1) := dk_42 (dk_at dksX17_in_0 0 rfl rfl)
theorem dX17_in_1 : decode cX17_in 1 = .ok (.getfield 13, 3) := dk_180 0 13 (dk_at dksX17_in_0 1 rfl rfl)
theorem dX17_in_4 : decode cX17_in 4 = .ok (.ifnonnull 10, 3) := dk_199 0 10 (dk_at dksX17_in_0 4 rfl rfl)
theorem dX17_in_7 : decode cX17_in 7 = .ok (.aload_n 0, 1) := dk_42 (dk_at dksX17_in_0 7 rfl rfl)
theorem dX17_in_8 : decode cX17_in 8 = .ok (.getfield 7, 3) := dk_180 0 7 (dk_at dksX17_in_0 8 rfl rfl)
theorem dX17_in_11 : decode cX17_in 11 = .ok (.goto 11, 3) := dk_167 0 11 (dk_at dksX17_in_0 11 rfl rfl)
theorem dX17_in_14 : decode cX17_in 14 = .ok (.aload_n 1, 1) := dk_43 (dk_at dksX17_in_0 14 rfl rfl)
theorem dX17_in_15 : decode cX17_in 15 = .ok (.aload_n 0, 1) := dk_42 (dk_at dksX17_in_0 15 rfl rfl)
theorem dX17_in_16 : decode cX17_in 16 = .ok (.getfield 13, 3) := dk_180 0 13 (dk_at dksX17_in_0 16 rfl rfl)
theorem dX17_in_19 : decode cX17_in 19 = .ok (.invokevirtual 17, 3) := dk_182 0 17 (dk_at dksX17_in_0 19 rfl rfl)
theorem dX17_in_22 : decode cX17_in 22 = .ok (.ireturn, 1) := dk_172 (dk_at dksX17_in_0 22 rfl rfl)
abbrev cX18_of : ByteArray := prog_5_method_4_code
def yX18_of : MethodName := ⟨RX18, "of", "(Ljava/lang/String;)LChaseCourt$Fact;"⟩
def dkwX18_of_1 : List UInt8 := [42, 182, 0, 46, 153, 0, 6, 25, 4, 176, 132, 3, 1, 167, 255, 228, 1, 176]
abbrev dktX18_of_1 : List UInt8 := dkwX18_of_1 ++ []
def dkwX18_of_0 : List UInt8 := [184, 0, 42, 76, 43, 190, 61, 3, 62, 29, 28, 162, 0, 29, 43, 29, 50, 58, 4, 25, 4, 180, 0, 38]
abbrev dktX18_of_0 : List UInt8 := dkwX18_of_0 ++ dktX18_of_1
theorem dksX18_of_0 : cX18_of.data.toList.drop 0 = dktX18_of_0 := by decide +kernel
theorem dksX18_of_1 : cX18_of.data.toList.drop 24 = dktX18_of_1 := dk_seg dksX18_of_0 24 rfl rfl
theorem dX18_of_0 : decode cX18_of 0 = .ok (.invokestatic 42, 3) := dk_184 0 42 (dk_at dksX18_of_0 0 rfl rfl)
theorem dX18_of_3 : decode cX18_of 3 = .ok (.astore_n 1, 1) := dk_76 (dk_at dksX18_of_0 3 rfl rfl)
theorem dX18_of_4 : decode cX18_of 4 = .ok (.aload_n 1, 1) := dk_43 (dk_at dksX18_of_0 4 rfl rfl)
theorem dX18_of_5 : decode cX18_of 5 = .ok (.arraylength, 1) := dk_190 (dk_at dksX18_of_0 5 rfl rfl)
theorem dX18_of_6 : decode cX18_of 6 = .ok (.istore_n 2, 1) := dk_61 (dk_at dksX18_of_0 6 rfl rfl)
theorem dX18_of_7 : decode cX18_of 7 = .ok (.iconst 0, 1) := dk_3 (dk_at dksX18_of_0 7 rfl rfl)
theorem dX18_of_8 : decode cX18_of 8 = .ok (.istore_n 3, 1) := dk_62 (dk_at dksX18_of_0 8 rfl rfl)
theorem dX18_of_9 : decode cX18_of 9 = .ok (.iload_n 3, 1) := dk_29 (dk_at dksX18_of_0 9 rfl rfl)
theorem dX18_of_10 : decode cX18_of 10 = .ok (.iload_n 2, 1) := dk_28 (dk_at dksX18_of_0 10 rfl rfl)
theorem dX18_of_11 : decode cX18_of 11 = .ok (.if_icmp .ge 29, 3) := dk_162 0 29 (dk_at dksX18_of_0 11 rfl rfl)
theorem dX18_of_14 : decode cX18_of 14 = .ok (.aload_n 1, 1) := dk_43 (dk_at dksX18_of_0 14 rfl rfl)
theorem dX18_of_15 : decode cX18_of 15 = .ok (.iload_n 3, 1) := dk_29 (dk_at dksX18_of_0 15 rfl rfl)
theorem dX18_of_16 : decode cX18_of 16 = .ok (.aaload, 1) := dk_50 (dk_at dksX18_of_0 16 rfl rfl)
theorem dX18_of_17 : decode cX18_of 17 = .ok (.astore 4, 2) := dk_58 4 (dk_at dksX18_of_0 17 rfl rfl)
theorem dX18_of_19 : decode cX18_of 19 = .ok (.aload 4, 2) := dk_25 4 (dk_at dksX18_of_0 19 rfl rfl)
theorem dX18_of_21 : decode cX18_of 21 = .ok (.getfield 38, 3) := dk_180 0 38 (dk_at dksX18_of_0 21 rfl rfl)
theorem dX18_of_24 : decode cX18_of 24 = .ok (.aload_n 0, 1) := dk_42 (dk_at dksX18_of_1 0 rfl rfl)
theorem dX18_of_25 : decode cX18_of 25 = .ok (.invokevirtual 46, 3) := dk_182 0 46 (dk_at dksX18_of_1 1 rfl rfl)
theorem dX18_of_28 : decode cX18_of 28 = .ok (.ifCond .eq 6, 3) := dk_153 0 6 (dk_at dksX18_of_1 4 rfl rfl)
theorem dX18_of_31 : decode cX18_of 31 = .ok (.aload 4, 2) := dk_25 4 (dk_at dksX18_of_1 7 rfl rfl)
theorem dX18_of_33 : decode cX18_of 33 = .ok (.areturn, 1) := dk_176 (dk_at dksX18_of_1 9 rfl rfl)
theorem dX18_of_34 : decode cX18_of 34 = .ok (.iinc 3 1, 3) := dk_132 3 1 (dk_at dksX18_of_1 10 rfl rfl)
theorem dX18_of_37 : decode cX18_of 37 = .ok (.goto (-28), 3) := dk_167 255 228 (dk_at dksX18_of_1 13 rfl rfl)
theorem dX18_of_40 : decode cX18_of 40 = .ok (.aconst_null, 1) := dk_1 (dk_at dksX18_of_1 16 rfl rfl)
theorem dX18_of_41 : decode cX18_of 41 = .ok (.areturn, 1) := dk_176 (dk_at dksX18_of_1 17 rfl rfl)
abbrev cX18_values : ByteArray := prog_5_method_1_code
def yX18_values : MethodName := ⟨RX18, "values", "()[LChaseCourt$Fact;"⟩
def dkwX18_values_0 : List UInt8 := [178, 0, 19, 182, 0, 23, 192, 0, 24, 176]
abbrev dktX18_values_0 : List UInt8 := dkwX18_values_0 ++ []
theorem dksX18_values_0 : cX18_values.data.toList.drop 0 = dktX18_values_0 := by decide +kernel
theorem dX18_values_0 : decode cX18_values 0 = .ok (.getstatic 19, 3) := dk_178 0 19 (dk_at dksX18_values_0 0 rfl rfl)
theorem dX18_values_3 : decode cX18_values 3 = .ok (.invokevirtual 23, 3) := dk_182 0 23 (dk_at dksX18_values_0 3 rfl rfl)
theorem dX18_values_6 : decode cX18_values 6 = .ok (.checkcast 24, 3) := dk_192 0 24 (dk_at dksX18_values_0 6 rfl rfl)
theorem dX18_values_9 : decode cX18_values 9 = .ok (.areturn, 1) := dk_176 (dk_at dksX18_values_0 9 rfl rfl)
abbrev cX19_init : ByteArray := prog_7_method_1_code
def yX19_init : MethodName := ⟨RX19, "<init>", "(LChaseCourt$Sum;LChaseCourt$Sum;)V"⟩
def dkwX19_init_0 : List UInt8 := [42, 183, 0, 1, 42, 43, 181, 0, 7, 42, 44, 181, 0, 13, 177]
abbrev dktX19_init_0 : List UInt8 := dkwX19_init_0 ++ []
theorem dksX19_init_0 : cX19_init.data.toList.drop 0 = dktX19_init_0 := by decide +kernel
theorem dX19_init_0 : decode cX19_init 0 = .ok (.aload_n 0, 1) := dk_42 (dk_at dksX19_init_0 0 rfl rfl)
theorem dX19_init_1 : decode cX19_init 1 = .ok (.invokespecial 1, 3) := dk_183 0 1 (dk_at dksX19_init_0 1 rfl rfl)
theorem dX19_init_4 : decode cX19_init 4 = .ok (.aload_n 0, 1) := dk_42 (dk_at dksX19_init_0 4 rfl rfl)
theorem dX19_init_5 : decode cX19_init 5 = .ok (.aload_n 1, 1) := dk_43 (dk_at dksX19_init_0 5 rfl rfl)
theorem dX19_init_6 : decode cX19_init 6 = .ok (.putfield 7, 3) := dk_181 0 7 (dk_at dksX19_init_0 6 rfl rfl)
theorem dX19_init_9 : decode cX19_init 9 = .ok (.aload_n 0, 1) := dk_42 (dk_at dksX19_init_0 9 rfl rfl)
theorem dX19_init_10 : decode cX19_init 10 = .ok (.aload_n 2, 1) := dk_44 (dk_at dksX19_init_0 10 rfl rfl)
theorem dX19_init_11 : decode cX19_init 11 = .ok (.putfield 13, 3) := dk_181 0 13 (dk_at dksX19_init_0 11 rfl rfl)
theorem dX19_init_14 : decode cX19_init 14 = .ok (.return_, 1) := dk_177 (dk_at dksX19_init_0 14 rfl rfl)
abbrev cX19_holds : ByteArray := prog_7_method_2_code
def yX19_holds : MethodName := ⟨RX19, "holds", "(LChaseCourt$Scene;)Z"⟩
def dkwX19_holds_1 : List UInt8 := [172]
abbrev dktX19_holds_1 : List UInt8 := dkwX19_holds_1 ++ []
def dkwX19_holds_0 : List UInt8 := [42, 180, 0, 7, 43, 182, 0, 16, 42, 180, 0, 13, 43, 182, 0, 16, 162, 0, 7, 4, 167, 0, 4, 3]
abbrev dktX19_holds_0 : List UInt8 := dkwX19_holds_0 ++ dktX19_holds_1
theorem dksX19_holds_0 : cX19_holds.data.toList.drop 0 = dktX19_holds_0 := by decide +kernel
theorem dksX19_holds_1 : cX19_holds.data.toList.drop 24 = dktX19_holds_1 := dk_seg dksX19_holds_0 24 rfl rfl
theorem dX19_holds_0 : decode cX19_holds 0 = .ok (.aload_n 0, 1) := dk_42 (dk_at dksX19_holds_0 0 rfl rfl)
theorem dX19_holds_1 : decode cX19_holds 1 = .ok (.getfield 7, 3) := dk_180 0 7 (dk_at dksX19_holds_0 1 rfl rfl)
theorem dX19_holds_4 : decode cX19_holds 4 = .ok (.aload_n 1, 1) := dk_43 (dk_at dksX19_holds_0 4 rfl rfl)
theorem dX19_holds_5 : decode cX19_holds 5 = .ok (.invokevirtual 16, 3) := dk_182 0 16 (dk_at dksX19_holds_0 5 rfl rfl)
theorem dX19_holds_8 : decode cX19_holds 8 = .ok (.aload_n 0, 1) := dk_42 (dk_at dksX19_holds_0 8 rfl rfl)
theorem dX19_holds_9 : decode cX19_holds 9 = .ok (.getfield 13, 3) := dk_180 0 13 (dk_at dksX19_holds_0 9 rfl rfl)
theorem dX19_holds_12 : decode cX19_holds 12 = .ok (.aload_n 1, 1) := dk_43 (dk_at dksX19_holds_0 12 rfl rfl)
theorem dX19_holds_13 : decode cX19_holds 13 = .ok (.invokevirtual 16, 3) := dk_182 0 16 (dk_at dksX19_holds_0 13 rfl rfl)
theorem dX19_holds_16 : decode cX19_holds 16 = .ok (.if_icmp .ge 7, 3) := dk_162 0 7 (dk_at dksX19_holds_0 16 rfl rfl)
theorem dX19_holds_19 : decode cX19_holds 19 = .ok (.iconst 1, 1) := dk_4 (dk_at dksX19_holds_0 19 rfl rfl)
theorem dX19_holds_20 : decode cX19_holds 20 = .ok (.goto 4, 3) := dk_167 0 4 (dk_at dksX19_holds_0 20 rfl rfl)
theorem dX19_holds_23 : decode cX19_holds 23 = .ok (.iconst 0, 1) := dk_3 (dk_at dksX19_holds_0 23 rfl rfl)
theorem dX19_holds_24 : decode cX19_holds 24 = .ok (.ireturn, 1) := dk_172 (dk_at dksX19_holds_1 0 rfl rfl)
