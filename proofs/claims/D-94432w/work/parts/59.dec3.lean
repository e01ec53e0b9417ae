/-! ===== decode rows: ChaseCourt, the JDK's methods that are reached ===== -/
set_option maxRecDepth 100000
abbrev cX1_init : ByteArray := prog_1_method_1_code
def yX1_init : MethodName := ⟨RX1, "<init>", "()V"⟩
def dkwX1_init_7 : List UInt8 := [181, 0, 86, 42, 187, 0, 89, 89, 42, 183, 0, 91, 181, 0, 92, 177]
abbrev dktX1_init_7 : List UInt8 := dkwX1_init_7 ++ []
def dkwX1_init_6 : List UInt8 := [181, 0, 77, 42, 16, 98, 188, 10, 181, 0, 80, 42, 16, 30, 188, 10, 181, 0, 83, 42, 16, 30, 188, 10]
abbrev dktX1_init_6 : List UInt8 := dkwX1_init_6 ++ dktX1_init_7
def dkwX1_init_5 : List UInt8 := [181, 0, 65, 42, 187, 0, 68, 89, 42, 183, 0, 70, 181, 0, 71, 42, 6, 7, 197, 0, 75, 2]
abbrev dktX1_init_5 : List UInt8 := dkwX1_init_5 ++ dktX1_init_6
def dkwX1_init_4 : List UInt8 := [181, 0, 55, 42, 187, 0, 58, 89, 42, 183, 0, 60, 181, 0, 61, 42, 187, 0, 58, 89, 42, 183, 0, 60]
abbrev dktX1_init_4 : List UInt8 := dkwX1_init_4 ++ dktX1_init_5
def dkwX1_init_3 : List UInt8 := [181, 0, 44, 42, 187, 0, 48, 89, 42, 183, 0, 50, 181, 0, 51, 42, 187, 0, 48, 89, 42, 183, 0, 50]
abbrev dktX1_init_3 : List UInt8 := dkwX1_init_3 ++ dktX1_init_4
def dkwX1_init_2 : List UInt8 := [17, 121, 0, 188, 10, 181, 0, 37, 42, 17, 60, 128, 188, 4, 181, 0, 40, 42, 17, 60, 128, 188, 8]
abbrev dktX1_init_2 : List UInt8 := dkwX1_init_2 ++ dktX1_init_3
def dkwX1_init_1 : List UInt8 := [181, 0, 21, 42, 187, 0, 25, 89, 42, 183, 0, 27, 181, 0, 28, 42, 18, 32, 188, 10, 181, 0, 33, 42]
abbrev dktX1_init_1 : List UInt8 := dkwX1_init_1 ++ dktX1_init_2
def dkwX1_init_0 : List UInt8 := [42, 183, 0, 3, 42, 187, 0, 9, 89, 42, 183, 0, 11, 181, 0, 14, 42, 187, 0, 18, 89, 183, 0, 20]
abbrev dktX1_init_0 : List UInt8 := dkwX1_init_0 ++ dktX1_init_1
theorem dksX1_init_0 : cX1_init.data.toList.drop 0 = dktX1_init_0 := by decide +kernel
theorem dksX1_init_1 : cX1_init.data.toList.drop 24 = dktX1_init_1 := dk_seg dksX1_init_0 24 rfl rfl
theorem dksX1_init_2 : cX1_init.data.toList.drop 48 = dktX1_init_2 := dk_seg dksX1_init_1 24 rfl rfl
theorem dksX1_init_3 : cX1_init.data.toList.drop 71 = dktX1_init_3 := dk_seg dksX1_init_2 23 rfl rfl
theorem dksX1_init_4 : cX1_init.data.toList.drop 95 = dktX1_init_4 := dk_seg dksX1_init_3 24 rfl rfl
theorem dksX1_init_5 : cX1_init.data.toList.drop 119 = dktX1_init_5 := dk_seg dksX1_init_4 24 rfl rfl
theorem dksX1_init_6 : cX1_init.data.toList.drop 141 = dktX1_init_6 := dk_seg dksX1_init_5 22 rfl rfl
theorem dksX1_init_7 : cX1_init.data.toList.drop 165 = dktX1_init_7 := dk_seg dksX1_init_6 24 rfl rfl
theorem dX1_init_0 : decode cX1_init 0 = .ok (.aload_n 0, 1) := dk_42 (dk_at dksX1_init_0 0 rfl rfl)
theorem dX1_init_1 : decode cX1_init 1 = .ok (.invokespecial 3, 3) := dk_183 0 3 (dk_at dksX1_init_0 1 rfl rfl)
theorem dX1_init_4 : decode cX1_init 4 = .ok (.aload_n 0, 1) := dk_42 (dk_at dksX1_init_0 4 rfl rfl)
theorem dX1_init_5 : decode cX1_init 5 = .ok (.new 9, 3) := dk_187 0 9 (dk_at dksX1_init_0 5 rfl rfl)
theorem dX1_init_8 : decode cX1_init 8 = .ok (.dup, 1) := dk_89 (dk_at dksX1_init_0 8 rfl rfl)
theorem dX1_init_9 : decode cX1_init 9 = .ok (.aload_n 0, 1) := dk_42 (dk_at dksX1_init_0 9 rfl rfl)
theorem dX1_init_10 : decode cX1_init 10 = .ok (.invokespecial 11, 3) := dk_183 0 11 (dk_at dksX1_init_0 10 rfl rfl)
theorem dX1_init_13 : decode cX1_init 13 = .ok (.putfield 14, 3) := dk_181 0 14 (dk_at dksX1_init_0 13 rfl rfl)
theorem dX1_init_16 : decode cX1_init 16 = .ok (.aload_n 0, 1) := dk_42 (dk_at dksX1_init_0 16 rfl rfl)
theorem dX1_init_17 : decode cX1_init 17 = .ok (.new 18, 3) := dk_187 0 18 (dk_at dksX1_init_0 17 rfl rfl)
theorem dX1_init_20 : decode cX1_init 20 = .ok (.dup, 1) := dk_89 (dk_at dksX1_init_0 20 rfl rfl)
theorem dX1_init_21 : decode cX1_init 21 = .ok (.invokespecial 20, 3) := dk_183 0 20 (dk_at dksX1_init_0 21 rfl rfl)
theorem dX1_init_24 : decode cX1_init 24 = .ok (.putfield 21, 3) := dk_181 0 21 (dk_at dksX1_init_1 0 rfl rfl)
theorem dX1_init_27 : decode cX1_init 27 = .ok (.aload_n 0, 1) := dk_42 (dk_at dksX1_init_1 3 rfl rfl)
theorem dX1_init_28 : decode cX1_init 28 = .ok (.new 25, 3) := dk_187 0 25 (dk_at dksX1_init_1 4 rfl rfl)
theorem dX1_init_31 : decode cX1_init 31 = .ok (.dup, 1) := dk_89 (dk_at dksX1_init_1 7 rfl rfl)
theorem dX1_init_32 : decode cX1_init 32 = .ok (.aload_n 0, 1) := dk_42 (dk_at dksX1_init_1 8 rfl rfl)
theorem dX1_init_33 : decode cX1_init 33 = .ok (.invokespecial 27, 3) := dk_183 0 27 (dk_at dksX1_init_1 9 rfl rfl)
theorem dX1_init_36 : decode cX1_init 36 = .ok (.putfield 28, 3) := dk_181 0 28 (dk_at dksX1_init_1 12 rfl rfl)
theorem dX1_init_39 : decode cX1_init 39 = .ok (.aload_n 0, 1) := dk_42 (dk_at dksX1_init_1 15 rfl rfl)
theorem dX1_init_40 : decode cX1_init 40 = .ok (.ldc 32, 2) := dk_18 32 (dk_at dksX1_init_1 16 rfl rfl)
theorem dX1_init_42 : decode cX1_init 42 = .ok (.newarray .int, 2) := dk_188_10 (dk_at dksX1_init_1 18 rfl rfl)
theorem dX1_init_44 : decode cX1_init 44 = .ok (.putfield 33, 3) := dk_181 0 33 (dk_at dksX1_init_1 20 rfl rfl)
theorem dX1_init_47 : decode cX1_init 47 = .ok (.aload_n 0, 1) := dk_42 (dk_at dksX1_init_1 23 rfl rfl)
theorem dX1_init_48 : decode cX1_init 48 = .ok (.sipush 30976, 3) := dk_17 121 0 (dk_at dksX1_init_2 0 rfl rfl)
theorem dX1_init_51 : decode cX1_init 51 = .ok (.newarray .int, 2) := dk_188_10 (dk_at dksX1_init_2 3 rfl rfl)
theorem dX1_init_53 : decode cX1_init 53 = .ok (.putfield 37, 3) := dk_181 0 37 (dk_at dksX1_init_2 5 rfl rfl)
theorem dX1_init_56 : decode cX1_init 56 = .ok (.aload_n 0, 1) := dk_42 (dk_at dksX1_init_2 8 rfl rfl)
theorem dX1_init_57 : decode cX1_init 57 = .ok (.sipush 15488, 3) := dk_17 60 128 (dk_at dksX1_init_2 9 rfl rfl)
theorem dX1_init_60 : decode cX1_init 60 = .ok (.newarray .boolean, 2) := dk_188_4 (dk_at dksX1_init_2 12 rfl rfl)
theorem dX1_init_62 : decode cX1_init 62 = .ok (.putfield 40, 3) := dk_181 0 40 (dk_at dksX1_init_2 14 rfl rfl)
theorem dX1_init_65 : decode cX1_init 65 = .ok (.aload_n 0, 1) := dk_42 (dk_at dksX1_init_2 17 rfl rfl)
theorem dX1_init_66 : decode cX1_init 66 = .ok (.sipush 15488, 3) := dk_17 60 128 (dk_at dksX1_init_2 18 rfl rfl)
theorem dX1_init_69 : decode cX1_init 69 = .ok (.newarray .byte, 2) := dk_188_8 (dk_at dksX1_init_2 21 rfl rfl)
theorem dX1_init_71 : decode cX1_init 71 = .ok (.putfield 44, 3) := dk_181 0 44 (dk_at dksX1_init_3 0 rfl rfl)
theorem dX1_init_74 : decode cX1_init 74 = .ok (.aload_n 0, 1) := dk_42 (dk_at dksX1_init_3 3 rfl rfl)
theorem dX1_init_75 : decode cX1_init 75 = .ok (.new 48, 3) := dk_187 0 48 (dk_at dksX1_init_3 4 rfl rfl)
theorem dX1_init_78 : decode cX1_init 78 = .ok (.dup, 1) := dk_89 (dk_at dksX1_init_3 7 rfl rfl)
theorem dX1_init_79 : decode cX1_init 79 = .ok (.aload_n 0, 1) := dk_42 (dk_at dksX1_init_3 8 rfl rfl)
theorem dX1_init_80 : decode cX1_init 80 = .ok (.invokespecial 50, 3) := dk_183 0 50 (dk_at dksX1_init_3 9 rfl rfl)
theorem dX1_init_83 : decode cX1_init 83 = .ok (.putfield 51, 3) := dk_181 0 51 (dk_at dksX1_init_3 12 rfl rfl)
theorem dX1_init_86 : decode cX1_init 86 = .ok (.aload_n 0, 1) := dk_42 (dk_at dksX1_init_3 15 rfl rfl)
theorem dX1_init_87 : decode cX1_init 87 = .ok (.new 48, 3) := dk_187 0 48 (dk_at dksX1_init_3 16 rfl rfl)
theorem dX1_init_90 : decode cX1_init 90 = .ok (.dup, 1) := dk_89 (dk_at dksX1_init_3 19 rfl rfl)
theorem dX1_init_91 : decode cX1_init 91 = .ok (.aload_n 0, 1) := dk_42 (dk_at dksX1_init_3 20 rfl rfl)
theorem dX1_init_92 : decode cX1_init 92 = .ok (.invokespecial 50, 3) := dk_183 0 50 (dk_at dksX1_init_3 21 rfl rfl)
theorem dX1_init_95 : decode cX1_init 95 = .ok (.putfield 55, 3) := dk_181 0 55 (dk_at dksX1_init_4 0 rfl rfl)
theorem dX1_init_98 : decode cX1_init 98 = .ok (.aload_n 0, 1) := dk_42 (dk_at dksX1_init_4 3 rfl rfl)
theorem dX1_init_99 : decode cX1_init 99 = .ok (.new 58, 3) := dk_187 0 58 (dk_at dksX1_init_4 4 rfl rfl)
theorem dX1_init_102 : decode cX1_init 102 = .ok (.dup, 1) := dk_89 (dk_at dksX1_init_4 7 rfl rfl)
theorem dX1_init_103 : decode cX1_init 103 = .ok (.aload_n 0, 1) := dk_42 (dk_at dksX1_init_4 8 rfl rfl)
theorem dX1_init_104 : decode cX1_init 104 = .ok (.invokespecial 60, 3) := dk_183 0 60 (dk_at dksX1_init_4 9 rfl rfl)
theorem dX1_init_107 : decode cX1_init 107 = .ok (.putfield 61, 3) := dk_181 0 61 (dk_at dksX1_init_4 12 rfl rfl)
theorem dX1_init_110 : decode cX1_init 110 = .ok (.aload_n 0, 1) := dk_42 (dk_at dksX1_init_4 15 rfl rfl)
theorem dX1_init_111 : decode cX1_init 111 = .ok (.new 58, 3) := dk_187 0 58 (dk_at dksX1_init_4 16 rfl rfl)
theorem dX1_init_114 : decode cX1_init 114 = .ok (.dup, 1) := dk_89 (dk_at dksX1_init_4 19 rfl rfl)
theorem dX1_init_115 : decode cX1_init 115 = .ok (.aload_n 0, 1) := dk_42 (dk_at dksX1_init_4 20 rfl rfl)
theorem dX1_init_116 : decode cX1_init 116 = .ok (.invokespecial 60, 3) := dk_183 0 60 (dk_at dksX1_init_4 21 rfl rfl)
theorem dX1_init_119 : decode cX1_init 119 = .ok (.putfield 65, 3) := dk_181 0 65 (dk_at dksX1_init_5 0 rfl rfl)
theorem dX1_init_122 : decode cX1_init 122 = .ok (.aload_n 0, 1) := dk_42 (dk_at dksX1_init_5 3 rfl rfl)
theorem dX1_init_123 : decode cX1_init 123 = .ok (.new 68, 3) := dk_187 0 68 (dk_at dksX1_init_5 4 rfl rfl)
theorem dX1_init_126 : decode cX1_init 126 = .ok (.dup, 1) := dk_89 (dk_at dksX1_init_5 7 rfl rfl)
theorem dX1_init_127 : decode cX1_init 127 = .ok (.aload_n 0, 1) := dk_42 (dk_at dksX1_init_5 8 rfl rfl)
theorem dX1_init_128 : decode cX1_init 128 = .ok (.invokespecial 70, 3) := dk_183 0 70 (dk_at dksX1_init_5 9 rfl rfl)
theorem dX1_init_131 : decode cX1_init 131 = .ok (.putfield 71, 3) := dk_181 0 71 (dk_at dksX1_init_5 12 rfl rfl)
theorem dX1_init_134 : decode cX1_init 134 = .ok (.aload_n 0, 1) := dk_42 (dk_at dksX1_init_5 15 rfl rfl)
theorem dX1_init_135 : decode cX1_init 135 = .ok (.iconst 3, 1) := dk_6 (dk_at dksX1_init_5 16 rfl rfl)
theorem dX1_init_136 : decode cX1_init 136 = .ok (.iconst 4, 1) := dk_7 (dk_at dksX1_init_5 17 rfl rfl)
theorem dX1_init_137 : decode cX1_init 137 = .ok (.multianewarray 75 2, 4) := by decide +kernel
theorem dX1_init_141 : decode cX1_init 141 = .ok (.putfield 77, 3) := dk_181 0 77 (dk_at dksX1_init_6 0 rfl rfl)
theorem dX1_init_144 : decode cX1_init 144 = .ok (.aload_n 0, 1) := dk_42 (dk_at dksX1_init_6 3 rfl rfl)
theorem dX1_init_145 : decode cX1_init 145 = .ok (.bipush 98, 2) := dk_16 98 (dk_at dksX1_init_6 4 rfl rfl)
theorem dX1_init_147 : decode cX1_init 147 = .ok (.newarray .int, 2) := dk_188_10 (dk_at dksX1_init_6 6 rfl rfl)
theorem dX1_init_149 : decode cX1_init 149 = .ok (.putfield 80, 3) := dk_181 0 80 (dk_at dksX1_init_6 8 rfl rfl)
theorem dX1_init_152 : decode cX1_init 152 = .ok (.aload_n 0, 1) := dk_42 (dk_at dksX1_init_6 11 rfl rfl)
theorem dX1_init_153 : decode cX1_init 153 = .ok (.bipush 30, 2) := dk_16 30 (dk_at dksX1_init_6 12 rfl rfl)
theorem dX1_init_155 : decode cX1_init 155 = .ok (.newarray .int, 2) := dk_188_10 (dk_at dksX1_init_6 14 rfl rfl)
theorem dX1_init_157 : decode cX1_init 157 = .ok (.putfield 83, 3) := dk_181 0 83 (dk_at dksX1_init_6 16 rfl rfl)
theorem dX1_init_160 : decode cX1_init 160 = .ok (.aload_n 0, 1) := dk_42 (dk_at dksX1_init_6 19 rfl rfl)
theorem dX1_init_161 : decode cX1_init 161 = .ok (.bipush 30, 2) := dk_16 30 (dk_at dksX1_init_6 20 rfl rfl)
theorem dX1_init_163 : decode cX1_init 163 = .ok (.newarray .int, 2) := dk_188_10 (dk_at dksX1_init_6 22 rfl rfl)
theorem dX1_init_165 : decode cX1_init 165 = .ok (.putfield 86, 3) := dk_181 0 86 (dk_at dksX1_init_7 0 rfl rfl)
theorem dX1_init_168 : decode cX1_init 168 = .ok (.aload_n 0, 1) := dk_42 (dk_at dksX1_init_7 3 rfl rfl)
theorem dX1_init_169 : decode cX1_init 169 = .ok (.new 89, 3) := dk_187 0 89 (dk_at dksX1_init_7 4 rfl rfl)
theorem dX1_init_172 : decode cX1_init 172 = .ok (.dup, 1) := dk_89 (dk_at dksX1_init_7 7 rfl rfl)
theorem dX1_init_173 : decode cX1_init 173 = .ok (.aload_n 0, 1) := dk_42 (dk_at dksX1_init_7 8 rfl rfl)
theorem dX1_init_174 : decode cX1_init 174 = .ok (.invokespecial 91, 3) := dk_183 0 91 (dk_at dksX1_init_7 9 rfl rfl)
theorem dX1_init_177 : decode cX1_init 177 = .ok (.putfield 92, 3) := dk_181 0 92 (dk_at dksX1_init_7 12 rfl rfl)
theorem dX1_init_180 : decode cX1_init 180 = .ok (.return_, 1) := dk_177 (dk_at dksX1_init_7 15 rfl rfl)
abbrev cX1_feed : ByteArray := prog_1_method_3_code
def yX1_feed : MethodName := ⟨RX1, "feed", "(IIIII)I"⟩
def dkwX1_feed_1 : List UInt8 := [89, 7, 21, 5, 79, 182, 0, 96, 172]
abbrev dktX1_feed_1 : List UInt8 := dkwX1_feed_1 ++ []
def dkwX1_feed_0 : List UInt8 := [42, 180, 0, 21, 8, 188, 10, 89, 3, 27, 79, 89, 4, 28, 79, 89, 5, 29, 79, 89, 6, 21, 4, 79]
abbrev dktX1_feed_0 : List UInt8 := dkwX1_feed_0 ++ dktX1_feed_1
theorem dksX1_feed_0 : cX1_feed.data.toList.drop 0 = dktX1_feed_0 := by decide +kernel
theorem dksX1_feed_1 : cX1_feed.data.toList.drop 24 = dktX1_feed_1 := dk_seg dksX1_feed_0 24 rfl rfl
theorem dX1_feed_0 : decode cX1_feed 0 = .ok (.aload_n 0, 1) := dk_42 (dk_at dksX1_feed_0 0 rfl rfl)
theorem dX1_feed_1 : decode cX1_feed 1 = .ok (.getfield 21, 3) := dk_180 0 21 (dk_at dksX1_feed_0 1 rfl rfl)
theorem dX1_feed_4 : decode cX1_feed 4 = .ok (.iconst 5, 1) := dk_8 (dk_at dksX1_feed_0 4 rfl rfl)
theorem dX1_feed_5 : decode cX1_feed 5 = .ok (.newarray .int, 2) := dk_188_10 (dk_at dksX1_feed_0 5 rfl rfl)
theorem dX1_feed_7 : decode cX1_feed 7 = .ok (.dup, 1) := dk_89 (dk_at dksX1_feed_0 7 rfl rfl)
theorem dX1_feed_8 : decode cX1_feed 8 = .ok (.iconst 0, 1) := dk_3 (dk_at dksX1_feed_0 8 rfl rfl)
theorem dX1_feed_9 : decode cX1_feed 9 = .ok (.iload_n 1, 1) := dk_27 (dk_at dksX1_feed_0 9 rfl rfl)
theorem dX1_feed_10 : decode cX1_feed 10 = .ok (.iastore, 1) := dk_79 (dk_at dksX1_feed_0 10 rfl rfl)
theorem dX1_feed_11 : decode cX1_feed 11 = .ok (.dup, 1) := dk_89 (dk_at dksX1_feed_0 11 rfl rfl)
theorem dX1_feed_12 : decode cX1_feed 12 = .ok (.iconst 1, 1) := dk_4 (dk_at dksX1_feed_0 12 rfl rfl)
theorem dX1_feed_13 : decode cX1_feed 13 = .ok (.iload_n 2, 1) := dk_28 (dk_at dksX1_feed_0 13 rfl rfl)
theorem dX1_feed_14 : decode cX1_feed 14 = .ok (.iastore, 1) := dk_79 (dk_at dksX1_feed_0 14 rfl rfl)
theorem dX1_feed_15 : decode cX1_feed 15 = .ok (.dup, 1) := dk_89 (dk_at dksX1_feed_0 15 rfl rfl)
theorem dX1_feed_16 : decode cX1_feed 16 = .ok (.iconst 2, 1) := dk_5 (dk_at dksX1_feed_0 16 rfl rfl)
theorem dX1_feed_17 : decode cX1_feed 17 = .ok (.iload_n 3, 1) := dk_29 (dk_at dksX1_feed_0 17 rfl rfl)
theorem dX1_feed_18 : decode cX1_feed 18 = .ok (.iastore, 1) := dk_79 (dk_at dksX1_feed_0 18 rfl rfl)
theorem dX1_feed_19 : decode cX1_feed 19 = .ok (.dup, 1) := dk_89 (dk_at dksX1_feed_0 19 rfl rfl)
theorem dX1_feed_20 : decode cX1_feed 20 = .ok (.iconst 3, 1) := dk_6 (dk_at dksX1_feed_0 20 rfl rfl)
theorem dX1_feed_21 : decode cX1_feed 21 = .ok (.iload 4, 2) := dk_21 4 (dk_at dksX1_feed_0 21 rfl rfl)
theorem dX1_feed_23 : decode cX1_feed 23 = .ok (.iastore, 1) := dk_79 (dk_at dksX1_feed_0 23 rfl rfl)
theorem dX1_feed_24 : decode cX1_feed 24 = .ok (.dup, 1) := dk_89 (dk_at dksX1_feed_1 0 rfl rfl)
theorem dX1_feed_25 : decode cX1_feed 25 = .ok (.iconst 4, 1) := dk_7 (dk_at dksX1_feed_1 1 rfl rfl)
theorem dX1_feed_26 : decode cX1_feed 26 = .ok (.iload 5, 2) := dk_21 5 (dk_at dksX1_feed_1 2 rfl rfl)
theorem dX1_feed_28 : decode cX1_feed 28 = .ok (.iastore, 1) := dk_79 (dk_at dksX1_feed_1 4 rfl rfl)
theorem dX1_feed_29 : decode cX1_feed 29 = .ok (.invokevirtual 96, 3) := dk_182 0 96 (dk_at dksX1_feed_1 5 rfl rfl)
theorem dX1_feed_32 : decode cX1_feed 32 = .ok (.ireturn, 1) := dk_172 (dk_at dksX1_feed_1 8 rfl rfl)
abbrev cX1_end : ByteArray := prog_1_method_4_code
def yX1_end : MethodName := ⟨RX1, "end", "(I)Z"⟩
def dkwX1_end_0 : List UInt8 := [42, 180, 0, 21, 27, 182, 0, 100, 172]
abbrev dktX1_end_0 : List UInt8 := dkwX1_end_0 ++ []
theorem dksX1_end_0 : cX1_end.data.toList.drop 0 = dktX1_end_0 := by decide +kernel
theorem dX1_end_0 : decode cX1_end 0 = .ok (.aload_n 0, 1) := dk_42 (dk_at dksX1_end_0 0 rfl rfl)
theorem dX1_end_1 : decode cX1_end 1 = .ok (.getfield 21, 3) := dk_180 0 21 (dk_at dksX1_end_0 1 rfl rfl)
theorem dX1_end_4 : decode cX1_end 4 = .ok (.iload_n 1, 1) := dk_27 (dk_at dksX1_end_0 4 rfl rfl)
theorem dX1_end_5 : decode cX1_end 5 = .ok (.invokevirtual 100, 3) := dk_182 0 100 (dk_at dksX1_end_0 5 rfl rfl)
theorem dX1_end_8 : decode cX1_end 8 = .ok (.ireturn, 1) := dk_172 (dk_at dksX1_end_0 8 rfl rfl)
abbrev cX1_fault : ByteArray := prog_1_method_5_code
def yX1_fault : MethodName := ⟨RX1, "fault", "()I"⟩
def dkwX1_fault_0 : List UInt8 := [42, 180, 0, 21, 180, 0, 104, 172]
abbrev dktX1_fault_0 : List UInt8 := dkwX1_fault_0 ++ []
theorem dksX1_fault_0 : cX1_fault.data.toList.drop 0 = dktX1_fault_0 := by decide +kernel
theorem dX1_fault_0 : decode cX1_fault 0 = .ok (.aload_n 0, 1) := dk_42 (dk_at dksX1_fault_0 0 rfl rfl)
theorem dX1_fault_1 : decode cX1_fault 1 = .ok (.getfield 21, 3) := dk_180 0 21 (dk_at dksX1_fault_0 1 rfl rfl)
theorem dX1_fault_4 : decode cX1_fault 4 = .ok (.getfield 104, 3) := dk_180 0 104 (dk_at dksX1_fault_0 4 rfl rfl)
theorem dX1_fault_7 : decode cX1_fault 7 = .ok (.ireturn, 1) := dk_172 (dk_at dksX1_fault_0 7 rfl rfl)
abbrev cX1_image : ByteArray := prog_1_method_56_code
def yX1_image : MethodName := ⟨RX1, "image", "()V"⟩
def dkwX1_image_0 : List UInt8 := [42, 42, 180, 0, 14, 182, 0, 187, 181, 1, 248, 177]
abbrev dktX1_image_0 : List UInt8 := dkwX1_image_0 ++ []
theorem dksX1_image_0 : cX1_image.data.toList.drop 0 = dktX1_image_0 := by decide +kernel
theorem dX1_image_0 : decode cX1_image 0 = .ok (.aload_n 0, 1) := dk_42 (dk_at dksX1_image_0 0 rfl rfl)
theorem dX1_image_1 : decode cX1_image 1 = .ok (.aload_n 0, 1) := dk_42 (dk_at dksX1_image_0 1 rfl rfl)
theorem dX1_image_2 : decode cX1_image 2 = .ok (.getfield 14, 3) := dk_180 0 14 (dk_at dksX1_image_0 2 rfl rfl)
theorem dX1_image_5 : decode cX1_image 5 = .ok (.invokevirtual 187, 3) := dk_182 0 187 (dk_at dksX1_image_0 5 rfl rfl)
theorem dX1_image_8 : decode cX1_image 8 = .ok (.putfield 504, 3) := dk_181 1 248 (dk_at dksX1_image_0 8 rfl rfl)
theorem dX1_image_11 : decode cX1_image 11 = .ok (.return_, 1) := dk_177 (dk_at dksX1_image_0 11 rfl rfl)
abbrev cX1_back : ByteArray := prog_1_method_57_code
def yX1_back : MethodName := ⟨RX1, "back", "()Z"⟩
def dkwX1_back_1 : List UInt8 := [181, 0, 205, 4, 172]
abbrev dktX1_back_1 : List UInt8 := dkwX1_back_1 ++ []
def dkwX1_back_0 : List UInt8 := [42, 180, 1, 248, 199, 0, 5, 3, 172, 42, 42, 180, 1, 248, 182, 0, 187, 181, 0, 14, 42, 3]
abbrev dktX1_back_0 : List UInt8 := dkwX1_back_0 ++ dktX1_back_1
theorem dksX1_back_0 : cX1_back.data.toList.drop 0 = dktX1_back_0 := by decide +kernel
theorem dksX1_back_1 : cX1_back.data.toList.drop 22 = dktX1_back_1 := dk_seg dksX1_back_0 22 rfl rfl
theorem dX1_back_0 : decode cX1_back 0 = .ok (.aload_n 0, 1) := dk_42 (dk_at dksX1_back_0 0 rfl rfl)
theorem dX1_back_1 : decode cX1_back 1 = .ok (.getfield 504, 3) := dk_180 1 248 (dk_at dksX1_back_0 1 rfl rfl)
theorem dX1_back_4 : decode cX1_back 4 = .ok (.ifnonnull 5, 3) := dk_199 0 5 (dk_at dksX1_back_0 4 rfl rfl)
theorem dX1_back_7 : decode cX1_back 7 = .ok (.iconst 0, 1) := dk_3 (dk_at dksX1_back_0 7 rfl rfl)
theorem dX1_back_8 : decode cX1_back 8 = .ok (.ireturn, 1) := dk_172 (dk_at dksX1_back_0 8 rfl rfl)
theorem dX1_back_9 : decode cX1_back 9 = .ok (.aload_n 0, 1) := dk_42 (dk_at dksX1_back_0 9 rfl rfl)
theorem dX1_back_10 : decode cX1_back 10 = .ok (.aload_n 0, 1) := dk_42 (dk_at dksX1_back_0 10 rfl rfl)
theorem dX1_back_11 : decode cX1_back 11 = .ok (.getfield 504, 3) := dk_180 1 248 (dk_at dksX1_back_0 11 rfl rfl)
theorem dX1_back_14 : decode cX1_back 14 = .ok (.invokevirtual 187, 3) := dk_182 0 187 (dk_at dksX1_back_0 14 rfl rfl)
theorem dX1_back_17 : decode cX1_back 17 = .ok (.putfield 14, 3) := dk_181 0 14 (dk_at dksX1_back_0 17 rfl rfl)
theorem dX1_back_20 : decode cX1_back 20 = .ok (.aload_n 0, 1) := dk_42 (dk_at dksX1_back_0 20 rfl rfl)
theorem dX1_back_21 : decode cX1_back 21 = .ok (.iconst 0, 1) := dk_3 (dk_at dksX1_back_0 21 rfl rfl)
theorem dX1_back_22 : decode cX1_back 22 = .ok (.putfield 205, 3) := dk_181 0 205 (dk_at dksX1_back_1 0 rfl rfl)
theorem dX1_back_25 : decode cX1_back 25 = .ok (.iconst 1, 1) := dk_4 (dk_at dksX1_back_1 3 rfl rfl)
theorem dX1_back_26 : decode cX1_back 26 = .ok (.ireturn, 1) := dk_172 (dk_at dksX1_back_1 4 rfl rfl)
abbrev cX1_count : ByteArray := prog_1_method_58_code
def yX1_count : MethodName := ⟨RX1, "count", "(I)I"⟩
def dkwX1_count_4 : List UInt8 := [180, 1, 126, 172, 42, 180, 0, 14, 180, 1, 129, 172, 2, 172]
abbrev dktX1_count_4 : List UInt8 := dkwX1_count_4 ++ []
def dkwX1_count_3 : List UInt8 := [180, 0, 151, 172, 42, 180, 0, 14, 180, 0, 153, 172, 42, 180, 0, 14, 180, 0, 155, 172, 42, 180, 0, 14]
abbrev dktX1_count_3 : List UInt8 := dkwX1_count_3 ++ dktX1_count_4
def dkwX1_count_2 : List UInt8 := [42, 180, 0, 14, 180, 0, 199, 172, 42, 180, 0, 14, 180, 1, 62, 182, 1, 51, 172, 42, 180, 0, 14]
abbrev dktX1_count_2 : List UInt8 := dkwX1_count_2 ++ dktX1_count_3
def dkwX1_count_1 : List UInt8 := [170, 0, 0, 0, 0, 0, 102, 0, 0, 0, 0, 0, 0, 0, 6, 0, 0, 0, 43, 0, 0, 0, 51, 0, 0, 0, 62, 0, 0, 0, 70, 0, 0, 0, 78, 0, 0, 0, 86, 0, 0, 0, 94]
abbrev dktX1_count_1 : List UInt8 := dkwX1_count_1 ++ dktX1_count_2
def dkwX1_count_0 : List UInt8 := [27]
abbrev dktX1_count_0 : List UInt8 := dkwX1_count_0 ++ dktX1_count_1
theorem dksX1_count_0 : cX1_count.data.toList.drop 0 = dktX1_count_0 := by decide +kernel
theorem dksX1_count_1 : cX1_count.data.toList.drop 1 = dktX1_count_1 := dk_seg dksX1_count_0 1 rfl rfl
theorem dksX1_count_2 : cX1_count.data.toList.drop 44 = dktX1_count_2 := dk_seg dksX1_count_1 43 rfl rfl
theorem dksX1_count_3 : cX1_count.data.toList.drop 67 = dktX1_count_3 := dk_seg dksX1_count_2 23 rfl rfl
theorem dksX1_count_4 : cX1_count.data.toList.drop 91 = dktX1_count_4 := dk_seg dksX1_count_3 24 rfl rfl
theorem dX1_count_0 : decode cX1_count 0 = .ok (.iload_n 1, 1) := dk_27 (dk_at dksX1_count_0 0 rfl rfl)
theorem dX1_count_1 : decode cX1_count 1 = .ok (.tableswitch 102 0 6 #[43, 51, 62, 70, 78, 86, 94], 43) := by decide +kernel
theorem dX1_count_44 : decode cX1_count 44 = .ok (.aload_n 0, 1) := dk_42 (dk_at dksX1_count_2 0 rfl rfl)
theorem dX1_count_45 : decode cX1_count 45 = .ok (.getfield 14, 3) := dk_180 0 14 (dk_at dksX1_count_2 1 rfl rfl)
theorem dX1_count_48 : decode cX1_count 48 = .ok (.getfield 199, 3) := dk_180 0 199 (dk_at dksX1_count_2 4 rfl rfl)
theorem dX1_count_51 : decode cX1_count 51 = .ok (.ireturn, 1) := dk_172 (dk_at dksX1_count_2 7 rfl rfl)
theorem dX1_count_52 : decode cX1_count 52 = .ok (.aload_n 0, 1) := dk_42 (dk_at dksX1_count_2 8 rfl rfl)
theorem dX1_count_53 : decode cX1_count 53 = .ok (.getfield 14, 3) := dk_180 0 14 (dk_at dksX1_count_2 9 rfl rfl)
theorem dX1_count_56 : decode cX1_count 56 = .ok (.getfield 318, 3) := dk_180 1 62 (dk_at dksX1_count_2 12 rfl rfl)
theorem dX1_count_59 : decode cX1_count 59 = .ok (.invokevirtual 307, 3) := dk_182 1 51 (dk_at dksX1_count_2 15 rfl rfl)
theorem dX1_count_62 : decode cX1_count 62 = .ok (.ireturn, 1) := dk_172 (dk_at dksX1_count_2 18 rfl rfl)
theorem dX1_count_63 : decode cX1_count 63 = .ok (.aload_n 0, 1) := dk_42 (dk_at dksX1_count_2 19 rfl rfl)
theorem dX1_count_64 : decode cX1_count 64 = .ok (.getfield 14, 3) := dk_180 0 14 (dk_at dksX1_count_2 20 rfl rfl)
theorem dX1_count_67 : decode cX1_count 67 = .ok (.getfield 151, 3) := dk_180 0 151 (dk_at dksX1_count_3 0 rfl rfl)
theorem dX1_count_70 : decode cX1_count 70 = .ok (.ireturn, 1) := dk_172 (dk_at dksX1_count_3 3 rfl rfl)
theorem dX1_count_71 : decode cX1_count 71 = .ok (.aload_n 0, 1) := dk_42 (dk_at dksX1_count_3 4 rfl rfl)
theorem dX1_count_72 : decode cX1_count 72 = .ok (.getfield 14, 3) := dk_180 0 14 (dk_at dksX1_count_3 5 rfl rfl)
theorem dX1_count_75 : decode cX1_count 75 = .ok (.getfield 153, 3) := dk_180 0 153 (dk_at dksX1_count_3 8 rfl rfl)
theorem dX1_count_78 : decode cX1_count 78 = .ok (.ireturn, 1) := dk_172 (dk_at dksX1_count_3 11 rfl rfl)
theorem dX1_count_79 : decode cX1_count 79 = .ok (.aload_n 0, 1) := dk_42 (dk_at dksX1_count_3 12 rfl rfl)
theorem dX1_count_80 : decode cX1_count 80 = .ok (.getfield 14, 3) := dk_180 0 14 (dk_at dksX1_count_3 13 rfl rfl)
theorem dX1_count_83 : decode cX1_count 83 = .ok (.getfield 155, 3) := dk_180 0 155 (dk_at dksX1_count_3 16 rfl rfl)
theorem dX1_count_86 : decode cX1_count 86 = .ok (.ireturn, 1) := dk_172 (dk_at dksX1_count_3 19 rfl rfl)
theorem dX1_count_87 : decode cX1_count 87 = .ok (.aload_n 0, 1) := dk_42 (dk_at dksX1_count_3 20 rfl rfl)
theorem dX1_count_88 : decode cX1_count 88 = .ok (.getfield 14, 3) := dk_180 0 14 (dk_at dksX1_count_3 21 rfl rfl)
theorem dX1_count_91 : decode cX1_count 91 = .ok (.getfield 382, 3) := dk_180 1 126 (dk_at dksX1_count_4 0 rfl rfl)
theorem dX1_count_94 : decode cX1_count 94 = .ok (.ireturn, 1) := dk_172 (dk_at dksX1_count_4 3 rfl rfl)
theorem dX1_count_95 : decode cX1_count 95 = .ok (.aload_n 0, 1) := dk_42 (dk_at dksX1_count_4 4 rfl rfl)
theorem dX1_count_96 : decode cX1_count 96 = .ok (.getfield 14, 3) := dk_180 0 14 (dk_at dksX1_count_4 5 rfl rfl)
theorem dX1_count_99 : decode cX1_count 99 = .ok (.getfield 385, 3) := dk_180 1 129 (dk_at dksX1_count_4 8 rfl rfl)
theorem dX1_count_102 : decode cX1_count 102 = .ok (.ireturn, 1) := dk_172 (dk_at dksX1_count_4 11 rfl rfl)
theorem dX1_count_103 : decode cX1_count 103 = .ok (.iconst (-1), 1) := dk_2 (dk_at dksX1_count_4 12 rfl rfl)
theorem dX1_count_104 : decode cX1_count 104 = .ok (.ireturn, 1) := dk_172 (dk_at dksX1_count_4 13 rfl rfl)
abbrev cX1_court : ByteArray := prog_1_method_12_code
def yX1_court : MethodName := ⟨RX1, "court", "()I"⟩
def dkwX1_court_3 : List UInt8 := [3, 181, 0, 205, 42, 180, 0, 14, 180, 0, 199, 172]
abbrev dktX1_court_3 : List UInt8 := dkwX1_court_3 ++ []
def dkwX1_court_2 : List UInt8 := [187, 0, 202, 89, 183, 0, 204, 191, 43, 89, 180, 0, 199, 4, 96, 181, 0, 199, 42, 43, 181, 0, 14, 42]
abbrev dktX1_court_2 : List UInt8 := dkwX1_court_2 ++ dktX1_court_3
def dkwX1_court_1 : List UInt8 := [2, 181, 0, 104, 167, 0, 8, 77, 42, 182, 0, 196, 42, 180, 0, 14, 180, 0, 199, 16, 12, 160, 0, 11]
abbrev dktX1_court_1 : List UInt8 := dkwX1_court_1 ++ dktX1_court_2
def dkwX1_court_0 : List UInt8 := [42, 180, 0, 21, 182, 0, 184, 42, 180, 0, 14, 182, 0, 187, 76, 42, 43, 182, 0, 191, 42, 180, 0, 21]
abbrev dktX1_court_0 : List UInt8 := dkwX1_court_0 ++ dktX1_court_1
theorem dksX1_court_0 : cX1_court.data.toList.drop 0 = dktX1_court_0 := by decide +kernel
theorem dksX1_court_1 : cX1_court.data.toList.drop 24 = dktX1_court_1 := dk_seg dksX1_court_0 24 rfl rfl
theorem dksX1_court_2 : cX1_court.data.toList.drop 48 = dktX1_court_2 := dk_seg dksX1_court_1 24 rfl rfl
theorem dksX1_court_3 : cX1_court.data.toList.drop 72 = dktX1_court_3 := dk_seg dksX1_court_2 24 rfl rfl
theorem dX1_court_0 : decode cX1_court 0 = .ok (.aload_n 0, 1) := dk_42 (dk_at dksX1_court_0 0 rfl rfl)
theorem dX1_court_1 : decode cX1_court 1 = .ok (.getfield 21, 3) := dk_180 0 21 (dk_at dksX1_court_0 1 rfl rfl)
theorem dX1_court_4 : decode cX1_court 4 = .ok (.invokevirtual 184, 3) := dk_182 0 184 (dk_at dksX1_court_0 4 rfl rfl)
theorem dX1_court_7 : decode cX1_court 7 = .ok (.aload_n 0, 1) := dk_42 (dk_at dksX1_court_0 7 rfl rfl)
theorem dX1_court_8 : decode cX1_court 8 = .ok (.getfield 14, 3) := dk_180 0 14 (dk_at dksX1_court_0 8 rfl rfl)
theorem dX1_court_11 : decode cX1_court 11 = .ok (.invokevirtual 187, 3) := dk_182 0 187 (dk_at dksX1_court_0 11 rfl rfl)
theorem dX1_court_14 : decode cX1_court 14 = .ok (.astore_n 1, 1) := dk_76 (dk_at dksX1_court_0 14 rfl rfl)
theorem dX1_court_15 : decode cX1_court 15 = .ok (.aload_n 0, 1) := dk_42 (dk_at dksX1_court_0 15 rfl rfl)
theorem dX1_court_16 : decode cX1_court 16 = .ok (.aload_n 1, 1) := dk_43 (dk_at dksX1_court_0 16 rfl rfl)
theorem dX1_court_17 : decode cX1_court 17 = .ok (.invokevirtual 191, 3) := dk_182 0 191 (dk_at dksX1_court_0 17 rfl rfl)
theorem dX1_court_20 : decode cX1_court 20 = .ok (.aload_n 0, 1) := dk_42 (dk_at dksX1_court_0 20 rfl rfl)
theorem dX1_court_21 : decode cX1_court 21 = .ok (.getfield 21, 3) := dk_180 0 21 (dk_at dksX1_court_0 21 rfl rfl)
theorem dX1_court_24 : decode cX1_court 24 = .ok (.iconst (-1), 1) := dk_2 (dk_at dksX1_court_1 0 rfl rfl)
theorem dX1_court_25 : decode cX1_court 25 = .ok (.putfield 104, 3) := dk_181 0 104 (dk_at dksX1_court_1 1 rfl rfl)
theorem dX1_court_28 : decode cX1_court 28 = .ok (.goto 8, 3) := dk_167 0 8 (dk_at dksX1_court_1 4 rfl rfl)
theorem dX1_court_31 : decode cX1_court 31 = .ok (.astore_n 2, 1) := dk_77 (dk_at dksX1_court_1 7 rfl rfl)
theorem dX1_court_32 : decode cX1_court 32 = .ok (.aload_n 0, 1) := dk_42 (dk_at dksX1_court_1 8 rfl rfl)
theorem dX1_court_33 : decode cX1_court 33 = .ok (.invokevirtual 196, 3) := dk_182 0 196 (dk_at dksX1_court_1 9 rfl rfl)
theorem dX1_court_36 : decode cX1_court 36 = .ok (.aload_n 0, 1) := dk_42 (dk_at dksX1_court_1 12 rfl rfl)
theorem dX1_court_37 : decode cX1_court 37 = .ok (.getfield 14, 3) := dk_180 0 14 (dk_at dksX1_court_1 13 rfl rfl)
theorem dX1_court_40 : decode cX1_court 40 = .ok (.getfield 199, 3) := dk_180 0 199 (dk_at dksX1_court_1 16 rfl rfl)
theorem dX1_court_43 : decode cX1_court 43 = .ok (.bipush 12, 2) := dk_16 12 (dk_at dksX1_court_1 19 rfl rfl)
theorem dX1_court_45 : decode cX1_court 45 = .ok (.if_icmp .ne 11, 3) := dk_160 0 11 (dk_at dksX1_court_1 21 rfl rfl)
theorem dX1_court_48 : decode cX1_court 48 = .ok (.new 202, 3) := dk_187 0 202 (dk_at dksX1_court_2 0 rfl rfl)
theorem dX1_court_51 : decode cX1_court 51 = .ok (.dup, 1) := dk_89 (dk_at dksX1_court_2 3 rfl rfl)
theorem dX1_court_52 : decode cX1_court 52 = .ok (.invokespecial 204, 3) := dk_183 0 204 (dk_at dksX1_court_2 4 rfl rfl)
theorem dX1_court_55 : decode cX1_court 55 = .ok (.athrow, 1) := dk_191 (dk_at dksX1_court_2 7 rfl rfl)
theorem dX1_court_56 : decode cX1_court 56 = .ok (.aload_n 1, 1) := dk_43 (dk_at dksX1_court_2 8 rfl rfl)
theorem dX1_court_57 : decode cX1_court 57 = .ok (.dup, 1) := dk_89 (dk_at dksX1_court_2 9 rfl rfl)
theorem dX1_court_58 : decode cX1_court 58 = .ok (.getfield 199, 3) := dk_180 0 199 (dk_at dksX1_court_2 10 rfl rfl)
theorem dX1_court_61 : decode cX1_court 61 = .ok (.iconst 1, 1) := dk_4 (dk_at dksX1_court_2 13 rfl rfl)
theorem dX1_court_62 : decode cX1_court 62 = .ok (.iadd, 1) := dk_96 (dk_at dksX1_court_2 14 rfl rfl)
theorem dX1_court_63 : decode cX1_court 63 = .ok (.putfield 199, 3) := dk_181 0 199 (dk_at dksX1_court_2 15 rfl rfl)
theorem dX1_court_66 : decode cX1_court 66 = .ok (.aload_n 0, 1) := dk_42 (dk_at dksX1_court_2 18 rfl rfl)
theorem dX1_court_67 : decode cX1_court 67 = .ok (.aload_n 1, 1) := dk_43 (dk_at dksX1_court_2 19 rfl rfl)
theorem dX1_court_68 : decode cX1_court 68 = .ok (.putfield 14, 3) := dk_181 0 14 (dk_at dksX1_court_2 20 rfl rfl)
theorem dX1_court_71 : decode cX1_court 71 = .ok (.aload_n 0, 1) := dk_42 (dk_at dksX1_court_2 23 rfl rfl)
theorem dX1_court_72 : decode cX1_court 72 = .ok (.iconst 0, 1) := dk_3 (dk_at dksX1_court_3 0 rfl rfl)
theorem dX1_court_73 : decode cX1_court 73 = .ok (.putfield 205, 3) := dk_181 0 205 (dk_at dksX1_court_3 1 rfl rfl)
theorem dX1_court_76 : decode cX1_court 76 = .ok (.aload_n 0, 1) := dk_42 (dk_at dksX1_court_3 4 rfl rfl)
theorem dX1_court_77 : decode cX1_court 77 = .ok (.getfield 14, 3) := dk_180 0 14 (dk_at dksX1_court_3 5 rfl rfl)
theorem dX1_court_80 : decode cX1_court 80 = .ok (.getfield 199, 3) := dk_180 0 199 (dk_at dksX1_court_3 8 rfl rfl)
theorem dX1_court_83 : decode cX1_court 83 = .ok (.ireturn, 1) := dk_172 (dk_at dksX1_court_3 11 rfl rfl)
abbrev cX1_courtText : ByteArray := prog_1_method_8_code
def yX1_courtText : MethodName := ⟨RX1, "courtText", "(LChaseCourt$World;)V"⟩
def dkwX1_courtText_2 : List UInt8 := [191, 177]
abbrev dktX1_courtText_2 : List UInt8 := dkwX1_courtText_2 ++ []
def dkwX1_courtText_1 : List UInt8 := [132, 2, 1, 42, 182, 0, 169, 154, 255, 239, 43, 182, 0, 172, 154, 0, 11, 42, 180, 0, 21, 182, 0, 147]
abbrev dktX1_courtText_1 : List UInt8 := dkwX1_courtText_1 ++ dktX1_courtText_2
def dkwX1_courtText_0 : List UInt8 := [42, 180, 0, 21, 182, 0, 157, 154, 0, 25, 3, 61, 42, 28, 182, 0, 161, 42, 43, 182, 0, 165]
abbrev dktX1_courtText_0 : List UInt8 := dkwX1_courtText_0 ++ dktX1_courtText_1
theorem dksX1_courtText_0 : cX1_courtText.data.toList.drop 0 = dktX1_courtText_0 := by decide +kernel
theorem dksX1_courtText_1 : cX1_courtText.data.toList.drop 22 = dktX1_courtText_1 := dk_seg dksX1_courtText_0 22 rfl rfl
theorem dksX1_courtText_2 : cX1_courtText.data.toList.drop 46 = dktX1_courtText_2 := dk_seg dksX1_courtText_1 24 rfl rfl
theorem dX1_courtText_0 : decode cX1_courtText 0 = .ok (.aload_n 0, 1) := dk_42 (dk_at dksX1_courtText_0 0 rfl rfl)
theorem dX1_courtText_1 : decode cX1_courtText 1 = .ok (.getfield 21, 3) := dk_180 0 21 (dk_at dksX1_courtText_0 1 rfl rfl)
theorem dX1_courtText_4 : decode cX1_courtText 4 = .ok (.invokevirtual 157, 3) := dk_182 0 157 (dk_at dksX1_courtText_0 4 rfl rfl)
theorem dX1_courtText_7 : decode cX1_courtText 7 = .ok (.ifCond .ne 25, 3) := dk_154 0 25 (dk_at dksX1_courtText_0 7 rfl rfl)
theorem dX1_courtText_10 : decode cX1_courtText 10 = .ok (.iconst 0, 1) := dk_3 (dk_at dksX1_courtText_0 10 rfl rfl)
theorem dX1_courtText_11 : decode cX1_courtText 11 = .ok (.istore_n 2, 1) := dk_61 (dk_at dksX1_courtText_0 11 rfl rfl)
theorem dX1_courtText_12 : decode cX1_courtText 12 = .ok (.aload_n 0, 1) := dk_42 (dk_at dksX1_courtText_0 12 rfl rfl)
theorem dX1_courtText_13 : decode cX1_courtText 13 = .ok (.iload_n 2, 1) := dk_28 (dk_at dksX1_courtText_0 13 rfl rfl)
theorem dX1_courtText_14 : decode cX1_courtText 14 = .ok (.invokevirtual 161, 3) := dk_182 0 161 (dk_at dksX1_courtText_0 14 rfl rfl)
theorem dX1_courtText_17 : decode cX1_courtText 17 = .ok (.aload_n 0, 1) := dk_42 (dk_at dksX1_courtText_0 17 rfl rfl)
theorem dX1_courtText_18 : decode cX1_courtText 18 = .ok (.aload_n 1, 1) := dk_43 (dk_at dksX1_courtText_0 18 rfl rfl)
theorem dX1_courtText_19 : decode cX1_courtText 19 = .ok (.invokevirtual 165, 3) := dk_182 0 165 (dk_at dksX1_courtText_0 19 rfl rfl)
theorem dX1_courtText_22 : decode cX1_courtText 22 = .ok (.iinc 2 1, 3) := dk_132 2 1 (dk_at dksX1_courtText_1 0 rfl rfl)
theorem dX1_courtText_25 : decode cX1_courtText 25 = .ok (.aload_n 0, 1) := dk_42 (dk_at dksX1_courtText_1 3 rfl rfl)
theorem dX1_courtText_26 : decode cX1_courtText 26 = .ok (.invokevirtual 169, 3) := dk_182 0 169 (dk_at dksX1_courtText_1 4 rfl rfl)
theorem dX1_courtText_29 : decode cX1_courtText 29 = .ok (.ifCond .ne (-17), 3) := dk_154 255 239 (dk_at dksX1_courtText_1 7 rfl rfl)
theorem dX1_courtText_32 : decode cX1_courtText 32 = .ok (.aload_n 1, 1) := dk_43 (dk_at dksX1_courtText_1 10 rfl rfl)
theorem dX1_courtText_33 : decode cX1_courtText 33 = .ok (.invokevirtual 172, 3) := dk_182 0 172 (dk_at dksX1_courtText_1 11 rfl rfl)
theorem dX1_courtText_36 : decode cX1_courtText 36 = .ok (.ifCond .ne 11, 3) := dk_154 0 11 (dk_at dksX1_courtText_1 14 rfl rfl)
theorem dX1_courtText_39 : decode cX1_courtText 39 = .ok (.aload_n 0, 1) := dk_42 (dk_at dksX1_courtText_1 17 rfl rfl)
theorem dX1_courtText_40 : decode cX1_courtText 40 = .ok (.getfield 21, 3) := dk_180 0 21 (dk_at dksX1_courtText_1 18 rfl rfl)
theorem dX1_courtText_43 : decode cX1_courtText 43 = .ok (.invokevirtual 147, 3) := dk_182 0 147 (dk_at dksX1_courtText_1 21 rfl rfl)
theorem dX1_courtText_46 : decode cX1_courtText 46 = .ok (.athrow, 1) := dk_191 (dk_at dksX1_courtText_2 0 rfl rfl)
theorem dX1_courtText_47 : decode cX1_courtText 47 = .ok (.return_, 1) := dk_177 (dk_at dksX1_courtText_2 1 rfl rfl)
abbrev cX1_noMore : ByteArray := prog_1_method_9_code
def yX1_noMore : MethodName := ⟨RX1, "noMore", "(I)V"⟩
def dkwX1_noMore_0 : List UInt8 := [27, 16, 12, 162, 0, 4, 177, 42, 180, 0, 21, 182, 0, 112, 87, 42, 180, 0, 21, 182, 0, 147, 191]
abbrev dktX1_noMore_0 : List UInt8 := dkwX1_noMore_0 ++ []
theorem dksX1_noMore_0 : cX1_noMore.data.toList.drop 0 = dktX1_noMore_0 := by decide +kernel
theorem dX1_noMore_0 : decode cX1_noMore 0 = .ok (.iload_n 1, 1) := dk_27 (dk_at dksX1_noMore_0 0 rfl rfl)
theorem dX1_noMore_1 : decode cX1_noMore 1 = .ok (.bipush 12, 2) := dk_16 12 (dk_at dksX1_noMore_0 1 rfl rfl)
theorem dX1_noMore_3 : decode cX1_noMore 3 = .ok (.if_icmp .ge 4, 3) := dk_162 0 4 (dk_at dksX1_noMore_0 3 rfl rfl)
theorem dX1_noMore_6 : decode cX1_noMore 6 = .ok (.return_, 1) := dk_177 (dk_at dksX1_noMore_0 6 rfl rfl)
theorem dX1_noMore_7 : decode cX1_noMore 7 = .ok (.aload_n 0, 1) := dk_42 (dk_at dksX1_noMore_0 7 rfl rfl)
theorem dX1_noMore_8 : decode cX1_noMore 8 = .ok (.getfield 21, 3) := dk_180 0 21 (dk_at dksX1_noMore_0 8 rfl rfl)
theorem dX1_noMore_11 : decode cX1_noMore 11 = .ok (.invokevirtual 112, 3) := dk_182 0 112 (dk_at dksX1_noMore_0 11 rfl rfl)
theorem dX1_noMore_14 : decode cX1_noMore 14 = .ok (.pop, 1) := dk_87 (dk_at dksX1_noMore_0 14 rfl rfl)
theorem dX1_noMore_15 : decode cX1_noMore 15 = .ok (.aload_n 0, 1) := dk_42 (dk_at dksX1_noMore_0 15 rfl rfl)
theorem dX1_noMore_16 : decode cX1_noMore 16 = .ok (.getfield 21, 3) := dk_180 0 21 (dk_at dksX1_noMore_0 16 rfl rfl)
theorem dX1_noMore_19 : decode cX1_noMore 19 = .ok (.invokevirtual 147, 3) := dk_182 0 147 (dk_at dksX1_noMore_0 19 rfl rfl)
theorem dX1_noMore_22 : decode cX1_noMore 22 = .ok (.athrow, 1) := dk_191 (dk_at dksX1_noMore_0 22 rfl rfl)
abbrev cX1_in : ByteArray := prog_1_method_2_code
def yX1_in : MethodName := ⟨RX1, "in", "(III)Z"⟩
def dkwX1_in_0 : List UInt8 := [26, 27, 161, 0, 12, 26, 28, 163, 0, 7, 4, 167, 0, 4, 3, 172]
abbrev dktX1_in_0 : List UInt8 := dkwX1_in_0 ++ []
theorem dksX1_in_0 : cX1_in.data.toList.drop 0 = dktX1_in_0 := by decide +kernel
theorem dX1_in_0 : decode cX1_in 0 = .ok (.iload_n 0, 1) := dk_26 (dk_at dksX1_in_0 0 rfl rfl)
theorem dX1_in_1 : decode cX1_in 1 = .ok (.iload_n 1, 1) := dk_27 (dk_at dksX1_in_0 1 rfl rfl)
theorem dX1_in_2 : decode cX1_in 2 = .ok (.if_icmp .lt 12, 3) := dk_161 0 12 (dk_at dksX1_in_0 2 rfl rfl)
theorem dX1_in_5 : decode cX1_in 5 = .ok (.iload_n 0, 1) := dk_26 (dk_at dksX1_in_0 5 rfl rfl)
theorem dX1_in_6 : decode cX1_in 6 = .ok (.iload_n 2, 1) := dk_28 (dk_at dksX1_in_0 6 rfl rfl)
theorem dX1_in_7 : decode cX1_in 7 = .ok (.if_icmp .gt 7, 3) := dk_163 0 7 (dk_at dksX1_in_0 7 rfl rfl)
theorem dX1_in_10 : decode cX1_in 10 = .ok (.iconst 1, 1) := dk_4 (dk_at dksX1_in_0 10 rfl rfl)
theorem dX1_in_11 : decode cX1_in 11 = .ok (.goto 4, 3) := dk_167 0 4 (dk_at dksX1_in_0 11 rfl rfl)
theorem dX1_in_14 : decode cX1_in 14 = .ok (.iconst 0, 1) := dk_3 (dk_at dksX1_in_0 14 rfl rfl)
theorem dX1_in_15 : decode cX1_in 15 = .ok (.ireturn, 1) := dk_172 (dk_at dksX1_in_0 15 rfl rfl)
abbrev cX1_courtLine : ByteArray := prog_1_method_7_code
def yX1_courtLine : MethodName := ⟨RX1, "courtLine", "(LChaseCourt$World;)V"⟩
def dkwX1_courtLine_12 : List UInt8 := [43, 44, 3, 4, 182, 0, 134, 181, 0, 155, 177, 44, 182, 0, 147, 191]
abbrev dktX1_courtLine_12 : List UInt8 := dkwX1_courtLine_12 ++ []
def dkwX1_courtLine_11 : List UInt8 := [177, 43, 44, 4, 16, 6, 182, 0, 134, 181, 0, 151, 177, 43, 44, 3, 5, 182, 0, 134, 181, 0, 153, 177]
abbrev dktX1_courtLine_11 : List UInt8 := dkwX1_courtLine_11 ++ dktX1_courtLine_12
def dkwX1_courtLine_10 : List UInt8 := [21, 8, 44, 3, 16, 9, 182, 0, 134, 96, 54, 8, 25, 6, 21, 8, 44, 3, 16, 100, 182, 0, 134, 79]
abbrev dktX1_courtLine_10 : List UInt8 := dkwX1_courtLine_10 ++ dktX1_courtLine_11
def dkwX1_courtLine_9 : List UInt8 := [167, 0, 4, 2, 54, 8, 21, 8, 2, 160, 0, 8, 44, 182, 0, 147, 191, 21, 8, 5, 160, 0, 15]
abbrev dktX1_courtLine_9 : List UInt8 := dkwX1_courtLine_9 ++ dktX1_courtLine_10
def dkwX1_courtLine_8 : List UInt8 := [18, 143, 182, 0, 124, 153, 0, 7, 4, 167, 0, 18, 25, 7, 18, 145, 182, 0, 124, 153, 0, 7, 5]
abbrev dktX1_courtLine_8 : List UInt8 := dkwX1_courtLine_8 ++ dktX1_courtLine_9
def dkwX1_courtLine_7 : List UInt8 := [58, 6, 44, 182, 0, 112, 58, 7, 25, 7, 18, 141, 182, 0, 124, 153, 0, 7, 3, 167, 0, 32, 25, 7]
abbrev dktX1_courtLine_7 : List UInt8 := dkwX1_courtLine_7 ++ dktX1_courtLine_8
def dkwX1_courtLine_6 : List UInt8 := [44, 3, 6, 182, 0, 134, 54, 5, 43, 180, 0, 138, 7, 21, 5, 104, 44, 3, 6, 182, 0, 134, 96, 50]
abbrev dktX1_courtLine_6 : List UInt8 := dkwX1_courtLine_6 ++ dktX1_courtLine_7
def dkwX1_courtLine_5 : List UInt8 := [170, 0, 0, 0, 182, 0, 0, 0, 0, 0, 0, 0, 3, 0, 0, 0, 29, 0, 0, 0, 148, 0, 0, 0, 160, 0, 0, 0, 171]
abbrev dktX1_courtLine_5 : List UInt8 := dkwX1_courtLine_5 ++ dktX1_courtLine_6
def dkwX1_courtLine_4 : List UInt8 := [182, 0, 124, 153, 0, 6, 6, 54, 4, 21, 4]
abbrev dktX1_courtLine_4 : List UInt8 := dkwX1_courtLine_4 ++ dktX1_courtLine_5
def dkwX1_courtLine_3 : List UInt8 := [4, 54, 4, 167, 0, 30, 45, 18, 130, 182, 0, 124, 153, 0, 21, 5, 54, 4, 167, 0, 15, 45, 18, 132]
abbrev dktX1_courtLine_3 : List UInt8 := dkwX1_courtLine_3 ++ dktX1_courtLine_4
def dkwX1_courtLine_2 : List UInt8 := [45, 18, 122, 182, 0, 124, 153, 0, 51, 3, 54, 4, 167, 0, 45, 45, 18, 128, 182, 0, 124, 153, 0, 36]
abbrev dktX1_courtLine_2 : List UInt8 := dkwX1_courtLine_2 ++ dktX1_courtLine_3
def dkwX1_courtLine_1 : List UInt8 := [171, 0, 0, 0, 0, 0, 100, 0, 0, 0, 4, 0, 46, 164, 182, 0, 0, 0, 73, 0, 47, 177, 26, 0, 0, 0, 88, 5, 217, 50, 193, 0, 0, 0, 58, 6, 116, 50, 106, 0, 0, 0, 43]
abbrev dktX1_courtLine_1 : List UInt8 := dkwX1_courtLine_1 ++ dktX1_courtLine_2
def dkwX1_courtLine_0 : List UInt8 := [42, 180, 0, 21, 77, 44, 182, 0, 112, 78, 2, 54, 4, 45, 182, 0, 116]
abbrev dktX1_courtLine_0 : List UInt8 := dkwX1_courtLine_0 ++ dktX1_courtLine_1
theorem dksX1_courtLine_0 : cX1_courtLine.data.toList.drop 0 = dktX1_courtLine_0 := by decide +kernel
theorem dksX1_courtLine_1 : cX1_courtLine.data.toList.drop 17 = dktX1_courtLine_1 := dk_seg dksX1_courtLine_0 17 rfl rfl
theorem dksX1_courtLine_2 : cX1_courtLine.data.toList.drop 60 = dktX1_courtLine_2 := dk_seg dksX1_courtLine_1 43 rfl rfl
theorem dksX1_courtLine_3 : cX1_courtLine.data.toList.drop 84 = dktX1_courtLine_3 := dk_seg dksX1_courtLine_2 24 rfl rfl
theorem dksX1_courtLine_4 : cX1_courtLine.data.toList.drop 108 = dktX1_courtLine_4 := dk_seg dksX1_courtLine_3 24 rfl rfl
theorem dksX1_courtLine_5 : cX1_courtLine.data.toList.drop 119 = dktX1_courtLine_5 := dk_seg dksX1_courtLine_4 11 rfl rfl
theorem dksX1_courtLine_6 : cX1_courtLine.data.toList.drop 148 = dktX1_courtLine_6 := dk_seg dksX1_courtLine_5 29 rfl rfl
theorem dksX1_courtLine_7 : cX1_courtLine.data.toList.drop 172 = dktX1_courtLine_7 := dk_seg dksX1_courtLine_6 24 rfl rfl
theorem dksX1_courtLine_8 : cX1_courtLine.data.toList.drop 196 = dktX1_courtLine_8 := dk_seg dksX1_courtLine_7 24 rfl rfl
theorem dksX1_courtLine_9 : cX1_courtLine.data.toList.drop 219 = dktX1_courtLine_9 := dk_seg dksX1_courtLine_8 23 rfl rfl
theorem dksX1_courtLine_10 : cX1_courtLine.data.toList.drop 242 = dktX1_courtLine_10 := dk_seg dksX1_courtLine_9 23 rfl rfl
theorem dksX1_courtLine_11 : cX1_courtLine.data.toList.drop 266 = dktX1_courtLine_11 := dk_seg dksX1_courtLine_10 24 rfl rfl
theorem dksX1_courtLine_12 : cX1_courtLine.data.toList.drop 290 = dktX1_courtLine_12 := dk_seg dksX1_courtLine_11 24 rfl rfl
theorem dX1_courtLine_0 : decode cX1_courtLine 0 = .ok (.aload_n 0, 1) := dk_42 (dk_at dksX1_courtLine_0 0 rfl rfl)
theorem dX1_courtLine_1 : decode cX1_courtLine 1 = .ok (.getfield 21, 3) := dk_180 0 21 (dk_at dksX1_courtLine_0 1 rfl rfl)
theorem dX1_courtLine_4 : decode cX1_courtLine 4 = .ok (.astore_n 2, 1) := dk_77 (dk_at dksX1_courtLine_0 4 rfl rfl)
theorem dX1_courtLine_5 : decode cX1_courtLine 5 = .ok (.aload_n 2, 1) := dk_44 (dk_at dksX1_courtLine_0 5 rfl rfl)
theorem dX1_courtLine_6 : decode cX1_courtLine 6 = .ok (.invokevirtual 112, 3) := dk_182 0 112 (dk_at dksX1_courtLine_0 6 rfl rfl)
theorem dX1_courtLine_9 : decode cX1_courtLine 9 = .ok (.astore_n 3, 1) := dk_78 (dk_at dksX1_courtLine_0 9 rfl rfl)
theorem dX1_courtLine_10 : decode cX1_courtLine 10 = .ok (.iconst (-1), 1) := dk_2 (dk_at dksX1_courtLine_0 10 rfl rfl)
theorem dX1_courtLine_11 : decode cX1_courtLine 11 = .ok (.istore 4, 2) := dk_54 4 (dk_at dksX1_courtLine_0 11 rfl rfl)
theorem dX1_courtLine_13 : decode cX1_courtLine 13 = .ok (.aload_n 3, 1) := dk_45 (dk_at dksX1_courtLine_0 13 rfl rfl)
theorem dX1_courtLine_14 : decode cX1_courtLine 14 = .ok (.invokevirtual 116, 3) := dk_182 0 116 (dk_at dksX1_courtLine_0 14 rfl rfl)
theorem dX1_courtLine_17 : decode cX1_courtLine 17 = .ok (.lookupswitch 100 #[(3056822, 73), (3125530, 88), (98120385, 58), (108278378, 43)], 43) := by decide +kernel
theorem dX1_courtLine_60 : decode cX1_courtLine 60 = .ok (.aload_n 3, 1) := dk_45 (dk_at dksX1_courtLine_2 0 rfl rfl)
theorem dX1_courtLine_61 : decode cX1_courtLine 61 = .ok (.ldc 122, 2) := dk_18 122 (dk_at dksX1_courtLine_2 1 rfl rfl)
theorem dX1_courtLine_63 : decode cX1_courtLine 63 = .ok (.invokevirtual 124, 3) := dk_182 0 124 (dk_at dksX1_courtLine_2 3 rfl rfl)
theorem dX1_courtLine_66 : decode cX1_courtLine 66 = .ok (.ifCond .eq 51, 3) := dk_153 0 51 (dk_at dksX1_courtLine_2 6 rfl rfl)
theorem dX1_courtLine_69 : decode cX1_courtLine 69 = .ok (.iconst 0, 1) := dk_3 (dk_at dksX1_courtLine_2 9 rfl rfl)
theorem dX1_courtLine_70 : decode cX1_courtLine 70 = .ok (.istore 4, 2) := dk_54 4 (dk_at dksX1_courtLine_2 10 rfl rfl)
theorem dX1_courtLine_72 : decode cX1_courtLine 72 = .ok (.goto 45, 3) := dk_167 0 45 (dk_at dksX1_courtLine_2 12 rfl rfl)
theorem dX1_courtLine_75 : decode cX1_courtLine 75 = .ok (.aload_n 3, 1) := dk_45 (dk_at dksX1_courtLine_2 15 rfl rfl)
theorem dX1_courtLine_76 : decode cX1_courtLine 76 = .ok (.ldc 128, 2) := dk_18 128 (dk_at dksX1_courtLine_2 16 rfl rfl)
theorem dX1_courtLine_78 : decode cX1_courtLine 78 = .ok (.invokevirtual 124, 3) := dk_182 0 124 (dk_at dksX1_courtLine_2 18 rfl rfl)
theorem dX1_courtLine_81 : decode cX1_courtLine 81 = .ok (.ifCond .eq 36, 3) := dk_153 0 36 (dk_at dksX1_courtLine_2 21 rfl rfl)
theorem dX1_courtLine_84 : decode cX1_courtLine 84 = .ok (.iconst 1, 1) := dk_4 (dk_at dksX1_courtLine_3 0 rfl rfl)
theorem dX1_courtLine_85 : decode cX1_courtLine 85 = .ok (.istore 4, 2) := dk_54 4 (dk_at dksX1_courtLine_3 1 rfl rfl)
theorem dX1_courtLine_87 : decode cX1_courtLine 87 = .ok (.goto 30, 3) := dk_167 0 30 (dk_at dksX1_courtLine_3 3 rfl rfl)
theorem dX1_courtLine_90 : decode cX1_courtLine 90 = .ok (.aload_n 3, 1) := dk_45 (dk_at dksX1_courtLine_3 6 rfl rfl)
theorem dX1_courtLine_91 : decode cX1_courtLine 91 = .ok (.ldc 130, 2) := dk_18 130 (dk_at dksX1_courtLine_3 7 rfl rfl)
theorem dX1_courtLine_93 : decode cX1_courtLine 93 = .ok (.invokevirtual 124, 3) := dk_182 0 124 (dk_at dksX1_courtLine_3 9 rfl rfl)
theorem dX1_courtLine_96 : decode cX1_courtLine 96 = .ok (.ifCond .eq 21, 3) := dk_153 0 21 (dk_at dksX1_courtLine_3 12 rfl rfl)
theorem dX1_courtLine_99 : decode cX1_courtLine 99 = .ok (.iconst 2, 1) := dk_5 (dk_at dksX1_courtLine_3 15 rfl rfl)
theorem dX1_courtLine_100 : decode cX1_courtLine 100 = .ok (.istore 4, 2) := dk_54 4 (dk_at dksX1_courtLine_3 16 rfl rfl)
theorem dX1_courtLine_102 : decode cX1_courtLine 102 = .ok (.goto 15, 3) := dk_167 0 15 (dk_at dksX1_courtLine_3 18 rfl rfl)
theorem dX1_courtLine_105 : decode cX1_courtLine 105 = .ok (.aload_n 3, 1) := dk_45 (dk_at dksX1_courtLine_3 21 rfl rfl)
theorem dX1_courtLine_106 : decode cX1_courtLine 106 = .ok (.ldc 132, 2) := dk_18 132 (dk_at dksX1_courtLine_3 22 rfl rfl)
theorem dX1_courtLine_108 : decode cX1_courtLine 108 = .ok (.invokevirtual 124, 3) := dk_182 0 124 (dk_at dksX1_courtLine_4 0 rfl rfl)
theorem dX1_courtLine_111 : decode cX1_courtLine 111 = .ok (.ifCond .eq 6, 3) := dk_153 0 6 (dk_at dksX1_courtLine_4 3 rfl rfl)
theorem dX1_courtLine_114 : decode cX1_courtLine 114 = .ok (.iconst 3, 1) := dk_6 (dk_at dksX1_courtLine_4 6 rfl rfl)
theorem dX1_courtLine_115 : decode cX1_courtLine 115 = .ok (.istore 4, 2) := dk_54 4 (dk_at dksX1_courtLine_4 7 rfl rfl)
theorem dX1_courtLine_117 : decode cX1_courtLine 117 = .ok (.iload 4, 2) := dk_21 4 (dk_at dksX1_courtLine_4 9 rfl rfl)
theorem dX1_courtLine_119 : decode cX1_courtLine 119 = .ok (.tableswitch 182 0 3 #[29, 148, 160, 171], 29) := by decide +kernel
theorem dX1_courtLine_148 : decode cX1_courtLine 148 = .ok (.aload_n 2, 1) := dk_44 (dk_at dksX1_courtLine_6 0 rfl rfl)
theorem dX1_courtLine_149 : decode cX1_courtLine 149 = .ok (.iconst 0, 1) := dk_3 (dk_at dksX1_courtLine_6 1 rfl rfl)
theorem dX1_courtLine_150 : decode cX1_courtLine 150 = .ok (.iconst 3, 1) := dk_6 (dk_at dksX1_courtLine_6 2 rfl rfl)
theorem dX1_courtLine_151 : decode cX1_courtLine 151 = .ok (.invokevirtual 134, 3) := dk_182 0 134 (dk_at dksX1_courtLine_6 3 rfl rfl)
theorem dX1_courtLine_154 : decode cX1_courtLine 154 = .ok (.istore 5, 2) := dk_54 5 (dk_at dksX1_courtLine_6 6 rfl rfl)
theorem dX1_courtLine_156 : decode cX1_courtLine 156 = .ok (.aload_n 1, 1) := dk_43 (dk_at dksX1_courtLine_6 8 rfl rfl)
theorem dX1_courtLine_157 : decode cX1_courtLine 157 = .ok (.getfield 138, 3) := dk_180 0 138 (dk_at dksX1_courtLine_6 9 rfl rfl)
theorem dX1_courtLine_160 : decode cX1_courtLine 160 = .ok (.iconst 4, 1) := dk_7 (dk_at dksX1_courtLine_6 12 rfl rfl)
theorem dX1_courtLine_161 : decode cX1_courtLine 161 = .ok (.iload 5, 2) := dk_21 5 (dk_at dksX1_courtLine_6 13 rfl rfl)
theorem dX1_courtLine_163 : decode cX1_courtLine 163 = .ok (.imul, 1) := dk_104 (dk_at dksX1_courtLine_6 15 rfl rfl)
theorem dX1_courtLine_164 : decode cX1_courtLine 164 = .ok (.aload_n 2, 1) := dk_44 (dk_at dksX1_courtLine_6 16 rfl rfl)
theorem dX1_courtLine_165 : decode cX1_courtLine 165 = .ok (.iconst 0, 1) := dk_3 (dk_at dksX1_courtLine_6 17 rfl rfl)
theorem dX1_courtLine_166 : decode cX1_courtLine 166 = .ok (.iconst 3, 1) := dk_6 (dk_at dksX1_courtLine_6 18 rfl rfl)
theorem dX1_courtLine_167 : decode cX1_courtLine 167 = .ok (.invokevirtual 134, 3) := dk_182 0 134 (dk_at dksX1_courtLine_6 19 rfl rfl)
theorem dX1_courtLine_170 : decode cX1_courtLine 170 = .ok (.iadd, 1) := dk_96 (dk_at dksX1_courtLine_6 22 rfl rfl)
theorem dX1_courtLine_171 : decode cX1_courtLine 171 = .ok (.aaload, 1) := dk_50 (dk_at dksX1_courtLine_6 23 rfl rfl)
theorem dX1_courtLine_172 : decode cX1_courtLine 172 = .ok (.astore 6, 2) := dk_58 6 (dk_at dksX1_courtLine_7 0 rfl rfl)
theorem dX1_courtLine_174 : decode cX1_courtLine 174 = .ok (.aload_n 2, 1) := dk_44 (dk_at dksX1_courtLine_7 2 rfl rfl)
theorem dX1_courtLine_175 : decode cX1_courtLine 175 = .ok (.invokevirtual 112, 3) := dk_182 0 112 (dk_at dksX1_courtLine_7 3 rfl rfl)
theorem dX1_courtLine_178 : decode cX1_courtLine 178 = .ok (.astore 7, 2) := dk_58 7 (dk_at dksX1_courtLine_7 6 rfl rfl)
theorem dX1_courtLine_180 : decode cX1_courtLine 180 = .ok (.aload 7, 2) := dk_25 7 (dk_at dksX1_courtLine_7 8 rfl rfl)
theorem dX1_courtLine_182 : decode cX1_courtLine 182 = .ok (.ldc 141, 2) := dk_18 141 (dk_at dksX1_courtLine_7 10 rfl rfl)
theorem dX1_courtLine_184 : decode cX1_courtLine 184 = .ok (.invokevirtual 124, 3) := dk_182 0 124 (dk_at dksX1_courtLine_7 12 rfl rfl)
theorem dX1_courtLine_187 : decode cX1_courtLine 187 = .ok (.ifCond .eq 7, 3) := dk_153 0 7 (dk_at dksX1_courtLine_7 15 rfl rfl)
theorem dX1_courtLine_190 : decode cX1_courtLine 190 = .ok (.iconst 0, 1) := dk_3 (dk_at dksX1_courtLine_7 18 rfl rfl)
theorem dX1_courtLine_191 : decode cX1_courtLine 191 = .ok (.goto 32, 3) := dk_167 0 32 (dk_at dksX1_courtLine_7 19 rfl rfl)
theorem dX1_courtLine_194 : decode cX1_courtLine 194 = .ok (.aload 7, 2) := dk_25 7 (dk_at dksX1_courtLine_7 22 rfl rfl)
theorem dX1_courtLine_196 : decode cX1_courtLine 196 = .ok (.ldc 143, 2) := dk_18 143 (dk_at dksX1_courtLine_8 0 rfl rfl)
theorem dX1_courtLine_198 : decode cX1_courtLine 198 = .ok (.invokevirtual 124, 3) := dk_182 0 124 (dk_at dksX1_courtLine_8 2 rfl rfl)
theorem dX1_courtLine_201 : decode cX1_courtLine 201 = .ok (.ifCond .eq 7, 3) := dk_153 0 7 (dk_at dksX1_courtLine_8 5 rfl rfl)
theorem dX1_courtLine_204 : decode cX1_courtLine 204 = .ok (.iconst 1, 1) := dk_4 (dk_at dksX1_courtLine_8 8 rfl rfl)
theorem dX1_courtLine_205 : decode cX1_courtLine 205 = .ok (.goto 18, 3) := dk_167 0 18 (dk_at dksX1_courtLine_8 9 rfl rfl)
theorem dX1_courtLine_208 : decode cX1_courtLine 208 = .ok (.aload 7, 2) := dk_25 7 (dk_at dksX1_courtLine_8 12 rfl rfl)
theorem dX1_courtLine_210 : decode cX1_courtLine 210 = .ok (.ldc 145, 2) := dk_18 145 (dk_at dksX1_courtLine_8 14 rfl rfl)
theorem dX1_courtLine_212 : decode cX1_courtLine 212 = .ok (.invokevirtual 124, 3) := dk_182 0 124 (dk_at dksX1_courtLine_8 16 rfl rfl)
theorem dX1_courtLine_215 : decode cX1_courtLine 215 = .ok (.ifCond .eq 7, 3) := dk_153 0 7 (dk_at dksX1_courtLine_8 19 rfl rfl)
theorem dX1_courtLine_218 : decode cX1_courtLine 218 = .ok (.iconst 2, 1) := dk_5 (dk_at dksX1_courtLine_8 22 rfl rfl)
theorem dX1_courtLine_219 : decode cX1_courtLine 219 = .ok (.goto 4, 3) := dk_167 0 4 (dk_at dksX1_courtLine_9 0 rfl rfl)
theorem dX1_courtLine_222 : decode cX1_courtLine 222 = .ok (.iconst (-1), 1) := dk_2 (dk_at dksX1_courtLine_9 3 rfl rfl)
theorem dX1_courtLine_223 : decode cX1_courtLine 223 = .ok (.istore 8, 2) := dk_54 8 (dk_at dksX1_courtLine_9 4 rfl rfl)
theorem dX1_courtLine_225 : decode cX1_courtLine 225 = .ok (.iload 8, 2) := dk_21 8 (dk_at dksX1_courtLine_9 6 rfl rfl)
theorem dX1_courtLine_227 : decode cX1_courtLine 227 = .ok (.iconst (-1), 1) := dk_2 (dk_at dksX1_courtLine_9 8 rfl rfl)
theorem dX1_courtLine_228 : decode cX1_courtLine 228 = .ok (.if_icmp .ne 8, 3) := dk_160 0 8 (dk_at dksX1_courtLine_9 9 rfl rfl)
theorem dX1_courtLine_231 : decode cX1_courtLine 231 = .ok (.aload_n 2, 1) := dk_44 (dk_at dksX1_courtLine_9 12 rfl rfl)
theorem dX1_courtLine_232 : decode cX1_courtLine 232 = .ok (.invokevirtual 147, 3) := dk_182 0 147 (dk_at dksX1_courtLine_9 13 rfl rfl)
theorem dX1_courtLine_235 : decode cX1_courtLine 235 = .ok (.athrow, 1) := dk_191 (dk_at dksX1_courtLine_9 16 rfl rfl)
theorem dX1_courtLine_236 : decode cX1_courtLine 236 = .ok (.iload 8, 2) := dk_21 8 (dk_at dksX1_courtLine_9 17 rfl rfl)
theorem dX1_courtLine_238 : decode cX1_courtLine 238 = .ok (.iconst 2, 1) := dk_5 (dk_at dksX1_courtLine_9 19 rfl rfl)
theorem dX1_courtLine_239 : decode cX1_courtLine 239 = .ok (.if_icmp .ne 15, 3) := dk_160 0 15 (dk_at dksX1_courtLine_9 20 rfl rfl)
theorem dX1_courtLine_242 : decode cX1_courtLine 242 = .ok (.iload 8, 2) := dk_21 8 (dk_at dksX1_courtLine_10 0 rfl rfl)
theorem dX1_courtLine_244 : decode cX1_courtLine 244 = .ok (.aload_n 2, 1) := dk_44 (dk_at dksX1_courtLine_10 2 rfl rfl)
theorem dX1_courtLine_245 : decode cX1_courtLine 245 = .ok (.iconst 0, 1) := dk_3 (dk_at dksX1_courtLine_10 3 rfl rfl)
theorem dX1_courtLine_246 : decode cX1_courtLine 246 = .ok (.bipush 9, 2) := dk_16 9 (dk_at dksX1_courtLine_10 4 rfl rfl)
theorem dX1_courtLine_248 : decode cX1_courtLine 248 = .ok (.invokevirtual 134, 3) := dk_182 0 134 (dk_at dksX1_courtLine_10 6 rfl rfl)
theorem dX1_courtLine_251 : decode cX1_courtLine 251 = .ok (.iadd, 1) := dk_96 (dk_at dksX1_courtLine_10 9 rfl rfl)
theorem dX1_courtLine_252 : decode cX1_courtLine 252 = .ok (.istore 8, 2) := dk_54 8 (dk_at dksX1_courtLine_10 10 rfl rfl)
theorem dX1_courtLine_254 : decode cX1_courtLine 254 = .ok (.aload 6, 2) := dk_25 6 (dk_at dksX1_courtLine_10 12 rfl rfl)
theorem dX1_courtLine_256 : decode cX1_courtLine 256 = .ok (.iload 8, 2) := dk_21 8 (dk_at dksX1_courtLine_10 14 rfl rfl)
theorem dX1_courtLine_258 : decode cX1_courtLine 258 = .ok (.aload_n 2, 1) := dk_44 (dk_at dksX1_courtLine_10 16 rfl rfl)
theorem dX1_courtLine_259 : decode cX1_courtLine 259 = .ok (.iconst 0, 1) := dk_3 (dk_at dksX1_courtLine_10 17 rfl rfl)
theorem dX1_courtLine_260 : decode cX1_courtLine 260 = .ok (.bipush 100, 2) := dk_16 100 (dk_at dksX1_courtLine_10 18 rfl rfl)
theorem dX1_courtLine_262 : decode cX1_courtLine 262 = .ok (.invokevirtual 134, 3) := dk_182 0 134 (dk_at dksX1_courtLine_10 20 rfl rfl)
theorem dX1_courtLine_265 : decode cX1_courtLine 265 = .ok (.iastore, 1) := dk_79 (dk_at dksX1_courtLine_10 23 rfl rfl)
theorem dX1_courtLine_266 : decode cX1_courtLine 266 = .ok (.return_, 1) := dk_177 (dk_at dksX1_courtLine_11 0 rfl rfl)
theorem dX1_courtLine_267 : decode cX1_courtLine 267 = .ok (.aload_n 1, 1) := dk_43 (dk_at dksX1_courtLine_11 1 rfl rfl)
theorem dX1_courtLine_268 : decode cX1_courtLine 268 = .ok (.aload_n 2, 1) := dk_44 (dk_at dksX1_courtLine_11 2 rfl rfl)
theorem dX1_courtLine_269 : decode cX1_courtLine 269 = .ok (.iconst 1, 1) := dk_4 (dk_at dksX1_courtLine_11 3 rfl rfl)
theorem dX1_courtLine_270 : decode cX1_courtLine 270 = .ok (.bipush 6, 2) := dk_16 6 (dk_at dksX1_courtLine_11 4 rfl rfl)
theorem dX1_courtLine_272 : decode cX1_courtLine 272 = .ok (.invokevirtual 134, 3) := dk_182 0 134 (dk_at dksX1_courtLine_11 6 rfl rfl)
theorem dX1_courtLine_275 : decode cX1_courtLine 275 = .ok (.putfield 151, 3) := dk_181 0 151 (dk_at dksX1_courtLine_11 9 rfl rfl)
theorem dX1_courtLine_278 : decode cX1_courtLine 278 = .ok (.return_, 1) := dk_177 (dk_at dksX1_courtLine_11 12 rfl rfl)
theorem dX1_courtLine_279 : decode cX1_courtLine 279 = .ok (.aload_n 1, 1) := dk_43 (dk_at dksX1_courtLine_11 13 rfl rfl)
theorem dX1_courtLine_280 : decode cX1_courtLine 280 = .ok (.aload_n 2, 1) := dk_44 (dk_at dksX1_courtLine_11 14 rfl rfl)
theorem dX1_courtLine_281 : decode cX1_courtLine 281 = .ok (.iconst 0, 1) := dk_3 (dk_at dksX1_courtLine_11 15 rfl rfl)
theorem dX1_courtLine_282 : decode cX1_courtLine 282 = .ok (.iconst 2, 1) := dk_5 (dk_at dksX1_courtLine_11 16 rfl rfl)
theorem dX1_courtLine_283 : decode cX1_courtLine 283 = .ok (.invokevirtual 134, 3) := dk_182 0 134 (dk_at dksX1_courtLine_11 17 rfl rfl)
theorem dX1_courtLine_286 : decode cX1_courtLine 286 = .ok (.putfield 153, 3) := dk_181 0 153 (dk_at dksX1_courtLine_11 20 rfl rfl)
theorem dX1_courtLine_289 : decode cX1_courtLine 289 = .ok (.return_, 1) := dk_177 (dk_at dksX1_courtLine_11 23 rfl rfl)
theorem dX1_courtLine_290 : decode cX1_courtLine 290 = .ok (.aload_n 1, 1) := dk_43 (dk_at dksX1_courtLine_12 0 rfl rfl)
theorem dX1_courtLine_291 : decode cX1_courtLine 291 = .ok (.aload_n 2, 1) := dk_44 (dk_at dksX1_courtLine_12 1 rfl rfl)
theorem dX1_courtLine_292 : decode cX1_courtLine 292 = .ok (.iconst 0, 1) := dk_3 (dk_at dksX1_courtLine_12 2 rfl rfl)
theorem dX1_courtLine_293 : decode cX1_courtLine 293 = .ok (.iconst 1, 1) := dk_4 (dk_at dksX1_courtLine_12 3 rfl rfl)
theorem dX1_courtLine_294 : decode cX1_courtLine 294 = .ok (.invokevirtual 134, 3) := dk_182 0 134 (dk_at dksX1_courtLine_12 4 rfl rfl)
theorem dX1_courtLine_297 : decode cX1_courtLine 297 = .ok (.putfield 155, 3) := dk_181 0 155 (dk_at dksX1_courtLine_12 7 rfl rfl)
theorem dX1_courtLine_300 : decode cX1_courtLine 300 = .ok (.return_, 1) := dk_177 (dk_at dksX1_courtLine_12 10 rfl rfl)
theorem dX1_courtLine_301 : decode cX1_courtLine 301 = .ok (.aload_n 2, 1) := dk_44 (dk_at dksX1_courtLine_12 11 rfl rfl)
theorem dX1_courtLine_302 : decode cX1_courtLine 302 = .ok (.invokevirtual 147, 3) := dk_182 0 147 (dk_at dksX1_courtLine_12 12 rfl rfl)
theorem dX1_courtLine_305 : decode cX1_courtLine 305 = .ok (.athrow, 1) := dk_191 (dk_at dksX1_courtLine_12 15 rfl rfl)
abbrev cX1_goesOn : ByteArray := prog_1_method_10_code
def yX1_goesOn : MethodName := ⟨RX1, "goesOn", "()Z"⟩
def dkwX1_goesOn_1 : List UInt8 := [4, 172, 42, 180, 0, 21, 182, 0, 147, 191]
abbrev dktX1_goesOn_1 : List UInt8 := dkwX1_goesOn_1 ++ []
def dkwX1_goesOn_0 : List UInt8 := [42, 180, 0, 21, 182, 0, 157, 153, 0, 5, 3, 172, 42, 180, 0, 21, 16, 59, 182, 0, 175, 153, 0, 5]
abbrev dktX1_goesOn_0 : List UInt8 := dkwX1_goesOn_0 ++ dktX1_goesOn_1
theorem dksX1_goesOn_0 : cX1_goesOn.data.toList.drop 0 = dktX1_goesOn_0 := by decide +kernel
theorem dksX1_goesOn_1 : cX1_goesOn.data.toList.drop 24 = dktX1_goesOn_1 := dk_seg dksX1_goesOn_0 24 rfl rfl
theorem dX1_goesOn_0 : decode cX1_goesOn 0 = .ok (.aload_n 0, 1) := dk_42 (dk_at dksX1_goesOn_0 0 rfl rfl)
theorem dX1_goesOn_1 : decode cX1_goesOn 1 = .ok (.getfield 21, 3) := dk_180 0 21 (dk_at dksX1_goesOn_0 1 rfl rfl)
theorem dX1_goesOn_4 : decode cX1_goesOn 4 = .ok (.invokevirtual 157, 3) := dk_182 0 157 (dk_at dksX1_goesOn_0 4 rfl rfl)
theorem dX1_goesOn_7 : decode cX1_goesOn 7 = .ok (.ifCond .eq 5, 3) := dk_153 0 5 (dk_at dksX1_goesOn_0 7 rfl rfl)
theorem dX1_goesOn_10 : decode cX1_goesOn 10 = .ok (.iconst 0, 1) := dk_3 (dk_at dksX1_goesOn_0 10 rfl rfl)
theorem dX1_goesOn_11 : decode cX1_goesOn 11 = .ok (.ireturn, 1) := dk_172 (dk_at dksX1_goesOn_0 11 rfl rfl)
theorem dX1_goesOn_12 : decode cX1_goesOn 12 = .ok (.aload_n 0, 1) := dk_42 (dk_at dksX1_goesOn_0 12 rfl rfl)
theorem dX1_goesOn_13 : decode cX1_goesOn 13 = .ok (.getfield 21, 3) := dk_180 0 21 (dk_at dksX1_goesOn_0 13 rfl rfl)
theorem dX1_goesOn_16 : decode cX1_goesOn 16 = .ok (.bipush 59, 2) := dk_16 59 (dk_at dksX1_goesOn_0 16 rfl rfl)
theorem dX1_goesOn_18 : decode cX1_goesOn 18 = .ok (.invokevirtual 175, 3) := dk_182 0 175 (dk_at dksX1_goesOn_0 18 rfl rfl)
theorem dX1_goesOn_21 : decode cX1_goesOn 21 = .ok (.ifCond .eq 5, 3) := dk_153 0 5 (dk_at dksX1_goesOn_0 21 rfl rfl)
theorem dX1_goesOn_24 : decode cX1_goesOn 24 = .ok (.iconst 1, 1) := dk_4 (dk_at dksX1_goesOn_1 0 rfl rfl)
theorem dX1_goesOn_25 : decode cX1_goesOn 25 = .ok (.ireturn, 1) := dk_172 (dk_at dksX1_goesOn_1 1 rfl rfl)
theorem dX1_goesOn_26 : decode cX1_goesOn 26 = .ok (.aload_n 0, 1) := dk_42 (dk_at dksX1_goesOn_1 2 rfl rfl)
theorem dX1_goesOn_27 : decode cX1_goesOn 27 = .ok (.getfield 21, 3) := dk_180 0 21 (dk_at dksX1_goesOn_1 3 rfl rfl)
theorem dX1_goesOn_30 : decode cX1_goesOn 30 = .ok (.invokevirtual 147, 3) := dk_182 0 147 (dk_at dksX1_goesOn_1 6 rfl rfl)
theorem dX1_goesOn_33 : decode cX1_goesOn 33 = .ok (.athrow, 1) := dk_191 (dk_at dksX1_goesOn_1 9 rfl rfl)
abbrev cX1_fails : ByteArray := prog_1_method_11_code
def yX1_fails : MethodName := ⟨RX1, "fails", "()V"⟩
def dkwX1_fails_0 : List UInt8 := [42, 180, 0, 21, 42, 180, 0, 21, 180, 0, 178, 181, 0, 104, 187, 0, 181, 89, 183, 0, 183, 191]
abbrev dktX1_fails_0 : List UInt8 := dkwX1_fails_0 ++ []
theorem dksX1_fails_0 : cX1_fails.data.toList.drop 0 = dktX1_fails_0 := by decide +kernel
theorem dX1_fails_0 : decode cX1_fails 0 = .ok (.aload_n 0, 1) := dk_42 (dk_at dksX1_fails_0 0 rfl rfl)
theorem dX1_fails_1 : decode cX1_fails 1 = .ok (.getfield 21, 3) := dk_180 0 21 (dk_at dksX1_fails_0 1 rfl rfl)
theorem dX1_fails_4 : decode cX1_fails 4 = .ok (.aload_n 0, 1) := dk_42 (dk_at dksX1_fails_0 4 rfl rfl)
theorem dX1_fails_5 : decode cX1_fails 5 = .ok (.getfield 21, 3) := dk_180 0 21 (dk_at dksX1_fails_0 5 rfl rfl)
theorem dX1_fails_8 : decode cX1_fails 8 = .ok (.getfield 178, 3) := dk_180 0 178 (dk_at dksX1_fails_0 8 rfl rfl)
theorem dX1_fails_11 : decode cX1_fails 11 = .ok (.putfield 104, 3) := dk_181 0 104 (dk_at dksX1_fails_0 11 rfl rfl)
theorem dX1_fails_14 : decode cX1_fails 14 = .ok (.new 181, 3) := dk_187 0 181 (dk_at dksX1_fails_0 14 rfl rfl)
theorem dX1_fails_17 : decode cX1_fails 17 = .ok (.dup, 1) := dk_89 (dk_at dksX1_fails_0 17 rfl rfl)
theorem dX1_fails_18 : decode cX1_fails 18 = .ok (.invokespecial 183, 3) := dk_183 0 183 (dk_at dksX1_fails_0 18 rfl rfl)
theorem dX1_fails_21 : decode cX1_fails 21 = .ok (.athrow, 1) := dk_191 (dk_at dksX1_fails_0 21 rfl rfl)
abbrev cX1_rule : ByteArray := prog_1_method_20_code
def yX1_rule : MethodName := ⟨RX1, "rule", "()I"⟩
def dkwX1_rule_3 : List UInt8 := [180, 1, 62, 182, 1, 51, 4, 100, 172]
abbrev dktX1_rule_3 : List UInt8 := dkwX1_rule_3 ++ []
def dkwX1_rule_2 : List UInt8 := [187, 0, 202, 89, 183, 0, 204, 191, 42, 180, 0, 14, 180, 1, 62, 43, 182, 0, 234, 87, 42, 180, 0, 14]
abbrev dktX1_rule_2 : List UInt8 := dkwX1_rule_2 ++ dktX1_rule_3
def dkwX1_rule_1 : List UInt8 := [167, 0, 8, 77, 42, 182, 0, 196, 42, 180, 0, 14, 180, 1, 62, 182, 1, 51, 16, 6, 160, 0, 11]
abbrev dktX1_rule_1 : List UInt8 := dkwX1_rule_1 ++ dktX1_rule_2
def dkwX1_rule_0 : List UInt8 := [42, 180, 0, 21, 182, 0, 184, 1, 76, 42, 182, 1, 58, 76, 42, 180, 0, 21, 2, 181, 0, 104]
abbrev dktX1_rule_0 : List UInt8 := dkwX1_rule_0 ++ dktX1_rule_1
theorem dksX1_rule_0 : cX1_rule.data.toList.drop 0 = dktX1_rule_0 := by decide +kernel
theorem dksX1_rule_1 : cX1_rule.data.toList.drop 22 = dktX1_rule_1 := dk_seg dksX1_rule_0 22 rfl rfl
theorem dksX1_rule_2 : cX1_rule.data.toList.drop 45 = dktX1_rule_2 := dk_seg dksX1_rule_1 23 rfl rfl
theorem dksX1_rule_3 : cX1_rule.data.toList.drop 69 = dktX1_rule_3 := dk_seg dksX1_rule_2 24 rfl rfl
theorem dX1_rule_0 : decode cX1_rule 0 = .ok (.aload_n 0, 1) := dk_42 (dk_at dksX1_rule_0 0 rfl rfl)
theorem dX1_rule_1 : decode cX1_rule 1 = .ok (.getfield 21, 3) := dk_180 0 21 (dk_at dksX1_rule_0 1 rfl rfl)
theorem dX1_rule_4 : decode cX1_rule 4 = .ok (.invokevirtual 184, 3) := dk_182 0 184 (dk_at dksX1_rule_0 4 rfl rfl)
theorem dX1_rule_7 : decode cX1_rule 7 = .ok (.aconst_null, 1) := dk_1 (dk_at dksX1_rule_0 7 rfl rfl)
theorem dX1_rule_8 : decode cX1_rule 8 = .ok (.astore_n 1, 1) := dk_76 (dk_at dksX1_rule_0 8 rfl rfl)
theorem dX1_rule_9 : decode cX1_rule 9 = .ok (.aload_n 0, 1) := dk_42 (dk_at dksX1_rule_0 9 rfl rfl)
theorem dX1_rule_10 : decode cX1_rule 10 = .ok (.invokevirtual 314, 3) := dk_182 1 58 (dk_at dksX1_rule_0 10 rfl rfl)
theorem dX1_rule_13 : decode cX1_rule 13 = .ok (.astore_n 1, 1) := dk_76 (dk_at dksX1_rule_0 13 rfl rfl)
theorem dX1_rule_14 : decode cX1_rule 14 = .ok (.aload_n 0, 1) := dk_42 (dk_at dksX1_rule_0 14 rfl rfl)
theorem dX1_rule_15 : decode cX1_rule 15 = .ok (.getfield 21, 3) := dk_180 0 21 (dk_at dksX1_rule_0 15 rfl rfl)
theorem dX1_rule_18 : decode cX1_rule 18 = .ok (.iconst (-1), 1) := dk_2 (dk_at dksX1_rule_0 18 rfl rfl)
theorem dX1_rule_19 : decode cX1_rule 19 = .ok (.putfield 104, 3) := dk_181 0 104 (dk_at dksX1_rule_0 19 rfl rfl)
theorem dX1_rule_22 : decode cX1_rule 22 = .ok (.goto 8, 3) := dk_167 0 8 (dk_at dksX1_rule_1 0 rfl rfl)
theorem dX1_rule_25 : decode cX1_rule 25 = .ok (.astore_n 2, 1) := dk_77 (dk_at dksX1_rule_1 3 rfl rfl)
theorem dX1_rule_26 : decode cX1_rule 26 = .ok (.aload_n 0, 1) := dk_42 (dk_at dksX1_rule_1 4 rfl rfl)
theorem dX1_rule_27 : decode cX1_rule 27 = .ok (.invokevirtual 196, 3) := dk_182 0 196 (dk_at dksX1_rule_1 5 rfl rfl)
theorem dX1_rule_30 : decode cX1_rule 30 = .ok (.aload_n 0, 1) := dk_42 (dk_at dksX1_rule_1 8 rfl rfl)
theorem dX1_rule_31 : decode cX1_rule 31 = .ok (.getfield 14, 3) := dk_180 0 14 (dk_at dksX1_rule_1 9 rfl rfl)
theorem dX1_rule_34 : decode cX1_rule 34 = .ok (.getfield 318, 3) := dk_180 1 62 (dk_at dksX1_rule_1 12 rfl rfl)
theorem dX1_rule_37 : decode cX1_rule 37 = .ok (.invokevirtual 307, 3) := dk_182 1 51 (dk_at dksX1_rule_1 15 rfl rfl)
theorem dX1_rule_40 : decode cX1_rule 40 = .ok (.bipush 6, 2) := dk_16 6 (dk_at dksX1_rule_1 18 rfl rfl)
theorem dX1_rule_42 : decode cX1_rule 42 = .ok (.if_icmp .ne 11, 3) := dk_160 0 11 (dk_at dksX1_rule_1 20 rfl rfl)
theorem dX1_rule_45 : decode cX1_rule 45 = .ok (.new 202, 3) := dk_187 0 202 (dk_at dksX1_rule_2 0 rfl rfl)
theorem dX1_rule_48 : decode cX1_rule 48 = .ok (.dup, 1) := dk_89 (dk_at dksX1_rule_2 3 rfl rfl)
theorem dX1_rule_49 : decode cX1_rule 49 = .ok (.invokespecial 204, 3) := dk_183 0 204 (dk_at dksX1_rule_2 4 rfl rfl)
theorem dX1_rule_52 : decode cX1_rule 52 = .ok (.athrow, 1) := dk_191 (dk_at dksX1_rule_2 7 rfl rfl)
theorem dX1_rule_53 : decode cX1_rule 53 = .ok (.aload_n 0, 1) := dk_42 (dk_at dksX1_rule_2 8 rfl rfl)
theorem dX1_rule_54 : decode cX1_rule 54 = .ok (.getfield 14, 3) := dk_180 0 14 (dk_at dksX1_rule_2 9 rfl rfl)
theorem dX1_rule_57 : decode cX1_rule 57 = .ok (.getfield 318, 3) := dk_180 1 62 (dk_at dksX1_rule_2 12 rfl rfl)
theorem dX1_rule_60 : decode cX1_rule 60 = .ok (.aload_n 1, 1) := dk_43 (dk_at dksX1_rule_2 15 rfl rfl)
theorem dX1_rule_61 : decode cX1_rule 61 = .ok (.invokevirtual 234, 3) := dk_182 0 234 (dk_at dksX1_rule_2 16 rfl rfl)
theorem dX1_rule_64 : decode cX1_rule 64 = .ok (.pop, 1) := dk_87 (dk_at dksX1_rule_2 19 rfl rfl)
theorem dX1_rule_65 : decode cX1_rule 65 = .ok (.aload_n 0, 1) := dk_42 (dk_at dksX1_rule_2 20 rfl rfl)
theorem dX1_rule_66 : decode cX1_rule 66 = .ok (.getfield 14, 3) := dk_180 0 14 (dk_at dksX1_rule_2 21 rfl rfl)
theorem dX1_rule_69 : decode cX1_rule 69 = .ok (.getfield 318, 3) := dk_180 1 62 (dk_at dksX1_rule_3 0 rfl rfl)
theorem dX1_rule_72 : decode cX1_rule 72 = .ok (.invokevirtual 307, 3) := dk_182 1 51 (dk_at dksX1_rule_3 3 rfl rfl)
theorem dX1_rule_75 : decode cX1_rule 75 = .ok (.iconst 1, 1) := dk_4 (dk_at dksX1_rule_3 6 rfl rfl)
theorem dX1_rule_76 : decode cX1_rule 76 = .ok (.isub, 1) := dk_100 (dk_at dksX1_rule_3 7 rfl rfl)
theorem dX1_rule_77 : decode cX1_rule 77 = .ok (.ireturn, 1) := dk_172 (dk_at dksX1_rule_3 8 rfl rfl)
abbrev cX1_ruleText : ByteArray := prog_1_method_19_code
def yX1_ruleText : MethodName := ⟨RX1, "ruleText", "()LChaseCourt$Rule;"⟩
def dkwX1_ruleText_2 : List UInt8 := [182, 0, 169, 154, 255, 229, 43, 176]
abbrev dktX1_ruleText_2 : List UInt8 := dkwX1_ruleText_2 ++ []
def dkwX1_ruleText_1 : List UInt8 := [180, 1, 49, 182, 1, 51, 182, 0, 161, 43, 180, 1, 49, 42, 182, 1, 54, 182, 0, 234, 87, 42]
abbrev dktX1_ruleText_1 : List UInt8 := dkwX1_ruleText_1 ++ dktX1_ruleText_2
def dkwX1_ruleText_0 : List UInt8 := [187, 1, 46, 89, 183, 1, 48, 76, 42, 180, 0, 21, 182, 0, 157, 153, 0, 5, 43, 176, 42, 43]
abbrev dktX1_ruleText_0 : List UInt8 := dkwX1_ruleText_0 ++ dktX1_ruleText_1
theorem dksX1_ruleText_0 : cX1_ruleText.data.toList.drop 0 = dktX1_ruleText_0 := by decide +kernel
theorem dksX1_ruleText_1 : cX1_ruleText.data.toList.drop 22 = dktX1_ruleText_1 := dk_seg dksX1_ruleText_0 22 rfl rfl
theorem dksX1_ruleText_2 : cX1_ruleText.data.toList.drop 44 = dktX1_ruleText_2 := dk_seg dksX1_ruleText_1 22 rfl rfl
theorem dX1_ruleText_0 : decode cX1_ruleText 0 = .ok (.new 302, 3) := dk_187 1 46 (dk_at dksX1_ruleText_0 0 rfl rfl)
theorem dX1_ruleText_3 : decode cX1_ruleText 3 = .ok (.dup, 1) := dk_89 (dk_at dksX1_ruleText_0 3 rfl rfl)
theorem dX1_ruleText_4 : decode cX1_ruleText 4 = .ok (.invokespecial 304, 3) := dk_183 1 48 (dk_at dksX1_ruleText_0 4 rfl rfl)
theorem dX1_ruleText_7 : decode cX1_ruleText 7 = .ok (.astore_n 1, 1) := dk_76 (dk_at dksX1_ruleText_0 7 rfl rfl)
theorem dX1_ruleText_8 : decode cX1_ruleText 8 = .ok (.aload_n 0, 1) := dk_42 (dk_at dksX1_ruleText_0 8 rfl rfl)
theorem dX1_ruleText_9 : decode cX1_ruleText 9 = .ok (.getfield 21, 3) := dk_180 0 21 (dk_at dksX1_ruleText_0 9 rfl rfl)
theorem dX1_ruleText_12 : decode cX1_ruleText 12 = .ok (.invokevirtual 157, 3) := dk_182 0 157 (dk_at dksX1_ruleText_0 12 rfl rfl)
theorem dX1_ruleText_15 : decode cX1_ruleText 15 = .ok (.ifCond .eq 5, 3) := dk_153 0 5 (dk_at dksX1_ruleText_0 15 rfl rfl)
theorem dX1_ruleText_18 : decode cX1_ruleText 18 = .ok (.aload_n 1, 1) := dk_43 (dk_at dksX1_ruleText_0 18 rfl rfl)
theorem dX1_ruleText_19 : decode cX1_ruleText 19 = .ok (.areturn, 1) := dk_176 (dk_at dksX1_ruleText_0 19 rfl rfl)
theorem dX1_ruleText_20 : decode cX1_ruleText 20 = .ok (.aload_n 0, 1) := dk_42 (dk_at dksX1_ruleText_0 20 rfl rfl)
theorem dX1_ruleText_21 : decode cX1_ruleText 21 = .ok (.aload_n 1, 1) := dk_43 (dk_at dksX1_ruleText_0 21 rfl rfl)
theorem dX1_ruleText_22 : decode cX1_ruleText 22 = .ok (.getfield 305, 3) := dk_180 1 49 (dk_at dksX1_ruleText_1 0 rfl rfl)
theorem dX1_ruleText_25 : decode cX1_ruleText 25 = .ok (.invokevirtual 307, 3) := dk_182 1 51 (dk_at dksX1_ruleText_1 3 rfl rfl)
theorem dX1_ruleText_28 : decode cX1_ruleText 28 = .ok (.invokevirtual 161, 3) := dk_182 0 161 (dk_at dksX1_ruleText_1 6 rfl rfl)
theorem dX1_ruleText_31 : decode cX1_ruleText 31 = .ok (.aload_n 1, 1) := dk_43 (dk_at dksX1_ruleText_1 9 rfl rfl)
theorem dX1_ruleText_32 : decode cX1_ruleText 32 = .ok (.getfield 305, 3) := dk_180 1 49 (dk_at dksX1_ruleText_1 10 rfl rfl)
theorem dX1_ruleText_35 : decode cX1_ruleText 35 = .ok (.aload_n 0, 1) := dk_42 (dk_at dksX1_ruleText_1 13 rfl rfl)
theorem dX1_ruleText_36 : decode cX1_ruleText 36 = .ok (.invokevirtual 310, 3) := dk_182 1 54 (dk_at dksX1_ruleText_1 14 rfl rfl)
theorem dX1_ruleText_39 : decode cX1_ruleText 39 = .ok (.invokevirtual 234, 3) := dk_182 0 234 (dk_at dksX1_ruleText_1 17 rfl rfl)
theorem dX1_ruleText_42 : decode cX1_ruleText 42 = .ok (.pop, 1) := dk_87 (dk_at dksX1_ruleText_1 20 rfl rfl)
theorem dX1_ruleText_43 : decode cX1_ruleText 43 = .ok (.aload_n 0, 1) := dk_42 (dk_at dksX1_ruleText_1 21 rfl rfl)
theorem dX1_ruleText_44 : decode cX1_ruleText 44 = .ok (.invokevirtual 169, 3) := dk_182 0 169 (dk_at dksX1_ruleText_2 0 rfl rfl)
theorem dX1_ruleText_47 : decode cX1_ruleText 47 = .ok (.ifCond .ne (-27), 3) := dk_154 255 229 (dk_at dksX1_ruleText_2 3 rfl rfl)
theorem dX1_ruleText_50 : decode cX1_ruleText 50 = .ok (.aload_n 1, 1) := dk_43 (dk_at dksX1_ruleText_2 6 rfl rfl)
theorem dX1_ruleText_51 : decode cX1_ruleText 51 = .ok (.areturn, 1) := dk_176 (dk_at dksX1_ruleText_2 7 rfl rfl)
abbrev cX1_ruleLine : ByteArray := prog_1_method_18_code
def yX1_ruleLine : MethodName := ⟨RX1, "ruleLine", "()LChaseCourt$Line;"⟩
def dkwX1_ruleLine_2 : List UInt8 := [182, 0, 250, 153, 0, 10, 42, 182, 0, 241, 167, 0, 4, 1, 183, 1, 43, 176]
abbrev dktX1_ruleLine_2 : List UInt8 := dkwX1_ruleLine_2 ++ []
def dkwX1_ruleLine_1 : List UInt8 := [42, 180, 0, 21, 3, 6, 182, 0, 134, 60, 187, 1, 39, 89, 27, 42, 180, 0, 21, 19, 1, 41]
abbrev dktX1_ruleLine_1 : List UInt8 := dkwX1_ruleLine_1 ++ dktX1_ruleLine_2
def dkwX1_ruleLine_0 : List UInt8 := [42, 180, 0, 21, 182, 0, 112, 19, 1, 37, 182, 0, 124, 154, 0, 11, 42, 180, 0, 21, 182, 0, 147, 191]
abbrev dktX1_ruleLine_0 : List UInt8 := dkwX1_ruleLine_0 ++ dktX1_ruleLine_1
theorem dksX1_ruleLine_0 : cX1_ruleLine.data.toList.drop 0 = dktX1_ruleLine_0 := by decide +kernel
theorem dksX1_ruleLine_1 : cX1_ruleLine.data.toList.drop 24 = dktX1_ruleLine_1 := dk_seg dksX1_ruleLine_0 24 rfl rfl
theorem dksX1_ruleLine_2 : cX1_ruleLine.data.toList.drop 46 = dktX1_ruleLine_2 := dk_seg dksX1_ruleLine_1 22 rfl rfl
theorem dX1_ruleLine_0 : decode cX1_ruleLine 0 = .ok (.aload_n 0, 1) := dk_42 (dk_at dksX1_ruleLine_0 0 rfl rfl)
theorem dX1_ruleLine_1 : decode cX1_ruleLine 1 = .ok (.getfield 21, 3) := dk_180 0 21 (dk_at dksX1_ruleLine_0 1 rfl rfl)
theorem dX1_ruleLine_4 : decode cX1_ruleLine 4 = .ok (.invokevirtual 112, 3) := dk_182 0 112 (dk_at dksX1_ruleLine_0 4 rfl rfl)
theorem dX1_ruleLine_7 : decode cX1_ruleLine 7 = .ok (.ldc_w 293, 3) := dk_19 1 37 (dk_at dksX1_ruleLine_0 7 rfl rfl)
theorem dX1_ruleLine_10 : decode cX1_ruleLine 10 = .ok (.invokevirtual 124, 3) := dk_182 0 124 (dk_at dksX1_ruleLine_0 10 rfl rfl)
theorem dX1_ruleLine_13 : decode cX1_ruleLine 13 = .ok (.ifCond .ne 11, 3) := dk_154 0 11 (dk_at dksX1_ruleLine_0 13 rfl rfl)
theorem dX1_ruleLine_16 : decode cX1_ruleLine 16 = .ok (.aload_n 0, 1) := dk_42 (dk_at dksX1_ruleLine_0 16 rfl rfl)
theorem dX1_ruleLine_17 : decode cX1_ruleLine 17 = .ok (.getfield 21, 3) := dk_180 0 21 (dk_at dksX1_ruleLine_0 17 rfl rfl)
theorem dX1_ruleLine_20 : decode cX1_ruleLine 20 = .ok (.invokevirtual 147, 3) := dk_182 0 147 (dk_at dksX1_ruleLine_0 20 rfl rfl)
theorem dX1_ruleLine_23 : decode cX1_ruleLine 23 = .ok (.athrow, 1) := dk_191 (dk_at dksX1_ruleLine_0 23 rfl rfl)
theorem dX1_ruleLine_24 : decode cX1_ruleLine 24 = .ok (.aload_n 0, 1) := dk_42 (dk_at dksX1_ruleLine_1 0 rfl rfl)
theorem dX1_ruleLine_25 : decode cX1_ruleLine 25 = .ok (.getfield 21, 3) := dk_180 0 21 (dk_at dksX1_ruleLine_1 1 rfl rfl)
theorem dX1_ruleLine_28 : decode cX1_ruleLine 28 = .ok (.iconst 0, 1) := dk_3 (dk_at dksX1_ruleLine_1 4 rfl rfl)
theorem dX1_ruleLine_29 : decode cX1_ruleLine 29 = .ok (.iconst 3, 1) := dk_6 (dk_at dksX1_ruleLine_1 5 rfl rfl)
theorem dX1_ruleLine_30 : decode cX1_ruleLine 30 = .ok (.invokevirtual 134, 3) := dk_182 0 134 (dk_at dksX1_ruleLine_1 6 rfl rfl)
theorem dX1_ruleLine_33 : decode cX1_ruleLine 33 = .ok (.istore_n 1, 1) := dk_60 (dk_at dksX1_ruleLine_1 9 rfl rfl)
theorem dX1_ruleLine_34 : decode cX1_ruleLine 34 = .ok (.new 295, 3) := dk_187 1 39 (dk_at dksX1_ruleLine_1 10 rfl rfl)
theorem dX1_ruleLine_37 : decode cX1_ruleLine 37 = .ok (.dup, 1) := dk_89 (dk_at dksX1_ruleLine_1 13 rfl rfl)
theorem dX1_ruleLine_38 : decode cX1_ruleLine 38 = .ok (.iload_n 1, 1) := dk_27 (dk_at dksX1_ruleLine_1 14 rfl rfl)
theorem dX1_ruleLine_39 : decode cX1_ruleLine 39 = .ok (.aload_n 0, 1) := dk_42 (dk_at dksX1_ruleLine_1 15 rfl rfl)
theorem dX1_ruleLine_40 : decode cX1_ruleLine 40 = .ok (.getfield 21, 3) := dk_180 0 21 (dk_at dksX1_ruleLine_1 16 rfl rfl)
theorem dX1_ruleLine_43 : decode cX1_ruleLine 43 = .ok (.ldc_w 297, 3) := dk_19 1 41 (dk_at dksX1_ruleLine_1 19 rfl rfl)
theorem dX1_ruleLine_46 : decode cX1_ruleLine 46 = .ok (.invokevirtual 250, 3) := dk_182 0 250 (dk_at dksX1_ruleLine_2 0 rfl rfl)
theorem dX1_ruleLine_49 : decode cX1_ruleLine 49 = .ok (.ifCond .eq 10, 3) := dk_153 0 10 (dk_at dksX1_ruleLine_2 3 rfl rfl)
theorem dX1_ruleLine_52 : decode cX1_ruleLine 52 = .ok (.aload_n 0, 1) := dk_42 (dk_at dksX1_ruleLine_2 6 rfl rfl)
theorem dX1_ruleLine_53 : decode cX1_ruleLine 53 = .ok (.invokevirtual 241, 3) := dk_182 0 241 (dk_at dksX1_ruleLine_2 7 rfl rfl)
theorem dX1_ruleLine_56 : decode cX1_ruleLine 56 = .ok (.goto 4, 3) := dk_167 0 4 (dk_at dksX1_ruleLine_2 10 rfl rfl)
theorem dX1_ruleLine_59 : decode cX1_ruleLine 59 = .ok (.aconst_null, 1) := dk_1 (dk_at dksX1_ruleLine_2 13 rfl rfl)
theorem dX1_ruleLine_60 : decode cX1_ruleLine 60 = .ok (.invokespecial 299, 3) := dk_183 1 43 (dk_at dksX1_ruleLine_2 14 rfl rfl)
theorem dX1_ruleLine_63 : decode cX1_ruleLine 63 = .ok (.areturn, 1) := dk_176 (dk_at dksX1_ruleLine_2 17 rfl rfl)
abbrev cX1_cond : ByteArray := prog_1_method_17_code
def yX1_cond : MethodName := ⟨RX1, "cond", "()LChaseCourt$Cond;"⟩
def dkwX1_cond_1 : List UInt8 := [180, 0, 21, 19, 1, 35, 182, 0, 250, 154, 255, 234, 43, 176]
abbrev dktX1_cond_1 : List UInt8 := dkwX1_cond_1 ++ []
def dkwX1_cond_0 : List UInt8 := [187, 1, 24, 89, 3, 183, 1, 26, 76, 43, 180, 1, 27, 42, 182, 1, 32, 182, 0, 234, 87, 42]
abbrev dktX1_cond_0 : List UInt8 := dkwX1_cond_0 ++ dktX1_cond_1
theorem dksX1_cond_0 : cX1_cond.data.toList.drop 0 = dktX1_cond_0 := by decide +kernel
theorem dksX1_cond_1 : cX1_cond.data.toList.drop 22 = dktX1_cond_1 := dk_seg dksX1_cond_0 22 rfl rfl
theorem dX1_cond_0 : decode cX1_cond 0 = .ok (.new 280, 3) := dk_187 1 24 (dk_at dksX1_cond_0 0 rfl rfl)
theorem dX1_cond_3 : decode cX1_cond 3 = .ok (.dup, 1) := dk_89 (dk_at dksX1_cond_0 3 rfl rfl)
theorem dX1_cond_4 : decode cX1_cond 4 = .ok (.iconst 0, 1) := dk_3 (dk_at dksX1_cond_0 4 rfl rfl)
theorem dX1_cond_5 : decode cX1_cond 5 = .ok (.invokespecial 282, 3) := dk_183 1 26 (dk_at dksX1_cond_0 5 rfl rfl)
theorem dX1_cond_8 : decode cX1_cond 8 = .ok (.astore_n 1, 1) := dk_76 (dk_at dksX1_cond_0 8 rfl rfl)
theorem dX1_cond_9 : decode cX1_cond 9 = .ok (.aload_n 1, 1) := dk_43 (dk_at dksX1_cond_0 9 rfl rfl)
theorem dX1_cond_10 : decode cX1_cond 10 = .ok (.getfield 283, 3) := dk_180 1 27 (dk_at dksX1_cond_0 10 rfl rfl)
theorem dX1_cond_13 : decode cX1_cond 13 = .ok (.aload_n 0, 1) := dk_42 (dk_at dksX1_cond_0 13 rfl rfl)
theorem dX1_cond_14 : decode cX1_cond 14 = .ok (.invokevirtual 288, 3) := dk_182 1 32 (dk_at dksX1_cond_0 14 rfl rfl)
theorem dX1_cond_17 : decode cX1_cond 17 = .ok (.invokevirtual 234, 3) := dk_182 0 234 (dk_at dksX1_cond_0 17 rfl rfl)
theorem dX1_cond_20 : decode cX1_cond 20 = .ok (.pop, 1) := dk_87 (dk_at dksX1_cond_0 20 rfl rfl)
theorem dX1_cond_21 : decode cX1_cond 21 = .ok (.aload_n 0, 1) := dk_42 (dk_at dksX1_cond_0 21 rfl rfl)
theorem dX1_cond_22 : decode cX1_cond 22 = .ok (.getfield 21, 3) := dk_180 0 21 (dk_at dksX1_cond_1 0 rfl rfl)
theorem dX1_cond_25 : decode cX1_cond 25 = .ok (.ldc_w 291, 3) := dk_19 1 35 (dk_at dksX1_cond_1 3 rfl rfl)
theorem dX1_cond_28 : decode cX1_cond 28 = .ok (.invokevirtual 250, 3) := dk_182 0 250 (dk_at dksX1_cond_1 6 rfl rfl)
theorem dX1_cond_31 : decode cX1_cond 31 = .ok (.ifCond .ne (-22), 3) := dk_154 255 234 (dk_at dksX1_cond_1 9 rfl rfl)
theorem dX1_cond_34 : decode cX1_cond 34 = .ok (.aload_n 1, 1) := dk_43 (dk_at dksX1_cond_1 12 rfl rfl)
theorem dX1_cond_35 : decode cX1_cond 35 = .ok (.areturn, 1) := dk_176 (dk_at dksX1_cond_1 13 rfl rfl)
abbrev cX1_allOf : ByteArray := prog_1_method_16_code
def yX1_allOf : MethodName := ⟨RX1, "allOf", "()LChaseCourt$Cond;"⟩
def dkwX1_allOf_1 : List UInt8 := [180, 0, 21, 19, 1, 30, 182, 0, 250, 154, 255, 234, 43, 176]
abbrev dktX1_allOf_1 : List UInt8 := dkwX1_allOf_1 ++ []
def dkwX1_allOf_0 : List UInt8 := [187, 1, 24, 89, 4, 183, 1, 26, 76, 43, 180, 1, 27, 42, 182, 0, 254, 182, 0, 234, 87, 42]
abbrev dktX1_allOf_0 : List UInt8 := dkwX1_allOf_0 ++ dktX1_allOf_1
theorem dksX1_allOf_0 : cX1_allOf.data.toList.drop 0 = dktX1_allOf_0 := by decide +kernel
theorem dksX1_allOf_1 : cX1_allOf.data.toList.drop 22 = dktX1_allOf_1 := dk_seg dksX1_allOf_0 22 rfl rfl
theorem dX1_allOf_0 : decode cX1_allOf 0 = .ok (.new 280, 3) := dk_187 1 24 (dk_at dksX1_allOf_0 0 rfl rfl)
theorem dX1_allOf_3 : decode cX1_allOf 3 = .ok (.dup, 1) := dk_89 (dk_at dksX1_allOf_0 3 rfl rfl)
theorem dX1_allOf_4 : decode cX1_allOf 4 = .ok (.iconst 1, 1) := dk_4 (dk_at dksX1_allOf_0 4 rfl rfl)
theorem dX1_allOf_5 : decode cX1_allOf 5 = .ok (.invokespecial 282, 3) := dk_183 1 26 (dk_at dksX1_allOf_0 5 rfl rfl)
theorem dX1_allOf_8 : decode cX1_allOf 8 = .ok (.astore_n 1, 1) := dk_76 (dk_at dksX1_allOf_0 8 rfl rfl)
theorem dX1_allOf_9 : decode cX1_allOf 9 = .ok (.aload_n 1, 1) := dk_43 (dk_at dksX1_allOf_0 9 rfl rfl)
theorem dX1_allOf_10 : decode cX1_allOf 10 = .ok (.getfield 283, 3) := dk_180 1 27 (dk_at dksX1_allOf_0 10 rfl rfl)
theorem dX1_allOf_13 : decode cX1_allOf 13 = .ok (.aload_n 0, 1) := dk_42 (dk_at dksX1_allOf_0 13 rfl rfl)
theorem dX1_allOf_14 : decode cX1_allOf 14 = .ok (.invokevirtual 254, 3) := dk_182 0 254 (dk_at dksX1_allOf_0 14 rfl rfl)
theorem dX1_allOf_17 : decode cX1_allOf 17 = .ok (.invokevirtual 234, 3) := dk_182 0 234 (dk_at dksX1_allOf_0 17 rfl rfl)
theorem dX1_allOf_20 : decode cX1_allOf 20 = .ok (.pop, 1) := dk_87 (dk_at dksX1_allOf_0 20 rfl rfl)
theorem dX1_allOf_21 : decode cX1_allOf 21 = .ok (.aload_n 0, 1) := dk_42 (dk_at dksX1_allOf_0 21 rfl rfl)
theorem dX1_allOf_22 : decode cX1_allOf 22 = .ok (.getfield 21, 3) := dk_180 0 21 (dk_at dksX1_allOf_1 0 rfl rfl)
theorem dX1_allOf_25 : decode cX1_allOf 25 = .ok (.ldc_w 286, 3) := dk_19 1 30 (dk_at dksX1_allOf_1 3 rfl rfl)
theorem dX1_allOf_28 : decode cX1_allOf 28 = .ok (.invokevirtual 250, 3) := dk_182 0 250 (dk_at dksX1_allOf_1 6 rfl rfl)
theorem dX1_allOf_31 : decode cX1_allOf 31 = .ok (.ifCond .ne (-22), 3) := dk_154 255 234 (dk_at dksX1_allOf_1 9 rfl rfl)
theorem dX1_allOf_34 : decode cX1_allOf 34 = .ok (.aload_n 1, 1) := dk_43 (dk_at dksX1_allOf_1 12 rfl rfl)
theorem dX1_allOf_35 : decode cX1_allOf 35 = .ok (.areturn, 1) := dk_176 (dk_at dksX1_allOf_1 13 rfl rfl)
abbrev cX1_atom : ByteArray := prog_1_method_15_code
def yX1_atom : MethodName := ⟨RX1, "atom", "()LChaseCourt$Cond;"⟩
def dkwX1_atom_6 : List UInt8 := [182, 0, 175, 154, 0, 8, 43, 182, 0, 147, 191, 187, 1, 19, 89, 42, 182, 1, 15, 44, 183, 1, 21, 176]
abbrev dktX1_atom_6 : List UInt8 := dkwX1_atom_6 ++ []
def dkwX1_atom_5 : List UInt8 := [16, 60, 182, 0, 175, 153, 0, 16, 187, 1, 19, 89, 44, 42, 182, 1, 15, 183, 1, 21, 176, 43, 16, 62]
abbrev dktX1_atom_5 : List UInt8 := dkwX1_atom_5 ++ dktX1_atom_6
def dkwX1_atom_4 : List UInt8 := [19, 1, 13, 182, 0, 250, 153, 0, 12, 187, 1, 8, 89, 3, 183, 1, 10, 176, 42, 182, 1, 15, 77, 43]
abbrev dktX1_atom_4 : List UInt8 := dkwX1_atom_4 ++ dktX1_atom_5
def dkwX1_atom_3 : List UInt8 := [183, 1, 3, 176, 43, 19, 1, 6, 182, 0, 250, 153, 0, 12, 187, 1, 8, 89, 4, 183, 1, 10, 176, 43]
abbrev dktX1_atom_3 : List UInt8 := dkwX1_atom_3 ++ dktX1_atom_4
def dkwX1_atom_2 : List UInt8 := [182, 0, 250, 153, 0, 25, 43, 182, 0, 238, 42, 182, 0, 254, 77, 43, 182, 0, 245, 187, 1, 1, 89, 44]
abbrev dktX1_atom_2 : List UInt8 := dkwX1_atom_2 ++ dktX1_atom_3
def dkwX1_atom_1 : List UInt8 := [182, 0, 245, 43, 16, 41, 182, 0, 175, 154, 0, 8, 43, 182, 0, 147, 191, 44, 176, 43, 18, 248]
abbrev dktX1_atom_1 : List UInt8 := dkwX1_atom_1 ++ dktX1_atom_2
def dkwX1_atom_0 : List UInt8 := [42, 180, 0, 21, 76, 43, 16, 40, 182, 0, 175, 153, 0, 32, 43, 182, 0, 238, 42, 182, 0, 241, 77, 43]
abbrev dktX1_atom_0 : List UInt8 := dkwX1_atom_0 ++ dktX1_atom_1
theorem dksX1_atom_0 : cX1_atom.data.toList.drop 0 = dktX1_atom_0 := by decide +kernel
theorem dksX1_atom_1 : cX1_atom.data.toList.drop 24 = dktX1_atom_1 := dk_seg dksX1_atom_0 24 rfl rfl
theorem dksX1_atom_2 : cX1_atom.data.toList.drop 46 = dktX1_atom_2 := dk_seg dksX1_atom_1 22 rfl rfl
theorem dksX1_atom_3 : cX1_atom.data.toList.drop 70 = dktX1_atom_3 := dk_seg dksX1_atom_2 24 rfl rfl
theorem dksX1_atom_4 : cX1_atom.data.toList.drop 94 = dktX1_atom_4 := dk_seg dksX1_atom_3 24 rfl rfl
theorem dksX1_atom_5 : cX1_atom.data.toList.drop 118 = dktX1_atom_5 := dk_seg dksX1_atom_4 24 rfl rfl
theorem dksX1_atom_6 : cX1_atom.data.toList.drop 142 = dktX1_atom_6 := dk_seg dksX1_atom_5 24 rfl rfl
theorem dX1_atom_0 : decode cX1_atom 0 = .ok (.aload_n 0, 1) := dk_42 (dk_at dksX1_atom_0 0 rfl rfl)
theorem dX1_atom_1 : decode cX1_atom 1 = .ok (.getfield 21, 3) := dk_180 0 21 (dk_at dksX1_atom_0 1 rfl rfl)
theorem dX1_atom_4 : decode cX1_atom 4 = .ok (.astore_n 1, 1) := dk_76 (dk_at dksX1_atom_0 4 rfl rfl)
theorem dX1_atom_5 : decode cX1_atom 5 = .ok (.aload_n 1, 1) := dk_43 (dk_at dksX1_atom_0 5 rfl rfl)
theorem dX1_atom_6 : decode cX1_atom 6 = .ok (.bipush 40, 2) := dk_16 40 (dk_at dksX1_atom_0 6 rfl rfl)
theorem dX1_atom_8 : decode cX1_atom 8 = .ok (.invokevirtual 175, 3) := dk_182 0 175 (dk_at dksX1_atom_0 8 rfl rfl)
theorem dX1_atom_11 : decode cX1_atom 11 = .ok (.ifCond .eq 32, 3) := dk_153 0 32 (dk_at dksX1_atom_0 11 rfl rfl)
theorem dX1_atom_14 : decode cX1_atom 14 = .ok (.aload_n 1, 1) := dk_43 (dk_at dksX1_atom_0 14 rfl rfl)
theorem dX1_atom_15 : decode cX1_atom 15 = .ok (.invokevirtual 238, 3) := dk_182 0 238 (dk_at dksX1_atom_0 15 rfl rfl)
theorem dX1_atom_18 : decode cX1_atom 18 = .ok (.aload_n 0, 1) := dk_42 (dk_at dksX1_atom_0 18 rfl rfl)
theorem dX1_atom_19 : decode cX1_atom 19 = .ok (.invokevirtual 241, 3) := dk_182 0 241 (dk_at dksX1_atom_0 19 rfl rfl)
theorem dX1_atom_22 : decode cX1_atom 22 = .ok (.astore_n 2, 1) := dk_77 (dk_at dksX1_atom_0 22 rfl rfl)
theorem dX1_atom_23 : decode cX1_atom 23 = .ok (.aload_n 1, 1) := dk_43 (dk_at dksX1_atom_0 23 rfl rfl)
theorem dX1_atom_24 : decode cX1_atom 24 = .ok (.invokevirtual 245, 3) := dk_182 0 245 (dk_at dksX1_atom_1 0 rfl rfl)
theorem dX1_atom_27 : decode cX1_atom 27 = .ok (.aload_n 1, 1) := dk_43 (dk_at dksX1_atom_1 3 rfl rfl)
theorem dX1_atom_28 : decode cX1_atom 28 = .ok (.bipush 41, 2) := dk_16 41 (dk_at dksX1_atom_1 4 rfl rfl)
theorem dX1_atom_30 : decode cX1_atom 30 = .ok (.invokevirtual 175, 3) := dk_182 0 175 (dk_at dksX1_atom_1 6 rfl rfl)
theorem dX1_atom_33 : decode cX1_atom 33 = .ok (.ifCond .ne 8, 3) := dk_154 0 8 (dk_at dksX1_atom_1 9 rfl rfl)
theorem dX1_atom_36 : decode cX1_atom 36 = .ok (.aload_n 1, 1) := dk_43 (dk_at dksX1_atom_1 12 rfl rfl)
theorem dX1_atom_37 : decode cX1_atom 37 = .ok (.invokevirtual 147, 3) := dk_182 0 147 (dk_at dksX1_atom_1 13 rfl rfl)
theorem dX1_atom_40 : decode cX1_atom 40 = .ok (.athrow, 1) := dk_191 (dk_at dksX1_atom_1 16 rfl rfl)
theorem dX1_atom_41 : decode cX1_atom 41 = .ok (.aload_n 2, 1) := dk_44 (dk_at dksX1_atom_1 17 rfl rfl)
theorem dX1_atom_42 : decode cX1_atom 42 = .ok (.areturn, 1) := dk_176 (dk_at dksX1_atom_1 18 rfl rfl)
theorem dX1_atom_43 : decode cX1_atom 43 = .ok (.aload_n 1, 1) := dk_43 (dk_at dksX1_atom_1 19 rfl rfl)
theorem dX1_atom_44 : decode cX1_atom 44 = .ok (.ldc 248, 2) := dk_18 248 (dk_at dksX1_atom_1 20 rfl rfl)
theorem dX1_atom_46 : decode cX1_atom 46 = .ok (.invokevirtual 250, 3) := dk_182 0 250 (dk_at dksX1_atom_2 0 rfl rfl)
theorem dX1_atom_49 : decode cX1_atom 49 = .ok (.ifCond .eq 25, 3) := dk_153 0 25 (dk_at dksX1_atom_2 3 rfl rfl)
theorem dX1_atom_52 : decode cX1_atom 52 = .ok (.aload_n 1, 1) := dk_43 (dk_at dksX1_atom_2 6 rfl rfl)
theorem dX1_atom_53 : decode cX1_atom 53 = .ok (.invokevirtual 238, 3) := dk_182 0 238 (dk_at dksX1_atom_2 7 rfl rfl)
theorem dX1_atom_56 : decode cX1_atom 56 = .ok (.aload_n 0, 1) := dk_42 (dk_at dksX1_atom_2 10 rfl rfl)
theorem dX1_atom_57 : decode cX1_atom 57 = .ok (.invokevirtual 254, 3) := dk_182 0 254 (dk_at dksX1_atom_2 11 rfl rfl)
theorem dX1_atom_60 : decode cX1_atom 60 = .ok (.astore_n 2, 1) := dk_77 (dk_at dksX1_atom_2 14 rfl rfl)
theorem dX1_atom_61 : decode cX1_atom 61 = .ok (.aload_n 1, 1) := dk_43 (dk_at dksX1_atom_2 15 rfl rfl)
theorem dX1_atom_62 : decode cX1_atom 62 = .ok (.invokevirtual 245, 3) := dk_182 0 245 (dk_at dksX1_atom_2 16 rfl rfl)
theorem dX1_atom_65 : decode cX1_atom 65 = .ok (.new 257, 3) := dk_187 1 1 (dk_at dksX1_atom_2 19 rfl rfl)
theorem dX1_atom_68 : decode cX1_atom 68 = .ok (.dup, 1) := dk_89 (dk_at dksX1_atom_2 22 rfl rfl)
theorem dX1_atom_69 : decode cX1_atom 69 = .ok (.aload_n 2, 1) := dk_44 (dk_at dksX1_atom_2 23 rfl rfl)
theorem dX1_atom_70 : decode cX1_atom 70 = .ok (.invokespecial 259, 3) := dk_183 1 3 (dk_at dksX1_atom_3 0 rfl rfl)
theorem dX1_atom_73 : decode cX1_atom 73 = .ok (.areturn, 1) := dk_176 (dk_at dksX1_atom_3 3 rfl rfl)
theorem dX1_atom_74 : decode cX1_atom 74 = .ok (.aload_n 1, 1) := dk_43 (dk_at dksX1_atom_3 4 rfl rfl)
theorem dX1_atom_75 : decode cX1_atom 75 = .ok (.ldc_w 262, 3) := dk_19 1 6 (dk_at dksX1_atom_3 5 rfl rfl)
theorem dX1_atom_78 : decode cX1_atom 78 = .ok (.invokevirtual 250, 3) := dk_182 0 250 (dk_at dksX1_atom_3 8 rfl rfl)
theorem dX1_atom_81 : decode cX1_atom 81 = .ok (.ifCond .eq 12, 3) := dk_153 0 12 (dk_at dksX1_atom_3 11 rfl rfl)
theorem dX1_atom_84 : decode cX1_atom 84 = .ok (.new 264, 3) := dk_187 1 8 (dk_at dksX1_atom_3 14 rfl rfl)
theorem dX1_atom_87 : decode cX1_atom 87 = .ok (.dup, 1) := dk_89 (dk_at dksX1_atom_3 17 rfl rfl)
theorem dX1_atom_88 : decode cX1_atom 88 = .ok (.iconst 1, 1) := dk_4 (dk_at dksX1_atom_3 18 rfl rfl)
theorem dX1_atom_89 : decode cX1_atom 89 = .ok (.invokespecial 266, 3) := dk_183 1 10 (dk_at dksX1_atom_3 19 rfl rfl)
theorem dX1_atom_92 : decode cX1_atom 92 = .ok (.areturn, 1) := dk_176 (dk_at dksX1_atom_3 22 rfl rfl)
theorem dX1_atom_93 : decode cX1_atom 93 = .ok (.aload_n 1, 1) := dk_43 (dk_at dksX1_atom_3 23 rfl rfl)
theorem dX1_atom_94 : decode cX1_atom 94 = .ok (.ldc_w 269, 3) := dk_19 1 13 (dk_at dksX1_atom_4 0 rfl rfl)
theorem dX1_atom_97 : decode cX1_atom 97 = .ok (.invokevirtual 250, 3) := dk_182 0 250 (dk_at dksX1_atom_4 3 rfl rfl)
theorem dX1_atom_100 : decode cX1_atom 100 = .ok (.ifCond .eq 12, 3) := dk_153 0 12 (dk_at dksX1_atom_4 6 rfl rfl)
theorem dX1_atom_103 : decode cX1_atom 103 = .ok (.new 264, 3) := dk_187 1 8 (dk_at dksX1_atom_4 9 rfl rfl)
theorem dX1_atom_106 : decode cX1_atom 106 = .ok (.dup, 1) := dk_89 (dk_at dksX1_atom_4 12 rfl rfl)
theorem dX1_atom_107 : decode cX1_atom 107 = .ok (.iconst 0, 1) := dk_3 (dk_at dksX1_atom_4 13 rfl rfl)
theorem dX1_atom_108 : decode cX1_atom 108 = .ok (.invokespecial 266, 3) := dk_183 1 10 (dk_at dksX1_atom_4 14 rfl rfl)
theorem dX1_atom_111 : decode cX1_atom 111 = .ok (.areturn, 1) := dk_176 (dk_at dksX1_atom_4 17 rfl rfl)
theorem dX1_atom_112 : decode cX1_atom 112 = .ok (.aload_n 0, 1) := dk_42 (dk_at dksX1_atom_4 18 rfl rfl)
theorem dX1_atom_113 : decode cX1_atom 113 = .ok (.invokevirtual 271, 3) := dk_182 1 15 (dk_at dksX1_atom_4 19 rfl rfl)
theorem dX1_atom_116 : decode cX1_atom 116 = .ok (.astore_n 2, 1) := dk_77 (dk_at dksX1_atom_4 22 rfl rfl)
theorem dX1_atom_117 : decode cX1_atom 117 = .ok (.aload_n 1, 1) := dk_43 (dk_at dksX1_atom_4 23 rfl rfl)
theorem dX1_atom_118 : decode cX1_atom 118 = .ok (.bipush 60, 2) := dk_16 60 (dk_at dksX1_atom_5 0 rfl rfl)
theorem dX1_atom_120 : decode cX1_atom 120 = .ok (.invokevirtual 175, 3) := dk_182 0 175 (dk_at dksX1_atom_5 2 rfl rfl)
theorem dX1_atom_123 : decode cX1_atom 123 = .ok (.ifCond .eq 16, 3) := dk_153 0 16 (dk_at dksX1_atom_5 5 rfl rfl)
theorem dX1_atom_126 : decode cX1_atom 126 = .ok (.new 275, 3) := dk_187 1 19 (dk_at dksX1_atom_5 8 rfl rfl)
theorem dX1_atom_129 : decode cX1_atom 129 = .ok (.dup, 1) := dk_89 (dk_at dksX1_atom_5 11 rfl rfl)
theorem dX1_atom_130 : decode cX1_atom 130 = .ok (.aload_n 2, 1) := dk_44 (dk_at dksX1_atom_5 12 rfl rfl)
theorem dX1_atom_131 : decode cX1_atom 131 = .ok (.aload_n 0, 1) := dk_42 (dk_at dksX1_atom_5 13 rfl rfl)
theorem dX1_atom_132 : decode cX1_atom 132 = .ok (.invokevirtual 271, 3) := dk_182 1 15 (dk_at dksX1_atom_5 14 rfl rfl)
theorem dX1_atom_135 : decode cX1_atom 135 = .ok (.invokespecial 277, 3) := dk_183 1 21 (dk_at dksX1_atom_5 17 rfl rfl)
theorem dX1_atom_138 : decode cX1_atom 138 = .ok (.areturn, 1) := dk_176 (dk_at dksX1_atom_5 20 rfl rfl)
theorem dX1_atom_139 : decode cX1_atom 139 = .ok (.aload_n 1, 1) := dk_43 (dk_at dksX1_atom_5 21 rfl rfl)
theorem dX1_atom_140 : decode cX1_atom 140 = .ok (.bipush 62, 2) := dk_16 62 (dk_at dksX1_atom_5 22 rfl rfl)
theorem dX1_atom_142 : decode cX1_atom 142 = .ok (.invokevirtual 175, 3) := dk_182 0 175 (dk_at dksX1_atom_6 0 rfl rfl)
theorem dX1_atom_145 : decode cX1_atom 145 = .ok (.ifCond .ne 8, 3) := dk_154 0 8 (dk_at dksX1_atom_6 3 rfl rfl)
theorem dX1_atom_148 : decode cX1_atom 148 = .ok (.aload_n 1, 1) := dk_43 (dk_at dksX1_atom_6 6 rfl rfl)
theorem dX1_atom_149 : decode cX1_atom 149 = .ok (.invokevirtual 147, 3) := dk_182 0 147 (dk_at dksX1_atom_6 7 rfl rfl)
theorem dX1_atom_152 : decode cX1_atom 152 = .ok (.athrow, 1) := dk_191 (dk_at dksX1_atom_6 10 rfl rfl)
theorem dX1_atom_153 : decode cX1_atom 153 = .ok (.new 275, 3) := dk_187 1 19 (dk_at dksX1_atom_6 11 rfl rfl)
theorem dX1_atom_156 : decode cX1_atom 156 = .ok (.dup, 1) := dk_89 (dk_at dksX1_atom_6 14 rfl rfl)
theorem dX1_atom_157 : decode cX1_atom 157 = .ok (.aload_n 0, 1) := dk_42 (dk_at dksX1_atom_6 15 rfl rfl)
theorem dX1_atom_158 : decode cX1_atom 158 = .ok (.invokevirtual 271, 3) := dk_182 1 15 (dk_at dksX1_atom_6 16 rfl rfl)
theorem dX1_atom_161 : decode cX1_atom 161 = .ok (.aload_n 2, 1) := dk_44 (dk_at dksX1_atom_6 19 rfl rfl)
theorem dX1_atom_162 : decode cX1_atom 162 = .ok (.invokespecial 277, 3) := dk_183 1 21 (dk_at dksX1_atom_6 20 rfl rfl)
theorem dX1_atom_165 : decode cX1_atom 165 = .ok (.areturn, 1) := dk_176 (dk_at dksX1_atom_6 23 rfl rfl)
abbrev cX1_sum : ByteArray := prog_1_method_14_code
def yX1_sum : MethodName := ⟨RX1, "sum", "()LChaseCourt$Sum;"⟩
def dkwX1_sum_1 : List UInt8 := [16, 43, 182, 0, 175, 154, 255, 235, 43, 176]
abbrev dktX1_sum_1 : List UInt8 := dkwX1_sum_1 ++ []
def dkwX1_sum_0 : List UInt8 := [187, 0, 223, 89, 183, 0, 225, 76, 43, 180, 0, 226, 42, 182, 0, 230, 182, 0, 234, 87, 42, 180, 0, 21]
abbrev dktX1_sum_0 : List UInt8 := dkwX1_sum_0 ++ dktX1_sum_1
theorem dksX1_sum_0 : cX1_sum.data.toList.drop 0 = dktX1_sum_0 := by decide +kernel
theorem dksX1_sum_1 : cX1_sum.data.toList.drop 24 = dktX1_sum_1 := dk_seg dksX1_sum_0 24 rfl rfl
theorem dX1_sum_0 : decode cX1_sum 0 = .ok (.new 223, 3) := dk_187 0 223 (dk_at dksX1_sum_0 0 rfl rfl)
theorem dX1_sum_3 : decode cX1_sum 3 = .ok (.dup, 1) := dk_89 (dk_at dksX1_sum_0 3 rfl rfl)
theorem dX1_sum_4 : decode cX1_sum 4 = .ok (.invokespecial 225, 3) := dk_183 0 225 (dk_at dksX1_sum_0 4 rfl rfl)
theorem dX1_sum_7 : decode cX1_sum 7 = .ok (.astore_n 1, 1) := dk_76 (dk_at dksX1_sum_0 7 rfl rfl)
theorem dX1_sum_8 : decode cX1_sum 8 = .ok (.aload_n 1, 1) := dk_43 (dk_at dksX1_sum_0 8 rfl rfl)
theorem dX1_sum_9 : decode cX1_sum 9 = .ok (.getfield 226, 3) := dk_180 0 226 (dk_at dksX1_sum_0 9 rfl rfl)
theorem dX1_sum_12 : decode cX1_sum 12 = .ok (.aload_n 0, 1) := dk_42 (dk_at dksX1_sum_0 12 rfl rfl)
theorem dX1_sum_13 : decode cX1_sum 13 = .ok (.invokevirtual 230, 3) := dk_182 0 230 (dk_at dksX1_sum_0 13 rfl rfl)
theorem dX1_sum_16 : decode cX1_sum 16 = .ok (.invokevirtual 234, 3) := dk_182 0 234 (dk_at dksX1_sum_0 16 rfl rfl)
theorem dX1_sum_19 : decode cX1_sum 19 = .ok (.pop, 1) := dk_87 (dk_at dksX1_sum_0 19 rfl rfl)
theorem dX1_sum_20 : decode cX1_sum 20 = .ok (.aload_n 0, 1) := dk_42 (dk_at dksX1_sum_0 20 rfl rfl)
theorem dX1_sum_21 : decode cX1_sum 21 = .ok (.getfield 21, 3) := dk_180 0 21 (dk_at dksX1_sum_0 21 rfl rfl)
theorem dX1_sum_24 : decode cX1_sum 24 = .ok (.bipush 43, 2) := dk_16 43 (dk_at dksX1_sum_1 0 rfl rfl)
theorem dX1_sum_26 : decode cX1_sum 26 = .ok (.invokevirtual 175, 3) := dk_182 0 175 (dk_at dksX1_sum_1 2 rfl rfl)
theorem dX1_sum_29 : decode cX1_sum 29 = .ok (.ifCond .ne (-21), 3) := dk_154 255 235 (dk_at dksX1_sum_1 5 rfl rfl)
theorem dX1_sum_32 : decode cX1_sum 32 = .ok (.aload_n 1, 1) := dk_43 (dk_at dksX1_sum_1 8 rfl rfl)
theorem dX1_sum_33 : decode cX1_sum 33 = .ok (.areturn, 1) := dk_176 (dk_at dksX1_sum_1 9 rfl rfl)
abbrev cX1_onePart : ByteArray := prog_1_method_13_code
def yX1_onePart : MethodName := ⟨RX1, "onePart", "()LChaseCourt$Part;"⟩
def dkwX1_onePart_2 : List UInt8 := [180, 0, 21, 182, 0, 147, 191, 187, 0, 212, 89, 3, 43, 183, 0, 214, 176]
abbrev dktX1_onePart_2 : List UInt8 := dkwX1_onePart_2 ++ []
def dkwX1_onePart_1 : List UInt8 := [182, 0, 134, 1, 183, 0, 214, 176, 42, 180, 0, 21, 182, 0, 112, 184, 0, 217, 76, 43, 199, 0, 11, 42]
abbrev dktX1_onePart_1 : List UInt8 := dkwX1_onePart_1 ++ dktX1_onePart_2
def dkwX1_onePart_0 : List UInt8 := [42, 180, 0, 21, 182, 0, 209, 153, 0, 23, 187, 0, 212, 89, 42, 180, 0, 21, 3, 17, 3, 231]
abbrev dktX1_onePart_0 : List UInt8 := dkwX1_onePart_0 ++ dktX1_onePart_1
theorem dksX1_onePart_0 : cX1_onePart.data.toList.drop 0 = dktX1_onePart_0 := by decide +kernel
theorem dksX1_onePart_1 : cX1_onePart.data.toList.drop 22 = dktX1_onePart_1 := dk_seg dksX1_onePart_0 22 rfl rfl
theorem dksX1_onePart_2 : cX1_onePart.data.toList.drop 46 = dktX1_onePart_2 := dk_seg dksX1_onePart_1 24 rfl rfl
theorem dX1_onePart_0 : decode cX1_onePart 0 = .ok (.aload_n 0, 1) := dk_42 (dk_at dksX1_onePart_0 0 rfl rfl)
theorem dX1_onePart_1 : decode cX1_onePart 1 = .ok (.getfield 21, 3) := dk_180 0 21 (dk_at dksX1_onePart_0 1 rfl rfl)
theorem dX1_onePart_4 : decode cX1_onePart 4 = .ok (.invokevirtual 209, 3) := dk_182 0 209 (dk_at dksX1_onePart_0 4 rfl rfl)
theorem dX1_onePart_7 : decode cX1_onePart 7 = .ok (.ifCond .eq 23, 3) := dk_153 0 23 (dk_at dksX1_onePart_0 7 rfl rfl)
theorem dX1_onePart_10 : decode cX1_onePart 10 = .ok (.new 212, 3) := dk_187 0 212 (dk_at dksX1_onePart_0 10 rfl rfl)
theorem dX1_onePart_13 : decode cX1_onePart 13 = .ok (.dup, 1) := dk_89 (dk_at dksX1_onePart_0 13 rfl rfl)
theorem dX1_onePart_14 : decode cX1_onePart 14 = .ok (.aload_n 0, 1) := dk_42 (dk_at dksX1_onePart_0 14 rfl rfl)
theorem dX1_onePart_15 : decode cX1_onePart 15 = .ok (.getfield 21, 3) := dk_180 0 21 (dk_at dksX1_onePart_0 15 rfl rfl)
theorem dX1_onePart_18 : decode cX1_onePart 18 = .ok (.iconst 0, 1) := dk_3 (dk_at dksX1_onePart_0 18 rfl rfl)
theorem dX1_onePart_19 : decode cX1_onePart 19 = .ok (.sipush 999, 3) := dk_17 3 231 (dk_at dksX1_onePart_0 19 rfl rfl)
theorem dX1_onePart_22 : decode cX1_onePart 22 = .ok (.invokevirtual 134, 3) := dk_182 0 134 (dk_at dksX1_onePart_1 0 rfl rfl)
theorem dX1_onePart_25 : decode cX1_onePart 25 = .ok (.aconst_null, 1) := dk_1 (dk_at dksX1_onePart_1 3 rfl rfl)
theorem dX1_onePart_26 : decode cX1_onePart 26 = .ok (.invokespecial 214, 3) := dk_183 0 214 (dk_at dksX1_onePart_1 4 rfl rfl)
theorem dX1_onePart_29 : decode cX1_onePart 29 = .ok (.areturn, 1) := dk_176 (dk_at dksX1_onePart_1 7 rfl rfl)
theorem dX1_onePart_30 : decode cX1_onePart 30 = .ok (.aload_n 0, 1) := dk_42 (dk_at dksX1_onePart_1 8 rfl rfl)
theorem dX1_onePart_31 : decode cX1_onePart 31 = .ok (.getfield 21, 3) := dk_180 0 21 (dk_at dksX1_onePart_1 9 rfl rfl)
theorem dX1_onePart_34 : decode cX1_onePart 34 = .ok (.invokevirtual 112, 3) := dk_182 0 112 (dk_at dksX1_onePart_1 12 rfl rfl)
theorem dX1_onePart_37 : decode cX1_onePart 37 = .ok (.invokestatic 217, 3) := dk_184 0 217 (dk_at dksX1_onePart_1 15 rfl rfl)
theorem dX1_onePart_40 : decode cX1_onePart 40 = .ok (.astore_n 1, 1) := dk_76 (dk_at dksX1_onePart_1 18 rfl rfl)
theorem dX1_onePart_41 : decode cX1_onePart 41 = .ok (.aload_n 1, 1) := dk_43 (dk_at dksX1_onePart_1 19 rfl rfl)
theorem dX1_onePart_42 : decode cX1_onePart 42 = .ok (.ifnonnull 11, 3) := dk_199 0 11 (dk_at dksX1_onePart_1 20 rfl rfl)
theorem dX1_onePart_45 : decode cX1_onePart 45 = .ok (.aload_n 0, 1) := dk_42 (dk_at dksX1_onePart_1 23 rfl rfl)
theorem dX1_onePart_46 : decode cX1_onePart 46 = .ok (.getfield 21, 3) := dk_180 0 21 (dk_at dksX1_onePart_2 0 rfl rfl)
theorem dX1_onePart_49 : decode cX1_onePart 49 = .ok (.invokevirtual 147, 3) := dk_182 0 147 (dk_at dksX1_onePart_2 3 rfl rfl)
theorem dX1_onePart_52 : decode cX1_onePart 52 = .ok (.athrow, 1) := dk_191 (dk_at dksX1_onePart_2 6 rfl rfl)
theorem dX1_onePart_53 : decode cX1_onePart 53 = .ok (.new 212, 3) := dk_187 0 212 (dk_at dksX1_onePart_2 7 rfl rfl)
theorem dX1_onePart_56 : decode cX1_onePart 56 = .ok (.dup, 1) := dk_89 (dk_at dksX1_onePart_2 10 rfl rfl)
theorem dX1_onePart_57 : decode cX1_onePart 57 = .ok (.iconst 0, 1) := dk_3 (dk_at dksX1_onePart_2 11 rfl rfl)
theorem dX1_onePart_58 : decode cX1_onePart 58 = .ok (.aload_n 1, 1) := dk_43 (dk_at dksX1_onePart_2 12 rfl rfl)
theorem dX1_onePart_59 : decode cX1_onePart 59 = .ok (.invokespecial 214, 3) := dk_183 0 214 (dk_at dksX1_onePart_2 13 rfl rfl)
theorem dX1_onePart_62 : decode cX1_onePart 62 = .ok (.areturn, 1) := dk_176 (dk_at dksX1_onePart_2 16 rfl rfl)
abbrev cX1_look : ByteArray := prog_1_method_26_code
def yX1_look : MethodName := ⟨RX1, "look", "(III)I"⟩
def dkwX1_look_1 : List UInt8 := [27, 104, 28, 96, 50, 29, 46, 172]
abbrev dktX1_look_1 : List UInt8 := dkwX1_look_1 ++ []
def dkwX1_look_0 : List UInt8 := [27, 7, 184, 1, 68, 28, 7, 184, 1, 68, 29, 16, 11, 184, 1, 82, 42, 180, 0, 14, 180, 0, 138, 7]
abbrev dktX1_look_0 : List UInt8 := dkwX1_look_0 ++ dktX1_look_1
theorem dksX1_look_0 : cX1_look.data.toList.drop 0 = dktX1_look_0 := by decide +kernel
theorem dksX1_look_1 : cX1_look.data.toList.drop 24 = dktX1_look_1 := dk_seg dksX1_look_0 24 rfl rfl
theorem dX1_look_0 : decode cX1_look 0 = .ok (.iload_n 1, 1) := dk_27 (dk_at dksX1_look_0 0 rfl rfl)
theorem dX1_look_1 : decode cX1_look 1 = .ok (.iconst 4, 1) := dk_7 (dk_at dksX1_look_0 1 rfl rfl)
theorem dX1_look_2 : decode cX1_look 2 = .ok (.invokestatic 324, 3) := dk_184 1 68 (dk_at dksX1_look_0 2 rfl rfl)
theorem dX1_look_5 : decode cX1_look 5 = .ok (.iload_n 2, 1) := dk_28 (dk_at dksX1_look_0 5 rfl rfl)
theorem dX1_look_6 : decode cX1_look 6 = .ok (.iconst 4, 1) := dk_7 (dk_at dksX1_look_0 6 rfl rfl)
theorem dX1_look_7 : decode cX1_look 7 = .ok (.invokestatic 324, 3) := dk_184 1 68 (dk_at dksX1_look_0 7 rfl rfl)
theorem dX1_look_10 : decode cX1_look 10 = .ok (.iload_n 3, 1) := dk_29 (dk_at dksX1_look_0 10 rfl rfl)
theorem dX1_look_11 : decode cX1_look 11 = .ok (.bipush 11, 2) := dk_16 11 (dk_at dksX1_look_0 11 rfl rfl)
theorem dX1_look_13 : decode cX1_look 13 = .ok (.invokestatic 338, 3) := dk_184 1 82 (dk_at dksX1_look_0 13 rfl rfl)
theorem dX1_look_16 : decode cX1_look 16 = .ok (.aload_n 0, 1) := dk_42 (dk_at dksX1_look_0 16 rfl rfl)
theorem dX1_look_17 : decode cX1_look 17 = .ok (.getfield 14, 3) := dk_180 0 14 (dk_at dksX1_look_0 17 rfl rfl)
theorem dX1_look_20 : decode cX1_look 20 = .ok (.getfield 138, 3) := dk_180 0 138 (dk_at dksX1_look_0 20 rfl rfl)
theorem dX1_look_23 : decode cX1_look 23 = .ok (.iconst 4, 1) := dk_7 (dk_at dksX1_look_0 23 rfl rfl)
theorem dX1_look_24 : decode cX1_look 24 = .ok (.iload_n 1, 1) := dk_27 (dk_at dksX1_look_1 0 rfl rfl)
theorem dX1_look_25 : decode cX1_look 25 = .ok (.imul, 1) := dk_104 (dk_at dksX1_look_1 1 rfl rfl)
theorem dX1_look_26 : decode cX1_look 26 = .ok (.iload_n 2, 1) := dk_28 (dk_at dksX1_look_1 2 rfl rfl)
theorem dX1_look_27 : decode cX1_look 27 = .ok (.iadd, 1) := dk_96 (dk_at dksX1_look_1 3 rfl rfl)
theorem dX1_look_28 : decode cX1_look 28 = .ok (.aaload, 1) := dk_50 (dk_at dksX1_look_1 4 rfl rfl)
theorem dX1_look_29 : decode cX1_look 29 = .ok (.iload_n 3, 1) := dk_29 (dk_at dksX1_look_1 5 rfl rfl)
theorem dX1_look_30 : decode cX1_look 30 = .ok (.iaload, 1) := dk_46 (dk_at dksX1_look_1 6 rfl rfl)
theorem dX1_look_31 : decode cX1_look 31 = .ok (.ireturn, 1) := dk_172 (dk_at dksX1_look_1 7 rfl rfl)
abbrev cX1_there : ByteArray := prog_1_method_21_code
def yX1_there : MethodName := ⟨RX1, "there", "(II)V"⟩
def dkwX1_there_0 : List UInt8 := [26, 3, 27, 4, 100, 184, 0, 108, 154, 0, 11, 187, 1, 65, 89, 183, 1, 67, 191, 177]
abbrev dktX1_there_0 : List UInt8 := dkwX1_there_0 ++ []
theorem dksX1_there_0 : cX1_there.data.toList.drop 0 = dktX1_there_0 := by decide +kernel
theorem dX1_there_0 : decode cX1_there 0 = .ok (.iload_n 0, 1) := dk_26 (dk_at dksX1_there_0 0 rfl rfl)
theorem dX1_there_1 : decode cX1_there 1 = .ok (.iconst 0, 1) := dk_3 (dk_at dksX1_there_0 1 rfl rfl)
theorem dX1_there_2 : decode cX1_there 2 = .ok (.iload_n 1, 1) := dk_27 (dk_at dksX1_there_0 2 rfl rfl)
theorem dX1_there_3 : decode cX1_there 3 = .ok (.iconst 1, 1) := dk_4 (dk_at dksX1_there_0 3 rfl rfl)
theorem dX1_there_4 : decode cX1_there 4 = .ok (.isub, 1) := dk_100 (dk_at dksX1_there_0 4 rfl rfl)
theorem dX1_there_5 : decode cX1_there 5 = .ok (.invokestatic 108, 3) := dk_184 0 108 (dk_at dksX1_there_0 5 rfl rfl)
theorem dX1_there_8 : decode cX1_there 8 = .ok (.ifCond .ne 11, 3) := dk_154 0 11 (dk_at dksX1_there_0 8 rfl rfl)
theorem dX1_there_11 : decode cX1_there 11 = .ok (.new 321, 3) := dk_187 1 65 (dk_at dksX1_there_0 11 rfl rfl)
theorem dX1_there_14 : decode cX1_there 14 = .ok (.dup, 1) := dk_89 (dk_at dksX1_there_0 14 rfl rfl)
theorem dX1_there_15 : decode cX1_there 15 = .ok (.invokespecial 323, 3) := dk_183 1 67 (dk_at dksX1_there_0 15 rfl rfl)
theorem dX1_there_18 : decode cX1_there 18 = .ok (.athrow, 1) := dk_191 (dk_at dksX1_there_0 18 rfl rfl)
theorem dX1_there_19 : decode cX1_there 19 = .ok (.return_, 1) := dk_177 (dk_at dksX1_there_0 19 rfl rfl)
abbrev cX1_asked : ByteArray := prog_1_method_24_code
def yX1_asked : MethodName := ⟨RX1, "asked", "(II)V"⟩
def dkwX1_asked_0 : List UInt8 := [26, 3, 27, 184, 0, 108, 154, 0, 11, 187, 1, 72, 89, 183, 1, 74, 191, 177]
abbrev dktX1_asked_0 : List UInt8 := dkwX1_asked_0 ++ []
theorem dksX1_asked_0 : cX1_asked.data.toList.drop 0 = dktX1_asked_0 := by decide +kernel
theorem dX1_asked_0 : decode cX1_asked 0 = .ok (.iload_n 0, 1) := dk_26 (dk_at dksX1_asked_0 0 rfl rfl)
theorem dX1_asked_1 : decode cX1_asked 1 = .ok (.iconst 0, 1) := dk_3 (dk_at dksX1_asked_0 1 rfl rfl)
theorem dX1_asked_2 : decode cX1_asked 2 = .ok (.iload_n 1, 1) := dk_27 (dk_at dksX1_asked_0 2 rfl rfl)
theorem dX1_asked_3 : decode cX1_asked 3 = .ok (.invokestatic 108, 3) := dk_184 0 108 (dk_at dksX1_asked_0 3 rfl rfl)
theorem dX1_asked_6 : decode cX1_asked 6 = .ok (.ifCond .ne 11, 3) := dk_154 0 11 (dk_at dksX1_asked_0 6 rfl rfl)
theorem dX1_asked_9 : decode cX1_asked 9 = .ok (.new 328, 3) := dk_187 1 72 (dk_at dksX1_asked_0 9 rfl rfl)
theorem dX1_asked_12 : decode cX1_asked 12 = .ok (.dup, 1) := dk_89 (dk_at dksX1_asked_0 12 rfl rfl)
theorem dX1_asked_13 : decode cX1_asked 13 = .ok (.invokespecial 330, 3) := dk_183 1 74 (dk_at dksX1_asked_0 13 rfl rfl)
theorem dX1_asked_16 : decode cX1_asked 16 = .ok (.athrow, 1) := dk_191 (dk_at dksX1_asked_0 16 rfl rfl)
theorem dX1_asked_17 : decode cX1_asked 17 = .ok (.return_, 1) := dk_177 (dk_at dksX1_asked_0 17 rfl rfl)
abbrev cX1_plays : ByteArray := prog_1_method_27_code
def yX1_plays : MethodName := ⟨RX1, "plays", "(II)I"⟩
def dkwX1_plays_1 : List UInt8 := [180, 0, 14, 180, 1, 88, 27, 46, 62, 42, 180, 0, 14, 180, 1, 88, 27, 28, 79, 29, 172]
abbrev dktX1_plays_1 : List UInt8 := dkwX1_plays_1 ++ []
def dkwX1_plays_0 : List UInt8 := [27, 184, 1, 85, 28, 2, 159, 0, 17, 28, 42, 180, 0, 14, 180, 1, 62, 182, 1, 51, 184, 1, 68, 42]
abbrev dktX1_plays_0 : List UInt8 := dkwX1_plays_0 ++ dktX1_plays_1
theorem dksX1_plays_0 : cX1_plays.data.toList.drop 0 = dktX1_plays_0 := by decide +kernel
theorem dksX1_plays_1 : cX1_plays.data.toList.drop 24 = dktX1_plays_1 := dk_seg dksX1_plays_0 24 rfl rfl
theorem dX1_plays_0 : decode cX1_plays 0 = .ok (.iload_n 1, 1) := dk_27 (dk_at dksX1_plays_0 0 rfl rfl)
theorem dX1_plays_1 : decode cX1_plays 1 = .ok (.invokestatic 341, 3) := dk_184 1 85 (dk_at dksX1_plays_0 1 rfl rfl)
theorem dX1_plays_4 : decode cX1_plays 4 = .ok (.iload_n 2, 1) := dk_28 (dk_at dksX1_plays_0 4 rfl rfl)
theorem dX1_plays_5 : decode cX1_plays 5 = .ok (.iconst (-1), 1) := dk_2 (dk_at dksX1_plays_0 5 rfl rfl)
theorem dX1_plays_6 : decode cX1_plays 6 = .ok (.if_icmp .eq 17, 3) := dk_159 0 17 (dk_at dksX1_plays_0 6 rfl rfl)
theorem dX1_plays_9 : decode cX1_plays 9 = .ok (.iload_n 2, 1) := dk_28 (dk_at dksX1_plays_0 9 rfl rfl)
theorem dX1_plays_10 : decode cX1_plays 10 = .ok (.aload_n 0, 1) := dk_42 (dk_at dksX1_plays_0 10 rfl rfl)
theorem dX1_plays_11 : decode cX1_plays 11 = .ok (.getfield 14, 3) := dk_180 0 14 (dk_at dksX1_plays_0 11 rfl rfl)
theorem dX1_plays_14 : decode cX1_plays 14 = .ok (.getfield 318, 3) := dk_180 1 62 (dk_at dksX1_plays_0 14 rfl rfl)
theorem dX1_plays_17 : decode cX1_plays 17 = .ok (.invokevirtual 307, 3) := dk_182 1 51 (dk_at dksX1_plays_0 17 rfl rfl)
theorem dX1_plays_20 : decode cX1_plays 20 = .ok (.invokestatic 324, 3) := dk_184 1 68 (dk_at dksX1_plays_0 20 rfl rfl)
theorem dX1_plays_23 : decode cX1_plays 23 = .ok (.aload_n 0, 1) := dk_42 (dk_at dksX1_plays_0 23 rfl rfl)
theorem dX1_plays_24 : decode cX1_plays 24 = .ok (.getfield 14, 3) := dk_180 0 14 (dk_at dksX1_plays_1 0 rfl rfl)
theorem dX1_plays_27 : decode cX1_plays 27 = .ok (.getfield 344, 3) := dk_180 1 88 (dk_at dksX1_plays_1 3 rfl rfl)
theorem dX1_plays_30 : decode cX1_plays 30 = .ok (.iload_n 1, 1) := dk_27 (dk_at dksX1_plays_1 6 rfl rfl)
theorem dX1_plays_31 : decode cX1_plays 31 = .ok (.iaload, 1) := dk_46 (dk_at dksX1_plays_1 7 rfl rfl)
theorem dX1_plays_32 : decode cX1_plays 32 = .ok (.istore_n 3, 1) := dk_62 (dk_at dksX1_plays_1 8 rfl rfl)
theorem dX1_plays_33 : decode cX1_plays 33 = .ok (.aload_n 0, 1) := dk_42 (dk_at dksX1_plays_1 9 rfl rfl)
theorem dX1_plays_34 : decode cX1_plays 34 = .ok (.getfield 14, 3) := dk_180 0 14 (dk_at dksX1_plays_1 10 rfl rfl)
theorem dX1_plays_37 : decode cX1_plays 37 = .ok (.getfield 344, 3) := dk_180 1 88 (dk_at dksX1_plays_1 13 rfl rfl)
theorem dX1_plays_40 : decode cX1_plays 40 = .ok (.iload_n 1, 1) := dk_27 (dk_at dksX1_plays_1 16 rfl rfl)
theorem dX1_plays_41 : decode cX1_plays 41 = .ok (.iload_n 2, 1) := dk_28 (dk_at dksX1_plays_1 17 rfl rfl)
theorem dX1_plays_42 : decode cX1_plays 42 = .ok (.iastore, 1) := dk_79 (dk_at dksX1_plays_1 18 rfl rfl)
theorem dX1_plays_43 : decode cX1_plays 43 = .ok (.iload_n 3, 1) := dk_29 (dk_at dksX1_plays_1 19 rfl rfl)
theorem dX1_plays_44 : decode cX1_plays 44 = .ok (.ireturn, 1) := dk_172 (dk_at dksX1_plays_1 20 rfl rfl)
abbrev cX1_player : ByteArray := prog_1_method_22_code
def yX1_player : MethodName := ⟨RX1, "player", "(I)V"⟩
def dkwX1_player_0 : List UInt8 := [26, 5, 184, 1, 68, 177]
abbrev dktX1_player_0 : List UInt8 := dkwX1_player_0 ++ []
theorem dksX1_player_0 : cX1_player.data.toList.drop 0 = dktX1_player_0 := by decide +kernel
theorem dX1_player_0 : decode cX1_player 0 = .ok (.iload_n 0, 1) := dk_26 (dk_at dksX1_player_0 0 rfl rfl)
theorem dX1_player_1 : decode cX1_player 1 = .ok (.iconst 2, 1) := dk_5 (dk_at dksX1_player_0 1 rfl rfl)
theorem dX1_player_2 : decode cX1_player 2 = .ok (.invokestatic 324, 3) := dk_184 1 68 (dk_at dksX1_player_0 2 rfl rfl)
theorem dX1_player_5 : decode cX1_player 5 = .ok (.return_, 1) := dk_177 (dk_at dksX1_player_0 5 rfl rfl)
abbrev cX1_style : ByteArray := prog_1_method_29_code
def yX1_style : MethodName := ⟨RX1, "style", "(I)I"⟩
def dkwX1_style_0 : List UInt8 := [27, 184, 1, 85, 42, 42, 180, 0, 14, 180, 1, 75, 27, 182, 1, 102, 172]
abbrev dktX1_style_0 : List UInt8 := dkwX1_style_0 ++ []
theorem dksX1_style_0 : cX1_style.data.toList.drop 0 = dktX1_style_0 := by decide +kernel
theorem dX1_style_0 : decode cX1_style 0 = .ok (.iload_n 1, 1) := dk_27 (dk_at dksX1_style_0 0 rfl rfl)
theorem dX1_style_1 : decode cX1_style 1 = .ok (.invokestatic 341, 3) := dk_184 1 85 (dk_at dksX1_style_0 1 rfl rfl)
theorem dX1_style_4 : decode cX1_style 4 = .ok (.aload_n 0, 1) := dk_42 (dk_at dksX1_style_0 4 rfl rfl)
theorem dX1_style_5 : decode cX1_style 5 = .ok (.aload_n 0, 1) := dk_42 (dk_at dksX1_style_0 5 rfl rfl)
theorem dX1_style_6 : decode cX1_style 6 = .ok (.getfield 14, 3) := dk_180 0 14 (dk_at dksX1_style_0 6 rfl rfl)
theorem dX1_style_9 : decode cX1_style 9 = .ok (.getfield 331, 3) := dk_180 1 75 (dk_at dksX1_style_0 9 rfl rfl)
theorem dX1_style_12 : decode cX1_style 12 = .ok (.iload_n 1, 1) := dk_27 (dk_at dksX1_style_0 12 rfl rfl)
theorem dX1_style_13 : decode cX1_style 13 = .ok (.invokevirtual 358, 3) := dk_182 1 102 (dk_at dksX1_style_0 13 rfl rfl)
theorem dX1_style_16 : decode cX1_style 16 = .ok (.ireturn, 1) := dk_172 (dk_at dksX1_style_0 16 rfl rfl)
abbrev cX1_styleOf : ByteArray := prog_1_method_28_code
def yX1_styleOf : MethodName := ⟨RX1, "styleOf", "(LChaseCourt$Score;I)I"⟩
def dkwX1_styleOf_2 : List UInt8 := [182, 1, 99, 172]
abbrev dktX1_styleOf_2 : List UInt8 := dkwX1_styleOf_2 ++ []
def dkwX1_styleOf_1 : List UInt8 := [42, 180, 0, 14, 180, 1, 88, 28, 46, 182, 1, 91, 192, 1, 46, 42, 180, 0, 28, 43, 28, 182, 1, 95]
abbrev dktX1_styleOf_1 : List UInt8 := dkwX1_styleOf_1 ++ dktX1_styleOf_2
def dkwX1_styleOf_0 : List UInt8 := [42, 180, 0, 14, 180, 1, 88, 28, 46, 2, 160, 0, 7, 3, 167, 0, 37, 42, 180, 0, 14, 180, 1, 62]
abbrev dktX1_styleOf_0 : List UInt8 := dkwX1_styleOf_0 ++ dktX1_styleOf_1
theorem dksX1_styleOf_0 : cX1_styleOf.data.toList.drop 0 = dktX1_styleOf_0 := by decide +kernel
theorem dksX1_styleOf_1 : cX1_styleOf.data.toList.drop 24 = dktX1_styleOf_1 := dk_seg dksX1_styleOf_0 24 rfl rfl
theorem dksX1_styleOf_2 : cX1_styleOf.data.toList.drop 48 = dktX1_styleOf_2 := dk_seg dksX1_styleOf_1 24 rfl rfl
theorem dX1_styleOf_0 : decode cX1_styleOf 0 = .ok (.aload_n 0, 1) := dk_42 (dk_at dksX1_styleOf_0 0 rfl rfl)
theorem dX1_styleOf_1 : decode cX1_styleOf 1 = .ok (.getfield 14, 3) := dk_180 0 14 (dk_at dksX1_styleOf_0 1 rfl rfl)
theorem dX1_styleOf_4 : decode cX1_styleOf 4 = .ok (.getfield 344, 3) := dk_180 1 88 (dk_at dksX1_styleOf_0 4 rfl rfl)
theorem dX1_styleOf_7 : decode cX1_styleOf 7 = .ok (.iload_n 2, 1) := dk_28 (dk_at dksX1_styleOf_0 7 rfl rfl)
theorem dX1_styleOf_8 : decode cX1_styleOf 8 = .ok (.iaload, 1) := dk_46 (dk_at dksX1_styleOf_0 8 rfl rfl)
theorem dX1_styleOf_9 : decode cX1_styleOf 9 = .ok (.iconst (-1), 1) := dk_2 (dk_at dksX1_styleOf_0 9 rfl rfl)
theorem dX1_styleOf_10 : decode cX1_styleOf 10 = .ok (.if_icmp .ne 7, 3) := dk_160 0 7 (dk_at dksX1_styleOf_0 10 rfl rfl)
theorem dX1_styleOf_13 : decode cX1_styleOf 13 = .ok (.iconst 0, 1) := dk_3 (dk_at dksX1_styleOf_0 13 rfl rfl)
theorem dX1_styleOf_14 : decode cX1_styleOf 14 = .ok (.goto 37, 3) := dk_167 0 37 (dk_at dksX1_styleOf_0 14 rfl rfl)
theorem dX1_styleOf_17 : decode cX1_styleOf 17 = .ok (.aload_n 0, 1) := dk_42 (dk_at dksX1_styleOf_0 17 rfl rfl)
theorem dX1_styleOf_18 : decode cX1_styleOf 18 = .ok (.getfield 14, 3) := dk_180 0 14 (dk_at dksX1_styleOf_0 18 rfl rfl)
theorem dX1_styleOf_21 : decode cX1_styleOf 21 = .ok (.getfield 318, 3) := dk_180 1 62 (dk_at dksX1_styleOf_0 21 rfl rfl)
theorem dX1_styleOf_24 : decode cX1_styleOf 24 = .ok (.aload_n 0, 1) := dk_42 (dk_at dksX1_styleOf_1 0 rfl rfl)
theorem dX1_styleOf_25 : decode cX1_styleOf 25 = .ok (.getfield 14, 3) := dk_180 0 14 (dk_at dksX1_styleOf_1 1 rfl rfl)
theorem dX1_styleOf_28 : decode cX1_styleOf 28 = .ok (.getfield 344, 3) := dk_180 1 88 (dk_at dksX1_styleOf_1 4 rfl rfl)
theorem dX1_styleOf_31 : decode cX1_styleOf 31 = .ok (.iload_n 2, 1) := dk_28 (dk_at dksX1_styleOf_1 7 rfl rfl)
theorem dX1_styleOf_32 : decode cX1_styleOf 32 = .ok (.iaload, 1) := dk_46 (dk_at dksX1_styleOf_1 8 rfl rfl)
theorem dX1_styleOf_33 : decode cX1_styleOf 33 = .ok (.invokevirtual 347, 3) := dk_182 1 91 (dk_at dksX1_styleOf_1 9 rfl rfl)
theorem dX1_styleOf_36 : decode cX1_styleOf 36 = .ok (.checkcast 302, 3) := dk_192 1 46 (dk_at dksX1_styleOf_1 12 rfl rfl)
theorem dX1_styleOf_39 : decode cX1_styleOf 39 = .ok (.aload_n 0, 1) := dk_42 (dk_at dksX1_styleOf_1 15 rfl rfl)
theorem dX1_styleOf_40 : decode cX1_styleOf 40 = .ok (.getfield 28, 3) := dk_180 0 28 (dk_at dksX1_styleOf_1 16 rfl rfl)
theorem dX1_styleOf_43 : decode cX1_styleOf 43 = .ok (.aload_n 1, 1) := dk_43 (dk_at dksX1_styleOf_1 19 rfl rfl)
theorem dX1_styleOf_44 : decode cX1_styleOf 44 = .ok (.iload_n 2, 1) := dk_28 (dk_at dksX1_styleOf_1 20 rfl rfl)
theorem dX1_styleOf_45 : decode cX1_styleOf 45 = .ok (.invokevirtual 351, 3) := dk_182 1 95 (dk_at dksX1_styleOf_1 21 rfl rfl)
theorem dX1_styleOf_48 : decode cX1_styleOf 48 = .ok (.invokevirtual 355, 3) := dk_182 1 99 (dk_at dksX1_styleOf_2 0 rfl rfl)
theorem dX1_styleOf_51 : decode cX1_styleOf 51 = .ok (.ireturn, 1) := dk_172 (dk_at dksX1_styleOf_2 3 rfl rfl)
abbrev cX1_score : ByteArray := prog_1_method_30_code
def yX1_score : MethodName := ⟨RX1, "score", "(III)V"⟩
def dkwX1_score_2 : List UInt8 := [181, 1, 119, 25, 4, 3, 181, 1, 122, 177]
abbrev dktX1_score_2 : List UInt8 := dkwX1_score_2 ++ []
def dkwX1_score_1 : List UInt8 := [180, 1, 113, 3, 27, 79, 25, 4, 180, 1, 113, 4, 28, 79, 25, 4, 29, 181, 1, 116, 25, 4, 3]
abbrev dktX1_score_1 : List UInt8 := dkwX1_score_1 ++ dktX1_score_2
def dkwX1_score_0 : List UInt8 := [29, 184, 1, 85, 27, 28, 184, 1, 106, 184, 1, 110, 42, 180, 0, 14, 180, 1, 75, 58, 4, 25, 4]
abbrev dktX1_score_0 : List UInt8 := dkwX1_score_0 ++ dktX1_score_1
theorem dksX1_score_0 : cX1_score.data.toList.drop 0 = dktX1_score_0 := by decide +kernel
theorem dksX1_score_1 : cX1_score.data.toList.drop 23 = dktX1_score_1 := dk_seg dksX1_score_0 23 rfl rfl
theorem dksX1_score_2 : cX1_score.data.toList.drop 46 = dktX1_score_2 := dk_seg dksX1_score_1 23 rfl rfl
theorem dX1_score_0 : decode cX1_score 0 = .ok (.iload_n 3, 1) := dk_29 (dk_at dksX1_score_0 0 rfl rfl)
theorem dX1_score_1 : decode cX1_score 1 = .ok (.invokestatic 341, 3) := dk_184 1 85 (dk_at dksX1_score_0 1 rfl rfl)
theorem dX1_score_4 : decode cX1_score 4 = .ok (.iload_n 1, 1) := dk_27 (dk_at dksX1_score_0 4 rfl rfl)
theorem dX1_score_5 : decode cX1_score 5 = .ok (.iload_n 2, 1) := dk_28 (dk_at dksX1_score_0 5 rfl rfl)
theorem dX1_score_6 : decode cX1_score 6 = .ok (.invokestatic 362, 3) := dk_184 1 106 (dk_at dksX1_score_0 6 rfl rfl)
theorem dX1_score_9 : decode cX1_score 9 = .ok (.invokestatic 366, 3) := dk_184 1 110 (dk_at dksX1_score_0 9 rfl rfl)
theorem dX1_score_12 : decode cX1_score 12 = .ok (.aload_n 0, 1) := dk_42 (dk_at dksX1_score_0 12 rfl rfl)
theorem dX1_score_13 : decode cX1_score 13 = .ok (.getfield 14, 3) := dk_180 0 14 (dk_at dksX1_score_0 13 rfl rfl)
theorem dX1_score_16 : decode cX1_score 16 = .ok (.getfield 331, 3) := dk_180 1 75 (dk_at dksX1_score_0 16 rfl rfl)
theorem dX1_score_19 : decode cX1_score 19 = .ok (.astore 4, 2) := dk_58 4 (dk_at dksX1_score_0 19 rfl rfl)
theorem dX1_score_21 : decode cX1_score 21 = .ok (.aload 4, 2) := dk_25 4 (dk_at dksX1_score_0 21 rfl rfl)
theorem dX1_score_23 : decode cX1_score 23 = .ok (.getfield 369, 3) := dk_180 1 113 (dk_at dksX1_score_1 0 rfl rfl)
theorem dX1_score_26 : decode cX1_score 26 = .ok (.iconst 0, 1) := dk_3 (dk_at dksX1_score_1 3 rfl rfl)
theorem dX1_score_27 : decode cX1_score 27 = .ok (.iload_n 1, 1) := dk_27 (dk_at dksX1_score_1 4 rfl rfl)
theorem dX1_score_28 : decode cX1_score 28 = .ok (.iastore, 1) := dk_79 (dk_at dksX1_score_1 5 rfl rfl)
theorem dX1_score_29 : decode cX1_score 29 = .ok (.aload 4, 2) := dk_25 4 (dk_at dksX1_score_1 6 rfl rfl)
theorem dX1_score_31 : decode cX1_score 31 = .ok (.getfield 369, 3) := dk_180 1 113 (dk_at dksX1_score_1 8 rfl rfl)
theorem dX1_score_34 : decode cX1_score 34 = .ok (.iconst 1, 1) := dk_4 (dk_at dksX1_score_1 11 rfl rfl)
theorem dX1_score_35 : decode cX1_score 35 = .ok (.iload_n 2, 1) := dk_28 (dk_at dksX1_score_1 12 rfl rfl)
theorem dX1_score_36 : decode cX1_score 36 = .ok (.iastore, 1) := dk_79 (dk_at dksX1_score_1 13 rfl rfl)
theorem dX1_score_37 : decode cX1_score 37 = .ok (.aload 4, 2) := dk_25 4 (dk_at dksX1_score_1 14 rfl rfl)
theorem dX1_score_39 : decode cX1_score 39 = .ok (.iload_n 3, 1) := dk_29 (dk_at dksX1_score_1 16 rfl rfl)
theorem dX1_score_40 : decode cX1_score 40 = .ok (.putfield 372, 3) := dk_181 1 116 (dk_at dksX1_score_1 17 rfl rfl)
theorem dX1_score_43 : decode cX1_score 43 = .ok (.aload 4, 2) := dk_25 4 (dk_at dksX1_score_1 20 rfl rfl)
theorem dX1_score_45 : decode cX1_score 45 = .ok (.iconst 0, 1) := dk_3 (dk_at dksX1_score_1 22 rfl rfl)
theorem dX1_score_46 : decode cX1_score 46 = .ok (.putfield 375, 3) := dk_181 1 119 (dk_at dksX1_score_2 0 rfl rfl)
theorem dX1_score_49 : decode cX1_score 49 = .ok (.aload 4, 2) := dk_25 4 (dk_at dksX1_score_2 3 rfl rfl)
theorem dX1_score_51 : decode cX1_score 51 = .ok (.iconst 0, 1) := dk_3 (dk_at dksX1_score_2 5 rfl rfl)
theorem dX1_score_52 : decode cX1_score 52 = .ok (.putfield 378, 3) := dk_181 1 122 (dk_at dksX1_score_2 6 rfl rfl)
theorem dX1_score_55 : decode cX1_score 55 = .ok (.return_, 1) := dk_177 (dk_at dksX1_score_2 9 rfl rfl)
abbrev cX1_arePoints : ByteArray := prog_1_method_6_code
def yX1_arePoints : MethodName := ⟨RX1, "arePoints", "(II)Z"⟩
def dkwX1_arePoints_1 : List UInt8 := [160, 0, 8, 27, 6, 159, 0, 13, 26, 6, 160, 0, 12, 27, 7, 160, 0, 7, 4, 167, 0, 4, 3, 172]
abbrev dktX1_arePoints_1 : List UInt8 := dkwX1_arePoints_1 ++ []
def dkwX1_arePoints_0 : List UInt8 := [26, 16, 253, 6, 184, 0, 108, 153, 0, 13, 27, 16, 253, 6, 184, 0, 108, 154, 0, 23, 26, 7]
abbrev dktX1_arePoints_0 : List UInt8 := dkwX1_arePoints_0 ++ dktX1_arePoints_1
theorem dksX1_arePoints_0 : cX1_arePoints.data.toList.drop 0 = dktX1_arePoints_0 := by decide +kernel
theorem dksX1_arePoints_1 : cX1_arePoints.data.toList.drop 22 = dktX1_arePoints_1 := dk_seg dksX1_arePoints_0 22 rfl rfl
theorem dX1_arePoints_0 : decode cX1_arePoints 0 = .ok (.iload_n 0, 1) := dk_26 (dk_at dksX1_arePoints_0 0 rfl rfl)
theorem dX1_arePoints_1 : decode cX1_arePoints 1 = .ok (.bipush (-3), 2) := dk_16 253 (dk_at dksX1_arePoints_0 1 rfl rfl)
theorem dX1_arePoints_3 : decode cX1_arePoints 3 = .ok (.iconst 3, 1) := dk_6 (dk_at dksX1_arePoints_0 3 rfl rfl)
theorem dX1_arePoints_4 : decode cX1_arePoints 4 = .ok (.invokestatic 108, 3) := dk_184 0 108 (dk_at dksX1_arePoints_0 4 rfl rfl)
theorem dX1_arePoints_7 : decode cX1_arePoints 7 = .ok (.ifCond .eq 13, 3) := dk_153 0 13 (dk_at dksX1_arePoints_0 7 rfl rfl)
theorem dX1_arePoints_10 : decode cX1_arePoints 10 = .ok (.iload_n 1, 1) := dk_27 (dk_at dksX1_arePoints_0 10 rfl rfl)
theorem dX1_arePoints_11 : decode cX1_arePoints 11 = .ok (.bipush (-3), 2) := dk_16 253 (dk_at dksX1_arePoints_0 11 rfl rfl)
theorem dX1_arePoints_13 : decode cX1_arePoints 13 = .ok (.iconst 3, 1) := dk_6 (dk_at dksX1_arePoints_0 13 rfl rfl)
theorem dX1_arePoints_14 : decode cX1_arePoints 14 = .ok (.invokestatic 108, 3) := dk_184 0 108 (dk_at dksX1_arePoints_0 14 rfl rfl)
theorem dX1_arePoints_17 : decode cX1_arePoints 17 = .ok (.ifCond .ne 23, 3) := dk_154 0 23 (dk_at dksX1_arePoints_0 17 rfl rfl)
theorem dX1_arePoints_20 : decode cX1_arePoints 20 = .ok (.iload_n 0, 1) := dk_26 (dk_at dksX1_arePoints_0 20 rfl rfl)
theorem dX1_arePoints_21 : decode cX1_arePoints 21 = .ok (.iconst 4, 1) := dk_7 (dk_at dksX1_arePoints_0 21 rfl rfl)
theorem dX1_arePoints_22 : decode cX1_arePoints 22 = .ok (.if_icmp .ne 8, 3) := dk_160 0 8 (dk_at dksX1_arePoints_1 0 rfl rfl)
theorem dX1_arePoints_25 : decode cX1_arePoints 25 = .ok (.iload_n 1, 1) := dk_27 (dk_at dksX1_arePoints_1 3 rfl rfl)
theorem dX1_arePoints_26 : decode cX1_arePoints 26 = .ok (.iconst 3, 1) := dk_6 (dk_at dksX1_arePoints_1 4 rfl rfl)
theorem dX1_arePoints_27 : decode cX1_arePoints 27 = .ok (.if_icmp .eq 13, 3) := dk_159 0 13 (dk_at dksX1_arePoints_1 5 rfl rfl)
theorem dX1_arePoints_30 : decode cX1_arePoints 30 = .ok (.iload_n 0, 1) := dk_26 (dk_at dksX1_arePoints_1 8 rfl rfl)
theorem dX1_arePoints_31 : decode cX1_arePoints 31 = .ok (.iconst 3, 1) := dk_6 (dk_at dksX1_arePoints_1 9 rfl rfl)
theorem dX1_arePoints_32 : decode cX1_arePoints 32 = .ok (.if_icmp .ne 12, 3) := dk_160 0 12 (dk_at dksX1_arePoints_1 10 rfl rfl)
theorem dX1_arePoints_35 : decode cX1_arePoints 35 = .ok (.iload_n 1, 1) := dk_27 (dk_at dksX1_arePoints_1 13 rfl rfl)
theorem dX1_arePoints_36 : decode cX1_arePoints 36 = .ok (.iconst 4, 1) := dk_7 (dk_at dksX1_arePoints_1 14 rfl rfl)
theorem dX1_arePoints_37 : decode cX1_arePoints 37 = .ok (.if_icmp .ne 7, 3) := dk_160 0 7 (dk_at dksX1_arePoints_1 15 rfl rfl)
theorem dX1_arePoints_40 : decode cX1_arePoints 40 = .ok (.iconst 1, 1) := dk_4 (dk_at dksX1_arePoints_1 18 rfl rfl)
theorem dX1_arePoints_41 : decode cX1_arePoints 41 = .ok (.goto 4, 3) := dk_167 0 4 (dk_at dksX1_arePoints_1 19 rfl rfl)
theorem dX1_arePoints_44 : decode cX1_arePoints 44 = .ok (.iconst 0, 1) := dk_3 (dk_at dksX1_arePoints_1 22 rfl rfl)
theorem dX1_arePoints_45 : decode cX1_arePoints 45 = .ok (.ireturn, 1) := dk_172 (dk_at dksX1_arePoints_1 23 rfl rfl)
abbrev cX1_demand : ByteArray := prog_1_method_23_code
def yX1_demand : MethodName := ⟨RX1, "demand", "(Z)V"⟩
def dkwX1_demand_0 : List UInt8 := [26, 154, 0, 11, 187, 0, 181, 89, 183, 0, 183, 191, 177]
abbrev dktX1_demand_0 : List UInt8 := dkwX1_demand_0 ++ []
theorem dksX1_demand_0 : cX1_demand.data.toList.drop 0 = dktX1_demand_0 := by decide +kernel
theorem dX1_demand_0 : decode cX1_demand 0 = .ok (.iload_n 0, 1) := dk_26 (dk_at dksX1_demand_0 0 rfl rfl)
theorem dX1_demand_1 : decode cX1_demand 1 = .ok (.ifCond .ne 11, 3) := dk_154 0 11 (dk_at dksX1_demand_0 1 rfl rfl)
theorem dX1_demand_4 : decode cX1_demand 4 = .ok (.new 181, 3) := dk_187 0 181 (dk_at dksX1_demand_0 4 rfl rfl)
theorem dX1_demand_7 : decode cX1_demand 7 = .ok (.dup, 1) := dk_89 (dk_at dksX1_demand_0 7 rfl rfl)
theorem dX1_demand_8 : decode cX1_demand 8 = .ok (.invokespecial 183, 3) := dk_183 0 183 (dk_at dksX1_demand_0 8 rfl rfl)
theorem dX1_demand_11 : decode cX1_demand 11 = .ok (.athrow, 1) := dk_191 (dk_at dksX1_demand_0 11 rfl rfl)
theorem dX1_demand_12 : decode cX1_demand 12 = .ok (.return_, 1) := dk_177 (dk_at dksX1_demand_0 12 rfl rfl)
abbrev cX1_games : ByteArray := prog_1_method_31_code
def yX1_games : MethodName := ⟨RX1, "games", "(II)V"⟩
def dkwX1_games_2 : List UInt8 := [180, 1, 124, 4, 28, 79, 177]
abbrev dktX1_games_2 : List UInt8 := dkwX1_games_2 ++ []
def dkwX1_games_1 : List UInt8 := [3, 184, 1, 110, 42, 180, 0, 14, 180, 1, 75, 180, 1, 124, 3, 27, 79, 42, 180, 0, 14, 180, 1, 75]
abbrev dktX1_games_1 : List UInt8 := dkwX1_games_1 ++ dktX1_games_2
def dkwX1_games_0 : List UInt8 := [27, 3, 16, 6, 184, 0, 108, 153, 0, 17, 28, 3, 16, 6, 184, 0, 108, 153, 0, 7, 4, 167, 0, 4]
abbrev dktX1_games_0 : List UInt8 := dkwX1_games_0 ++ dktX1_games_1
theorem dksX1_games_0 : cX1_games.data.toList.drop 0 = dktX1_games_0 := by decide +kernel
theorem dksX1_games_1 : cX1_games.data.toList.drop 24 = dktX1_games_1 := dk_seg dksX1_games_0 24 rfl rfl
theorem dksX1_games_2 : cX1_games.data.toList.drop 48 = dktX1_games_2 := dk_seg dksX1_games_1 24 rfl rfl
theorem dX1_games_0 : decode cX1_games 0 = .ok (.iload_n 1, 1) := dk_27 (dk_at dksX1_games_0 0 rfl rfl)
theorem dX1_games_1 : decode cX1_games 1 = .ok (.iconst 0, 1) := dk_3 (dk_at dksX1_games_0 1 rfl rfl)
theorem dX1_games_2 : decode cX1_games 2 = .ok (.bipush 6, 2) := dk_16 6 (dk_at dksX1_games_0 2 rfl rfl)
theorem dX1_games_4 : decode cX1_games 4 = .ok (.invokestatic 108, 3) := dk_184 0 108 (dk_at dksX1_games_0 4 rfl rfl)
theorem dX1_games_7 : decode cX1_games 7 = .ok (.ifCond .eq 17, 3) := dk_153 0 17 (dk_at dksX1_games_0 7 rfl rfl)
theorem dX1_games_10 : decode cX1_games 10 = .ok (.iload_n 2, 1) := dk_28 (dk_at dksX1_games_0 10 rfl rfl)
theorem dX1_games_11 : decode cX1_games 11 = .ok (.iconst 0, 1) := dk_3 (dk_at dksX1_games_0 11 rfl rfl)
theorem dX1_games_12 : decode cX1_games 12 = .ok (.bipush 6, 2) := dk_16 6 (dk_at dksX1_games_0 12 rfl rfl)
theorem dX1_games_14 : decode cX1_games 14 = .ok (.invokestatic 108, 3) := dk_184 0 108 (dk_at dksX1_games_0 14 rfl rfl)
theorem dX1_games_17 : decode cX1_games 17 = .ok (.ifCond .eq 7, 3) := dk_153 0 7 (dk_at dksX1_games_0 17 rfl rfl)
theorem dX1_games_20 : decode cX1_games 20 = .ok (.iconst 1, 1) := dk_4 (dk_at dksX1_games_0 20 rfl rfl)
theorem dX1_games_21 : decode cX1_games 21 = .ok (.goto 4, 3) := dk_167 0 4 (dk_at dksX1_games_0 21 rfl rfl)
theorem dX1_games_24 : decode cX1_games 24 = .ok (.iconst 0, 1) := dk_3 (dk_at dksX1_games_1 0 rfl rfl)
theorem dX1_games_25 : decode cX1_games 25 = .ok (.invokestatic 366, 3) := dk_184 1 110 (dk_at dksX1_games_1 1 rfl rfl)
theorem dX1_games_28 : decode cX1_games 28 = .ok (.aload_n 0, 1) := dk_42 (dk_at dksX1_games_1 4 rfl rfl)
theorem dX1_games_29 : decode cX1_games 29 = .ok (.getfield 14, 3) := dk_180 0 14 (dk_at dksX1_games_1 5 rfl rfl)
theorem dX1_games_32 : decode cX1_games 32 = .ok (.getfield 331, 3) := dk_180 1 75 (dk_at dksX1_games_1 8 rfl rfl)
theorem dX1_games_35 : decode cX1_games 35 = .ok (.getfield 380, 3) := dk_180 1 124 (dk_at dksX1_games_1 11 rfl rfl)
theorem dX1_games_38 : decode cX1_games 38 = .ok (.iconst 0, 1) := dk_3 (dk_at dksX1_games_1 14 rfl rfl)
theorem dX1_games_39 : decode cX1_games 39 = .ok (.iload_n 1, 1) := dk_27 (dk_at dksX1_games_1 15 rfl rfl)
theorem dX1_games_40 : decode cX1_games 40 = .ok (.iastore, 1) := dk_79 (dk_at dksX1_games_1 16 rfl rfl)
theorem dX1_games_41 : decode cX1_games 41 = .ok (.aload_n 0, 1) := dk_42 (dk_at dksX1_games_1 17 rfl rfl)
theorem dX1_games_42 : decode cX1_games 42 = .ok (.getfield 14, 3) := dk_180 0 14 (dk_at dksX1_games_1 18 rfl rfl)
theorem dX1_games_45 : decode cX1_games 45 = .ok (.getfield 331, 3) := dk_180 1 75 (dk_at dksX1_games_1 21 rfl rfl)
theorem dX1_games_48 : decode cX1_games 48 = .ok (.getfield 380, 3) := dk_180 1 124 (dk_at dksX1_games_2 0 rfl rfl)
theorem dX1_games_51 : decode cX1_games 51 = .ok (.iconst 1, 1) := dk_4 (dk_at dksX1_games_2 3 rfl rfl)
theorem dX1_games_52 : decode cX1_games 52 = .ok (.iload_n 2, 1) := dk_28 (dk_at dksX1_games_2 4 rfl rfl)
theorem dX1_games_53 : decode cX1_games 53 = .ok (.iastore, 1) := dk_79 (dk_at dksX1_games_2 5 rfl rfl)
theorem dX1_games_54 : decode cX1_games 54 = .ok (.return_, 1) := dk_177 (dk_at dksX1_games_2 6 rfl rfl)
abbrev cX1_begin : ByteArray := prog_1_method_32_code
def yX1_begin : MethodName := ⟨RX1, "begin", "(II)V"⟩
def dkwX1_begin_1 : List UInt8 := [184, 1, 110, 42, 180, 0, 14, 27, 181, 1, 126, 42, 180, 0, 14, 28, 181, 1, 129, 177]
abbrev dktX1_begin_1 : List UInt8 := dkwX1_begin_1 ++ []
def dkwX1_begin_0 : List UInt8 := [27, 3, 6, 184, 0, 108, 153, 0, 16, 28, 3, 6, 184, 0, 108, 153, 0, 7, 4, 167, 0, 4, 3]
abbrev dktX1_begin_0 : List UInt8 := dkwX1_begin_0 ++ dktX1_begin_1
theorem dksX1_begin_0 : cX1_begin.data.toList.drop 0 = dktX1_begin_0 := by decide +kernel
theorem dksX1_begin_1 : cX1_begin.data.toList.drop 23 = dktX1_begin_1 := dk_seg dksX1_begin_0 23 rfl rfl
theorem dX1_begin_0 : decode cX1_begin 0 = .ok (.iload_n 1, 1) := dk_27 (dk_at dksX1_begin_0 0 rfl rfl)
theorem dX1_begin_1 : decode cX1_begin 1 = .ok (.iconst 0, 1) := dk_3 (dk_at dksX1_begin_0 1 rfl rfl)
theorem dX1_begin_2 : decode cX1_begin 2 = .ok (.iconst 3, 1) := dk_6 (dk_at dksX1_begin_0 2 rfl rfl)
theorem dX1_begin_3 : decode cX1_begin 3 = .ok (.invokestatic 108, 3) := dk_184 0 108 (dk_at dksX1_begin_0 3 rfl rfl)
theorem dX1_begin_6 : decode cX1_begin 6 = .ok (.ifCond .eq 16, 3) := dk_153 0 16 (dk_at dksX1_begin_0 6 rfl rfl)
theorem dX1_begin_9 : decode cX1_begin 9 = .ok (.iload_n 2, 1) := dk_28 (dk_at dksX1_begin_0 9 rfl rfl)
theorem dX1_begin_10 : decode cX1_begin 10 = .ok (.iconst 0, 1) := dk_3 (dk_at dksX1_begin_0 10 rfl rfl)
theorem dX1_begin_11 : decode cX1_begin 11 = .ok (.iconst 3, 1) := dk_6 (dk_at dksX1_begin_0 11 rfl rfl)
theorem dX1_begin_12 : decode cX1_begin 12 = .ok (.invokestatic 108, 3) := dk_184 0 108 (dk_at dksX1_begin_0 12 rfl rfl)
theorem dX1_begin_15 : decode cX1_begin 15 = .ok (.ifCond .eq 7, 3) := dk_153 0 7 (dk_at dksX1_begin_0 15 rfl rfl)
theorem dX1_begin_18 : decode cX1_begin 18 = .ok (.iconst 1, 1) := dk_4 (dk_at dksX1_begin_0 18 rfl rfl)
theorem dX1_begin_19 : decode cX1_begin 19 = .ok (.goto 4, 3) := dk_167 0 4 (dk_at dksX1_begin_0 19 rfl rfl)
theorem dX1_begin_22 : decode cX1_begin 22 = .ok (.iconst 0, 1) := dk_3 (dk_at dksX1_begin_0 22 rfl rfl)
theorem dX1_begin_23 : decode cX1_begin 23 = .ok (.invokestatic 366, 3) := dk_184 1 110 (dk_at dksX1_begin_1 0 rfl rfl)
theorem dX1_begin_26 : decode cX1_begin 26 = .ok (.aload_n 0, 1) := dk_42 (dk_at dksX1_begin_1 3 rfl rfl)
theorem dX1_begin_27 : decode cX1_begin 27 = .ok (.getfield 14, 3) := dk_180 0 14 (dk_at dksX1_begin_1 4 rfl rfl)
theorem dX1_begin_30 : decode cX1_begin 30 = .ok (.iload_n 1, 1) := dk_27 (dk_at dksX1_begin_1 7 rfl rfl)
theorem dX1_begin_31 : decode cX1_begin 31 = .ok (.putfield 382, 3) := dk_181 1 126 (dk_at dksX1_begin_1 8 rfl rfl)
theorem dX1_begin_34 : decode cX1_begin 34 = .ok (.aload_n 0, 1) := dk_42 (dk_at dksX1_begin_1 11 rfl rfl)
theorem dX1_begin_35 : decode cX1_begin 35 = .ok (.getfield 14, 3) := dk_180 0 14 (dk_at dksX1_begin_1 12 rfl rfl)
theorem dX1_begin_38 : decode cX1_begin 38 = .ok (.iload_n 2, 1) := dk_28 (dk_at dksX1_begin_1 15 rfl rfl)
theorem dX1_begin_39 : decode cX1_begin 39 = .ok (.putfield 385, 3) := dk_181 1 129 (dk_at dksX1_begin_1 16 rfl rfl)
theorem dX1_begin_42 : decode cX1_begin 42 = .ok (.return_, 1) := dk_177 (dk_at dksX1_begin_1 19 rfl rfl)
abbrev cX1_stands : ByteArray := prog_1_method_33_code
def yX1_stands : MethodName := ⟨RX1, "stands", "(I)I"⟩
def dkwX1_stands_0 : List UInt8 := [27, 16, 9, 184, 1, 82, 42, 180, 0, 14, 180, 1, 75, 27, 182, 1, 132, 172]
abbrev dktX1_stands_0 : List UInt8 := dkwX1_stands_0 ++ []
theorem dksX1_stands_0 : cX1_stands.data.toList.drop 0 = dktX1_stands_0 := by decide +kernel
theorem dX1_stands_0 : decode cX1_stands 0 = .ok (.iload_n 1, 1) := dk_27 (dk_at dksX1_stands_0 0 rfl rfl)
theorem dX1_stands_1 : decode cX1_stands 1 = .ok (.bipush 9, 2) := dk_16 9 (dk_at dksX1_stands_0 1 rfl rfl)
theorem dX1_stands_3 : decode cX1_stands 3 = .ok (.invokestatic 338, 3) := dk_184 1 82 (dk_at dksX1_stands_0 3 rfl rfl)
theorem dX1_stands_6 : decode cX1_stands 6 = .ok (.aload_n 0, 1) := dk_42 (dk_at dksX1_stands_0 6 rfl rfl)
theorem dX1_stands_7 : decode cX1_stands 7 = .ok (.getfield 14, 3) := dk_180 0 14 (dk_at dksX1_stands_0 7 rfl rfl)
theorem dX1_stands_10 : decode cX1_stands 10 = .ok (.getfield 331, 3) := dk_180 1 75 (dk_at dksX1_stands_0 10 rfl rfl)
theorem dX1_stands_13 : decode cX1_stands 13 = .ok (.iload_n 1, 1) := dk_27 (dk_at dksX1_stands_0 13 rfl rfl)
theorem dX1_stands_14 : decode cX1_stands 14 = .ok (.invokevirtual 388, 3) := dk_182 1 132 (dk_at dksX1_stands_0 14 rfl rfl)
theorem dX1_stands_17 : decode cX1_stands 17 = .ok (.ireturn, 1) := dk_172 (dk_at dksX1_stands_0 17 rfl rfl)
abbrev cX1_rally : ByteArray := prog_1_method_34_code
def yX1_rally : MethodName := ⟨RX1, "rally", "(II)I"⟩
def dkwX1_rally_1 : List UInt8 := [42, 180, 0, 14, 180, 1, 75, 27, 28, 182, 1, 139, 172]
abbrev dktX1_rally_1 : List UInt8 := dkwX1_rally_1 ++ []
def dkwX1_rally_0 : List UInt8 := [27, 5, 160, 0, 9, 28, 16, 10, 184, 1, 68, 27, 3, 5, 184, 0, 108, 184, 1, 110, 42, 182, 1, 136]
abbrev dktX1_rally_0 : List UInt8 := dkwX1_rally_0 ++ dktX1_rally_1
theorem dksX1_rally_0 : cX1_rally.data.toList.drop 0 = dktX1_rally_0 := by decide +kernel
theorem dksX1_rally_1 : cX1_rally.data.toList.drop 24 = dktX1_rally_1 := dk_seg dksX1_rally_0 24 rfl rfl
theorem dX1_rally_0 : decode cX1_rally 0 = .ok (.iload_n 1, 1) := dk_27 (dk_at dksX1_rally_0 0 rfl rfl)
theorem dX1_rally_1 : decode cX1_rally 1 = .ok (.iconst 2, 1) := dk_5 (dk_at dksX1_rally_0 1 rfl rfl)
theorem dX1_rally_2 : decode cX1_rally 2 = .ok (.if_icmp .ne 9, 3) := dk_160 0 9 (dk_at dksX1_rally_0 2 rfl rfl)
theorem dX1_rally_5 : decode cX1_rally 5 = .ok (.iload_n 2, 1) := dk_28 (dk_at dksX1_rally_0 5 rfl rfl)
theorem dX1_rally_6 : decode cX1_rally 6 = .ok (.bipush 10, 2) := dk_16 10 (dk_at dksX1_rally_0 6 rfl rfl)
theorem dX1_rally_8 : decode cX1_rally 8 = .ok (.invokestatic 324, 3) := dk_184 1 68 (dk_at dksX1_rally_0 8 rfl rfl)
theorem dX1_rally_11 : decode cX1_rally 11 = .ok (.iload_n 1, 1) := dk_27 (dk_at dksX1_rally_0 11 rfl rfl)
theorem dX1_rally_12 : decode cX1_rally 12 = .ok (.iconst 0, 1) := dk_3 (dk_at dksX1_rally_0 12 rfl rfl)
theorem dX1_rally_13 : decode cX1_rally 13 = .ok (.iconst 2, 1) := dk_5 (dk_at dksX1_rally_0 13 rfl rfl)
theorem dX1_rally_14 : decode cX1_rally 14 = .ok (.invokestatic 108, 3) := dk_184 0 108 (dk_at dksX1_rally_0 14 rfl rfl)
theorem dX1_rally_17 : decode cX1_rally 17 = .ok (.invokestatic 366, 3) := dk_184 1 110 (dk_at dksX1_rally_0 17 rfl rfl)
theorem dX1_rally_20 : decode cX1_rally 20 = .ok (.aload_n 0, 1) := dk_42 (dk_at dksX1_rally_0 20 rfl rfl)
theorem dX1_rally_21 : decode cX1_rally 21 = .ok (.invokevirtual 392, 3) := dk_182 1 136 (dk_at dksX1_rally_0 21 rfl rfl)
theorem dX1_rally_24 : decode cX1_rally 24 = .ok (.aload_n 0, 1) := dk_42 (dk_at dksX1_rally_1 0 rfl rfl)
theorem dX1_rally_25 : decode cX1_rally 25 = .ok (.getfield 14, 3) := dk_180 0 14 (dk_at dksX1_rally_1 1 rfl rfl)
theorem dX1_rally_28 : decode cX1_rally 28 = .ok (.getfield 331, 3) := dk_180 1 75 (dk_at dksX1_rally_1 4 rfl rfl)
theorem dX1_rally_31 : decode cX1_rally 31 = .ok (.iload_n 1, 1) := dk_27 (dk_at dksX1_rally_1 7 rfl rfl)
theorem dX1_rally_32 : decode cX1_rally 32 = .ok (.iload_n 2, 1) := dk_28 (dk_at dksX1_rally_1 8 rfl rfl)
theorem dX1_rally_33 : decode cX1_rally 33 = .ok (.invokevirtual 395, 3) := dk_182 1 139 (dk_at dksX1_rally_1 9 rfl rfl)
theorem dX1_rally_36 : decode cX1_rally 36 = .ok (.ireturn, 1) := dk_172 (dk_at dksX1_rally_1 12 rfl rfl)
abbrev cX1_goesYet : ByteArray := prog_1_method_25_code
def yX1_goesYet : MethodName := ⟨RX1, "goesYet", "()V"⟩
def dkwX1_goesYet_0 : List UInt8 := [42, 180, 0, 14, 180, 1, 75, 182, 1, 78, 153, 0, 11, 187, 1, 79, 89, 183, 1, 81, 191, 177]
abbrev dktX1_goesYet_0 : List UInt8 := dkwX1_goesYet_0 ++ []
theorem dksX1_goesYet_0 : cX1_goesYet.data.toList.drop 0 = dktX1_goesYet_0 := by decide +kernel
theorem dX1_goesYet_0 : decode cX1_goesYet 0 = .ok (.aload_n 0, 1) := dk_42 (dk_at dksX1_goesYet_0 0 rfl rfl)
theorem dX1_goesYet_1 : decode cX1_goesYet 1 = .ok (.getfield 14, 3) := dk_180 0 14 (dk_at dksX1_goesYet_0 1 rfl rfl)
theorem dX1_goesYet_4 : decode cX1_goesYet 4 = .ok (.getfield 331, 3) := dk_180 1 75 (dk_at dksX1_goesYet_0 4 rfl rfl)
theorem dX1_goesYet_7 : decode cX1_goesYet 7 = .ok (.invokevirtual 334, 3) := dk_182 1 78 (dk_at dksX1_goesYet_0 7 rfl rfl)
theorem dX1_goesYet_10 : decode cX1_goesYet 10 = .ok (.ifCond .eq 11, 3) := dk_153 0 11 (dk_at dksX1_goesYet_0 10 rfl rfl)
theorem dX1_goesYet_13 : decode cX1_goesYet 13 = .ok (.new 335, 3) := dk_187 1 79 (dk_at dksX1_goesYet_0 13 rfl rfl)
theorem dX1_goesYet_16 : decode cX1_goesYet 16 = .ok (.dup, 1) := dk_89 (dk_at dksX1_goesYet_0 16 rfl rfl)
theorem dX1_goesYet_17 : decode cX1_goesYet 17 = .ok (.invokespecial 337, 3) := dk_183 1 81 (dk_at dksX1_goesYet_0 17 rfl rfl)
theorem dX1_goesYet_20 : decode cX1_goesYet 20 = .ok (.athrow, 1) := dk_191 (dk_at dksX1_goesYet_0 20 rfl rfl)
theorem dX1_goesYet_21 : decode cX1_goesYet 21 = .ok (.return_, 1) := dk_177 (dk_at dksX1_goesYet_0 21 rfl rfl)
abbrev cX1_bisque : ByteArray := prog_1_method_35_code
def yX1_bisque : MethodName := ⟨RX1, "bisque", "(I)Z"⟩
def dkwX1_bisque_0 : List UInt8 := [27, 184, 1, 85, 42, 182, 1, 136, 42, 180, 0, 14, 180, 1, 75, 27, 182, 1, 141, 172]
abbrev dktX1_bisque_0 : List UInt8 := dkwX1_bisque_0 ++ []
theorem dksX1_bisque_0 : cX1_bisque.data.toList.drop 0 = dktX1_bisque_0 := by decide +kernel
theorem dX1_bisque_0 : decode cX1_bisque 0 = .ok (.iload_n 1, 1) := dk_27 (dk_at dksX1_bisque_0 0 rfl rfl)
theorem dX1_bisque_1 : decode cX1_bisque 1 = .ok (.invokestatic 341, 3) := dk_184 1 85 (dk_at dksX1_bisque_0 1 rfl rfl)
theorem dX1_bisque_4 : decode cX1_bisque 4 = .ok (.aload_n 0, 1) := dk_42 (dk_at dksX1_bisque_0 4 rfl rfl)
theorem dX1_bisque_5 : decode cX1_bisque 5 = .ok (.invokevirtual 392, 3) := dk_182 1 136 (dk_at dksX1_bisque_0 5 rfl rfl)
theorem dX1_bisque_8 : decode cX1_bisque 8 = .ok (.aload_n 0, 1) := dk_42 (dk_at dksX1_bisque_0 8 rfl rfl)
theorem dX1_bisque_9 : decode cX1_bisque 9 = .ok (.getfield 14, 3) := dk_180 0 14 (dk_at dksX1_bisque_0 9 rfl rfl)
theorem dX1_bisque_12 : decode cX1_bisque 12 = .ok (.getfield 331, 3) := dk_180 1 75 (dk_at dksX1_bisque_0 12 rfl rfl)
theorem dX1_bisque_15 : decode cX1_bisque 15 = .ok (.iload_n 1, 1) := dk_27 (dk_at dksX1_bisque_0 15 rfl rfl)
theorem dX1_bisque_16 : decode cX1_bisque 16 = .ok (.invokevirtual 397, 3) := dk_182 1 141 (dk_at dksX1_bisque_0 16 rfl rfl)
theorem dX1_bisque_19 : decode cX1_bisque 19 = .ok (.ireturn, 1) := dk_172 (dk_at dksX1_bisque_0 19 rfl rfl)
abbrev cX1_chance : ByteArray := prog_1_method_41_code
def yX1_chance : MethodName := ⟨RX1, "chance", "(II)I"⟩
def dkwX1_chance_0 : List UInt8 := [27, 184, 1, 85, 28, 184, 1, 174, 42, 182, 1, 136, 42, 182, 1, 177, 42, 27, 28, 182, 1, 180, 172]
abbrev dktX1_chance_0 : List UInt8 := dkwX1_chance_0 ++ []
theorem dksX1_chance_0 : cX1_chance.data.toList.drop 0 = dktX1_chance_0 := by decide +kernel
theorem dX1_chance_0 : decode cX1_chance 0 = .ok (.iload_n 1, 1) := dk_27 (dk_at dksX1_chance_0 0 rfl rfl)
theorem dX1_chance_1 : decode cX1_chance 1 = .ok (.invokestatic 341, 3) := dk_184 1 85 (dk_at dksX1_chance_0 1 rfl rfl)
theorem dX1_chance_4 : decode cX1_chance 4 = .ok (.iload_n 2, 1) := dk_28 (dk_at dksX1_chance_0 4 rfl rfl)
theorem dX1_chance_5 : decode cX1_chance 5 = .ok (.invokestatic 430, 3) := dk_184 1 174 (dk_at dksX1_chance_0 5 rfl rfl)
theorem dX1_chance_8 : decode cX1_chance 8 = .ok (.aload_n 0, 1) := dk_42 (dk_at dksX1_chance_0 8 rfl rfl)
theorem dX1_chance_9 : decode cX1_chance 9 = .ok (.invokevirtual 392, 3) := dk_182 1 136 (dk_at dksX1_chance_0 9 rfl rfl)
theorem dX1_chance_12 : decode cX1_chance 12 = .ok (.aload_n 0, 1) := dk_42 (dk_at dksX1_chance_0 12 rfl rfl)
theorem dX1_chance_13 : decode cX1_chance 13 = .ok (.invokevirtual 433, 3) := dk_182 1 177 (dk_at dksX1_chance_0 13 rfl rfl)
theorem dX1_chance_16 : decode cX1_chance 16 = .ok (.aload_n 0, 1) := dk_42 (dk_at dksX1_chance_0 16 rfl rfl)
theorem dX1_chance_17 : decode cX1_chance 17 = .ok (.iload_n 1, 1) := dk_27 (dk_at dksX1_chance_0 17 rfl rfl)
theorem dX1_chance_18 : decode cX1_chance 18 = .ok (.iload_n 2, 1) := dk_28 (dk_at dksX1_chance_0 18 rfl rfl)
theorem dX1_chance_19 : decode cX1_chance 19 = .ok (.invokevirtual 436, 3) := dk_182 1 180 (dk_at dksX1_chance_0 19 rfl rfl)
theorem dX1_chance_22 : decode cX1_chance 22 = .ok (.ireturn, 1) := dk_172 (dk_at dksX1_chance_0 22 rfl rfl)
abbrev cX1_some : ByteArray := prog_1_method_39_code
def yX1_some : MethodName := ⟨RX1, "some", "(I)V"⟩
def dkwX1_some_0 : List UInt8 := [26, 3, 16, 30, 184, 0, 108, 184, 1, 110, 177]
abbrev dktX1_some_0 : List UInt8 := dkwX1_some_0 ++ []
theorem dksX1_some_0 : cX1_some.data.toList.drop 0 = dktX1_some_0 := by decide +kernel
theorem dX1_some_0 : decode cX1_some 0 = .ok (.iload_n 0, 1) := dk_26 (dk_at dksX1_some_0 0 rfl rfl)
theorem dX1_some_1 : decode cX1_some 1 = .ok (.iconst 0, 1) := dk_3 (dk_at dksX1_some_0 1 rfl rfl)
theorem dX1_some_2 : decode cX1_some 2 = .ok (.bipush 30, 2) := dk_16 30 (dk_at dksX1_some_0 2 rfl rfl)
theorem dX1_some_4 : decode cX1_some 4 = .ok (.invokestatic 108, 3) := dk_184 0 108 (dk_at dksX1_some_0 4 rfl rfl)
theorem dX1_some_7 : decode cX1_some 7 = .ok (.invokestatic 366, 3) := dk_184 1 110 (dk_at dksX1_some_0 7 rfl rfl)
theorem dX1_some_10 : decode cX1_some 10 = .ok (.return_, 1) := dk_177 (dk_at dksX1_some_0 10 rfl rfl)
abbrev cX1_stylesAll : ByteArray := prog_1_method_38_code
def yX1_stylesAll : MethodName := ⟨RX1, "stylesAll", "()V"⟩
def dkwX1_stylesAll_4 : List UInt8 := [132, 1, 1, 167, 255, 168, 177]
abbrev dktX1_stylesAll_4 : List UInt8 := dkwX1_stylesAll_4 ++ []
def dkwX1_stylesAll_3 : List UInt8 := [182, 1, 102, 104, 42, 42, 180, 0, 51, 4, 42, 180, 0, 51, 180, 1, 116, 100, 182, 1, 102, 96, 145, 84]
abbrev dktX1_stylesAll_3 : List UInt8 := dkwX1_stylesAll_3 ++ dktX1_stylesAll_4
def dkwX1_stylesAll_2 : List UInt8 := [182, 1, 147, 87, 42, 180, 0, 44, 27, 7, 42, 42, 180, 0, 51, 42, 180, 0, 51, 180, 1, 116]
abbrev dktX1_stylesAll_2 : List UInt8 := dkwX1_stylesAll_2 ++ dktX1_stylesAll_3
def dkwX1_stylesAll_1 : List UInt8 := [167, 0, 69, 42, 180, 0, 51, 42, 180, 0, 14, 180, 1, 75, 182, 1, 150, 87, 42, 180, 0, 51, 27]
abbrev dktX1_stylesAll_1 : List UInt8 := dkwX1_stylesAll_1 ++ dktX1_stylesAll_2
def dkwX1_stylesAll_0 : List UInt8 := [42, 182, 1, 162, 3, 60, 27, 17, 60, 128, 162, 0, 87, 42, 180, 0, 40, 27, 51, 154, 0, 6]
abbrev dktX1_stylesAll_0 : List UInt8 := dkwX1_stylesAll_0 ++ dktX1_stylesAll_1
theorem dksX1_stylesAll_0 : cX1_stylesAll.data.toList.drop 0 = dktX1_stylesAll_0 := by decide +kernel
theorem dksX1_stylesAll_1 : cX1_stylesAll.data.toList.drop 22 = dktX1_stylesAll_1 := dk_seg dksX1_stylesAll_0 22 rfl rfl
theorem dksX1_stylesAll_2 : cX1_stylesAll.data.toList.drop 45 = dktX1_stylesAll_2 := dk_seg dksX1_stylesAll_1 23 rfl rfl
theorem dksX1_stylesAll_3 : cX1_stylesAll.data.toList.drop 67 = dktX1_stylesAll_3 := dk_seg dksX1_stylesAll_2 22 rfl rfl
theorem dksX1_stylesAll_4 : cX1_stylesAll.data.toList.drop 91 = dktX1_stylesAll_4 := dk_seg dksX1_stylesAll_3 24 rfl rfl
theorem dX1_stylesAll_0 : decode cX1_stylesAll 0 = .ok (.aload_n 0, 1) := dk_42 (dk_at dksX1_stylesAll_0 0 rfl rfl)
theorem dX1_stylesAll_1 : decode cX1_stylesAll 1 = .ok (.invokevirtual 418, 3) := dk_182 1 162 (dk_at dksX1_stylesAll_0 1 rfl rfl)
theorem dX1_stylesAll_4 : decode cX1_stylesAll 4 = .ok (.iconst 0, 1) := dk_3 (dk_at dksX1_stylesAll_0 4 rfl rfl)
theorem dX1_stylesAll_5 : decode cX1_stylesAll 5 = .ok (.istore_n 1, 1) := dk_60 (dk_at dksX1_stylesAll_0 5 rfl rfl)
theorem dX1_stylesAll_6 : decode cX1_stylesAll 6 = .ok (.iload_n 1, 1) := dk_27 (dk_at dksX1_stylesAll_0 6 rfl rfl)
theorem dX1_stylesAll_7 : decode cX1_stylesAll 7 = .ok (.sipush 15488, 3) := dk_17 60 128 (dk_at dksX1_stylesAll_0 7 rfl rfl)
theorem dX1_stylesAll_10 : decode cX1_stylesAll 10 = .ok (.if_icmp .ge 87, 3) := dk_162 0 87 (dk_at dksX1_stylesAll_0 10 rfl rfl)
theorem dX1_stylesAll_13 : decode cX1_stylesAll 13 = .ok (.aload_n 0, 1) := dk_42 (dk_at dksX1_stylesAll_0 13 rfl rfl)
theorem dX1_stylesAll_14 : decode cX1_stylesAll 14 = .ok (.getfield 40, 3) := dk_180 0 40 (dk_at dksX1_stylesAll_0 14 rfl rfl)
theorem dX1_stylesAll_17 : decode cX1_stylesAll 17 = .ok (.iload_n 1, 1) := dk_27 (dk_at dksX1_stylesAll_0 17 rfl rfl)
theorem dX1_stylesAll_18 : decode cX1_stylesAll 18 = .ok (.baload, 1) := dk_51 (dk_at dksX1_stylesAll_0 18 rfl rfl)
theorem dX1_stylesAll_19 : decode cX1_stylesAll 19 = .ok (.ifCond .ne 6, 3) := dk_154 0 6 (dk_at dksX1_stylesAll_0 19 rfl rfl)
theorem dX1_stylesAll_22 : decode cX1_stylesAll 22 = .ok (.goto 69, 3) := dk_167 0 69 (dk_at dksX1_stylesAll_1 0 rfl rfl)
theorem dX1_stylesAll_25 : decode cX1_stylesAll 25 = .ok (.aload_n 0, 1) := dk_42 (dk_at dksX1_stylesAll_1 3 rfl rfl)
theorem dX1_stylesAll_26 : decode cX1_stylesAll 26 = .ok (.getfield 51, 3) := dk_180 0 51 (dk_at dksX1_stylesAll_1 4 rfl rfl)
theorem dX1_stylesAll_29 : decode cX1_stylesAll 29 = .ok (.aload_n 0, 1) := dk_42 (dk_at dksX1_stylesAll_1 7 rfl rfl)
theorem dX1_stylesAll_30 : decode cX1_stylesAll 30 = .ok (.getfield 14, 3) := dk_180 0 14 (dk_at dksX1_stylesAll_1 8 rfl rfl)
theorem dX1_stylesAll_33 : decode cX1_stylesAll 33 = .ok (.getfield 331, 3) := dk_180 1 75 (dk_at dksX1_stylesAll_1 11 rfl rfl)
theorem dX1_stylesAll_36 : decode cX1_stylesAll 36 = .ok (.invokevirtual 406, 3) := dk_182 1 150 (dk_at dksX1_stylesAll_1 14 rfl rfl)
theorem dX1_stylesAll_39 : decode cX1_stylesAll 39 = .ok (.pop, 1) := dk_87 (dk_at dksX1_stylesAll_1 17 rfl rfl)
theorem dX1_stylesAll_40 : decode cX1_stylesAll 40 = .ok (.aload_n 0, 1) := dk_42 (dk_at dksX1_stylesAll_1 18 rfl rfl)
theorem dX1_stylesAll_41 : decode cX1_stylesAll 41 = .ok (.getfield 51, 3) := dk_180 0 51 (dk_at dksX1_stylesAll_1 19 rfl rfl)
theorem dX1_stylesAll_44 : decode cX1_stylesAll 44 = .ok (.iload_n 1, 1) := dk_27 (dk_at dksX1_stylesAll_1 22 rfl rfl)
theorem dX1_stylesAll_45 : decode cX1_stylesAll 45 = .ok (.invokevirtual 403, 3) := dk_182 1 147 (dk_at dksX1_stylesAll_2 0 rfl rfl)
theorem dX1_stylesAll_48 : decode cX1_stylesAll 48 = .ok (.pop, 1) := dk_87 (dk_at dksX1_stylesAll_2 3 rfl rfl)
theorem dX1_stylesAll_49 : decode cX1_stylesAll 49 = .ok (.aload_n 0, 1) := dk_42 (dk_at dksX1_stylesAll_2 4 rfl rfl)
theorem dX1_stylesAll_50 : decode cX1_stylesAll 50 = .ok (.getfield 44, 3) := dk_180 0 44 (dk_at dksX1_stylesAll_2 5 rfl rfl)
theorem dX1_stylesAll_53 : decode cX1_stylesAll 53 = .ok (.iload_n 1, 1) := dk_27 (dk_at dksX1_stylesAll_2 8 rfl rfl)
theorem dX1_stylesAll_54 : decode cX1_stylesAll 54 = .ok (.iconst 4, 1) := dk_7 (dk_at dksX1_stylesAll_2 9 rfl rfl)
theorem dX1_stylesAll_55 : decode cX1_stylesAll 55 = .ok (.aload_n 0, 1) := dk_42 (dk_at dksX1_stylesAll_2 10 rfl rfl)
theorem dX1_stylesAll_56 : decode cX1_stylesAll 56 = .ok (.aload_n 0, 1) := dk_42 (dk_at dksX1_stylesAll_2 11 rfl rfl)
theorem dX1_stylesAll_57 : decode cX1_stylesAll 57 = .ok (.getfield 51, 3) := dk_180 0 51 (dk_at dksX1_stylesAll_2 12 rfl rfl)
theorem dX1_stylesAll_60 : decode cX1_stylesAll 60 = .ok (.aload_n 0, 1) := dk_42 (dk_at dksX1_stylesAll_2 15 rfl rfl)
theorem dX1_stylesAll_61 : decode cX1_stylesAll 61 = .ok (.getfield 51, 3) := dk_180 0 51 (dk_at dksX1_stylesAll_2 16 rfl rfl)
theorem dX1_stylesAll_64 : decode cX1_stylesAll 64 = .ok (.getfield 372, 3) := dk_180 1 116 (dk_at dksX1_stylesAll_2 19 rfl rfl)
theorem dX1_stylesAll_67 : decode cX1_stylesAll 67 = .ok (.invokevirtual 358, 3) := dk_182 1 102 (dk_at dksX1_stylesAll_3 0 rfl rfl)
theorem dX1_stylesAll_70 : decode cX1_stylesAll 70 = .ok (.imul, 1) := dk_104 (dk_at dksX1_stylesAll_3 3 rfl rfl)
theorem dX1_stylesAll_71 : decode cX1_stylesAll 71 = .ok (.aload_n 0, 1) := dk_42 (dk_at dksX1_stylesAll_3 4 rfl rfl)
theorem dX1_stylesAll_72 : decode cX1_stylesAll 72 = .ok (.aload_n 0, 1) := dk_42 (dk_at dksX1_stylesAll_3 5 rfl rfl)
theorem dX1_stylesAll_73 : decode cX1_stylesAll 73 = .ok (.getfield 51, 3) := dk_180 0 51 (dk_at dksX1_stylesAll_3 6 rfl rfl)
theorem dX1_stylesAll_76 : decode cX1_stylesAll 76 = .ok (.iconst 1, 1) := dk_4 (dk_at dksX1_stylesAll_3 9 rfl rfl)
theorem dX1_stylesAll_77 : decode cX1_stylesAll 77 = .ok (.aload_n 0, 1) := dk_42 (dk_at dksX1_stylesAll_3 10 rfl rfl)
theorem dX1_stylesAll_78 : decode cX1_stylesAll 78 = .ok (.getfield 51, 3) := dk_180 0 51 (dk_at dksX1_stylesAll_3 11 rfl rfl)
theorem dX1_stylesAll_81 : decode cX1_stylesAll 81 = .ok (.getfield 372, 3) := dk_180 1 116 (dk_at dksX1_stylesAll_3 14 rfl rfl)
theorem dX1_stylesAll_84 : decode cX1_stylesAll 84 = .ok (.isub, 1) := dk_100 (dk_at dksX1_stylesAll_3 17 rfl rfl)
theorem dX1_stylesAll_85 : decode cX1_stylesAll 85 = .ok (.invokevirtual 358, 3) := dk_182 1 102 (dk_at dksX1_stylesAll_3 18 rfl rfl)
theorem dX1_stylesAll_88 : decode cX1_stylesAll 88 = .ok (.iadd, 1) := dk_96 (dk_at dksX1_stylesAll_3 21 rfl rfl)
theorem dX1_stylesAll_89 : decode cX1_stylesAll 89 = .ok (.i2b, 1) := dk_145 (dk_at dksX1_stylesAll_3 22 rfl rfl)
theorem dX1_stylesAll_90 : decode cX1_stylesAll 90 = .ok (.bastore, 1) := dk_84 (dk_at dksX1_stylesAll_3 23 rfl rfl)
theorem dX1_stylesAll_91 : decode cX1_stylesAll 91 = .ok (.iinc 1 1, 3) := dk_132 1 1 (dk_at dksX1_stylesAll_4 0 rfl rfl)
theorem dX1_stylesAll_94 : decode cX1_stylesAll 94 = .ok (.goto (-88), 3) := dk_167 255 168 (dk_at dksX1_stylesAll_4 3 rfl rfl)
theorem dX1_stylesAll_97 : decode cX1_stylesAll 97 = .ok (.return_, 1) := dk_177 (dk_at dksX1_stylesAll_4 6 rfl rfl)
abbrev cX1_learns : ByteArray := prog_1_method_37_code
def yX1_learns : MethodName := ⟨RX1, "learns", "()V"⟩
def dkwX1_learns_8 : List UInt8 := [167, 255, 85, 177]
abbrev dktX1_learns_8 : List UInt8 := dkwX1_learns_8 ++ []
def dkwX1_learns_7 : List UInt8 := [5, 27, 104, 28, 96, 42, 42, 180, 0, 55, 3, 182, 1, 159, 79, 132, 2, 1, 167, 255, 208, 132, 1, 1]
abbrev dktX1_learns_7 : List UInt8 := dkwX1_learns_7 ++ dktX1_learns_8
def dkwX1_learns_6 : List UInt8 := [180, 0, 55, 42, 180, 0, 51, 182, 1, 150, 87, 42, 180, 0, 55, 28, 182, 1, 141, 87, 42, 180, 0, 37]
abbrev dktX1_learns_6 : List UInt8 := dkwX1_learns_6 ++ dktX1_learns_7
def dkwX1_learns_5 : List UInt8 := [180, 0, 55, 3, 182, 1, 159, 79, 132, 2, 1, 167, 255, 199, 3, 61, 28, 5, 162, 0, 49, 42]
abbrev dktX1_learns_5 : List UInt8 := dkwX1_learns_5 ++ dktX1_learns_6
def dkwX1_learns_4 : List UInt8 := [184, 1, 154, 28, 5, 100, 182, 1, 139, 87, 42, 180, 0, 33, 16, 12, 27, 104, 28, 96, 42, 42]
abbrev dktX1_learns_4 : List UInt8 := dkwX1_learns_4 ++ dktX1_learns_5
def dkwX1_learns_3 : List UInt8 := [16, 12, 162, 0, 57, 42, 180, 0, 55, 42, 180, 0, 51, 182, 1, 150, 87, 42, 180, 0, 55, 28, 5]
abbrev dktX1_learns_3 : List UInt8 := dkwX1_learns_3 ++ dktX1_learns_4
def dkwX1_learns_2 : List UInt8 := [42, 180, 0, 51, 27, 182, 1, 147, 84, 42, 180, 0, 40, 27, 51, 154, 0, 6, 167, 0, 118, 3, 61, 28]
abbrev dktX1_learns_2 : List UInt8 := dkwX1_learns_2 ++ dktX1_learns_3
def dkwX1_learns_1 : List UInt8 := [180, 0, 51, 180, 1, 124, 3, 3, 79, 42, 180, 0, 51, 180, 1, 124, 4, 3, 79, 42, 180, 0, 40, 27]
abbrev dktX1_learns_1 : List UInt8 := dkwX1_learns_1 ++ dktX1_learns_2
def dkwX1_learns_0 : List UInt8 := [42, 180, 0, 205, 153, 0, 4, 177, 42, 4, 181, 0, 205, 3, 60, 27, 17, 60, 128, 162, 0, 170, 42]
abbrev dktX1_learns_0 : List UInt8 := dkwX1_learns_0 ++ dktX1_learns_1
theorem dksX1_learns_0 : cX1_learns.data.toList.drop 0 = dktX1_learns_0 := by decide +kernel
theorem dksX1_learns_1 : cX1_learns.data.toList.drop 23 = dktX1_learns_1 := dk_seg dksX1_learns_0 23 rfl rfl
theorem dksX1_learns_2 : cX1_learns.data.toList.drop 47 = dktX1_learns_2 := dk_seg dksX1_learns_1 24 rfl rfl
theorem dksX1_learns_3 : cX1_learns.data.toList.drop 71 = dktX1_learns_3 := dk_seg dksX1_learns_2 24 rfl rfl
theorem dksX1_learns_4 : cX1_learns.data.toList.drop 94 = dktX1_learns_4 := dk_seg dksX1_learns_3 23 rfl rfl
theorem dksX1_learns_5 : cX1_learns.data.toList.drop 116 = dktX1_learns_5 := dk_seg dksX1_learns_4 22 rfl rfl
theorem dksX1_learns_6 : cX1_learns.data.toList.drop 138 = dktX1_learns_6 := dk_seg dksX1_learns_5 22 rfl rfl
theorem dksX1_learns_7 : cX1_learns.data.toList.drop 162 = dktX1_learns_7 := dk_seg dksX1_learns_6 24 rfl rfl
theorem dksX1_learns_8 : cX1_learns.data.toList.drop 186 = dktX1_learns_8 := dk_seg dksX1_learns_7 24 rfl rfl
theorem dX1_learns_0 : decode cX1_learns 0 = .ok (.aload_n 0, 1) := dk_42 (dk_at dksX1_learns_0 0 rfl rfl)
theorem dX1_learns_1 : decode cX1_learns 1 = .ok (.getfield 205, 3) := dk_180 0 205 (dk_at dksX1_learns_0 1 rfl rfl)
theorem dX1_learns_4 : decode cX1_learns 4 = .ok (.ifCond .eq 4, 3) := dk_153 0 4 (dk_at dksX1_learns_0 4 rfl rfl)
theorem dX1_learns_7 : decode cX1_learns 7 = .ok (.return_, 1) := dk_177 (dk_at dksX1_learns_0 7 rfl rfl)
theorem dX1_learns_8 : decode cX1_learns 8 = .ok (.aload_n 0, 1) := dk_42 (dk_at dksX1_learns_0 8 rfl rfl)
theorem dX1_learns_9 : decode cX1_learns 9 = .ok (.iconst 1, 1) := dk_4 (dk_at dksX1_learns_0 9 rfl rfl)
theorem dX1_learns_10 : decode cX1_learns 10 = .ok (.putfield 205, 3) := dk_181 0 205 (dk_at dksX1_learns_0 10 rfl rfl)
theorem dX1_learns_13 : decode cX1_learns 13 = .ok (.iconst 0, 1) := dk_3 (dk_at dksX1_learns_0 13 rfl rfl)
theorem dX1_learns_14 : decode cX1_learns 14 = .ok (.istore_n 1, 1) := dk_60 (dk_at dksX1_learns_0 14 rfl rfl)
theorem dX1_learns_15 : decode cX1_learns 15 = .ok (.iload_n 1, 1) := dk_27 (dk_at dksX1_learns_0 15 rfl rfl)
theorem dX1_learns_16 : decode cX1_learns 16 = .ok (.sipush 15488, 3) := dk_17 60 128 (dk_at dksX1_learns_0 16 rfl rfl)
theorem dX1_learns_19 : decode cX1_learns 19 = .ok (.if_icmp .ge 170, 3) := dk_162 0 170 (dk_at dksX1_learns_0 19 rfl rfl)
theorem dX1_learns_22 : decode cX1_learns 22 = .ok (.aload_n 0, 1) := dk_42 (dk_at dksX1_learns_0 22 rfl rfl)
theorem dX1_learns_23 : decode cX1_learns 23 = .ok (.getfield 51, 3) := dk_180 0 51 (dk_at dksX1_learns_1 0 rfl rfl)
theorem dX1_learns_26 : decode cX1_learns 26 = .ok (.getfield 380, 3) := dk_180 1 124 (dk_at dksX1_learns_1 3 rfl rfl)
theorem dX1_learns_29 : decode cX1_learns 29 = .ok (.iconst 0, 1) := dk_3 (dk_at dksX1_learns_1 6 rfl rfl)
theorem dX1_learns_30 : decode cX1_learns 30 = .ok (.iconst 0, 1) := dk_3 (dk_at dksX1_learns_1 7 rfl rfl)
theorem dX1_learns_31 : decode cX1_learns 31 = .ok (.iastore, 1) := dk_79 (dk_at dksX1_learns_1 8 rfl rfl)
theorem dX1_learns_32 : decode cX1_learns 32 = .ok (.aload_n 0, 1) := dk_42 (dk_at dksX1_learns_1 9 rfl rfl)
theorem dX1_learns_33 : decode cX1_learns 33 = .ok (.getfield 51, 3) := dk_180 0 51 (dk_at dksX1_learns_1 10 rfl rfl)
theorem dX1_learns_36 : decode cX1_learns 36 = .ok (.getfield 380, 3) := dk_180 1 124 (dk_at dksX1_learns_1 13 rfl rfl)
theorem dX1_learns_39 : decode cX1_learns 39 = .ok (.iconst 1, 1) := dk_4 (dk_at dksX1_learns_1 16 rfl rfl)
theorem dX1_learns_40 : decode cX1_learns 40 = .ok (.iconst 0, 1) := dk_3 (dk_at dksX1_learns_1 17 rfl rfl)
theorem dX1_learns_41 : decode cX1_learns 41 = .ok (.iastore, 1) := dk_79 (dk_at dksX1_learns_1 18 rfl rfl)
theorem dX1_learns_42 : decode cX1_learns 42 = .ok (.aload_n 0, 1) := dk_42 (dk_at dksX1_learns_1 19 rfl rfl)
theorem dX1_learns_43 : decode cX1_learns 43 = .ok (.getfield 40, 3) := dk_180 0 40 (dk_at dksX1_learns_1 20 rfl rfl)
theorem dX1_learns_46 : decode cX1_learns 46 = .ok (.iload_n 1, 1) := dk_27 (dk_at dksX1_learns_1 23 rfl rfl)
theorem dX1_learns_47 : decode cX1_learns 47 = .ok (.aload_n 0, 1) := dk_42 (dk_at dksX1_learns_2 0 rfl rfl)
theorem dX1_learns_48 : decode cX1_learns 48 = .ok (.getfield 51, 3) := dk_180 0 51 (dk_at dksX1_learns_2 1 rfl rfl)
theorem dX1_learns_51 : decode cX1_learns 51 = .ok (.iload_n 1, 1) := dk_27 (dk_at dksX1_learns_2 4 rfl rfl)
theorem dX1_learns_52 : decode cX1_learns 52 = .ok (.invokevirtual 403, 3) := dk_182 1 147 (dk_at dksX1_learns_2 5 rfl rfl)
theorem dX1_learns_55 : decode cX1_learns 55 = .ok (.bastore, 1) := dk_84 (dk_at dksX1_learns_2 8 rfl rfl)
theorem dX1_learns_56 : decode cX1_learns 56 = .ok (.aload_n 0, 1) := dk_42 (dk_at dksX1_learns_2 9 rfl rfl)
theorem dX1_learns_57 : decode cX1_learns 57 = .ok (.getfield 40, 3) := dk_180 0 40 (dk_at dksX1_learns_2 10 rfl rfl)
theorem dX1_learns_60 : decode cX1_learns 60 = .ok (.iload_n 1, 1) := dk_27 (dk_at dksX1_learns_2 13 rfl rfl)
theorem dX1_learns_61 : decode cX1_learns 61 = .ok (.baload, 1) := dk_51 (dk_at dksX1_learns_2 14 rfl rfl)
theorem dX1_learns_62 : decode cX1_learns 62 = .ok (.ifCond .ne 6, 3) := dk_154 0 6 (dk_at dksX1_learns_2 15 rfl rfl)
theorem dX1_learns_65 : decode cX1_learns 65 = .ok (.goto 118, 3) := dk_167 0 118 (dk_at dksX1_learns_2 18 rfl rfl)
theorem dX1_learns_68 : decode cX1_learns 68 = .ok (.iconst 0, 1) := dk_3 (dk_at dksX1_learns_2 21 rfl rfl)
theorem dX1_learns_69 : decode cX1_learns 69 = .ok (.istore_n 2, 1) := dk_61 (dk_at dksX1_learns_2 22 rfl rfl)
theorem dX1_learns_70 : decode cX1_learns 70 = .ok (.iload_n 2, 1) := dk_28 (dk_at dksX1_learns_2 23 rfl rfl)
theorem dX1_learns_71 : decode cX1_learns 71 = .ok (.bipush 12, 2) := dk_16 12 (dk_at dksX1_learns_3 0 rfl rfl)
theorem dX1_learns_73 : decode cX1_learns 73 = .ok (.if_icmp .ge 57, 3) := dk_162 0 57 (dk_at dksX1_learns_3 2 rfl rfl)
theorem dX1_learns_76 : decode cX1_learns 76 = .ok (.aload_n 0, 1) := dk_42 (dk_at dksX1_learns_3 5 rfl rfl)
theorem dX1_learns_77 : decode cX1_learns 77 = .ok (.getfield 55, 3) := dk_180 0 55 (dk_at dksX1_learns_3 6 rfl rfl)
theorem dX1_learns_80 : decode cX1_learns 80 = .ok (.aload_n 0, 1) := dk_42 (dk_at dksX1_learns_3 9 rfl rfl)
theorem dX1_learns_81 : decode cX1_learns 81 = .ok (.getfield 51, 3) := dk_180 0 51 (dk_at dksX1_learns_3 10 rfl rfl)
theorem dX1_learns_84 : decode cX1_learns 84 = .ok (.invokevirtual 406, 3) := dk_182 1 150 (dk_at dksX1_learns_3 13 rfl rfl)
theorem dX1_learns_87 : decode cX1_learns 87 = .ok (.pop, 1) := dk_87 (dk_at dksX1_learns_3 16 rfl rfl)
theorem dX1_learns_88 : decode cX1_learns 88 = .ok (.aload_n 0, 1) := dk_42 (dk_at dksX1_learns_3 17 rfl rfl)
theorem dX1_learns_89 : decode cX1_learns 89 = .ok (.getfield 55, 3) := dk_180 0 55 (dk_at dksX1_learns_3 18 rfl rfl)
theorem dX1_learns_92 : decode cX1_learns 92 = .ok (.iload_n 2, 1) := dk_28 (dk_at dksX1_learns_3 21 rfl rfl)
theorem dX1_learns_93 : decode cX1_learns 93 = .ok (.iconst 2, 1) := dk_5 (dk_at dksX1_learns_3 22 rfl rfl)
theorem dX1_learns_94 : decode cX1_learns 94 = .ok (.invokestatic 410, 3) := dk_184 1 154 (dk_at dksX1_learns_4 0 rfl rfl)
theorem dX1_learns_97 : decode cX1_learns 97 = .ok (.iload_n 2, 1) := dk_28 (dk_at dksX1_learns_4 3 rfl rfl)
theorem dX1_learns_98 : decode cX1_learns 98 = .ok (.iconst 2, 1) := dk_5 (dk_at dksX1_learns_4 4 rfl rfl)
theorem dX1_learns_99 : decode cX1_learns 99 = .ok (.isub, 1) := dk_100 (dk_at dksX1_learns_4 5 rfl rfl)
theorem dX1_learns_100 : decode cX1_learns 100 = .ok (.invokevirtual 395, 3) := dk_182 1 139 (dk_at dksX1_learns_4 6 rfl rfl)
theorem dX1_learns_103 : decode cX1_learns 103 = .ok (.pop, 1) := dk_87 (dk_at dksX1_learns_4 9 rfl rfl)
theorem dX1_learns_104 : decode cX1_learns 104 = .ok (.aload_n 0, 1) := dk_42 (dk_at dksX1_learns_4 10 rfl rfl)
theorem dX1_learns_105 : decode cX1_learns 105 = .ok (.getfield 33, 3) := dk_180 0 33 (dk_at dksX1_learns_4 11 rfl rfl)
theorem dX1_learns_108 : decode cX1_learns 108 = .ok (.bipush 12, 2) := dk_16 12 (dk_at dksX1_learns_4 14 rfl rfl)
theorem dX1_learns_110 : decode cX1_learns 110 = .ok (.iload_n 1, 1) := dk_27 (dk_at dksX1_learns_4 16 rfl rfl)
theorem dX1_learns_111 : decode cX1_learns 111 = .ok (.imul, 1) := dk_104 (dk_at dksX1_learns_4 17 rfl rfl)
theorem dX1_learns_112 : decode cX1_learns 112 = .ok (.iload_n 2, 1) := dk_28 (dk_at dksX1_learns_4 18 rfl rfl)
theorem dX1_learns_113 : decode cX1_learns 113 = .ok (.iadd, 1) := dk_96 (dk_at dksX1_learns_4 19 rfl rfl)
theorem dX1_learns_114 : decode cX1_learns 114 = .ok (.aload_n 0, 1) := dk_42 (dk_at dksX1_learns_4 20 rfl rfl)
theorem dX1_learns_115 : decode cX1_learns 115 = .ok (.aload_n 0, 1) := dk_42 (dk_at dksX1_learns_4 21 rfl rfl)
theorem dX1_learns_116 : decode cX1_learns 116 = .ok (.getfield 55, 3) := dk_180 0 55 (dk_at dksX1_learns_5 0 rfl rfl)
theorem dX1_learns_119 : decode cX1_learns 119 = .ok (.iconst 0, 1) := dk_3 (dk_at dksX1_learns_5 3 rfl rfl)
theorem dX1_learns_120 : decode cX1_learns 120 = .ok (.invokevirtual 415, 3) := dk_182 1 159 (dk_at dksX1_learns_5 4 rfl rfl)
theorem dX1_learns_123 : decode cX1_learns 123 = .ok (.iastore, 1) := dk_79 (dk_at dksX1_learns_5 7 rfl rfl)
theorem dX1_learns_124 : decode cX1_learns 124 = .ok (.iinc 2 1, 3) := dk_132 2 1 (dk_at dksX1_learns_5 8 rfl rfl)
theorem dX1_learns_127 : decode cX1_learns 127 = .ok (.goto (-57), 3) := dk_167 255 199 (dk_at dksX1_learns_5 11 rfl rfl)
theorem dX1_learns_130 : decode cX1_learns 130 = .ok (.iconst 0, 1) := dk_3 (dk_at dksX1_learns_5 14 rfl rfl)
theorem dX1_learns_131 : decode cX1_learns 131 = .ok (.istore_n 2, 1) := dk_61 (dk_at dksX1_learns_5 15 rfl rfl)
theorem dX1_learns_132 : decode cX1_learns 132 = .ok (.iload_n 2, 1) := dk_28 (dk_at dksX1_learns_5 16 rfl rfl)
theorem dX1_learns_133 : decode cX1_learns 133 = .ok (.iconst 2, 1) := dk_5 (dk_at dksX1_learns_5 17 rfl rfl)
theorem dX1_learns_134 : decode cX1_learns 134 = .ok (.if_icmp .ge 49, 3) := dk_162 0 49 (dk_at dksX1_learns_5 18 rfl rfl)
theorem dX1_learns_137 : decode cX1_learns 137 = .ok (.aload_n 0, 1) := dk_42 (dk_at dksX1_learns_5 21 rfl rfl)
theorem dX1_learns_138 : decode cX1_learns 138 = .ok (.getfield 55, 3) := dk_180 0 55 (dk_at dksX1_learns_6 0 rfl rfl)
theorem dX1_learns_141 : decode cX1_learns 141 = .ok (.aload_n 0, 1) := dk_42 (dk_at dksX1_learns_6 3 rfl rfl)
theorem dX1_learns_142 : decode cX1_learns 142 = .ok (.getfield 51, 3) := dk_180 0 51 (dk_at dksX1_learns_6 4 rfl rfl)
theorem dX1_learns_145 : decode cX1_learns 145 = .ok (.invokevirtual 406, 3) := dk_182 1 150 (dk_at dksX1_learns_6 7 rfl rfl)
theorem dX1_learns_148 : decode cX1_learns 148 = .ok (.pop, 1) := dk_87 (dk_at dksX1_learns_6 10 rfl rfl)
theorem dX1_learns_149 : decode cX1_learns 149 = .ok (.aload_n 0, 1) := dk_42 (dk_at dksX1_learns_6 11 rfl rfl)
theorem dX1_learns_150 : decode cX1_learns 150 = .ok (.getfield 55, 3) := dk_180 0 55 (dk_at dksX1_learns_6 12 rfl rfl)
theorem dX1_learns_153 : decode cX1_learns 153 = .ok (.iload_n 2, 1) := dk_28 (dk_at dksX1_learns_6 15 rfl rfl)
theorem dX1_learns_154 : decode cX1_learns 154 = .ok (.invokevirtual 397, 3) := dk_182 1 141 (dk_at dksX1_learns_6 16 rfl rfl)
theorem dX1_learns_157 : decode cX1_learns 157 = .ok (.pop, 1) := dk_87 (dk_at dksX1_learns_6 19 rfl rfl)
theorem dX1_learns_158 : decode cX1_learns 158 = .ok (.aload_n 0, 1) := dk_42 (dk_at dksX1_learns_6 20 rfl rfl)
theorem dX1_learns_159 : decode cX1_learns 159 = .ok (.getfield 37, 3) := dk_180 0 37 (dk_at dksX1_learns_6 21 rfl rfl)
theorem dX1_learns_162 : decode cX1_learns 162 = .ok (.iconst 2, 1) := dk_5 (dk_at dksX1_learns_7 0 rfl rfl)
theorem dX1_learns_163 : decode cX1_learns 163 = .ok (.iload_n 1, 1) := dk_27 (dk_at dksX1_learns_7 1 rfl rfl)
theorem dX1_learns_164 : decode cX1_learns 164 = .ok (.imul, 1) := dk_104 (dk_at dksX1_learns_7 2 rfl rfl)
theorem dX1_learns_165 : decode cX1_learns 165 = .ok (.iload_n 2, 1) := dk_28 (dk_at dksX1_learns_7 3 rfl rfl)
theorem dX1_learns_166 : decode cX1_learns 166 = .ok (.iadd, 1) := dk_96 (dk_at dksX1_learns_7 4 rfl rfl)
theorem dX1_learns_167 : decode cX1_learns 167 = .ok (.aload_n 0, 1) := dk_42 (dk_at dksX1_learns_7 5 rfl rfl)
theorem dX1_learns_168 : decode cX1_learns 168 = .ok (.aload_n 0, 1) := dk_42 (dk_at dksX1_learns_7 6 rfl rfl)
theorem dX1_learns_169 : decode cX1_learns 169 = .ok (.getfield 55, 3) := dk_180 0 55 (dk_at dksX1_learns_7 7 rfl rfl)
theorem dX1_learns_172 : decode cX1_learns 172 = .ok (.iconst 0, 1) := dk_3 (dk_at dksX1_learns_7 10 rfl rfl)
theorem dX1_learns_173 : decode cX1_learns 173 = .ok (.invokevirtual 415, 3) := dk_182 1 159 (dk_at dksX1_learns_7 11 rfl rfl)
theorem dX1_learns_176 : decode cX1_learns 176 = .ok (.iastore, 1) := dk_79 (dk_at dksX1_learns_7 14 rfl rfl)
theorem dX1_learns_177 : decode cX1_learns 177 = .ok (.iinc 2 1, 3) := dk_132 2 1 (dk_at dksX1_learns_7 15 rfl rfl)
theorem dX1_learns_180 : decode cX1_learns 180 = .ok (.goto (-48), 3) := dk_167 255 208 (dk_at dksX1_learns_7 18 rfl rfl)
theorem dX1_learns_183 : decode cX1_learns 183 = .ok (.iinc 1 1, 3) := dk_132 1 1 (dk_at dksX1_learns_7 21 rfl rfl)
theorem dX1_learns_186 : decode cX1_learns 186 = .ok (.goto (-171), 3) := dk_167 255 85 (dk_at dksX1_learns_8 0 rfl rfl)
theorem dX1_learns_189 : decode cX1_learns 189 = .ok (.return_, 1) := dk_177 (dk_at dksX1_learns_8 3 rfl rfl)
abbrev cX1_ended : ByteArray := prog_1_method_36_code
def yX1_ended : MethodName := ⟨RX1, "ended", "(LChaseCourt$Score;I)I"⟩
def dkwX1_ended_1 : List UInt8 := [2, 5, 43, 180, 1, 124, 4, 46, 158, 0, 7, 4, 167, 0, 4, 3, 104, 43, 180, 1, 116, 96, 100, 172]
abbrev dktX1_ended_1 : List UInt8 := dkwX1_ended_1 ++ []
def dkwX1_ended_0 : List UInt8 := [43, 180, 1, 124, 3, 46, 43, 180, 1, 124, 4, 46, 96, 28, 160, 0, 10, 43, 182, 1, 144, 167, 0, 26]
abbrev dktX1_ended_0 : List UInt8 := dkwX1_ended_0 ++ dktX1_ended_1
theorem dksX1_ended_0 : cX1_ended.data.toList.drop 0 = dktX1_ended_0 := by decide +kernel
theorem dksX1_ended_1 : cX1_ended.data.toList.drop 24 = dktX1_ended_1 := dk_seg dksX1_ended_0 24 rfl rfl
theorem dX1_ended_0 : decode cX1_ended 0 = .ok (.aload_n 1, 1) := dk_43 (dk_at dksX1_ended_0 0 rfl rfl)
theorem dX1_ended_1 : decode cX1_ended 1 = .ok (.getfield 380, 3) := dk_180 1 124 (dk_at dksX1_ended_0 1 rfl rfl)
theorem dX1_ended_4 : decode cX1_ended 4 = .ok (.iconst 0, 1) := dk_3 (dk_at dksX1_ended_0 4 rfl rfl)
theorem dX1_ended_5 : decode cX1_ended 5 = .ok (.iaload, 1) := dk_46 (dk_at dksX1_ended_0 5 rfl rfl)
theorem dX1_ended_6 : decode cX1_ended 6 = .ok (.aload_n 1, 1) := dk_43 (dk_at dksX1_ended_0 6 rfl rfl)
theorem dX1_ended_7 : decode cX1_ended 7 = .ok (.getfield 380, 3) := dk_180 1 124 (dk_at dksX1_ended_0 7 rfl rfl)
theorem dX1_ended_10 : decode cX1_ended 10 = .ok (.iconst 1, 1) := dk_4 (dk_at dksX1_ended_0 10 rfl rfl)
theorem dX1_ended_11 : decode cX1_ended 11 = .ok (.iaload, 1) := dk_46 (dk_at dksX1_ended_0 11 rfl rfl)
theorem dX1_ended_12 : decode cX1_ended 12 = .ok (.iadd, 1) := dk_96 (dk_at dksX1_ended_0 12 rfl rfl)
theorem dX1_ended_13 : decode cX1_ended 13 = .ok (.iload_n 2, 1) := dk_28 (dk_at dksX1_ended_0 13 rfl rfl)
theorem dX1_ended_14 : decode cX1_ended 14 = .ok (.if_icmp .ne 10, 3) := dk_160 0 10 (dk_at dksX1_ended_0 14 rfl rfl)
theorem dX1_ended_17 : decode cX1_ended 17 = .ok (.aload_n 1, 1) := dk_43 (dk_at dksX1_ended_0 17 rfl rfl)
theorem dX1_ended_18 : decode cX1_ended 18 = .ok (.invokevirtual 400, 3) := dk_182 1 144 (dk_at dksX1_ended_0 18 rfl rfl)
theorem dX1_ended_21 : decode cX1_ended 21 = .ok (.goto 26, 3) := dk_167 0 26 (dk_at dksX1_ended_0 21 rfl rfl)
theorem dX1_ended_24 : decode cX1_ended 24 = .ok (.iconst (-1), 1) := dk_2 (dk_at dksX1_ended_1 0 rfl rfl)
theorem dX1_ended_25 : decode cX1_ended 25 = .ok (.iconst 2, 1) := dk_5 (dk_at dksX1_ended_1 1 rfl rfl)
theorem dX1_ended_26 : decode cX1_ended 26 = .ok (.aload_n 1, 1) := dk_43 (dk_at dksX1_ended_1 2 rfl rfl)
theorem dX1_ended_27 : decode cX1_ended 27 = .ok (.getfield 380, 3) := dk_180 1 124 (dk_at dksX1_ended_1 3 rfl rfl)
theorem dX1_ended_30 : decode cX1_ended 30 = .ok (.iconst 1, 1) := dk_4 (dk_at dksX1_ended_1 6 rfl rfl)
theorem dX1_ended_31 : decode cX1_ended 31 = .ok (.iaload, 1) := dk_46 (dk_at dksX1_ended_1 7 rfl rfl)
theorem dX1_ended_32 : decode cX1_ended 32 = .ok (.ifCond .le 7, 3) := dk_158 0 7 (dk_at dksX1_ended_1 8 rfl rfl)
theorem dX1_ended_35 : decode cX1_ended 35 = .ok (.iconst 1, 1) := dk_4 (dk_at dksX1_ended_1 11 rfl rfl)
theorem dX1_ended_36 : decode cX1_ended 36 = .ok (.goto 4, 3) := dk_167 0 4 (dk_at dksX1_ended_1 12 rfl rfl)
theorem dX1_ended_39 : decode cX1_ended 39 = .ok (.iconst 0, 1) := dk_3 (dk_at dksX1_ended_1 15 rfl rfl)
theorem dX1_ended_40 : decode cX1_ended 40 = .ok (.imul, 1) := dk_104 (dk_at dksX1_ended_1 16 rfl rfl)
theorem dX1_ended_41 : decode cX1_ended 41 = .ok (.aload_n 1, 1) := dk_43 (dk_at dksX1_ended_1 17 rfl rfl)
theorem dX1_ended_42 : decode cX1_ended 42 = .ok (.getfield 372, 3) := dk_180 1 116 (dk_at dksX1_ended_1 18 rfl rfl)
theorem dX1_ended_45 : decode cX1_ended 45 = .ok (.iadd, 1) := dk_96 (dk_at dksX1_ended_1 21 rfl rfl)
theorem dX1_ended_46 : decode cX1_ended 46 = .ok (.isub, 1) := dk_100 (dk_at dksX1_ended_1 22 rfl rfl)
theorem dX1_ended_47 : decode cX1_ended 47 = .ok (.ireturn, 1) := dk_172 (dk_at dksX1_ended_1 23 rfl rfl)
abbrev cX1_chanceOf : ByteArray := prog_1_method_40_code
def yX1_chanceOf : MethodName := ⟨RX1, "chanceOf", "(II)I"⟩
def dkwX1_chanceOf_1 : List UInt8 := [182, 1, 172, 172]
abbrev dktX1_chanceOf_1 : List UInt8 := dkwX1_chanceOf_1 ++ []
def dkwX1_chanceOf_0 : List UInt8 := [42, 180, 0, 61, 27, 182, 1, 165, 28, 182, 1, 169, 42, 180, 0, 14, 180, 1, 75, 182, 1, 144]
abbrev dktX1_chanceOf_0 : List UInt8 := dkwX1_chanceOf_0 ++ dktX1_chanceOf_1
theorem dksX1_chanceOf_0 : cX1_chanceOf.data.toList.drop 0 = dktX1_chanceOf_0 := by decide +kernel
theorem dksX1_chanceOf_1 : cX1_chanceOf.data.toList.drop 22 = dktX1_chanceOf_1 := dk_seg dksX1_chanceOf_0 22 rfl rfl
theorem dX1_chanceOf_0 : decode cX1_chanceOf 0 = .ok (.aload_n 0, 1) := dk_42 (dk_at dksX1_chanceOf_0 0 rfl rfl)
theorem dX1_chanceOf_1 : decode cX1_chanceOf 1 = .ok (.getfield 61, 3) := dk_180 0 61 (dk_at dksX1_chanceOf_0 1 rfl rfl)
theorem dX1_chanceOf_4 : decode cX1_chanceOf 4 = .ok (.iload_n 1, 1) := dk_27 (dk_at dksX1_chanceOf_0 4 rfl rfl)
theorem dX1_chanceOf_5 : decode cX1_chanceOf 5 = .ok (.invokevirtual 421, 3) := dk_182 1 165 (dk_at dksX1_chanceOf_0 5 rfl rfl)
theorem dX1_chanceOf_8 : decode cX1_chanceOf 8 = .ok (.iload_n 2, 1) := dk_28 (dk_at dksX1_chanceOf_0 8 rfl rfl)
theorem dX1_chanceOf_9 : decode cX1_chanceOf 9 = .ok (.invokevirtual 425, 3) := dk_182 1 169 (dk_at dksX1_chanceOf_0 9 rfl rfl)
theorem dX1_chanceOf_12 : decode cX1_chanceOf 12 = .ok (.aload_n 0, 1) := dk_42 (dk_at dksX1_chanceOf_0 12 rfl rfl)
theorem dX1_chanceOf_13 : decode cX1_chanceOf 13 = .ok (.getfield 14, 3) := dk_180 0 14 (dk_at dksX1_chanceOf_0 13 rfl rfl)
theorem dX1_chanceOf_16 : decode cX1_chanceOf 16 = .ok (.getfield 331, 3) := dk_180 1 75 (dk_at dksX1_chanceOf_0 16 rfl rfl)
theorem dX1_chanceOf_19 : decode cX1_chanceOf 19 = .ok (.invokevirtual 400, 3) := dk_182 1 144 (dk_at dksX1_chanceOf_0 19 rfl rfl)
theorem dX1_chanceOf_22 : decode cX1_chanceOf 22 = .ok (.invokevirtual 428, 3) := dk_182 1 172 (dk_at dksX1_chanceOf_1 0 rfl rfl)
theorem dX1_chanceOf_25 : decode cX1_chanceOf 25 = .ok (.ireturn, 1) := dk_172 (dk_at dksX1_chanceOf_1 3 rfl rfl)
abbrev cX1_best : ByteArray := prog_1_method_42_code
def yX1_best : MethodName := ⟨RX1, "best", "(IIZ)I"⟩
def dkwX1_best_3 : List UInt8 := [180, 0, 61, 28, 4, 100, 182, 1, 169, 21, 4, 182, 1, 185, 172]
abbrev dktX1_best_3 : List UInt8 := dkwX1_best_3 ++ []
def dkwX1_best_2 : List UInt8 := [180, 0, 61, 28, 182, 1, 169, 21, 4, 182, 1, 172, 172, 28, 154, 0, 7, 2, 167, 0, 18, 42]
abbrev dktX1_best_2 : List UInt8 := dkwX1_best_2 ++ dktX1_best_3
def dkwX1_best_1 : List UInt8 := [182, 1, 144, 54, 4, 42, 180, 0, 61, 27, 182, 1, 165, 27, 182, 1, 183, 87, 29, 154, 0, 17, 42]
abbrev dktX1_best_1 : List UInt8 := dkwX1_best_1 ++ dktX1_best_2
def dkwX1_best_0 : List UInt8 := [27, 184, 1, 85, 28, 184, 1, 174, 42, 182, 1, 136, 42, 182, 1, 177, 42, 180, 0, 14, 180, 1, 75]
abbrev dktX1_best_0 : List UInt8 := dkwX1_best_0 ++ dktX1_best_1
theorem dksX1_best_0 : cX1_best.data.toList.drop 0 = dktX1_best_0 := by decide +kernel
theorem dksX1_best_1 : cX1_best.data.toList.drop 23 = dktX1_best_1 := dk_seg dksX1_best_0 23 rfl rfl
theorem dksX1_best_2 : cX1_best.data.toList.drop 46 = dktX1_best_2 := dk_seg dksX1_best_1 23 rfl rfl
theorem dksX1_best_3 : cX1_best.data.toList.drop 68 = dktX1_best_3 := dk_seg dksX1_best_2 22 rfl rfl
theorem dX1_best_0 : decode cX1_best 0 = .ok (.iload_n 1, 1) := dk_27 (dk_at dksX1_best_0 0 rfl rfl)
theorem dX1_best_1 : decode cX1_best 1 = .ok (.invokestatic 341, 3) := dk_184 1 85 (dk_at dksX1_best_0 1 rfl rfl)
theorem dX1_best_4 : decode cX1_best 4 = .ok (.iload_n 2, 1) := dk_28 (dk_at dksX1_best_0 4 rfl rfl)
theorem dX1_best_5 : decode cX1_best 5 = .ok (.invokestatic 430, 3) := dk_184 1 174 (dk_at dksX1_best_0 5 rfl rfl)
theorem dX1_best_8 : decode cX1_best 8 = .ok (.aload_n 0, 1) := dk_42 (dk_at dksX1_best_0 8 rfl rfl)
theorem dX1_best_9 : decode cX1_best 9 = .ok (.invokevirtual 392, 3) := dk_182 1 136 (dk_at dksX1_best_0 9 rfl rfl)
theorem dX1_best_12 : decode cX1_best 12 = .ok (.aload_n 0, 1) := dk_42 (dk_at dksX1_best_0 12 rfl rfl)
theorem dX1_best_13 : decode cX1_best 13 = .ok (.invokevirtual 433, 3) := dk_182 1 177 (dk_at dksX1_best_0 13 rfl rfl)
theorem dX1_best_16 : decode cX1_best 16 = .ok (.aload_n 0, 1) := dk_42 (dk_at dksX1_best_0 16 rfl rfl)
theorem dX1_best_17 : decode cX1_best 17 = .ok (.getfield 14, 3) := dk_180 0 14 (dk_at dksX1_best_0 17 rfl rfl)
theorem dX1_best_20 : decode cX1_best 20 = .ok (.getfield 331, 3) := dk_180 1 75 (dk_at dksX1_best_0 20 rfl rfl)
theorem dX1_best_23 : decode cX1_best 23 = .ok (.invokevirtual 400, 3) := dk_182 1 144 (dk_at dksX1_best_1 0 rfl rfl)
theorem dX1_best_26 : decode cX1_best 26 = .ok (.istore 4, 2) := dk_54 4 (dk_at dksX1_best_1 3 rfl rfl)
theorem dX1_best_28 : decode cX1_best 28 = .ok (.aload_n 0, 1) := dk_42 (dk_at dksX1_best_1 5 rfl rfl)
theorem dX1_best_29 : decode cX1_best 29 = .ok (.getfield 61, 3) := dk_180 0 61 (dk_at dksX1_best_1 6 rfl rfl)
theorem dX1_best_32 : decode cX1_best 32 = .ok (.iload_n 1, 1) := dk_27 (dk_at dksX1_best_1 9 rfl rfl)
theorem dX1_best_33 : decode cX1_best 33 = .ok (.invokevirtual 421, 3) := dk_182 1 165 (dk_at dksX1_best_1 10 rfl rfl)
theorem dX1_best_36 : decode cX1_best 36 = .ok (.iload_n 1, 1) := dk_27 (dk_at dksX1_best_1 13 rfl rfl)
theorem dX1_best_37 : decode cX1_best 37 = .ok (.invokevirtual 439, 3) := dk_182 1 183 (dk_at dksX1_best_1 14 rfl rfl)
theorem dX1_best_40 : decode cX1_best 40 = .ok (.pop, 1) := dk_87 (dk_at dksX1_best_1 17 rfl rfl)
theorem dX1_best_41 : decode cX1_best 41 = .ok (.iload_n 3, 1) := dk_29 (dk_at dksX1_best_1 18 rfl rfl)
theorem dX1_best_42 : decode cX1_best 42 = .ok (.ifCond .ne 17, 3) := dk_154 0 17 (dk_at dksX1_best_1 19 rfl rfl)
theorem dX1_best_45 : decode cX1_best 45 = .ok (.aload_n 0, 1) := dk_42 (dk_at dksX1_best_1 22 rfl rfl)
theorem dX1_best_46 : decode cX1_best 46 = .ok (.getfield 61, 3) := dk_180 0 61 (dk_at dksX1_best_2 0 rfl rfl)
theorem dX1_best_49 : decode cX1_best 49 = .ok (.iload_n 2, 1) := dk_28 (dk_at dksX1_best_2 3 rfl rfl)
theorem dX1_best_50 : decode cX1_best 50 = .ok (.invokevirtual 425, 3) := dk_182 1 169 (dk_at dksX1_best_2 4 rfl rfl)
theorem dX1_best_53 : decode cX1_best 53 = .ok (.iload 4, 2) := dk_21 4 (dk_at dksX1_best_2 7 rfl rfl)
theorem dX1_best_55 : decode cX1_best 55 = .ok (.invokevirtual 428, 3) := dk_182 1 172 (dk_at dksX1_best_2 9 rfl rfl)
theorem dX1_best_58 : decode cX1_best 58 = .ok (.ireturn, 1) := dk_172 (dk_at dksX1_best_2 12 rfl rfl)
theorem dX1_best_59 : decode cX1_best 59 = .ok (.iload_n 2, 1) := dk_28 (dk_at dksX1_best_2 13 rfl rfl)
theorem dX1_best_60 : decode cX1_best 60 = .ok (.ifCond .ne 7, 3) := dk_154 0 7 (dk_at dksX1_best_2 14 rfl rfl)
theorem dX1_best_63 : decode cX1_best 63 = .ok (.iconst (-1), 1) := dk_2 (dk_at dksX1_best_2 17 rfl rfl)
theorem dX1_best_64 : decode cX1_best 64 = .ok (.goto 18, 3) := dk_167 0 18 (dk_at dksX1_best_2 18 rfl rfl)
theorem dX1_best_67 : decode cX1_best 67 = .ok (.aload_n 0, 1) := dk_42 (dk_at dksX1_best_2 21 rfl rfl)
theorem dX1_best_68 : decode cX1_best 68 = .ok (.getfield 61, 3) := dk_180 0 61 (dk_at dksX1_best_3 0 rfl rfl)
theorem dX1_best_71 : decode cX1_best 71 = .ok (.iload_n 2, 1) := dk_28 (dk_at dksX1_best_3 3 rfl rfl)
theorem dX1_best_72 : decode cX1_best 72 = .ok (.iconst 1, 1) := dk_4 (dk_at dksX1_best_3 4 rfl rfl)
theorem dX1_best_73 : decode cX1_best 73 = .ok (.isub, 1) := dk_100 (dk_at dksX1_best_3 5 rfl rfl)
theorem dX1_best_74 : decode cX1_best 74 = .ok (.invokevirtual 425, 3) := dk_182 1 169 (dk_at dksX1_best_3 6 rfl rfl)
theorem dX1_best_77 : decode cX1_best 77 = .ok (.iload 4, 2) := dk_21 4 (dk_at dksX1_best_3 9 rfl rfl)
theorem dX1_best_79 : decode cX1_best 79 = .ok (.invokevirtual 441, 3) := dk_182 1 185 (dk_at dksX1_best_3 11 rfl rfl)
theorem dX1_best_82 : decode cX1_best 82 = .ok (.ireturn, 1) := dk_172 (dk_at dksX1_best_3 14 rfl rfl)
abbrev cX1_saves : ByteArray := prog_1_method_43_code
def yX1_saves : MethodName := ⟨RX1, "saves", "(III)I"⟩
def dkwX1_saves_3 : List UInt8 := [4, 167, 0, 16, 3, 167, 0, 12, 21, 5, 42, 27, 28, 182, 1, 180, 100, 172]
abbrev dktX1_saves_3 : List UInt8 := dkwX1_saves_3 ++ []
def dkwX1_saves_2 : List UInt8 := [29, 154, 0, 8, 21, 5, 167, 0, 35, 29, 4, 160, 0, 21, 42, 180, 0, 71, 180, 1, 192, 153, 0, 7]
abbrev dktX1_saves_2 : List UInt8 := dkwX1_saves_2 ++ dktX1_saves_3
def dkwX1_saves_1 : List UInt8 := [180, 0, 14, 180, 1, 75, 182, 1, 144, 54, 4, 42, 180, 0, 71, 27, 28, 21, 4, 182, 1, 188, 54, 5]
abbrev dktX1_saves_1 : List UInt8 := dkwX1_saves_1 ++ dktX1_saves_2
def dkwX1_saves_0 : List UInt8 := [27, 184, 1, 85, 28, 184, 1, 174, 42, 182, 1, 136, 29, 5, 184, 1, 82, 42, 182, 1, 177, 42]
abbrev dktX1_saves_0 : List UInt8 := dkwX1_saves_0 ++ dktX1_saves_1
theorem dksX1_saves_0 : cX1_saves.data.toList.drop 0 = dktX1_saves_0 := by decide +kernel
theorem dksX1_saves_1 : cX1_saves.data.toList.drop 22 = dktX1_saves_1 := dk_seg dksX1_saves_0 22 rfl rfl
theorem dksX1_saves_2 : cX1_saves.data.toList.drop 46 = dktX1_saves_2 := dk_seg dksX1_saves_1 24 rfl rfl
theorem dksX1_saves_3 : cX1_saves.data.toList.drop 70 = dktX1_saves_3 := dk_seg dksX1_saves_2 24 rfl rfl
theorem dX1_saves_0 : decode cX1_saves 0 = .ok (.iload_n 1, 1) := dk_27 (dk_at dksX1_saves_0 0 rfl rfl)
theorem dX1_saves_1 : decode cX1_saves 1 = .ok (.invokestatic 341, 3) := dk_184 1 85 (dk_at dksX1_saves_0 1 rfl rfl)
theorem dX1_saves_4 : decode cX1_saves 4 = .ok (.iload_n 2, 1) := dk_28 (dk_at dksX1_saves_0 4 rfl rfl)
theorem dX1_saves_5 : decode cX1_saves 5 = .ok (.invokestatic 430, 3) := dk_184 1 174 (dk_at dksX1_saves_0 5 rfl rfl)
theorem dX1_saves_8 : decode cX1_saves 8 = .ok (.aload_n 0, 1) := dk_42 (dk_at dksX1_saves_0 8 rfl rfl)
theorem dX1_saves_9 : decode cX1_saves 9 = .ok (.invokevirtual 392, 3) := dk_182 1 136 (dk_at dksX1_saves_0 9 rfl rfl)
theorem dX1_saves_12 : decode cX1_saves 12 = .ok (.iload_n 3, 1) := dk_29 (dk_at dksX1_saves_0 12 rfl rfl)
theorem dX1_saves_13 : decode cX1_saves 13 = .ok (.iconst 2, 1) := dk_5 (dk_at dksX1_saves_0 13 rfl rfl)
theorem dX1_saves_14 : decode cX1_saves 14 = .ok (.invokestatic 338, 3) := dk_184 1 82 (dk_at dksX1_saves_0 14 rfl rfl)
theorem dX1_saves_17 : decode cX1_saves 17 = .ok (.aload_n 0, 1) := dk_42 (dk_at dksX1_saves_0 17 rfl rfl)
theorem dX1_saves_18 : decode cX1_saves 18 = .ok (.invokevirtual 433, 3) := dk_182 1 177 (dk_at dksX1_saves_0 18 rfl rfl)
theorem dX1_saves_21 : decode cX1_saves 21 = .ok (.aload_n 0, 1) := dk_42 (dk_at dksX1_saves_0 21 rfl rfl)
theorem dX1_saves_22 : decode cX1_saves 22 = .ok (.getfield 14, 3) := dk_180 0 14 (dk_at dksX1_saves_1 0 rfl rfl)
theorem dX1_saves_25 : decode cX1_saves 25 = .ok (.getfield 331, 3) := dk_180 1 75 (dk_at dksX1_saves_1 3 rfl rfl)
theorem dX1_saves_28 : decode cX1_saves 28 = .ok (.invokevirtual 400, 3) := dk_182 1 144 (dk_at dksX1_saves_1 6 rfl rfl)
theorem dX1_saves_31 : decode cX1_saves 31 = .ok (.istore 4, 2) := dk_54 4 (dk_at dksX1_saves_1 9 rfl rfl)
theorem dX1_saves_33 : decode cX1_saves 33 = .ok (.aload_n 0, 1) := dk_42 (dk_at dksX1_saves_1 11 rfl rfl)
theorem dX1_saves_34 : decode cX1_saves 34 = .ok (.getfield 71, 3) := dk_180 0 71 (dk_at dksX1_saves_1 12 rfl rfl)
theorem dX1_saves_37 : decode cX1_saves 37 = .ok (.iload_n 1, 1) := dk_27 (dk_at dksX1_saves_1 15 rfl rfl)
theorem dX1_saves_38 : decode cX1_saves 38 = .ok (.iload_n 2, 1) := dk_28 (dk_at dksX1_saves_1 16 rfl rfl)
theorem dX1_saves_39 : decode cX1_saves 39 = .ok (.iload 4, 2) := dk_21 4 (dk_at dksX1_saves_1 17 rfl rfl)
theorem dX1_saves_41 : decode cX1_saves 41 = .ok (.invokevirtual 444, 3) := dk_182 1 188 (dk_at dksX1_saves_1 19 rfl rfl)
theorem dX1_saves_44 : decode cX1_saves 44 = .ok (.istore 5, 2) := dk_54 5 (dk_at dksX1_saves_1 22 rfl rfl)
theorem dX1_saves_46 : decode cX1_saves 46 = .ok (.iload_n 3, 1) := dk_29 (dk_at dksX1_saves_2 0 rfl rfl)
theorem dX1_saves_47 : decode cX1_saves 47 = .ok (.ifCond .ne 8, 3) := dk_154 0 8 (dk_at dksX1_saves_2 1 rfl rfl)
theorem dX1_saves_50 : decode cX1_saves 50 = .ok (.iload 5, 2) := dk_21 5 (dk_at dksX1_saves_2 4 rfl rfl)
theorem dX1_saves_52 : decode cX1_saves 52 = .ok (.goto 35, 3) := dk_167 0 35 (dk_at dksX1_saves_2 6 rfl rfl)
theorem dX1_saves_55 : decode cX1_saves 55 = .ok (.iload_n 3, 1) := dk_29 (dk_at dksX1_saves_2 9 rfl rfl)
theorem dX1_saves_56 : decode cX1_saves 56 = .ok (.iconst 1, 1) := dk_4 (dk_at dksX1_saves_2 10 rfl rfl)
theorem dX1_saves_57 : decode cX1_saves 57 = .ok (.if_icmp .ne 21, 3) := dk_160 0 21 (dk_at dksX1_saves_2 11 rfl rfl)
theorem dX1_saves_60 : decode cX1_saves 60 = .ok (.aload_n 0, 1) := dk_42 (dk_at dksX1_saves_2 14 rfl rfl)
theorem dX1_saves_61 : decode cX1_saves 61 = .ok (.getfield 71, 3) := dk_180 0 71 (dk_at dksX1_saves_2 15 rfl rfl)
theorem dX1_saves_64 : decode cX1_saves 64 = .ok (.getfield 448, 3) := dk_180 1 192 (dk_at dksX1_saves_2 18 rfl rfl)
theorem dX1_saves_67 : decode cX1_saves 67 = .ok (.ifCond .eq 7, 3) := dk_153 0 7 (dk_at dksX1_saves_2 21 rfl rfl)
theorem dX1_saves_70 : decode cX1_saves 70 = .ok (.iconst 1, 1) := dk_4 (dk_at dksX1_saves_3 0 rfl rfl)
theorem dX1_saves_71 : decode cX1_saves 71 = .ok (.goto 16, 3) := dk_167 0 16 (dk_at dksX1_saves_3 1 rfl rfl)
theorem dX1_saves_74 : decode cX1_saves 74 = .ok (.iconst 0, 1) := dk_3 (dk_at dksX1_saves_3 4 rfl rfl)
theorem dX1_saves_75 : decode cX1_saves 75 = .ok (.goto 12, 3) := dk_167 0 12 (dk_at dksX1_saves_3 5 rfl rfl)
theorem dX1_saves_78 : decode cX1_saves 78 = .ok (.iload 5, 2) := dk_21 5 (dk_at dksX1_saves_3 8 rfl rfl)
theorem dX1_saves_80 : decode cX1_saves 80 = .ok (.aload_n 0, 1) := dk_42 (dk_at dksX1_saves_3 10 rfl rfl)
theorem dX1_saves_81 : decode cX1_saves 81 = .ok (.iload_n 1, 1) := dk_27 (dk_at dksX1_saves_3 11 rfl rfl)
theorem dX1_saves_82 : decode cX1_saves 82 = .ok (.iload_n 2, 1) := dk_28 (dk_at dksX1_saves_3 12 rfl rfl)
theorem dX1_saves_83 : decode cX1_saves 83 = .ok (.invokevirtual 436, 3) := dk_182 1 180 (dk_at dksX1_saves_3 13 rfl rfl)
theorem dX1_saves_86 : decode cX1_saves 86 = .ok (.isub, 1) := dk_100 (dk_at dksX1_saves_3 16 rfl rfl)
theorem dX1_saves_87 : decode cX1_saves 87 = .ok (.ireturn, 1) := dk_172 (dk_at dksX1_saves_3 17 rfl rfl)
abbrev cX1_worth : ByteArray := prog_1_method_44_code
def yX1_worth : MethodName := ⟨RX1, "worth", "(III)I"⟩
def dkwX1_worth_3 : List UInt8 := [96, 28, 96, 46, 182, 1, 172, 21, 4, 100, 172]
abbrev dktX1_worth_3 : List UInt8 := dkwX1_worth_3 ++ []
def dkwX1_worth_2 : List UInt8 := [54, 4, 42, 180, 0, 61, 42, 180, 0, 33, 16, 12, 42, 180, 0, 14, 180, 1, 75, 182, 1, 144, 104, 5]
abbrev dktX1_worth_2 : List UInt8 := dkwX1_worth_2 ++ dktX1_worth_3
def dkwX1_worth_1 : List UInt8 := [180, 1, 75, 180, 1, 122, 153, 0, 7, 19, 1, 195, 172, 42, 182, 1, 177, 42, 27, 29, 182, 1, 180]
abbrev dktX1_worth_1 : List UInt8 := dkwX1_worth_1 ++ dktX1_worth_2
def dkwX1_worth_0 : List UInt8 := [27, 184, 1, 85, 28, 16, 10, 184, 1, 68, 29, 184, 1, 174, 42, 182, 1, 136, 42, 180, 0, 14]
abbrev dktX1_worth_0 : List UInt8 := dkwX1_worth_0 ++ dktX1_worth_1
theorem dksX1_worth_0 : cX1_worth.data.toList.drop 0 = dktX1_worth_0 := by decide +kernel
theorem dksX1_worth_1 : cX1_worth.data.toList.drop 22 = dktX1_worth_1 := dk_seg dksX1_worth_0 22 rfl rfl
theorem dksX1_worth_2 : cX1_worth.data.toList.drop 45 = dktX1_worth_2 := dk_seg dksX1_worth_1 23 rfl rfl
theorem dksX1_worth_3 : cX1_worth.data.toList.drop 69 = dktX1_worth_3 := dk_seg dksX1_worth_2 24 rfl rfl
theorem dX1_worth_0 : decode cX1_worth 0 = .ok (.iload_n 1, 1) := dk_27 (dk_at dksX1_worth_0 0 rfl rfl)
theorem dX1_worth_1 : decode cX1_worth 1 = .ok (.invokestatic 341, 3) := dk_184 1 85 (dk_at dksX1_worth_0 1 rfl rfl)
theorem dX1_worth_4 : decode cX1_worth 4 = .ok (.iload_n 2, 1) := dk_28 (dk_at dksX1_worth_0 4 rfl rfl)
theorem dX1_worth_5 : decode cX1_worth 5 = .ok (.bipush 10, 2) := dk_16 10 (dk_at dksX1_worth_0 5 rfl rfl)
theorem dX1_worth_7 : decode cX1_worth 7 = .ok (.invokestatic 324, 3) := dk_184 1 68 (dk_at dksX1_worth_0 7 rfl rfl)
theorem dX1_worth_10 : decode cX1_worth 10 = .ok (.iload_n 3, 1) := dk_29 (dk_at dksX1_worth_0 10 rfl rfl)
theorem dX1_worth_11 : decode cX1_worth 11 = .ok (.invokestatic 430, 3) := dk_184 1 174 (dk_at dksX1_worth_0 11 rfl rfl)
theorem dX1_worth_14 : decode cX1_worth 14 = .ok (.aload_n 0, 1) := dk_42 (dk_at dksX1_worth_0 14 rfl rfl)
theorem dX1_worth_15 : decode cX1_worth 15 = .ok (.invokevirtual 392, 3) := dk_182 1 136 (dk_at dksX1_worth_0 15 rfl rfl)
theorem dX1_worth_18 : decode cX1_worth 18 = .ok (.aload_n 0, 1) := dk_42 (dk_at dksX1_worth_0 18 rfl rfl)
theorem dX1_worth_19 : decode cX1_worth 19 = .ok (.getfield 14, 3) := dk_180 0 14 (dk_at dksX1_worth_0 19 rfl rfl)
theorem dX1_worth_22 : decode cX1_worth 22 = .ok (.getfield 331, 3) := dk_180 1 75 (dk_at dksX1_worth_1 0 rfl rfl)
theorem dX1_worth_25 : decode cX1_worth 25 = .ok (.getfield 378, 3) := dk_180 1 122 (dk_at dksX1_worth_1 3 rfl rfl)
theorem dX1_worth_28 : decode cX1_worth 28 = .ok (.ifCond .eq 7, 3) := dk_153 0 7 (dk_at dksX1_worth_1 6 rfl rfl)
theorem dX1_worth_31 : decode cX1_worth 31 = .ok (.ldc_w 451, 3) := dk_19 1 195 (dk_at dksX1_worth_1 9 rfl rfl)
theorem dX1_worth_34 : decode cX1_worth 34 = .ok (.ireturn, 1) := dk_172 (dk_at dksX1_worth_1 12 rfl rfl)
theorem dX1_worth_35 : decode cX1_worth 35 = .ok (.aload_n 0, 1) := dk_42 (dk_at dksX1_worth_1 13 rfl rfl)
theorem dX1_worth_36 : decode cX1_worth 36 = .ok (.invokevirtual 433, 3) := dk_182 1 177 (dk_at dksX1_worth_1 14 rfl rfl)
theorem dX1_worth_39 : decode cX1_worth 39 = .ok (.aload_n 0, 1) := dk_42 (dk_at dksX1_worth_1 17 rfl rfl)
theorem dX1_worth_40 : decode cX1_worth 40 = .ok (.iload_n 1, 1) := dk_27 (dk_at dksX1_worth_1 18 rfl rfl)
theorem dX1_worth_41 : decode cX1_worth 41 = .ok (.iload_n 3, 1) := dk_29 (dk_at dksX1_worth_1 19 rfl rfl)
theorem dX1_worth_42 : decode cX1_worth 42 = .ok (.invokevirtual 436, 3) := dk_182 1 180 (dk_at dksX1_worth_1 20 rfl rfl)
theorem dX1_worth_45 : decode cX1_worth 45 = .ok (.istore 4, 2) := dk_54 4 (dk_at dksX1_worth_2 0 rfl rfl)
theorem dX1_worth_47 : decode cX1_worth 47 = .ok (.aload_n 0, 1) := dk_42 (dk_at dksX1_worth_2 2 rfl rfl)
theorem dX1_worth_48 : decode cX1_worth 48 = .ok (.getfield 61, 3) := dk_180 0 61 (dk_at dksX1_worth_2 3 rfl rfl)
theorem dX1_worth_51 : decode cX1_worth 51 = .ok (.aload_n 0, 1) := dk_42 (dk_at dksX1_worth_2 6 rfl rfl)
theorem dX1_worth_52 : decode cX1_worth 52 = .ok (.getfield 33, 3) := dk_180 0 33 (dk_at dksX1_worth_2 7 rfl rfl)
theorem dX1_worth_55 : decode cX1_worth 55 = .ok (.bipush 12, 2) := dk_16 12 (dk_at dksX1_worth_2 10 rfl rfl)
theorem dX1_worth_57 : decode cX1_worth 57 = .ok (.aload_n 0, 1) := dk_42 (dk_at dksX1_worth_2 12 rfl rfl)
theorem dX1_worth_58 : decode cX1_worth 58 = .ok (.getfield 14, 3) := dk_180 0 14 (dk_at dksX1_worth_2 13 rfl rfl)
theorem dX1_worth_61 : decode cX1_worth 61 = .ok (.getfield 331, 3) := dk_180 1 75 (dk_at dksX1_worth_2 16 rfl rfl)
theorem dX1_worth_64 : decode cX1_worth 64 = .ok (.invokevirtual 400, 3) := dk_182 1 144 (dk_at dksX1_worth_2 19 rfl rfl)
theorem dX1_worth_67 : decode cX1_worth 67 = .ok (.imul, 1) := dk_104 (dk_at dksX1_worth_2 22 rfl rfl)
theorem dX1_worth_68 : decode cX1_worth 68 = .ok (.iconst 2, 1) := dk_5 (dk_at dksX1_worth_2 23 rfl rfl)
theorem dX1_worth_69 : decode cX1_worth 69 = .ok (.iadd, 1) := dk_96 (dk_at dksX1_worth_3 0 rfl rfl)
theorem dX1_worth_70 : decode cX1_worth 70 = .ok (.iload_n 2, 1) := dk_28 (dk_at dksX1_worth_3 1 rfl rfl)
theorem dX1_worth_71 : decode cX1_worth 71 = .ok (.iadd, 1) := dk_96 (dk_at dksX1_worth_3 2 rfl rfl)
theorem dX1_worth_72 : decode cX1_worth 72 = .ok (.iaload, 1) := dk_46 (dk_at dksX1_worth_3 3 rfl rfl)
theorem dX1_worth_73 : decode cX1_worth 73 = .ok (.invokevirtual 428, 3) := dk_182 1 172 (dk_at dksX1_worth_3 4 rfl rfl)
theorem dX1_worth_76 : decode cX1_worth 76 = .ok (.iload 4, 2) := dk_21 4 (dk_at dksX1_worth_3 7 rfl rfl)
theorem dX1_worth_78 : decode cX1_worth 78 = .ok (.isub, 1) := dk_100 (dk_at dksX1_worth_3 9 rfl rfl)
theorem dX1_worth_79 : decode cX1_worth 79 = .ok (.ireturn, 1) := dk_172 (dk_at dksX1_worth_3 10 rfl rfl)
abbrev cX1_set : ByteArray := prog_1_method_48_code
def yX1_set : MethodName := ⟨RX1, "set", "(II)I"⟩
def dkwX1_set_2 : List UInt8 := [180, 1, 124, 4, 46, 42, 180, 0, 14, 180, 1, 75, 180, 1, 116, 3, 182, 1, 203, 172]
abbrev dktX1_set_2 : List UInt8 := dkwX1_set_2 ++ []
def dkwX1_set_1 : List UInt8 := [184, 1, 212, 42, 27, 42, 180, 0, 14, 180, 1, 75, 180, 1, 124, 3, 46, 42, 180, 0, 14, 180, 1, 75]
abbrev dktX1_set_1 : List UInt8 := dkwX1_set_1 ++ dktX1_set_2
def dkwX1_set_0 : List UInt8 := [27, 184, 1, 85, 28, 184, 1, 174, 42, 182, 1, 136, 42, 28, 182, 1, 209, 42, 180, 0, 80, 2]
abbrev dktX1_set_0 : List UInt8 := dkwX1_set_0 ++ dktX1_set_1
theorem dksX1_set_0 : cX1_set.data.toList.drop 0 = dktX1_set_0 := by decide +kernel
theorem dksX1_set_1 : cX1_set.data.toList.drop 22 = dktX1_set_1 := dk_seg dksX1_set_0 22 rfl rfl
theorem dksX1_set_2 : cX1_set.data.toList.drop 46 = dktX1_set_2 := dk_seg dksX1_set_1 24 rfl rfl
theorem dX1_set_0 : decode cX1_set 0 = .ok (.iload_n 1, 1) := dk_27 (dk_at dksX1_set_0 0 rfl rfl)
theorem dX1_set_1 : decode cX1_set 1 = .ok (.invokestatic 341, 3) := dk_184 1 85 (dk_at dksX1_set_0 1 rfl rfl)
theorem dX1_set_4 : decode cX1_set 4 = .ok (.iload_n 2, 1) := dk_28 (dk_at dksX1_set_0 4 rfl rfl)
theorem dX1_set_5 : decode cX1_set 5 = .ok (.invokestatic 430, 3) := dk_184 1 174 (dk_at dksX1_set_0 5 rfl rfl)
theorem dX1_set_8 : decode cX1_set 8 = .ok (.aload_n 0, 1) := dk_42 (dk_at dksX1_set_0 8 rfl rfl)
theorem dX1_set_9 : decode cX1_set 9 = .ok (.invokevirtual 392, 3) := dk_182 1 136 (dk_at dksX1_set_0 9 rfl rfl)
theorem dX1_set_12 : decode cX1_set 12 = .ok (.aload_n 0, 1) := dk_42 (dk_at dksX1_set_0 12 rfl rfl)
theorem dX1_set_13 : decode cX1_set 13 = .ok (.iload_n 2, 1) := dk_28 (dk_at dksX1_set_0 13 rfl rfl)
theorem dX1_set_14 : decode cX1_set 14 = .ok (.invokevirtual 465, 3) := dk_182 1 209 (dk_at dksX1_set_0 14 rfl rfl)
theorem dX1_set_17 : decode cX1_set 17 = .ok (.aload_n 0, 1) := dk_42 (dk_at dksX1_set_0 17 rfl rfl)
theorem dX1_set_18 : decode cX1_set 18 = .ok (.getfield 80, 3) := dk_180 0 80 (dk_at dksX1_set_0 18 rfl rfl)
theorem dX1_set_21 : decode cX1_set 21 = .ok (.iconst (-1), 1) := dk_2 (dk_at dksX1_set_0 21 rfl rfl)
theorem dX1_set_22 : decode cX1_set 22 = .ok (.invokestatic 468, 3) := dk_184 1 212 (dk_at dksX1_set_1 0 rfl rfl)
theorem dX1_set_25 : decode cX1_set 25 = .ok (.aload_n 0, 1) := dk_42 (dk_at dksX1_set_1 3 rfl rfl)
theorem dX1_set_26 : decode cX1_set 26 = .ok (.iload_n 1, 1) := dk_27 (dk_at dksX1_set_1 4 rfl rfl)
theorem dX1_set_27 : decode cX1_set 27 = .ok (.aload_n 0, 1) := dk_42 (dk_at dksX1_set_1 5 rfl rfl)
theorem dX1_set_28 : decode cX1_set 28 = .ok (.getfield 14, 3) := dk_180 0 14 (dk_at dksX1_set_1 6 rfl rfl)
theorem dX1_set_31 : decode cX1_set 31 = .ok (.getfield 331, 3) := dk_180 1 75 (dk_at dksX1_set_1 9 rfl rfl)
theorem dX1_set_34 : decode cX1_set 34 = .ok (.getfield 380, 3) := dk_180 1 124 (dk_at dksX1_set_1 12 rfl rfl)
theorem dX1_set_37 : decode cX1_set 37 = .ok (.iconst 0, 1) := dk_3 (dk_at dksX1_set_1 15 rfl rfl)
theorem dX1_set_38 : decode cX1_set 38 = .ok (.iaload, 1) := dk_46 (dk_at dksX1_set_1 16 rfl rfl)
theorem dX1_set_39 : decode cX1_set 39 = .ok (.aload_n 0, 1) := dk_42 (dk_at dksX1_set_1 17 rfl rfl)
theorem dX1_set_40 : decode cX1_set 40 = .ok (.getfield 14, 3) := dk_180 0 14 (dk_at dksX1_set_1 18 rfl rfl)
theorem dX1_set_43 : decode cX1_set 43 = .ok (.getfield 331, 3) := dk_180 1 75 (dk_at dksX1_set_1 21 rfl rfl)
theorem dX1_set_46 : decode cX1_set 46 = .ok (.getfield 380, 3) := dk_180 1 124 (dk_at dksX1_set_2 0 rfl rfl)
theorem dX1_set_49 : decode cX1_set 49 = .ok (.iconst 1, 1) := dk_4 (dk_at dksX1_set_2 3 rfl rfl)
theorem dX1_set_50 : decode cX1_set 50 = .ok (.iaload, 1) := dk_46 (dk_at dksX1_set_2 4 rfl rfl)
theorem dX1_set_51 : decode cX1_set 51 = .ok (.aload_n 0, 1) := dk_42 (dk_at dksX1_set_2 5 rfl rfl)
theorem dX1_set_52 : decode cX1_set 52 = .ok (.getfield 14, 3) := dk_180 0 14 (dk_at dksX1_set_2 6 rfl rfl)
theorem dX1_set_55 : decode cX1_set 55 = .ok (.getfield 331, 3) := dk_180 1 75 (dk_at dksX1_set_2 9 rfl rfl)
theorem dX1_set_58 : decode cX1_set 58 = .ok (.getfield 372, 3) := dk_180 1 116 (dk_at dksX1_set_2 12 rfl rfl)
theorem dX1_set_61 : decode cX1_set 61 = .ok (.iconst 0, 1) := dk_3 (dk_at dksX1_set_2 15 rfl rfl)
theorem dX1_set_62 : decode cX1_set 62 = .ok (.invokevirtual 459, 3) := dk_182 1 203 (dk_at dksX1_set_2 16 rfl rfl)
theorem dX1_set_65 : decode cX1_set 65 = .ok (.ireturn, 1) := dk_172 (dk_at dksX1_set_2 19 rfl rfl)
abbrev cX1_allWays : ByteArray := prog_1_method_46_code
def yX1_allWays : MethodName := ⟨RX1, "allWays", "(I)V"⟩
def dkwX1_allWays_5 : List UInt8 := [132, 3, 1, 167, 255, 226, 132, 2, 1, 167, 255, 136, 177]
abbrev dktX1_allWays_5 : List UInt8 := dkwX1_allWays_5 ++ []
def dkwX1_allWays_4 : List UInt8 := [42, 180, 0, 77, 4, 29, 96, 50, 28, 42, 180, 0, 61, 42, 29, 182, 1, 200, 182, 1, 172, 79]
abbrev dktX1_allWays_4 : List UInt8 := dkwX1_allWays_4 ++ dktX1_allWays_5
def dkwX1_allWays_3 : List UInt8 := [180, 0, 61, 42, 180, 0, 14, 180, 1, 75, 182, 1, 144, 182, 1, 172, 79, 3, 62, 29, 5, 162, 0, 31]
abbrev dktX1_allWays_3 : List UInt8 := dkwX1_allWays_3 ++ dktX1_allWays_4
def dkwX1_allWays_2 : List UInt8 := [132, 3, 1, 167, 255, 227, 42, 180, 0, 61, 27, 182, 1, 169, 87, 42, 180, 0, 77, 3, 50, 28, 42]
abbrev dktX1_allWays_2 : List UInt8 := dkwX1_allWays_2 ++ dktX1_allWays_3
def dkwX1_allWays_1 : List UInt8 := [162, 0, 30, 42, 180, 0, 61, 180, 1, 196, 29, 29, 28, 160, 0, 9, 19, 1, 199, 167, 0, 4, 3, 79]
abbrev dktX1_allWays_1 : List UInt8 := dkwX1_allWays_1 ++ dktX1_allWays_2
def dkwX1_allWays_0 : List UInt8 := [42, 182, 1, 177, 3, 61, 28, 7, 162, 0, 121, 42, 180, 0, 61, 2, 182, 1, 183, 87, 3, 62, 29, 7]
abbrev dktX1_allWays_0 : List UInt8 := dkwX1_allWays_0 ++ dktX1_allWays_1
theorem dksX1_allWays_0 : cX1_allWays.data.toList.drop 0 = dktX1_allWays_0 := by decide +kernel
theorem dksX1_allWays_1 : cX1_allWays.data.toList.drop 24 = dktX1_allWays_1 := dk_seg dksX1_allWays_0 24 rfl rfl
theorem dksX1_allWays_2 : cX1_allWays.data.toList.drop 48 = dktX1_allWays_2 := dk_seg dksX1_allWays_1 24 rfl rfl
theorem dksX1_allWays_3 : cX1_allWays.data.toList.drop 71 = dktX1_allWays_3 := dk_seg dksX1_allWays_2 23 rfl rfl
theorem dksX1_allWays_4 : cX1_allWays.data.toList.drop 95 = dktX1_allWays_4 := dk_seg dksX1_allWays_3 24 rfl rfl
theorem dksX1_allWays_5 : cX1_allWays.data.toList.drop 117 = dktX1_allWays_5 := dk_seg dksX1_allWays_4 22 rfl rfl
theorem dX1_allWays_0 : decode cX1_allWays 0 = .ok (.aload_n 0, 1) := dk_42 (dk_at dksX1_allWays_0 0 rfl rfl)
theorem dX1_allWays_1 : decode cX1_allWays 1 = .ok (.invokevirtual 433, 3) := dk_182 1 177 (dk_at dksX1_allWays_0 1 rfl rfl)
theorem dX1_allWays_4 : decode cX1_allWays 4 = .ok (.iconst 0, 1) := dk_3 (dk_at dksX1_allWays_0 4 rfl rfl)
theorem dX1_allWays_5 : decode cX1_allWays 5 = .ok (.istore_n 2, 1) := dk_61 (dk_at dksX1_allWays_0 5 rfl rfl)
theorem dX1_allWays_6 : decode cX1_allWays 6 = .ok (.iload_n 2, 1) := dk_28 (dk_at dksX1_allWays_0 6 rfl rfl)
theorem dX1_allWays_7 : decode cX1_allWays 7 = .ok (.iconst 4, 1) := dk_7 (dk_at dksX1_allWays_0 7 rfl rfl)
theorem dX1_allWays_8 : decode cX1_allWays 8 = .ok (.if_icmp .ge 121, 3) := dk_162 0 121 (dk_at dksX1_allWays_0 8 rfl rfl)
theorem dX1_allWays_11 : decode cX1_allWays 11 = .ok (.aload_n 0, 1) := dk_42 (dk_at dksX1_allWays_0 11 rfl rfl)
theorem dX1_allWays_12 : decode cX1_allWays 12 = .ok (.getfield 61, 3) := dk_180 0 61 (dk_at dksX1_allWays_0 12 rfl rfl)
theorem dX1_allWays_15 : decode cX1_allWays 15 = .ok (.iconst (-1), 1) := dk_2 (dk_at dksX1_allWays_0 15 rfl rfl)
theorem dX1_allWays_16 : decode cX1_allWays 16 = .ok (.invokevirtual 439, 3) := dk_182 1 183 (dk_at dksX1_allWays_0 16 rfl rfl)
theorem dX1_allWays_19 : decode cX1_allWays 19 = .ok (.pop, 1) := dk_87 (dk_at dksX1_allWays_0 19 rfl rfl)
theorem dX1_allWays_20 : decode cX1_allWays 20 = .ok (.iconst 0, 1) := dk_3 (dk_at dksX1_allWays_0 20 rfl rfl)
theorem dX1_allWays_21 : decode cX1_allWays 21 = .ok (.istore_n 3, 1) := dk_62 (dk_at dksX1_allWays_0 21 rfl rfl)
theorem dX1_allWays_22 : decode cX1_allWays 22 = .ok (.iload_n 3, 1) := dk_29 (dk_at dksX1_allWays_0 22 rfl rfl)
theorem dX1_allWays_23 : decode cX1_allWays 23 = .ok (.iconst 4, 1) := dk_7 (dk_at dksX1_allWays_0 23 rfl rfl)
theorem dX1_allWays_24 : decode cX1_allWays 24 = .ok (.if_icmp .ge 30, 3) := dk_162 0 30 (dk_at dksX1_allWays_1 0 rfl rfl)
theorem dX1_allWays_27 : decode cX1_allWays 27 = .ok (.aload_n 0, 1) := dk_42 (dk_at dksX1_allWays_1 3 rfl rfl)
theorem dX1_allWays_28 : decode cX1_allWays 28 = .ok (.getfield 61, 3) := dk_180 0 61 (dk_at dksX1_allWays_1 4 rfl rfl)
theorem dX1_allWays_31 : decode cX1_allWays 31 = .ok (.getfield 452, 3) := dk_180 1 196 (dk_at dksX1_allWays_1 7 rfl rfl)
theorem dX1_allWays_34 : decode cX1_allWays 34 = .ok (.iload_n 3, 1) := dk_29 (dk_at dksX1_allWays_1 10 rfl rfl)
theorem dX1_allWays_35 : decode cX1_allWays 35 = .ok (.iload_n 3, 1) := dk_29 (dk_at dksX1_allWays_1 11 rfl rfl)
theorem dX1_allWays_36 : decode cX1_allWays 36 = .ok (.iload_n 2, 1) := dk_28 (dk_at dksX1_allWays_1 12 rfl rfl)
theorem dX1_allWays_37 : decode cX1_allWays 37 = .ok (.if_icmp .ne 9, 3) := dk_160 0 9 (dk_at dksX1_allWays_1 13 rfl rfl)
theorem dX1_allWays_40 : decode cX1_allWays 40 = .ok (.ldc_w 455, 3) := dk_19 1 199 (dk_at dksX1_allWays_1 16 rfl rfl)
theorem dX1_allWays_43 : decode cX1_allWays 43 = .ok (.goto 4, 3) := dk_167 0 4 (dk_at dksX1_allWays_1 19 rfl rfl)
theorem dX1_allWays_46 : decode cX1_allWays 46 = .ok (.iconst 0, 1) := dk_3 (dk_at dksX1_allWays_1 22 rfl rfl)
theorem dX1_allWays_47 : decode cX1_allWays 47 = .ok (.iastore, 1) := dk_79 (dk_at dksX1_allWays_1 23 rfl rfl)
theorem dX1_allWays_48 : decode cX1_allWays 48 = .ok (.iinc 3 1, 3) := dk_132 3 1 (dk_at dksX1_allWays_2 0 rfl rfl)
theorem dX1_allWays_51 : decode cX1_allWays 51 = .ok (.goto (-29), 3) := dk_167 255 227 (dk_at dksX1_allWays_2 3 rfl rfl)
theorem dX1_allWays_54 : decode cX1_allWays 54 = .ok (.aload_n 0, 1) := dk_42 (dk_at dksX1_allWays_2 6 rfl rfl)
theorem dX1_allWays_55 : decode cX1_allWays 55 = .ok (.getfield 61, 3) := dk_180 0 61 (dk_at dksX1_allWays_2 7 rfl rfl)
theorem dX1_allWays_58 : decode cX1_allWays 58 = .ok (.iload_n 1, 1) := dk_27 (dk_at dksX1_allWays_2 10 rfl rfl)
theorem dX1_allWays_59 : decode cX1_allWays 59 = .ok (.invokevirtual 425, 3) := dk_182 1 169 (dk_at dksX1_allWays_2 11 rfl rfl)
theorem dX1_allWays_62 : decode cX1_allWays 62 = .ok (.pop, 1) := dk_87 (dk_at dksX1_allWays_2 14 rfl rfl)
theorem dX1_allWays_63 : decode cX1_allWays 63 = .ok (.aload_n 0, 1) := dk_42 (dk_at dksX1_allWays_2 15 rfl rfl)
theorem dX1_allWays_64 : decode cX1_allWays 64 = .ok (.getfield 77, 3) := dk_180 0 77 (dk_at dksX1_allWays_2 16 rfl rfl)
theorem dX1_allWays_67 : decode cX1_allWays 67 = .ok (.iconst 0, 1) := dk_3 (dk_at dksX1_allWays_2 19 rfl rfl)
theorem dX1_allWays_68 : decode cX1_allWays 68 = .ok (.aaload, 1) := dk_50 (dk_at dksX1_allWays_2 20 rfl rfl)
theorem dX1_allWays_69 : decode cX1_allWays 69 = .ok (.iload_n 2, 1) := dk_28 (dk_at dksX1_allWays_2 21 rfl rfl)
theorem dX1_allWays_70 : decode cX1_allWays 70 = .ok (.aload_n 0, 1) := dk_42 (dk_at dksX1_allWays_2 22 rfl rfl)
theorem dX1_allWays_71 : decode cX1_allWays 71 = .ok (.getfield 61, 3) := dk_180 0 61 (dk_at dksX1_allWays_3 0 rfl rfl)
theorem dX1_allWays_74 : decode cX1_allWays 74 = .ok (.aload_n 0, 1) := dk_42 (dk_at dksX1_allWays_3 3 rfl rfl)
theorem dX1_allWays_75 : decode cX1_allWays 75 = .ok (.getfield 14, 3) := dk_180 0 14 (dk_at dksX1_allWays_3 4 rfl rfl)
theorem dX1_allWays_78 : decode cX1_allWays 78 = .ok (.getfield 331, 3) := dk_180 1 75 (dk_at dksX1_allWays_3 7 rfl rfl)
theorem dX1_allWays_81 : decode cX1_allWays 81 = .ok (.invokevirtual 400, 3) := dk_182 1 144 (dk_at dksX1_allWays_3 10 rfl rfl)
theorem dX1_allWays_84 : decode cX1_allWays 84 = .ok (.invokevirtual 428, 3) := dk_182 1 172 (dk_at dksX1_allWays_3 13 rfl rfl)
theorem dX1_allWays_87 : decode cX1_allWays 87 = .ok (.iastore, 1) := dk_79 (dk_at dksX1_allWays_3 16 rfl rfl)
theorem dX1_allWays_88 : decode cX1_allWays 88 = .ok (.iconst 0, 1) := dk_3 (dk_at dksX1_allWays_3 17 rfl rfl)
theorem dX1_allWays_89 : decode cX1_allWays 89 = .ok (.istore_n 3, 1) := dk_62 (dk_at dksX1_allWays_3 18 rfl rfl)
theorem dX1_allWays_90 : decode cX1_allWays 90 = .ok (.iload_n 3, 1) := dk_29 (dk_at dksX1_allWays_3 19 rfl rfl)
theorem dX1_allWays_91 : decode cX1_allWays 91 = .ok (.iconst 2, 1) := dk_5 (dk_at dksX1_allWays_3 20 rfl rfl)
theorem dX1_allWays_92 : decode cX1_allWays 92 = .ok (.if_icmp .ge 31, 3) := dk_162 0 31 (dk_at dksX1_allWays_3 21 rfl rfl)
theorem dX1_allWays_95 : decode cX1_allWays 95 = .ok (.aload_n 0, 1) := dk_42 (dk_at dksX1_allWays_4 0 rfl rfl)
theorem dX1_allWays_96 : decode cX1_allWays 96 = .ok (.getfield 77, 3) := dk_180 0 77 (dk_at dksX1_allWays_4 1 rfl rfl)
theorem dX1_allWays_99 : decode cX1_allWays 99 = .ok (.iconst 1, 1) := dk_4 (dk_at dksX1_allWays_4 4 rfl rfl)
theorem dX1_allWays_100 : decode cX1_allWays 100 = .ok (.iload_n 3, 1) := dk_29 (dk_at dksX1_allWays_4 5 rfl rfl)
theorem dX1_allWays_101 : decode cX1_allWays 101 = .ok (.iadd, 1) := dk_96 (dk_at dksX1_allWays_4 6 rfl rfl)
theorem dX1_allWays_102 : decode cX1_allWays 102 = .ok (.aaload, 1) := dk_50 (dk_at dksX1_allWays_4 7 rfl rfl)
theorem dX1_allWays_103 : decode cX1_allWays 103 = .ok (.iload_n 2, 1) := dk_28 (dk_at dksX1_allWays_4 8 rfl rfl)
theorem dX1_allWays_104 : decode cX1_allWays 104 = .ok (.aload_n 0, 1) := dk_42 (dk_at dksX1_allWays_4 9 rfl rfl)
theorem dX1_allWays_105 : decode cX1_allWays 105 = .ok (.getfield 61, 3) := dk_180 0 61 (dk_at dksX1_allWays_4 10 rfl rfl)
theorem dX1_allWays_108 : decode cX1_allWays 108 = .ok (.aload_n 0, 1) := dk_42 (dk_at dksX1_allWays_4 13 rfl rfl)
theorem dX1_allWays_109 : decode cX1_allWays 109 = .ok (.iload_n 3, 1) := dk_29 (dk_at dksX1_allWays_4 14 rfl rfl)
theorem dX1_allWays_110 : decode cX1_allWays 110 = .ok (.invokevirtual 456, 3) := dk_182 1 200 (dk_at dksX1_allWays_4 15 rfl rfl)
theorem dX1_allWays_113 : decode cX1_allWays 113 = .ok (.invokevirtual 428, 3) := dk_182 1 172 (dk_at dksX1_allWays_4 18 rfl rfl)
theorem dX1_allWays_116 : decode cX1_allWays 116 = .ok (.iastore, 1) := dk_79 (dk_at dksX1_allWays_4 21 rfl rfl)
theorem dX1_allWays_117 : decode cX1_allWays 117 = .ok (.iinc 3 1, 3) := dk_132 3 1 (dk_at dksX1_allWays_5 0 rfl rfl)
theorem dX1_allWays_120 : decode cX1_allWays 120 = .ok (.goto (-30), 3) := dk_167 255 226 (dk_at dksX1_allWays_5 3 rfl rfl)
theorem dX1_allWays_123 : decode cX1_allWays 123 = .ok (.iinc 2 1, 3) := dk_132 2 1 (dk_at dksX1_allWays_5 6 rfl rfl)
theorem dX1_allWays_126 : decode cX1_allWays 126 = .ok (.goto (-120), 3) := dk_167 255 136 (dk_at dksX1_allWays_5 9 rfl rfl)
theorem dX1_allWays_129 : decode cX1_allWays 129 = .ok (.return_, 1) := dk_177 (dk_at dksX1_allWays_5 12 rfl rfl)
abbrev cX1_beginCode : ByteArray := prog_1_method_45_code
def yX1_beginCode : MethodName := ⟨RX1, "beginCode", "(I)I"⟩
def dkwX1_beginCode_3 : List UInt8 := [42, 180, 0, 51, 182, 1, 144, 172]
abbrev dktX1_beginCode_3 : List UInt8 := dkwX1_beginCode_3 ++ []
def dkwX1_beginCode_2 : List UInt8 := [42, 180, 0, 51, 27, 181, 1, 116, 42, 180, 0, 51, 3, 181, 1, 119, 42, 180, 0, 51, 3, 181, 1, 122]
abbrev dktX1_beginCode_2 : List UInt8 := dkwX1_beginCode_2 ++ dktX1_beginCode_3
def dkwX1_beginCode_1 : List UInt8 := [180, 0, 14, 180, 1, 126, 116, 79, 42, 180, 0, 51, 180, 1, 113, 4, 42, 180, 0, 14, 180, 1, 129, 79]
abbrev dktX1_beginCode_1 : List UInt8 := dkwX1_beginCode_1 ++ dktX1_beginCode_2
def dkwX1_beginCode_0 : List UInt8 := [42, 180, 0, 51, 42, 180, 0, 14, 180, 1, 75, 182, 1, 150, 87, 42, 180, 0, 51, 180, 1, 113, 3, 42]
abbrev dktX1_beginCode_0 : List UInt8 := dkwX1_beginCode_0 ++ dktX1_beginCode_1
theorem dksX1_beginCode_0 : cX1_beginCode.data.toList.drop 0 = dktX1_beginCode_0 := by decide +kernel
theorem dksX1_beginCode_1 : cX1_beginCode.data.toList.drop 24 = dktX1_beginCode_1 := dk_seg dksX1_beginCode_0 24 rfl rfl
theorem dksX1_beginCode_2 : cX1_beginCode.data.toList.drop 48 = dktX1_beginCode_2 := dk_seg dksX1_beginCode_1 24 rfl rfl
theorem dksX1_beginCode_3 : cX1_beginCode.data.toList.drop 72 = dktX1_beginCode_3 := dk_seg dksX1_beginCode_2 24 rfl rfl
theorem dX1_beginCode_0 : decode cX1_beginCode 0 = .ok (.aload_n 0, 1) := dk_42 (dk_at dksX1_beginCode_0 0 rfl rfl)
theorem dX1_beginCode_1 : decode cX1_beginCode 1 = .ok (.getfield 51, 3) := dk_180 0 51 (dk_at dksX1_beginCode_0 1 rfl rfl)
theorem dX1_beginCode_4 : decode cX1_beginCode 4 = .ok (.aload_n 0, 1) := dk_42 (dk_at dksX1_beginCode_0 4 rfl rfl)
theorem dX1_beginCode_5 : decode cX1_beginCode 5 = .ok (.getfield 14, 3) := dk_180 0 14 (dk_at dksX1_beginCode_0 5 rfl rfl)
theorem dX1_beginCode_8 : decode cX1_beginCode 8 = .ok (.getfield 331, 3) := dk_180 1 75 (dk_at dksX1_beginCode_0 8 rfl rfl)
theorem dX1_beginCode_11 : decode cX1_beginCode 11 = .ok (.invokevirtual 406, 3) := dk_182 1 150 (dk_at dksX1_beginCode_0 11 rfl rfl)
theorem dX1_beginCode_14 : decode cX1_beginCode 14 = .ok (.pop, 1) := dk_87 (dk_at dksX1_beginCode_0 14 rfl rfl)
theorem dX1_beginCode_15 : decode cX1_beginCode 15 = .ok (.aload_n 0, 1) := dk_42 (dk_at dksX1_beginCode_0 15 rfl rfl)
theorem dX1_beginCode_16 : decode cX1_beginCode 16 = .ok (.getfield 51, 3) := dk_180 0 51 (dk_at dksX1_beginCode_0 16 rfl rfl)
theorem dX1_beginCode_19 : decode cX1_beginCode 19 = .ok (.getfield 369, 3) := dk_180 1 113 (dk_at dksX1_beginCode_0 19 rfl rfl)
theorem dX1_beginCode_22 : decode cX1_beginCode 22 = .ok (.iconst 0, 1) := dk_3 (dk_at dksX1_beginCode_0 22 rfl rfl)
theorem dX1_beginCode_23 : decode cX1_beginCode 23 = .ok (.aload_n 0, 1) := dk_42 (dk_at dksX1_beginCode_0 23 rfl rfl)
theorem dX1_beginCode_24 : decode cX1_beginCode 24 = .ok (.getfield 14, 3) := dk_180 0 14 (dk_at dksX1_beginCode_1 0 rfl rfl)
theorem dX1_beginCode_27 : decode cX1_beginCode 27 = .ok (.getfield 382, 3) := dk_180 1 126 (dk_at dksX1_beginCode_1 3 rfl rfl)
theorem dX1_beginCode_30 : decode cX1_beginCode 30 = .ok (.ineg, 1) := dk_116 (dk_at dksX1_beginCode_1 6 rfl rfl)
theorem dX1_beginCode_31 : decode cX1_beginCode 31 = .ok (.iastore, 1) := dk_79 (dk_at dksX1_beginCode_1 7 rfl rfl)
theorem dX1_beginCode_32 : decode cX1_beginCode 32 = .ok (.aload_n 0, 1) := dk_42 (dk_at dksX1_beginCode_1 8 rfl rfl)
theorem dX1_beginCode_33 : decode cX1_beginCode 33 = .ok (.getfield 51, 3) := dk_180 0 51 (dk_at dksX1_beginCode_1 9 rfl rfl)
theorem dX1_beginCode_36 : decode cX1_beginCode 36 = .ok (.getfield 369, 3) := dk_180 1 113 (dk_at dksX1_beginCode_1 12 rfl rfl)
theorem dX1_beginCode_39 : decode cX1_beginCode 39 = .ok (.iconst 1, 1) := dk_4 (dk_at dksX1_beginCode_1 15 rfl rfl)
theorem dX1_beginCode_40 : decode cX1_beginCode 40 = .ok (.aload_n 0, 1) := dk_42 (dk_at dksX1_beginCode_1 16 rfl rfl)
theorem dX1_beginCode_41 : decode cX1_beginCode 41 = .ok (.getfield 14, 3) := dk_180 0 14 (dk_at dksX1_beginCode_1 17 rfl rfl)
theorem dX1_beginCode_44 : decode cX1_beginCode 44 = .ok (.getfield 385, 3) := dk_180 1 129 (dk_at dksX1_beginCode_1 20 rfl rfl)
theorem dX1_beginCode_47 : decode cX1_beginCode 47 = .ok (.iastore, 1) := dk_79 (dk_at dksX1_beginCode_1 23 rfl rfl)
theorem dX1_beginCode_48 : decode cX1_beginCode 48 = .ok (.aload_n 0, 1) := dk_42 (dk_at dksX1_beginCode_2 0 rfl rfl)
theorem dX1_beginCode_49 : decode cX1_beginCode 49 = .ok (.getfield 51, 3) := dk_180 0 51 (dk_at dksX1_beginCode_2 1 rfl rfl)
theorem dX1_beginCode_52 : decode cX1_beginCode 52 = .ok (.iload_n 1, 1) := dk_27 (dk_at dksX1_beginCode_2 4 rfl rfl)
theorem dX1_beginCode_53 : decode cX1_beginCode 53 = .ok (.putfield 372, 3) := dk_181 1 116 (dk_at dksX1_beginCode_2 5 rfl rfl)
theorem dX1_beginCode_56 : decode cX1_beginCode 56 = .ok (.aload_n 0, 1) := dk_42 (dk_at dksX1_beginCode_2 8 rfl rfl)
theorem dX1_beginCode_57 : decode cX1_beginCode 57 = .ok (.getfield 51, 3) := dk_180 0 51 (dk_at dksX1_beginCode_2 9 rfl rfl)
theorem dX1_beginCode_60 : decode cX1_beginCode 60 = .ok (.iconst 0, 1) := dk_3 (dk_at dksX1_beginCode_2 12 rfl rfl)
theorem dX1_beginCode_61 : decode cX1_beginCode 61 = .ok (.putfield 375, 3) := dk_181 1 119 (dk_at dksX1_beginCode_2 13 rfl rfl)
theorem dX1_beginCode_64 : decode cX1_beginCode 64 = .ok (.aload_n 0, 1) := dk_42 (dk_at dksX1_beginCode_2 16 rfl rfl)
theorem dX1_beginCode_65 : decode cX1_beginCode 65 = .ok (.getfield 51, 3) := dk_180 0 51 (dk_at dksX1_beginCode_2 17 rfl rfl)
theorem dX1_beginCode_68 : decode cX1_beginCode 68 = .ok (.iconst 0, 1) := dk_3 (dk_at dksX1_beginCode_2 20 rfl rfl)
theorem dX1_beginCode_69 : decode cX1_beginCode 69 = .ok (.putfield 378, 3) := dk_181 1 122 (dk_at dksX1_beginCode_2 21 rfl rfl)
theorem dX1_beginCode_72 : decode cX1_beginCode 72 = .ok (.aload_n 0, 1) := dk_42 (dk_at dksX1_beginCode_3 0 rfl rfl)
theorem dX1_beginCode_73 : decode cX1_beginCode 73 = .ok (.getfield 51, 3) := dk_180 0 51 (dk_at dksX1_beginCode_3 1 rfl rfl)
theorem dX1_beginCode_76 : decode cX1_beginCode 76 = .ok (.invokevirtual 400, 3) := dk_182 1 144 (dk_at dksX1_beginCode_3 4 rfl rfl)
theorem dX1_beginCode_79 : decode cX1_beginCode 79 = .ok (.ireturn, 1) := dk_172 (dk_at dksX1_beginCode_3 7 rfl rfl)
abbrev cX1_setBy : ByteArray := prog_1_method_47_code
def yX1_setBy : MethodName := ⟨RX1, "setBy", "(IIIII)I"⟩
def dkwX1_setBy_8 : List UInt8 := [180, 0, 80, 21, 6, 22, 7, 136, 79, 22, 7, 136, 172]
abbrev dktX1_setBy_8 : List UInt8 := dkwX1_setBy_8 ++ []
def dkwX1_setBy_7 : List UInt8 := [21, 11, 133, 105, 20, 1, 207, 109, 97, 55, 7, 132, 9, 1, 167, 255, 169, 21, 5, 158, 0, 13, 42]
abbrev dktX1_setBy_7 : List UInt8 := dkwX1_setBy_7 ++ dktX1_setBy_8
def dkwX1_setBy_6 : List UInt8 := [21, 9, 5, 112, 96, 182, 1, 203, 54, 11, 22, 7, 42, 180, 0, 77, 21, 5, 50, 21, 9, 46, 133]
abbrev dktX1_setBy_6 : List UInt8 := dkwX1_setBy_6 ++ dktX1_setBy_7
def dkwX1_setBy_5 : List UInt8 := [4, 167, 0, 4, 3, 96, 29, 21, 10, 153, 0, 7, 3, 167, 0, 4, 4, 96, 21, 9, 5, 112, 4]
abbrev dktX1_setBy_5 : List UInt8 := dkwX1_setBy_5 ++ dktX1_setBy_6
def dkwX1_setBy_4 : List UInt8 := [162, 0, 87, 21, 9, 5, 162, 0, 7, 4, 167, 0, 4, 3, 54, 10, 42, 27, 28, 21, 10, 153, 0, 7]
abbrev dktX1_setBy_4 : List UInt8 := dkwX1_setBy_4 ++ dktX1_setBy_5
def dkwX1_setBy_3 : List UInt8 := [21, 6, 46, 155, 0, 11, 42, 180, 0, 80, 21, 6, 46, 172, 9, 55, 7, 3, 54, 9, 21, 9, 7]
abbrev dktX1_setBy_3 : List UInt8 := dkwX1_setBy_3 ++ dktX1_setBy_4
def dkwX1_setBy_2 : List UInt8 := [3, 172, 16, 7, 28, 104, 29, 96, 5, 104, 21, 4, 96, 54, 6, 21, 5, 158, 0, 21, 42, 180, 0, 80]
abbrev dktX1_setBy_2 : List UInt8 := dkwX1_setBy_2 ++ dktX1_setBy_3
def dkwX1_setBy_1 : List UInt8 := [154, 0, 7, 28, 167, 0, 4, 29, 42, 180, 0, 14, 180, 0, 151, 161, 0, 9, 19, 1, 199, 167, 0, 4]
abbrev dktX1_setBy_1 : List UInt8 := dkwX1_setBy_1 ++ dktX1_setBy_2
def dkwX1_setBy_0 : List UInt8 := [28, 42, 180, 0, 14, 180, 0, 151, 162, 0, 14, 29, 42, 180, 0, 14, 180, 0, 151, 161, 0, 30, 27]
abbrev dktX1_setBy_0 : List UInt8 := dkwX1_setBy_0 ++ dktX1_setBy_1
theorem dksX1_setBy_0 : cX1_setBy.data.toList.drop 0 = dktX1_setBy_0 := by decide +kernel
theorem dksX1_setBy_1 : cX1_setBy.data.toList.drop 23 = dktX1_setBy_1 := dk_seg dksX1_setBy_0 23 rfl rfl
theorem dksX1_setBy_2 : cX1_setBy.data.toList.drop 47 = dktX1_setBy_2 := dk_seg dksX1_setBy_1 24 rfl rfl
theorem dksX1_setBy_3 : cX1_setBy.data.toList.drop 71 = dktX1_setBy_3 := dk_seg dksX1_setBy_2 24 rfl rfl
theorem dksX1_setBy_4 : cX1_setBy.data.toList.drop 94 = dktX1_setBy_4 := dk_seg dksX1_setBy_3 23 rfl rfl
theorem dksX1_setBy_5 : cX1_setBy.data.toList.drop 118 = dktX1_setBy_5 := dk_seg dksX1_setBy_4 24 rfl rfl
theorem dksX1_setBy_6 : cX1_setBy.data.toList.drop 141 = dktX1_setBy_6 := dk_seg dksX1_setBy_5 23 rfl rfl
theorem dksX1_setBy_7 : cX1_setBy.data.toList.drop 164 = dktX1_setBy_7 := dk_seg dksX1_setBy_6 23 rfl rfl
theorem dksX1_setBy_8 : cX1_setBy.data.toList.drop 187 = dktX1_setBy_8 := dk_seg dksX1_setBy_7 23 rfl rfl
theorem dX1_setBy_0 : decode cX1_setBy 0 = .ok (.iload_n 2, 1) := dk_28 (dk_at dksX1_setBy_0 0 rfl rfl)
theorem dX1_setBy_1 : decode cX1_setBy 1 = .ok (.aload_n 0, 1) := dk_42 (dk_at dksX1_setBy_0 1 rfl rfl)
theorem dX1_setBy_2 : decode cX1_setBy 2 = .ok (.getfield 14, 3) := dk_180 0 14 (dk_at dksX1_setBy_0 2 rfl rfl)
theorem dX1_setBy_5 : decode cX1_setBy 5 = .ok (.getfield 151, 3) := dk_180 0 151 (dk_at dksX1_setBy_0 5 rfl rfl)
theorem dX1_setBy_8 : decode cX1_setBy 8 = .ok (.if_icmp .ge 14, 3) := dk_162 0 14 (dk_at dksX1_setBy_0 8 rfl rfl)
theorem dX1_setBy_11 : decode cX1_setBy 11 = .ok (.iload_n 3, 1) := dk_29 (dk_at dksX1_setBy_0 11 rfl rfl)
theorem dX1_setBy_12 : decode cX1_setBy 12 = .ok (.aload_n 0, 1) := dk_42 (dk_at dksX1_setBy_0 12 rfl rfl)
theorem dX1_setBy_13 : decode cX1_setBy 13 = .ok (.getfield 14, 3) := dk_180 0 14 (dk_at dksX1_setBy_0 13 rfl rfl)
theorem dX1_setBy_16 : decode cX1_setBy 16 = .ok (.getfield 151, 3) := dk_180 0 151 (dk_at dksX1_setBy_0 16 rfl rfl)
theorem dX1_setBy_19 : decode cX1_setBy 19 = .ok (.if_icmp .lt 30, 3) := dk_161 0 30 (dk_at dksX1_setBy_0 19 rfl rfl)
theorem dX1_setBy_22 : decode cX1_setBy 22 = .ok (.iload_n 1, 1) := dk_27 (dk_at dksX1_setBy_0 22 rfl rfl)
theorem dX1_setBy_23 : decode cX1_setBy 23 = .ok (.ifCond .ne 7, 3) := dk_154 0 7 (dk_at dksX1_setBy_1 0 rfl rfl)
theorem dX1_setBy_26 : decode cX1_setBy 26 = .ok (.iload_n 2, 1) := dk_28 (dk_at dksX1_setBy_1 3 rfl rfl)
theorem dX1_setBy_27 : decode cX1_setBy 27 = .ok (.goto 4, 3) := dk_167 0 4 (dk_at dksX1_setBy_1 4 rfl rfl)
theorem dX1_setBy_30 : decode cX1_setBy 30 = .ok (.iload_n 3, 1) := dk_29 (dk_at dksX1_setBy_1 7 rfl rfl)
theorem dX1_setBy_31 : decode cX1_setBy 31 = .ok (.aload_n 0, 1) := dk_42 (dk_at dksX1_setBy_1 8 rfl rfl)
theorem dX1_setBy_32 : decode cX1_setBy 32 = .ok (.getfield 14, 3) := dk_180 0 14 (dk_at dksX1_setBy_1 9 rfl rfl)
theorem dX1_setBy_35 : decode cX1_setBy 35 = .ok (.getfield 151, 3) := dk_180 0 151 (dk_at dksX1_setBy_1 12 rfl rfl)
theorem dX1_setBy_38 : decode cX1_setBy 38 = .ok (.if_icmp .lt 9, 3) := dk_161 0 9 (dk_at dksX1_setBy_1 15 rfl rfl)
theorem dX1_setBy_41 : decode cX1_setBy 41 = .ok (.ldc_w 455, 3) := dk_19 1 199 (dk_at dksX1_setBy_1 18 rfl rfl)
theorem dX1_setBy_44 : decode cX1_setBy 44 = .ok (.goto 4, 3) := dk_167 0 4 (dk_at dksX1_setBy_1 21 rfl rfl)
theorem dX1_setBy_47 : decode cX1_setBy 47 = .ok (.iconst 0, 1) := dk_3 (dk_at dksX1_setBy_2 0 rfl rfl)
theorem dX1_setBy_48 : decode cX1_setBy 48 = .ok (.ireturn, 1) := dk_172 (dk_at dksX1_setBy_2 1 rfl rfl)
theorem dX1_setBy_49 : decode cX1_setBy 49 = .ok (.bipush 7, 2) := dk_16 7 (dk_at dksX1_setBy_2 2 rfl rfl)
theorem dX1_setBy_51 : decode cX1_setBy 51 = .ok (.iload_n 2, 1) := dk_28 (dk_at dksX1_setBy_2 4 rfl rfl)
theorem dX1_setBy_52 : decode cX1_setBy 52 = .ok (.imul, 1) := dk_104 (dk_at dksX1_setBy_2 5 rfl rfl)
theorem dX1_setBy_53 : decode cX1_setBy 53 = .ok (.iload_n 3, 1) := dk_29 (dk_at dksX1_setBy_2 6 rfl rfl)
theorem dX1_setBy_54 : decode cX1_setBy 54 = .ok (.iadd, 1) := dk_96 (dk_at dksX1_setBy_2 7 rfl rfl)
theorem dX1_setBy_55 : decode cX1_setBy 55 = .ok (.iconst 2, 1) := dk_5 (dk_at dksX1_setBy_2 8 rfl rfl)
theorem dX1_setBy_56 : decode cX1_setBy 56 = .ok (.imul, 1) := dk_104 (dk_at dksX1_setBy_2 9 rfl rfl)
theorem dX1_setBy_57 : decode cX1_setBy 57 = .ok (.iload 4, 2) := dk_21 4 (dk_at dksX1_setBy_2 10 rfl rfl)
theorem dX1_setBy_59 : decode cX1_setBy 59 = .ok (.iadd, 1) := dk_96 (dk_at dksX1_setBy_2 12 rfl rfl)
theorem dX1_setBy_60 : decode cX1_setBy 60 = .ok (.istore 6, 2) := dk_54 6 (dk_at dksX1_setBy_2 13 rfl rfl)
theorem dX1_setBy_62 : decode cX1_setBy 62 = .ok (.iload 5, 2) := dk_21 5 (dk_at dksX1_setBy_2 15 rfl rfl)
theorem dX1_setBy_64 : decode cX1_setBy 64 = .ok (.ifCond .le 21, 3) := dk_158 0 21 (dk_at dksX1_setBy_2 17 rfl rfl)
theorem dX1_setBy_67 : decode cX1_setBy 67 = .ok (.aload_n 0, 1) := dk_42 (dk_at dksX1_setBy_2 20 rfl rfl)
theorem dX1_setBy_68 : decode cX1_setBy 68 = .ok (.getfield 80, 3) := dk_180 0 80 (dk_at dksX1_setBy_2 21 rfl rfl)
theorem dX1_setBy_71 : decode cX1_setBy 71 = .ok (.iload 6, 2) := dk_21 6 (dk_at dksX1_setBy_3 0 rfl rfl)
theorem dX1_setBy_73 : decode cX1_setBy 73 = .ok (.iaload, 1) := dk_46 (dk_at dksX1_setBy_3 2 rfl rfl)
theorem dX1_setBy_74 : decode cX1_setBy 74 = .ok (.ifCond .lt 11, 3) := dk_155 0 11 (dk_at dksX1_setBy_3 3 rfl rfl)
theorem dX1_setBy_77 : decode cX1_setBy 77 = .ok (.aload_n 0, 1) := dk_42 (dk_at dksX1_setBy_3 6 rfl rfl)
theorem dX1_setBy_78 : decode cX1_setBy 78 = .ok (.getfield 80, 3) := dk_180 0 80 (dk_at dksX1_setBy_3 7 rfl rfl)
theorem dX1_setBy_81 : decode cX1_setBy 81 = .ok (.iload 6, 2) := dk_21 6 (dk_at dksX1_setBy_3 10 rfl rfl)
theorem dX1_setBy_83 : decode cX1_setBy 83 = .ok (.iaload, 1) := dk_46 (dk_at dksX1_setBy_3 12 rfl rfl)
theorem dX1_setBy_84 : decode cX1_setBy 84 = .ok (.ireturn, 1) := dk_172 (dk_at dksX1_setBy_3 13 rfl rfl)
theorem dX1_setBy_85 : decode cX1_setBy 85 = .ok (.lconst 0, 1) := dk_9 (dk_at dksX1_setBy_3 14 rfl rfl)
theorem dX1_setBy_86 : decode cX1_setBy 86 = .ok (.lstore 7, 2) := dk_55 7 (dk_at dksX1_setBy_3 15 rfl rfl)
theorem dX1_setBy_88 : decode cX1_setBy 88 = .ok (.iconst 0, 1) := dk_3 (dk_at dksX1_setBy_3 17 rfl rfl)
theorem dX1_setBy_89 : decode cX1_setBy 89 = .ok (.istore 9, 2) := dk_54 9 (dk_at dksX1_setBy_3 18 rfl rfl)
theorem dX1_setBy_91 : decode cX1_setBy 91 = .ok (.iload 9, 2) := dk_21 9 (dk_at dksX1_setBy_3 20 rfl rfl)
theorem dX1_setBy_93 : decode cX1_setBy 93 = .ok (.iconst 4, 1) := dk_7 (dk_at dksX1_setBy_3 22 rfl rfl)
theorem dX1_setBy_94 : decode cX1_setBy 94 = .ok (.if_icmp .ge 87, 3) := dk_162 0 87 (dk_at dksX1_setBy_4 0 rfl rfl)
theorem dX1_setBy_97 : decode cX1_setBy 97 = .ok (.iload 9, 2) := dk_21 9 (dk_at dksX1_setBy_4 3 rfl rfl)
theorem dX1_setBy_99 : decode cX1_setBy 99 = .ok (.iconst 2, 1) := dk_5 (dk_at dksX1_setBy_4 5 rfl rfl)
theorem dX1_setBy_100 : decode cX1_setBy 100 = .ok (.if_icmp .ge 7, 3) := dk_162 0 7 (dk_at dksX1_setBy_4 6 rfl rfl)
theorem dX1_setBy_103 : decode cX1_setBy 103 = .ok (.iconst 1, 1) := dk_4 (dk_at dksX1_setBy_4 9 rfl rfl)
theorem dX1_setBy_104 : decode cX1_setBy 104 = .ok (.goto 4, 3) := dk_167 0 4 (dk_at dksX1_setBy_4 10 rfl rfl)
theorem dX1_setBy_107 : decode cX1_setBy 107 = .ok (.iconst 0, 1) := dk_3 (dk_at dksX1_setBy_4 13 rfl rfl)
theorem dX1_setBy_108 : decode cX1_setBy 108 = .ok (.istore 10, 2) := dk_54 10 (dk_at dksX1_setBy_4 14 rfl rfl)
theorem dX1_setBy_110 : decode cX1_setBy 110 = .ok (.aload_n 0, 1) := dk_42 (dk_at dksX1_setBy_4 16 rfl rfl)
theorem dX1_setBy_111 : decode cX1_setBy 111 = .ok (.iload_n 1, 1) := dk_27 (dk_at dksX1_setBy_4 17 rfl rfl)
theorem dX1_setBy_112 : decode cX1_setBy 112 = .ok (.iload_n 2, 1) := dk_28 (dk_at dksX1_setBy_4 18 rfl rfl)
theorem dX1_setBy_113 : decode cX1_setBy 113 = .ok (.iload 10, 2) := dk_21 10 (dk_at dksX1_setBy_4 19 rfl rfl)
theorem dX1_setBy_115 : decode cX1_setBy 115 = .ok (.ifCond .eq 7, 3) := dk_153 0 7 (dk_at dksX1_setBy_4 21 rfl rfl)
theorem dX1_setBy_118 : decode cX1_setBy 118 = .ok (.iconst 1, 1) := dk_4 (dk_at dksX1_setBy_5 0 rfl rfl)
theorem dX1_setBy_119 : decode cX1_setBy 119 = .ok (.goto 4, 3) := dk_167 0 4 (dk_at dksX1_setBy_5 1 rfl rfl)
theorem dX1_setBy_122 : decode cX1_setBy 122 = .ok (.iconst 0, 1) := dk_3 (dk_at dksX1_setBy_5 4 rfl rfl)
theorem dX1_setBy_123 : decode cX1_setBy 123 = .ok (.iadd, 1) := dk_96 (dk_at dksX1_setBy_5 5 rfl rfl)
theorem dX1_setBy_124 : decode cX1_setBy 124 = .ok (.iload_n 3, 1) := dk_29 (dk_at dksX1_setBy_5 6 rfl rfl)
theorem dX1_setBy_125 : decode cX1_setBy 125 = .ok (.iload 10, 2) := dk_21 10 (dk_at dksX1_setBy_5 7 rfl rfl)
theorem dX1_setBy_127 : decode cX1_setBy 127 = .ok (.ifCond .eq 7, 3) := dk_153 0 7 (dk_at dksX1_setBy_5 9 rfl rfl)
theorem dX1_setBy_130 : decode cX1_setBy 130 = .ok (.iconst 0, 1) := dk_3 (dk_at dksX1_setBy_5 12 rfl rfl)
theorem dX1_setBy_131 : decode cX1_setBy 131 = .ok (.goto 4, 3) := dk_167 0 4 (dk_at dksX1_setBy_5 13 rfl rfl)
theorem dX1_setBy_134 : decode cX1_setBy 134 = .ok (.iconst 1, 1) := dk_4 (dk_at dksX1_setBy_5 16 rfl rfl)
theorem dX1_setBy_135 : decode cX1_setBy 135 = .ok (.iadd, 1) := dk_96 (dk_at dksX1_setBy_5 17 rfl rfl)
theorem dX1_setBy_136 : decode cX1_setBy 136 = .ok (.iload 9, 2) := dk_21 9 (dk_at dksX1_setBy_5 18 rfl rfl)
theorem dX1_setBy_138 : decode cX1_setBy 138 = .ok (.iconst 2, 1) := dk_5 (dk_at dksX1_setBy_5 20 rfl rfl)
theorem dX1_setBy_139 : decode cX1_setBy 139 = .ok (.irem, 1) := dk_112 (dk_at dksX1_setBy_5 21 rfl rfl)
theorem dX1_setBy_140 : decode cX1_setBy 140 = .ok (.iconst 1, 1) := dk_4 (dk_at dksX1_setBy_5 22 rfl rfl)
theorem dX1_setBy_141 : decode cX1_setBy 141 = .ok (.iload 9, 2) := dk_21 9 (dk_at dksX1_setBy_6 0 rfl rfl)
theorem dX1_setBy_143 : decode cX1_setBy 143 = .ok (.iconst 2, 1) := dk_5 (dk_at dksX1_setBy_6 2 rfl rfl)
theorem dX1_setBy_144 : decode cX1_setBy 144 = .ok (.irem, 1) := dk_112 (dk_at dksX1_setBy_6 3 rfl rfl)
theorem dX1_setBy_145 : decode cX1_setBy 145 = .ok (.iadd, 1) := dk_96 (dk_at dksX1_setBy_6 4 rfl rfl)
theorem dX1_setBy_146 : decode cX1_setBy 146 = .ok (.invokevirtual 459, 3) := dk_182 1 203 (dk_at dksX1_setBy_6 5 rfl rfl)
theorem dX1_setBy_149 : decode cX1_setBy 149 = .ok (.istore 11, 2) := dk_54 11 (dk_at dksX1_setBy_6 8 rfl rfl)
theorem dX1_setBy_151 : decode cX1_setBy 151 = .ok (.lload 7, 2) := dk_22 7 (dk_at dksX1_setBy_6 10 rfl rfl)
theorem dX1_setBy_153 : decode cX1_setBy 153 = .ok (.aload_n 0, 1) := dk_42 (dk_at dksX1_setBy_6 12 rfl rfl)
theorem dX1_setBy_154 : decode cX1_setBy 154 = .ok (.getfield 77, 3) := dk_180 0 77 (dk_at dksX1_setBy_6 13 rfl rfl)
theorem dX1_setBy_157 : decode cX1_setBy 157 = .ok (.iload 5, 2) := dk_21 5 (dk_at dksX1_setBy_6 16 rfl rfl)
theorem dX1_setBy_159 : decode cX1_setBy 159 = .ok (.aaload, 1) := dk_50 (dk_at dksX1_setBy_6 18 rfl rfl)
theorem dX1_setBy_160 : decode cX1_setBy 160 = .ok (.iload 9, 2) := dk_21 9 (dk_at dksX1_setBy_6 19 rfl rfl)
theorem dX1_setBy_162 : decode cX1_setBy 162 = .ok (.iaload, 1) := dk_46 (dk_at dksX1_setBy_6 21 rfl rfl)
theorem dX1_setBy_163 : decode cX1_setBy 163 = .ok (.i2l, 1) := dk_133 (dk_at dksX1_setBy_6 22 rfl rfl)
theorem dX1_setBy_164 : decode cX1_setBy 164 = .ok (.iload 11, 2) := dk_21 11 (dk_at dksX1_setBy_7 0 rfl rfl)
theorem dX1_setBy_166 : decode cX1_setBy 166 = .ok (.i2l, 1) := dk_133 (dk_at dksX1_setBy_7 2 rfl rfl)
theorem dX1_setBy_167 : decode cX1_setBy 167 = .ok (.lmul, 1) := dk_105 (dk_at dksX1_setBy_7 3 rfl rfl)
theorem dX1_setBy_168 : decode cX1_setBy 168 = .ok (.ldc2_w 463, 3) := dk_20 1 207 (dk_at dksX1_setBy_7 4 rfl rfl)
theorem dX1_setBy_171 : decode cX1_setBy 171 = .ok (.ldiv, 1) := dk_109 (dk_at dksX1_setBy_7 7 rfl rfl)
theorem dX1_setBy_172 : decode cX1_setBy 172 = .ok (.ladd, 1) := dk_97 (dk_at dksX1_setBy_7 8 rfl rfl)
theorem dX1_setBy_173 : decode cX1_setBy 173 = .ok (.lstore 7, 2) := dk_55 7 (dk_at dksX1_setBy_7 9 rfl rfl)
theorem dX1_setBy_175 : decode cX1_setBy 175 = .ok (.iinc 9 1, 3) := dk_132 9 1 (dk_at dksX1_setBy_7 11 rfl rfl)
theorem dX1_setBy_178 : decode cX1_setBy 178 = .ok (.goto (-87), 3) := dk_167 255 169 (dk_at dksX1_setBy_7 14 rfl rfl)
theorem dX1_setBy_181 : decode cX1_setBy 181 = .ok (.iload 5, 2) := dk_21 5 (dk_at dksX1_setBy_7 17 rfl rfl)
theorem dX1_setBy_183 : decode cX1_setBy 183 = .ok (.ifCond .le 13, 3) := dk_158 0 13 (dk_at dksX1_setBy_7 19 rfl rfl)
theorem dX1_setBy_186 : decode cX1_setBy 186 = .ok (.aload_n 0, 1) := dk_42 (dk_at dksX1_setBy_7 22 rfl rfl)
theorem dX1_setBy_187 : decode cX1_setBy 187 = .ok (.getfield 80, 3) := dk_180 0 80 (dk_at dksX1_setBy_8 0 rfl rfl)
theorem dX1_setBy_190 : decode cX1_setBy 190 = .ok (.iload 6, 2) := dk_21 6 (dk_at dksX1_setBy_8 3 rfl rfl)
theorem dX1_setBy_192 : decode cX1_setBy 192 = .ok (.lload 7, 2) := dk_22 7 (dk_at dksX1_setBy_8 5 rfl rfl)
theorem dX1_setBy_194 : decode cX1_setBy 194 = .ok (.l2i, 1) := dk_136 (dk_at dksX1_setBy_8 7 rfl rfl)
theorem dX1_setBy_195 : decode cX1_setBy 195 = .ok (.iastore, 1) := dk_79 (dk_at dksX1_setBy_8 8 rfl rfl)
theorem dX1_setBy_196 : decode cX1_setBy 196 = .ok (.lload 7, 2) := dk_22 7 (dk_at dksX1_setBy_8 9 rfl rfl)
theorem dX1_setBy_198 : decode cX1_setBy 198 = .ok (.l2i, 1) := dk_136 (dk_at dksX1_setBy_8 11 rfl rfl)
theorem dX1_setBy_199 : decode cX1_setBy 199 = .ok (.ireturn, 1) := dk_172 (dk_at dksX1_setBy_8 12 rfl rfl)
abbrev cX1_ways : ByteArray := prog_1_method_49_code
def yX1_ways : MethodName := ⟨RX1, "ways", "(IIII)I"⟩
def dkwX1_ways_1 : List UInt8 := [180, 0, 77, 4, 27, 96, 50, 5, 28, 104, 29, 96, 46, 172]
abbrev dktX1_ways_1 : List UInt8 := dkwX1_ways_1 ++ []
def dkwX1_ways_0 : List UInt8 := [27, 184, 1, 85, 28, 184, 1, 85, 29, 184, 1, 85, 21, 4, 184, 1, 174, 42, 21, 4, 182, 1, 209, 42]
abbrev dktX1_ways_0 : List UInt8 := dkwX1_ways_0 ++ dktX1_ways_1
theorem dksX1_ways_0 : cX1_ways.data.toList.drop 0 = dktX1_ways_0 := by decide +kernel
theorem dksX1_ways_1 : cX1_ways.data.toList.drop 24 = dktX1_ways_1 := dk_seg dksX1_ways_0 24 rfl rfl
theorem dX1_ways_0 : decode cX1_ways 0 = .ok (.iload_n 1, 1) := dk_27 (dk_at dksX1_ways_0 0 rfl rfl)
theorem dX1_ways_1 : decode cX1_ways 1 = .ok (.invokestatic 341, 3) := dk_184 1 85 (dk_at dksX1_ways_0 1 rfl rfl)
theorem dX1_ways_4 : decode cX1_ways 4 = .ok (.iload_n 2, 1) := dk_28 (dk_at dksX1_ways_0 4 rfl rfl)
theorem dX1_ways_5 : decode cX1_ways 5 = .ok (.invokestatic 341, 3) := dk_184 1 85 (dk_at dksX1_ways_0 5 rfl rfl)
theorem dX1_ways_8 : decode cX1_ways 8 = .ok (.iload_n 3, 1) := dk_29 (dk_at dksX1_ways_0 8 rfl rfl)
theorem dX1_ways_9 : decode cX1_ways 9 = .ok (.invokestatic 341, 3) := dk_184 1 85 (dk_at dksX1_ways_0 9 rfl rfl)
theorem dX1_ways_12 : decode cX1_ways 12 = .ok (.iload 4, 2) := dk_21 4 (dk_at dksX1_ways_0 12 rfl rfl)
theorem dX1_ways_14 : decode cX1_ways 14 = .ok (.invokestatic 430, 3) := dk_184 1 174 (dk_at dksX1_ways_0 14 rfl rfl)
theorem dX1_ways_17 : decode cX1_ways 17 = .ok (.aload_n 0, 1) := dk_42 (dk_at dksX1_ways_0 17 rfl rfl)
theorem dX1_ways_18 : decode cX1_ways 18 = .ok (.iload 4, 2) := dk_21 4 (dk_at dksX1_ways_0 18 rfl rfl)
theorem dX1_ways_20 : decode cX1_ways 20 = .ok (.invokevirtual 465, 3) := dk_182 1 209 (dk_at dksX1_ways_0 20 rfl rfl)
theorem dX1_ways_23 : decode cX1_ways 23 = .ok (.aload_n 0, 1) := dk_42 (dk_at dksX1_ways_0 23 rfl rfl)
theorem dX1_ways_24 : decode cX1_ways 24 = .ok (.getfield 77, 3) := dk_180 0 77 (dk_at dksX1_ways_1 0 rfl rfl)
theorem dX1_ways_27 : decode cX1_ways 27 = .ok (.iconst 1, 1) := dk_4 (dk_at dksX1_ways_1 3 rfl rfl)
theorem dX1_ways_28 : decode cX1_ways 28 = .ok (.iload_n 1, 1) := dk_27 (dk_at dksX1_ways_1 4 rfl rfl)
theorem dX1_ways_29 : decode cX1_ways 29 = .ok (.iadd, 1) := dk_96 (dk_at dksX1_ways_1 5 rfl rfl)
theorem dX1_ways_30 : decode cX1_ways 30 = .ok (.aaload, 1) := dk_50 (dk_at dksX1_ways_1 6 rfl rfl)
theorem dX1_ways_31 : decode cX1_ways 31 = .ok (.iconst 2, 1) := dk_5 (dk_at dksX1_ways_1 7 rfl rfl)
theorem dX1_ways_32 : decode cX1_ways 32 = .ok (.iload_n 2, 1) := dk_28 (dk_at dksX1_ways_1 8 rfl rfl)
theorem dX1_ways_33 : decode cX1_ways 33 = .ok (.imul, 1) := dk_104 (dk_at dksX1_ways_1 9 rfl rfl)
theorem dX1_ways_34 : decode cX1_ways 34 = .ok (.iload_n 3, 1) := dk_29 (dk_at dksX1_ways_1 10 rfl rfl)
theorem dX1_ways_35 : decode cX1_ways 35 = .ok (.iadd, 1) := dk_96 (dk_at dksX1_ways_1 11 rfl rfl)
theorem dX1_ways_36 : decode cX1_ways 36 = .ok (.iaload, 1) := dk_46 (dk_at dksX1_ways_1 12 rfl rfl)
theorem dX1_ways_37 : decode cX1_ways 37 = .ok (.ireturn, 1) := dk_172 (dk_at dksX1_ways_1 13 rfl rfl)
abbrev cX1_even : ByteArray := prog_1_method_50_code
def yX1_even : MethodName := ⟨RX1, "even", "(II)I"⟩
def dkwX1_even_7 : List UInt8 := [132, 3, 1, 167, 255, 124, 2, 172]
abbrev dktX1_even_7 : List UInt8 := dkwX1_even_7 ++ []
def dkwX1_even_6 : List UInt8 := [17, 3, 232, 28, 104, 163, 0, 12, 16, 10, 21, 5, 104, 21, 4, 96, 172, 132, 4, 1, 167, 255, 145]
abbrev dktX1_even_6 : List UInt8 := dkwX1_even_6 ++ dktX1_even_7
def dkwX1_even_5 : List UInt8 := [181, 1, 122, 42, 180, 0, 61, 42, 180, 0, 51, 182, 1, 144, 182, 1, 172, 19, 1, 222, 100, 184, 1, 223]
abbrev dktX1_even_5 : List UInt8 := dkwX1_even_5 ++ dktX1_even_6
def dkwX1_even_4 : List UInt8 := [180, 0, 51, 180, 1, 113, 4, 21, 4, 79, 42, 180, 0, 51, 3, 181, 1, 119, 42, 180, 0, 51, 3]
abbrev dktX1_even_4 : List UInt8 := dkwX1_even_4 ++ dktX1_even_5
def dkwX1_even_3 : List UInt8 := [180, 0, 14, 180, 1, 75, 182, 1, 150, 87, 42, 180, 0, 51, 180, 1, 113, 3, 21, 5, 116, 79, 42]
abbrev dktX1_even_3 : List UInt8 := dkwX1_even_3 ++ dktX1_even_4
def dkwX1_even_2 : List UInt8 := [54, 4, 21, 4, 6, 29, 184, 1, 154, 163, 0, 107, 29, 21, 4, 100, 54, 5, 42, 180, 0, 51, 42]
abbrev dktX1_even_2 : List UInt8 := dkwX1_even_2 ++ dktX1_even_3
def dkwX1_even_1 : List UInt8 := [182, 1, 165, 27, 182, 1, 169, 87, 3, 62, 29, 16, 6, 163, 0, 132, 3, 29, 6, 100, 184, 1, 219]
abbrev dktX1_even_1 : List UInt8 := dkwX1_even_1 ++ dktX1_even_2
def dkwX1_even_0 : List UInt8 := [27, 184, 1, 174, 28, 3, 19, 1, 218, 184, 0, 108, 184, 1, 110, 42, 182, 1, 177, 42, 180, 0, 61, 3]
abbrev dktX1_even_0 : List UInt8 := dkwX1_even_0 ++ dktX1_even_1
theorem dksX1_even_0 : cX1_even.data.toList.drop 0 = dktX1_even_0 := by decide +kernel
theorem dksX1_even_1 : cX1_even.data.toList.drop 24 = dktX1_even_1 := dk_seg dksX1_even_0 24 rfl rfl
theorem dksX1_even_2 : cX1_even.data.toList.drop 47 = dktX1_even_2 := dk_seg dksX1_even_1 23 rfl rfl
theorem dksX1_even_3 : cX1_even.data.toList.drop 70 = dktX1_even_3 := dk_seg dksX1_even_2 23 rfl rfl
theorem dksX1_even_4 : cX1_even.data.toList.drop 93 = dktX1_even_4 := dk_seg dksX1_even_3 23 rfl rfl
theorem dksX1_even_5 : cX1_even.data.toList.drop 116 = dktX1_even_5 := dk_seg dksX1_even_4 23 rfl rfl
theorem dksX1_even_6 : cX1_even.data.toList.drop 140 = dktX1_even_6 := dk_seg dksX1_even_5 24 rfl rfl
theorem dksX1_even_7 : cX1_even.data.toList.drop 163 = dktX1_even_7 := dk_seg dksX1_even_6 23 rfl rfl
theorem dX1_even_0 : decode cX1_even 0 = .ok (.iload_n 1, 1) := dk_27 (dk_at dksX1_even_0 0 rfl rfl)
theorem dX1_even_1 : decode cX1_even 1 = .ok (.invokestatic 430, 3) := dk_184 1 174 (dk_at dksX1_even_0 1 rfl rfl)
theorem dX1_even_4 : decode cX1_even 4 = .ok (.iload_n 2, 1) := dk_28 (dk_at dksX1_even_0 4 rfl rfl)
theorem dX1_even_5 : decode cX1_even 5 = .ok (.iconst 0, 1) := dk_3 (dk_at dksX1_even_0 5 rfl rfl)
theorem dX1_even_6 : decode cX1_even 6 = .ok (.ldc_w 474, 3) := dk_19 1 218 (dk_at dksX1_even_0 6 rfl rfl)
theorem dX1_even_9 : decode cX1_even 9 = .ok (.invokestatic 108, 3) := dk_184 0 108 (dk_at dksX1_even_0 9 rfl rfl)
theorem dX1_even_12 : decode cX1_even 12 = .ok (.invokestatic 366, 3) := dk_184 1 110 (dk_at dksX1_even_0 12 rfl rfl)
theorem dX1_even_15 : decode cX1_even 15 = .ok (.aload_n 0, 1) := dk_42 (dk_at dksX1_even_0 15 rfl rfl)
theorem dX1_even_16 : decode cX1_even 16 = .ok (.invokevirtual 433, 3) := dk_182 1 177 (dk_at dksX1_even_0 16 rfl rfl)
theorem dX1_even_19 : decode cX1_even 19 = .ok (.aload_n 0, 1) := dk_42 (dk_at dksX1_even_0 19 rfl rfl)
theorem dX1_even_20 : decode cX1_even 20 = .ok (.getfield 61, 3) := dk_180 0 61 (dk_at dksX1_even_0 20 rfl rfl)
theorem dX1_even_23 : decode cX1_even 23 = .ok (.iconst 0, 1) := dk_3 (dk_at dksX1_even_0 23 rfl rfl)
theorem dX1_even_24 : decode cX1_even 24 = .ok (.invokevirtual 421, 3) := dk_182 1 165 (dk_at dksX1_even_1 0 rfl rfl)
theorem dX1_even_27 : decode cX1_even 27 = .ok (.iload_n 1, 1) := dk_27 (dk_at dksX1_even_1 3 rfl rfl)
theorem dX1_even_28 : decode cX1_even 28 = .ok (.invokevirtual 425, 3) := dk_182 1 169 (dk_at dksX1_even_1 4 rfl rfl)
theorem dX1_even_31 : decode cX1_even 31 = .ok (.pop, 1) := dk_87 (dk_at dksX1_even_1 7 rfl rfl)
theorem dX1_even_32 : decode cX1_even 32 = .ok (.iconst 0, 1) := dk_3 (dk_at dksX1_even_1 8 rfl rfl)
theorem dX1_even_33 : decode cX1_even 33 = .ok (.istore_n 3, 1) := dk_62 (dk_at dksX1_even_1 9 rfl rfl)
theorem dX1_even_34 : decode cX1_even 34 = .ok (.iload_n 3, 1) := dk_29 (dk_at dksX1_even_1 10 rfl rfl)
theorem dX1_even_35 : decode cX1_even 35 = .ok (.bipush 6, 2) := dk_16 6 (dk_at dksX1_even_1 11 rfl rfl)
theorem dX1_even_37 : decode cX1_even 37 = .ok (.if_icmp .gt 132, 3) := dk_163 0 132 (dk_at dksX1_even_1 13 rfl rfl)
theorem dX1_even_40 : decode cX1_even 40 = .ok (.iconst 0, 1) := dk_3 (dk_at dksX1_even_1 16 rfl rfl)
theorem dX1_even_41 : decode cX1_even 41 = .ok (.iload_n 3, 1) := dk_29 (dk_at dksX1_even_1 17 rfl rfl)
theorem dX1_even_42 : decode cX1_even 42 = .ok (.iconst 3, 1) := dk_6 (dk_at dksX1_even_1 18 rfl rfl)
theorem dX1_even_43 : decode cX1_even 43 = .ok (.isub, 1) := dk_100 (dk_at dksX1_even_1 19 rfl rfl)
theorem dX1_even_44 : decode cX1_even 44 = .ok (.invokestatic 475, 3) := dk_184 1 219 (dk_at dksX1_even_1 20 rfl rfl)
theorem dX1_even_47 : decode cX1_even 47 = .ok (.istore 4, 2) := dk_54 4 (dk_at dksX1_even_2 0 rfl rfl)
theorem dX1_even_49 : decode cX1_even 49 = .ok (.iload 4, 2) := dk_21 4 (dk_at dksX1_even_2 2 rfl rfl)
theorem dX1_even_51 : decode cX1_even 51 = .ok (.iconst 3, 1) := dk_6 (dk_at dksX1_even_2 4 rfl rfl)
theorem dX1_even_52 : decode cX1_even 52 = .ok (.iload_n 3, 1) := dk_29 (dk_at dksX1_even_2 5 rfl rfl)
theorem dX1_even_53 : decode cX1_even 53 = .ok (.invokestatic 410, 3) := dk_184 1 154 (dk_at dksX1_even_2 6 rfl rfl)
theorem dX1_even_56 : decode cX1_even 56 = .ok (.if_icmp .gt 107, 3) := dk_163 0 107 (dk_at dksX1_even_2 9 rfl rfl)
theorem dX1_even_59 : decode cX1_even 59 = .ok (.iload_n 3, 1) := dk_29 (dk_at dksX1_even_2 12 rfl rfl)
theorem dX1_even_60 : decode cX1_even 60 = .ok (.iload 4, 2) := dk_21 4 (dk_at dksX1_even_2 13 rfl rfl)
theorem dX1_even_62 : decode cX1_even 62 = .ok (.isub, 1) := dk_100 (dk_at dksX1_even_2 15 rfl rfl)
theorem dX1_even_63 : decode cX1_even 63 = .ok (.istore 5, 2) := dk_54 5 (dk_at dksX1_even_2 16 rfl rfl)
theorem dX1_even_65 : decode cX1_even 65 = .ok (.aload_n 0, 1) := dk_42 (dk_at dksX1_even_2 18 rfl rfl)
theorem dX1_even_66 : decode cX1_even 66 = .ok (.getfield 51, 3) := dk_180 0 51 (dk_at dksX1_even_2 19 rfl rfl)
theorem dX1_even_69 : decode cX1_even 69 = .ok (.aload_n 0, 1) := dk_42 (dk_at dksX1_even_2 22 rfl rfl)
theorem dX1_even_70 : decode cX1_even 70 = .ok (.getfield 14, 3) := dk_180 0 14 (dk_at dksX1_even_3 0 rfl rfl)
theorem dX1_even_73 : decode cX1_even 73 = .ok (.getfield 331, 3) := dk_180 1 75 (dk_at dksX1_even_3 3 rfl rfl)
theorem dX1_even_76 : decode cX1_even 76 = .ok (.invokevirtual 406, 3) := dk_182 1 150 (dk_at dksX1_even_3 6 rfl rfl)
theorem dX1_even_79 : decode cX1_even 79 = .ok (.pop, 1) := dk_87 (dk_at dksX1_even_3 9 rfl rfl)
theorem dX1_even_80 : decode cX1_even 80 = .ok (.aload_n 0, 1) := dk_42 (dk_at dksX1_even_3 10 rfl rfl)
theorem dX1_even_81 : decode cX1_even 81 = .ok (.getfield 51, 3) := dk_180 0 51 (dk_at dksX1_even_3 11 rfl rfl)
theorem dX1_even_84 : decode cX1_even 84 = .ok (.getfield 369, 3) := dk_180 1 113 (dk_at dksX1_even_3 14 rfl rfl)
theorem dX1_even_87 : decode cX1_even 87 = .ok (.iconst 0, 1) := dk_3 (dk_at dksX1_even_3 17 rfl rfl)
theorem dX1_even_88 : decode cX1_even 88 = .ok (.iload 5, 2) := dk_21 5 (dk_at dksX1_even_3 18 rfl rfl)
theorem dX1_even_90 : decode cX1_even 90 = .ok (.ineg, 1) := dk_116 (dk_at dksX1_even_3 20 rfl rfl)
theorem dX1_even_91 : decode cX1_even 91 = .ok (.iastore, 1) := dk_79 (dk_at dksX1_even_3 21 rfl rfl)
theorem dX1_even_92 : decode cX1_even 92 = .ok (.aload_n 0, 1) := dk_42 (dk_at dksX1_even_3 22 rfl rfl)
theorem dX1_even_93 : decode cX1_even 93 = .ok (.getfield 51, 3) := dk_180 0 51 (dk_at dksX1_even_4 0 rfl rfl)
theorem dX1_even_96 : decode cX1_even 96 = .ok (.getfield 369, 3) := dk_180 1 113 (dk_at dksX1_even_4 3 rfl rfl)
theorem dX1_even_99 : decode cX1_even 99 = .ok (.iconst 1, 1) := dk_4 (dk_at dksX1_even_4 6 rfl rfl)
theorem dX1_even_100 : decode cX1_even 100 = .ok (.iload 4, 2) := dk_21 4 (dk_at dksX1_even_4 7 rfl rfl)
theorem dX1_even_102 : decode cX1_even 102 = .ok (.iastore, 1) := dk_79 (dk_at dksX1_even_4 9 rfl rfl)
theorem dX1_even_103 : decode cX1_even 103 = .ok (.aload_n 0, 1) := dk_42 (dk_at dksX1_even_4 10 rfl rfl)
theorem dX1_even_104 : decode cX1_even 104 = .ok (.getfield 51, 3) := dk_180 0 51 (dk_at dksX1_even_4 11 rfl rfl)
theorem dX1_even_107 : decode cX1_even 107 = .ok (.iconst 0, 1) := dk_3 (dk_at dksX1_even_4 14 rfl rfl)
theorem dX1_even_108 : decode cX1_even 108 = .ok (.putfield 375, 3) := dk_181 1 119 (dk_at dksX1_even_4 15 rfl rfl)
theorem dX1_even_111 : decode cX1_even 111 = .ok (.aload_n 0, 1) := dk_42 (dk_at dksX1_even_4 18 rfl rfl)
theorem dX1_even_112 : decode cX1_even 112 = .ok (.getfield 51, 3) := dk_180 0 51 (dk_at dksX1_even_4 19 rfl rfl)
theorem dX1_even_115 : decode cX1_even 115 = .ok (.iconst 0, 1) := dk_3 (dk_at dksX1_even_4 22 rfl rfl)
theorem dX1_even_116 : decode cX1_even 116 = .ok (.putfield 378, 3) := dk_181 1 122 (dk_at dksX1_even_5 0 rfl rfl)
theorem dX1_even_119 : decode cX1_even 119 = .ok (.aload_n 0, 1) := dk_42 (dk_at dksX1_even_5 3 rfl rfl)
theorem dX1_even_120 : decode cX1_even 120 = .ok (.getfield 61, 3) := dk_180 0 61 (dk_at dksX1_even_5 4 rfl rfl)
theorem dX1_even_123 : decode cX1_even 123 = .ok (.aload_n 0, 1) := dk_42 (dk_at dksX1_even_5 7 rfl rfl)
theorem dX1_even_124 : decode cX1_even 124 = .ok (.getfield 51, 3) := dk_180 0 51 (dk_at dksX1_even_5 8 rfl rfl)
theorem dX1_even_127 : decode cX1_even 127 = .ok (.invokevirtual 400, 3) := dk_182 1 144 (dk_at dksX1_even_5 11 rfl rfl)
theorem dX1_even_130 : decode cX1_even 130 = .ok (.invokevirtual 428, 3) := dk_182 1 172 (dk_at dksX1_even_5 14 rfl rfl)
theorem dX1_even_133 : decode cX1_even 133 = .ok (.ldc_w 478, 3) := dk_19 1 222 (dk_at dksX1_even_5 17 rfl rfl)
theorem dX1_even_136 : decode cX1_even 136 = .ok (.isub, 1) := dk_100 (dk_at dksX1_even_5 20 rfl rfl)
theorem dX1_even_137 : decode cX1_even 137 = .ok (.invokestatic 479, 3) := dk_184 1 223 (dk_at dksX1_even_5 21 rfl rfl)
theorem dX1_even_140 : decode cX1_even 140 = .ok (.sipush 1000, 3) := dk_17 3 232 (dk_at dksX1_even_6 0 rfl rfl)
theorem dX1_even_143 : decode cX1_even 143 = .ok (.iload_n 2, 1) := dk_28 (dk_at dksX1_even_6 3 rfl rfl)
theorem dX1_even_144 : decode cX1_even 144 = .ok (.imul, 1) := dk_104 (dk_at dksX1_even_6 4 rfl rfl)
theorem dX1_even_145 : decode cX1_even 145 = .ok (.if_icmp .gt 12, 3) := dk_163 0 12 (dk_at dksX1_even_6 5 rfl rfl)
theorem dX1_even_148 : decode cX1_even 148 = .ok (.bipush 10, 2) := dk_16 10 (dk_at dksX1_even_6 8 rfl rfl)
theorem dX1_even_150 : decode cX1_even 150 = .ok (.iload 5, 2) := dk_21 5 (dk_at dksX1_even_6 10 rfl rfl)
theorem dX1_even_152 : decode cX1_even 152 = .ok (.imul, 1) := dk_104 (dk_at dksX1_even_6 12 rfl rfl)
theorem dX1_even_153 : decode cX1_even 153 = .ok (.iload 4, 2) := dk_21 4 (dk_at dksX1_even_6 13 rfl rfl)
theorem dX1_even_155 : decode cX1_even 155 = .ok (.iadd, 1) := dk_96 (dk_at dksX1_even_6 15 rfl rfl)
theorem dX1_even_156 : decode cX1_even 156 = .ok (.ireturn, 1) := dk_172 (dk_at dksX1_even_6 16 rfl rfl)
theorem dX1_even_157 : decode cX1_even 157 = .ok (.iinc 4 1, 3) := dk_132 4 1 (dk_at dksX1_even_6 17 rfl rfl)
theorem dX1_even_160 : decode cX1_even 160 = .ok (.goto (-111), 3) := dk_167 255 145 (dk_at dksX1_even_6 20 rfl rfl)
theorem dX1_even_163 : decode cX1_even 163 = .ok (.iinc 3 1, 3) := dk_132 3 1 (dk_at dksX1_even_7 0 rfl rfl)
theorem dX1_even_166 : decode cX1_even 166 = .ok (.goto (-132), 3) := dk_167 255 124 (dk_at dksX1_even_7 3 rfl rfl)
theorem dX1_even_169 : decode cX1_even 169 = .ok (.iconst (-1), 1) := dk_2 (dk_at dksX1_even_7 6 rfl rfl)
theorem dX1_even_170 : decode cX1_even 170 = .ok (.ireturn, 1) := dk_172 (dk_at dksX1_even_7 7 rfl rfl)
abbrev cX1_log : ByteArray := prog_1_method_52_code
def yX1_log : MethodName := ⟨RX1, "log", "(I)I"⟩
def dkwX1_log_4 : List UInt8 := [180, 0, 51, 27, 182, 1, 132, 172]
abbrev dktX1_log_4 : List UInt8 := dkwX1_log_4 ++ []
def dkwX1_log_3 : List UInt8 := [180, 0, 86, 29, 46, 182, 1, 139, 87, 132, 3, 1, 167, 255, 210, 27, 16, 9, 184, 1, 82, 42]
abbrev dktX1_log_3 : List UInt8 := dkwX1_log_3 ++ dktX1_log_4
def dkwX1_log_2 : List UInt8 := [153, 0, 11, 187, 1, 79, 89, 183, 1, 81, 191, 42, 180, 0, 51, 42, 180, 0, 83, 29, 46, 42]
abbrev dktX1_log_2 : List UInt8 := dkwX1_log_2 ++ dktX1_log_3
def dkwX1_log_1 : List UInt8 := [180, 0, 14, 180, 1, 75, 182, 1, 150, 87, 3, 62, 29, 28, 162, 0, 47, 42, 180, 0, 51, 182, 1, 78]
abbrev dktX1_log_1 : List UInt8 := dkwX1_log_1 ++ dktX1_log_2
def dkwX1_log_0 : List UInt8 := [42, 182, 1, 232, 61, 28, 2, 159, 0, 7, 4, 167, 0, 4, 3, 184, 1, 110, 42, 180, 0, 51, 42]
abbrev dktX1_log_0 : List UInt8 := dkwX1_log_0 ++ dktX1_log_1
theorem dksX1_log_0 : cX1_log.data.toList.drop 0 = dktX1_log_0 := by decide +kernel
theorem dksX1_log_1 : cX1_log.data.toList.drop 23 = dktX1_log_1 := dk_seg dksX1_log_0 23 rfl rfl
theorem dksX1_log_2 : cX1_log.data.toList.drop 47 = dktX1_log_2 := dk_seg dksX1_log_1 24 rfl rfl
theorem dksX1_log_3 : cX1_log.data.toList.drop 69 = dktX1_log_3 := dk_seg dksX1_log_2 22 rfl rfl
theorem dksX1_log_4 : cX1_log.data.toList.drop 91 = dktX1_log_4 := dk_seg dksX1_log_3 22 rfl rfl
theorem dX1_log_0 : decode cX1_log 0 = .ok (.aload_n 0, 1) := dk_42 (dk_at dksX1_log_0 0 rfl rfl)
theorem dX1_log_1 : decode cX1_log 1 = .ok (.invokevirtual 488, 3) := dk_182 1 232 (dk_at dksX1_log_0 1 rfl rfl)
theorem dX1_log_4 : decode cX1_log 4 = .ok (.istore_n 2, 1) := dk_61 (dk_at dksX1_log_0 4 rfl rfl)
theorem dX1_log_5 : decode cX1_log 5 = .ok (.iload_n 2, 1) := dk_28 (dk_at dksX1_log_0 5 rfl rfl)
theorem dX1_log_6 : decode cX1_log 6 = .ok (.iconst (-1), 1) := dk_2 (dk_at dksX1_log_0 6 rfl rfl)
theorem dX1_log_7 : decode cX1_log 7 = .ok (.if_icmp .eq 7, 3) := dk_159 0 7 (dk_at dksX1_log_0 7 rfl rfl)
theorem dX1_log_10 : decode cX1_log 10 = .ok (.iconst 1, 1) := dk_4 (dk_at dksX1_log_0 10 rfl rfl)
theorem dX1_log_11 : decode cX1_log 11 = .ok (.goto 4, 3) := dk_167 0 4 (dk_at dksX1_log_0 11 rfl rfl)
theorem dX1_log_14 : decode cX1_log 14 = .ok (.iconst 0, 1) := dk_3 (dk_at dksX1_log_0 14 rfl rfl)
theorem dX1_log_15 : decode cX1_log 15 = .ok (.invokestatic 366, 3) := dk_184 1 110 (dk_at dksX1_log_0 15 rfl rfl)
theorem dX1_log_18 : decode cX1_log 18 = .ok (.aload_n 0, 1) := dk_42 (dk_at dksX1_log_0 18 rfl rfl)
theorem dX1_log_19 : decode cX1_log 19 = .ok (.getfield 51, 3) := dk_180 0 51 (dk_at dksX1_log_0 19 rfl rfl)
theorem dX1_log_22 : decode cX1_log 22 = .ok (.aload_n 0, 1) := dk_42 (dk_at dksX1_log_0 22 rfl rfl)
theorem dX1_log_23 : decode cX1_log 23 = .ok (.getfield 14, 3) := dk_180 0 14 (dk_at dksX1_log_1 0 rfl rfl)
theorem dX1_log_26 : decode cX1_log 26 = .ok (.getfield 331, 3) := dk_180 1 75 (dk_at dksX1_log_1 3 rfl rfl)
theorem dX1_log_29 : decode cX1_log 29 = .ok (.invokevirtual 406, 3) := dk_182 1 150 (dk_at dksX1_log_1 6 rfl rfl)
theorem dX1_log_32 : decode cX1_log 32 = .ok (.pop, 1) := dk_87 (dk_at dksX1_log_1 9 rfl rfl)
theorem dX1_log_33 : decode cX1_log 33 = .ok (.iconst 0, 1) := dk_3 (dk_at dksX1_log_1 10 rfl rfl)
theorem dX1_log_34 : decode cX1_log 34 = .ok (.istore_n 3, 1) := dk_62 (dk_at dksX1_log_1 11 rfl rfl)
theorem dX1_log_35 : decode cX1_log 35 = .ok (.iload_n 3, 1) := dk_29 (dk_at dksX1_log_1 12 rfl rfl)
theorem dX1_log_36 : decode cX1_log 36 = .ok (.iload_n 2, 1) := dk_28 (dk_at dksX1_log_1 13 rfl rfl)
theorem dX1_log_37 : decode cX1_log 37 = .ok (.if_icmp .ge 47, 3) := dk_162 0 47 (dk_at dksX1_log_1 14 rfl rfl)
theorem dX1_log_40 : decode cX1_log 40 = .ok (.aload_n 0, 1) := dk_42 (dk_at dksX1_log_1 17 rfl rfl)
theorem dX1_log_41 : decode cX1_log 41 = .ok (.getfield 51, 3) := dk_180 0 51 (dk_at dksX1_log_1 18 rfl rfl)
theorem dX1_log_44 : decode cX1_log 44 = .ok (.invokevirtual 334, 3) := dk_182 1 78 (dk_at dksX1_log_1 21 rfl rfl)
theorem dX1_log_47 : decode cX1_log 47 = .ok (.ifCond .eq 11, 3) := dk_153 0 11 (dk_at dksX1_log_2 0 rfl rfl)
theorem dX1_log_50 : decode cX1_log 50 = .ok (.new 335, 3) := dk_187 1 79 (dk_at dksX1_log_2 3 rfl rfl)
theorem dX1_log_53 : decode cX1_log 53 = .ok (.dup, 1) := dk_89 (dk_at dksX1_log_2 6 rfl rfl)
theorem dX1_log_54 : decode cX1_log 54 = .ok (.invokespecial 337, 3) := dk_183 1 81 (dk_at dksX1_log_2 7 rfl rfl)
theorem dX1_log_57 : decode cX1_log 57 = .ok (.athrow, 1) := dk_191 (dk_at dksX1_log_2 10 rfl rfl)
theorem dX1_log_58 : decode cX1_log 58 = .ok (.aload_n 0, 1) := dk_42 (dk_at dksX1_log_2 11 rfl rfl)
theorem dX1_log_59 : decode cX1_log 59 = .ok (.getfield 51, 3) := dk_180 0 51 (dk_at dksX1_log_2 12 rfl rfl)
theorem dX1_log_62 : decode cX1_log 62 = .ok (.aload_n 0, 1) := dk_42 (dk_at dksX1_log_2 15 rfl rfl)
theorem dX1_log_63 : decode cX1_log 63 = .ok (.getfield 83, 3) := dk_180 0 83 (dk_at dksX1_log_2 16 rfl rfl)
theorem dX1_log_66 : decode cX1_log 66 = .ok (.iload_n 3, 1) := dk_29 (dk_at dksX1_log_2 19 rfl rfl)
theorem dX1_log_67 : decode cX1_log 67 = .ok (.iaload, 1) := dk_46 (dk_at dksX1_log_2 20 rfl rfl)
theorem dX1_log_68 : decode cX1_log 68 = .ok (.aload_n 0, 1) := dk_42 (dk_at dksX1_log_2 21 rfl rfl)
theorem dX1_log_69 : decode cX1_log 69 = .ok (.getfield 86, 3) := dk_180 0 86 (dk_at dksX1_log_3 0 rfl rfl)
theorem dX1_log_72 : decode cX1_log 72 = .ok (.iload_n 3, 1) := dk_29 (dk_at dksX1_log_3 3 rfl rfl)
theorem dX1_log_73 : decode cX1_log 73 = .ok (.iaload, 1) := dk_46 (dk_at dksX1_log_3 4 rfl rfl)
theorem dX1_log_74 : decode cX1_log 74 = .ok (.invokevirtual 395, 3) := dk_182 1 139 (dk_at dksX1_log_3 5 rfl rfl)
theorem dX1_log_77 : decode cX1_log 77 = .ok (.pop, 1) := dk_87 (dk_at dksX1_log_3 8 rfl rfl)
theorem dX1_log_78 : decode cX1_log 78 = .ok (.iinc 3 1, 3) := dk_132 3 1 (dk_at dksX1_log_3 9 rfl rfl)
theorem dX1_log_81 : decode cX1_log 81 = .ok (.goto (-46), 3) := dk_167 255 210 (dk_at dksX1_log_3 12 rfl rfl)
theorem dX1_log_84 : decode cX1_log 84 = .ok (.iload_n 1, 1) := dk_27 (dk_at dksX1_log_3 15 rfl rfl)
theorem dX1_log_85 : decode cX1_log 85 = .ok (.bipush 9, 2) := dk_16 9 (dk_at dksX1_log_3 16 rfl rfl)
theorem dX1_log_87 : decode cX1_log 87 = .ok (.invokestatic 338, 3) := dk_184 1 82 (dk_at dksX1_log_3 18 rfl rfl)
theorem dX1_log_90 : decode cX1_log 90 = .ok (.aload_n 0, 1) := dk_42 (dk_at dksX1_log_3 21 rfl rfl)
theorem dX1_log_91 : decode cX1_log 91 = .ok (.getfield 51, 3) := dk_180 0 51 (dk_at dksX1_log_4 0 rfl rfl)
theorem dX1_log_94 : decode cX1_log 94 = .ok (.iload_n 1, 1) := dk_27 (dk_at dksX1_log_4 3 rfl rfl)
theorem dX1_log_95 : decode cX1_log 95 = .ok (.invokevirtual 388, 3) := dk_182 1 132 (dk_at dksX1_log_4 4 rfl rfl)
theorem dX1_log_98 : decode cX1_log 98 = .ok (.ireturn, 1) := dk_172 (dk_at dksX1_log_4 7 rfl rfl)
abbrev cX1_logged : ByteArray := prog_1_method_51_code
def yX1_logged : MethodName := ⟨RX1, "logged", "()I"⟩
def dkwX1_logged_6 : List UInt8 := [184, 0, 108, 154, 0, 5, 2, 172, 132, 2, 1, 167, 255, 137, 43, 180, 1, 226, 5, 108, 172]
abbrev dktX1_logged_6 : List UInt8 := dkwX1_logged_6 ++ []
def dkwX1_logged_5 : List UInt8 := [42, 180, 0, 86, 28, 46, 3, 42, 180, 0, 83, 28, 46, 5, 160, 0, 8, 16, 9, 167, 0, 4, 3]
abbrev dktX1_logged_5 : List UInt8 := dkwX1_logged_5 ++ dktX1_logged_6
def dkwX1_logged_4 : List UInt8 := [43, 180, 1, 229, 5, 28, 104, 4, 96, 51, 16, 48, 100, 79, 42, 180, 0, 83, 28, 46, 2, 159, 0, 32]
abbrev dktX1_logged_4 : List UInt8 := dkwX1_logged_4 ++ dktX1_logged_5
def dkwX1_logged_3 : List UInt8 := [160, 0, 7, 4, 167, 0, 14, 29, 16, 100, 160, 0, 7, 5, 167, 0, 4, 2, 79, 42, 180, 0, 86, 28]
abbrev dktX1_logged_3 : List UInt8 := dkwX1_logged_3 ++ dktX1_logged_4
def dkwX1_logged_2 : List UInt8 := [28, 104, 51, 62, 42, 180, 0, 83, 28, 29, 16, 119, 160, 0, 7, 3, 167, 0, 24, 29, 16, 108]
abbrev dktX1_logged_2 : List UInt8 := dkwX1_logged_2 ++ dktX1_logged_3
def dkwX1_logged_1 : List UInt8 := [16, 60, 164, 0, 5, 2, 172, 3, 61, 28, 43, 180, 1, 226, 5, 108, 162, 0, 115, 43, 180, 1, 229, 5]
abbrev dktX1_logged_1 : List UInt8 := dkwX1_logged_1 ++ dktX1_logged_2
def dkwX1_logged_0 : List UInt8 := [42, 180, 0, 21, 76, 43, 182, 0, 184, 43, 180, 1, 226, 5, 112, 4, 159, 0, 12, 43, 180, 1, 226]
abbrev dktX1_logged_0 : List UInt8 := dkwX1_logged_0 ++ dktX1_logged_1
theorem dksX1_logged_0 : cX1_logged.data.toList.drop 0 = dktX1_logged_0 := by decide +kernel
theorem dksX1_logged_1 : cX1_logged.data.toList.drop 23 = dktX1_logged_1 := dk_seg dksX1_logged_0 23 rfl rfl
theorem dksX1_logged_2 : cX1_logged.data.toList.drop 47 = dktX1_logged_2 := dk_seg dksX1_logged_1 24 rfl rfl
theorem dksX1_logged_3 : cX1_logged.data.toList.drop 69 = dktX1_logged_3 := dk_seg dksX1_logged_2 22 rfl rfl
theorem dksX1_logged_4 : cX1_logged.data.toList.drop 93 = dktX1_logged_4 := dk_seg dksX1_logged_3 24 rfl rfl
theorem dksX1_logged_5 : cX1_logged.data.toList.drop 117 = dktX1_logged_5 := dk_seg dksX1_logged_4 24 rfl rfl
theorem dksX1_logged_6 : cX1_logged.data.toList.drop 140 = dktX1_logged_6 := dk_seg dksX1_logged_5 23 rfl rfl
theorem dX1_logged_0 : decode cX1_logged 0 = .ok (.aload_n 0, 1) := dk_42 (dk_at dksX1_logged_0 0 rfl rfl)
theorem dX1_logged_1 : decode cX1_logged 1 = .ok (.getfield 21, 3) := dk_180 0 21 (dk_at dksX1_logged_0 1 rfl rfl)
theorem dX1_logged_4 : decode cX1_logged 4 = .ok (.astore_n 1, 1) := dk_76 (dk_at dksX1_logged_0 4 rfl rfl)
theorem dX1_logged_5 : decode cX1_logged 5 = .ok (.aload_n 1, 1) := dk_43 (dk_at dksX1_logged_0 5 rfl rfl)
theorem dX1_logged_6 : decode cX1_logged 6 = .ok (.invokevirtual 184, 3) := dk_182 0 184 (dk_at dksX1_logged_0 6 rfl rfl)
theorem dX1_logged_9 : decode cX1_logged 9 = .ok (.aload_n 1, 1) := dk_43 (dk_at dksX1_logged_0 9 rfl rfl)
theorem dX1_logged_10 : decode cX1_logged 10 = .ok (.getfield 482, 3) := dk_180 1 226 (dk_at dksX1_logged_0 10 rfl rfl)
theorem dX1_logged_13 : decode cX1_logged 13 = .ok (.iconst 2, 1) := dk_5 (dk_at dksX1_logged_0 13 rfl rfl)
theorem dX1_logged_14 : decode cX1_logged 14 = .ok (.irem, 1) := dk_112 (dk_at dksX1_logged_0 14 rfl rfl)
theorem dX1_logged_15 : decode cX1_logged 15 = .ok (.iconst 1, 1) := dk_4 (dk_at dksX1_logged_0 15 rfl rfl)
theorem dX1_logged_16 : decode cX1_logged 16 = .ok (.if_icmp .eq 12, 3) := dk_159 0 12 (dk_at dksX1_logged_0 16 rfl rfl)
theorem dX1_logged_19 : decode cX1_logged 19 = .ok (.aload_n 1, 1) := dk_43 (dk_at dksX1_logged_0 19 rfl rfl)
theorem dX1_logged_20 : decode cX1_logged 20 = .ok (.getfield 482, 3) := dk_180 1 226 (dk_at dksX1_logged_0 20 rfl rfl)
theorem dX1_logged_23 : decode cX1_logged 23 = .ok (.bipush 60, 2) := dk_16 60 (dk_at dksX1_logged_1 0 rfl rfl)
theorem dX1_logged_25 : decode cX1_logged 25 = .ok (.if_icmp .le 5, 3) := dk_164 0 5 (dk_at dksX1_logged_1 2 rfl rfl)
theorem dX1_logged_28 : decode cX1_logged 28 = .ok (.iconst (-1), 1) := dk_2 (dk_at dksX1_logged_1 5 rfl rfl)
theorem dX1_logged_29 : decode cX1_logged 29 = .ok (.ireturn, 1) := dk_172 (dk_at dksX1_logged_1 6 rfl rfl)
theorem dX1_logged_30 : decode cX1_logged 30 = .ok (.iconst 0, 1) := dk_3 (dk_at dksX1_logged_1 7 rfl rfl)
theorem dX1_logged_31 : decode cX1_logged 31 = .ok (.istore_n 2, 1) := dk_61 (dk_at dksX1_logged_1 8 rfl rfl)
theorem dX1_logged_32 : decode cX1_logged 32 = .ok (.iload_n 2, 1) := dk_28 (dk_at dksX1_logged_1 9 rfl rfl)
theorem dX1_logged_33 : decode cX1_logged 33 = .ok (.aload_n 1, 1) := dk_43 (dk_at dksX1_logged_1 10 rfl rfl)
theorem dX1_logged_34 : decode cX1_logged 34 = .ok (.getfield 482, 3) := dk_180 1 226 (dk_at dksX1_logged_1 11 rfl rfl)
theorem dX1_logged_37 : decode cX1_logged 37 = .ok (.iconst 2, 1) := dk_5 (dk_at dksX1_logged_1 14 rfl rfl)
theorem dX1_logged_38 : decode cX1_logged 38 = .ok (.idiv, 1) := dk_108 (dk_at dksX1_logged_1 15 rfl rfl)
theorem dX1_logged_39 : decode cX1_logged 39 = .ok (.if_icmp .ge 115, 3) := dk_162 0 115 (dk_at dksX1_logged_1 16 rfl rfl)
theorem dX1_logged_42 : decode cX1_logged 42 = .ok (.aload_n 1, 1) := dk_43 (dk_at dksX1_logged_1 19 rfl rfl)
theorem dX1_logged_43 : decode cX1_logged 43 = .ok (.getfield 485, 3) := dk_180 1 229 (dk_at dksX1_logged_1 20 rfl rfl)
theorem dX1_logged_46 : decode cX1_logged 46 = .ok (.iconst 2, 1) := dk_5 (dk_at dksX1_logged_1 23 rfl rfl)
theorem dX1_logged_47 : decode cX1_logged 47 = .ok (.iload_n 2, 1) := dk_28 (dk_at dksX1_logged_2 0 rfl rfl)
theorem dX1_logged_48 : decode cX1_logged 48 = .ok (.imul, 1) := dk_104 (dk_at dksX1_logged_2 1 rfl rfl)
theorem dX1_logged_49 : decode cX1_logged 49 = .ok (.baload, 1) := dk_51 (dk_at dksX1_logged_2 2 rfl rfl)
theorem dX1_logged_50 : decode cX1_logged 50 = .ok (.istore_n 3, 1) := dk_62 (dk_at dksX1_logged_2 3 rfl rfl)
theorem dX1_logged_51 : decode cX1_logged 51 = .ok (.aload_n 0, 1) := dk_42 (dk_at dksX1_logged_2 4 rfl rfl)
theorem dX1_logged_52 : decode cX1_logged 52 = .ok (.getfield 83, 3) := dk_180 0 83 (dk_at dksX1_logged_2 5 rfl rfl)
theorem dX1_logged_55 : decode cX1_logged 55 = .ok (.iload_n 2, 1) := dk_28 (dk_at dksX1_logged_2 8 rfl rfl)
theorem dX1_logged_56 : decode cX1_logged 56 = .ok (.iload_n 3, 1) := dk_29 (dk_at dksX1_logged_2 9 rfl rfl)
theorem dX1_logged_57 : decode cX1_logged 57 = .ok (.bipush 119, 2) := dk_16 119 (dk_at dksX1_logged_2 10 rfl rfl)
theorem dX1_logged_59 : decode cX1_logged 59 = .ok (.if_icmp .ne 7, 3) := dk_160 0 7 (dk_at dksX1_logged_2 12 rfl rfl)
theorem dX1_logged_62 : decode cX1_logged 62 = .ok (.iconst 0, 1) := dk_3 (dk_at dksX1_logged_2 15 rfl rfl)
theorem dX1_logged_63 : decode cX1_logged 63 = .ok (.goto 24, 3) := dk_167 0 24 (dk_at dksX1_logged_2 16 rfl rfl)
theorem dX1_logged_66 : decode cX1_logged 66 = .ok (.iload_n 3, 1) := dk_29 (dk_at dksX1_logged_2 19 rfl rfl)
theorem dX1_logged_67 : decode cX1_logged 67 = .ok (.bipush 108, 2) := dk_16 108 (dk_at dksX1_logged_2 20 rfl rfl)
theorem dX1_logged_69 : decode cX1_logged 69 = .ok (.if_icmp .ne 7, 3) := dk_160 0 7 (dk_at dksX1_logged_3 0 rfl rfl)
theorem dX1_logged_72 : decode cX1_logged 72 = .ok (.iconst 1, 1) := dk_4 (dk_at dksX1_logged_3 3 rfl rfl)
theorem dX1_logged_73 : decode cX1_logged 73 = .ok (.goto 14, 3) := dk_167 0 14 (dk_at dksX1_logged_3 4 rfl rfl)
theorem dX1_logged_76 : decode cX1_logged 76 = .ok (.iload_n 3, 1) := dk_29 (dk_at dksX1_logged_3 7 rfl rfl)
theorem dX1_logged_77 : decode cX1_logged 77 = .ok (.bipush 100, 2) := dk_16 100 (dk_at dksX1_logged_3 8 rfl rfl)
theorem dX1_logged_79 : decode cX1_logged 79 = .ok (.if_icmp .ne 7, 3) := dk_160 0 7 (dk_at dksX1_logged_3 10 rfl rfl)
theorem dX1_logged_82 : decode cX1_logged 82 = .ok (.iconst 2, 1) := dk_5 (dk_at dksX1_logged_3 13 rfl rfl)
theorem dX1_logged_83 : decode cX1_logged 83 = .ok (.goto 4, 3) := dk_167 0 4 (dk_at dksX1_logged_3 14 rfl rfl)
theorem dX1_logged_86 : decode cX1_logged 86 = .ok (.iconst (-1), 1) := dk_2 (dk_at dksX1_logged_3 17 rfl rfl)
theorem dX1_logged_87 : decode cX1_logged 87 = .ok (.iastore, 1) := dk_79 (dk_at dksX1_logged_3 18 rfl rfl)
theorem dX1_logged_88 : decode cX1_logged 88 = .ok (.aload_n 0, 1) := dk_42 (dk_at dksX1_logged_3 19 rfl rfl)
theorem dX1_logged_89 : decode cX1_logged 89 = .ok (.getfield 86, 3) := dk_180 0 86 (dk_at dksX1_logged_3 20 rfl rfl)
theorem dX1_logged_92 : decode cX1_logged 92 = .ok (.iload_n 2, 1) := dk_28 (dk_at dksX1_logged_3 23 rfl rfl)
theorem dX1_logged_93 : decode cX1_logged 93 = .ok (.aload_n 1, 1) := dk_43 (dk_at dksX1_logged_4 0 rfl rfl)
theorem dX1_logged_94 : decode cX1_logged 94 = .ok (.getfield 485, 3) := dk_180 1 229 (dk_at dksX1_logged_4 1 rfl rfl)
theorem dX1_logged_97 : decode cX1_logged 97 = .ok (.iconst 2, 1) := dk_5 (dk_at dksX1_logged_4 4 rfl rfl)
theorem dX1_logged_98 : decode cX1_logged 98 = .ok (.iload_n 2, 1) := dk_28 (dk_at dksX1_logged_4 5 rfl rfl)
theorem dX1_logged_99 : decode cX1_logged 99 = .ok (.imul, 1) := dk_104 (dk_at dksX1_logged_4 6 rfl rfl)
theorem dX1_logged_100 : decode cX1_logged 100 = .ok (.iconst 1, 1) := dk_4 (dk_at dksX1_logged_4 7 rfl rfl)
theorem dX1_logged_101 : decode cX1_logged 101 = .ok (.iadd, 1) := dk_96 (dk_at dksX1_logged_4 8 rfl rfl)
theorem dX1_logged_102 : decode cX1_logged 102 = .ok (.baload, 1) := dk_51 (dk_at dksX1_logged_4 9 rfl rfl)
theorem dX1_logged_103 : decode cX1_logged 103 = .ok (.bipush 48, 2) := dk_16 48 (dk_at dksX1_logged_4 10 rfl rfl)
theorem dX1_logged_105 : decode cX1_logged 105 = .ok (.isub, 1) := dk_100 (dk_at dksX1_logged_4 12 rfl rfl)
theorem dX1_logged_106 : decode cX1_logged 106 = .ok (.iastore, 1) := dk_79 (dk_at dksX1_logged_4 13 rfl rfl)
theorem dX1_logged_107 : decode cX1_logged 107 = .ok (.aload_n 0, 1) := dk_42 (dk_at dksX1_logged_4 14 rfl rfl)
theorem dX1_logged_108 : decode cX1_logged 108 = .ok (.getfield 83, 3) := dk_180 0 83 (dk_at dksX1_logged_4 15 rfl rfl)
theorem dX1_logged_111 : decode cX1_logged 111 = .ok (.iload_n 2, 1) := dk_28 (dk_at dksX1_logged_4 18 rfl rfl)
theorem dX1_logged_112 : decode cX1_logged 112 = .ok (.iaload, 1) := dk_46 (dk_at dksX1_logged_4 19 rfl rfl)
theorem dX1_logged_113 : decode cX1_logged 113 = .ok (.iconst (-1), 1) := dk_2 (dk_at dksX1_logged_4 20 rfl rfl)
theorem dX1_logged_114 : decode cX1_logged 114 = .ok (.if_icmp .eq 32, 3) := dk_159 0 32 (dk_at dksX1_logged_4 21 rfl rfl)
theorem dX1_logged_117 : decode cX1_logged 117 = .ok (.aload_n 0, 1) := dk_42 (dk_at dksX1_logged_5 0 rfl rfl)
theorem dX1_logged_118 : decode cX1_logged 118 = .ok (.getfield 86, 3) := dk_180 0 86 (dk_at dksX1_logged_5 1 rfl rfl)
theorem dX1_logged_121 : decode cX1_logged 121 = .ok (.iload_n 2, 1) := dk_28 (dk_at dksX1_logged_5 4 rfl rfl)
theorem dX1_logged_122 : decode cX1_logged 122 = .ok (.iaload, 1) := dk_46 (dk_at dksX1_logged_5 5 rfl rfl)
theorem dX1_logged_123 : decode cX1_logged 123 = .ok (.iconst 0, 1) := dk_3 (dk_at dksX1_logged_5 6 rfl rfl)
theorem dX1_logged_124 : decode cX1_logged 124 = .ok (.aload_n 0, 1) := dk_42 (dk_at dksX1_logged_5 7 rfl rfl)
theorem dX1_logged_125 : decode cX1_logged 125 = .ok (.getfield 83, 3) := dk_180 0 83 (dk_at dksX1_logged_5 8 rfl rfl)
theorem dX1_logged_128 : decode cX1_logged 128 = .ok (.iload_n 2, 1) := dk_28 (dk_at dksX1_logged_5 11 rfl rfl)
theorem dX1_logged_129 : decode cX1_logged 129 = .ok (.iaload, 1) := dk_46 (dk_at dksX1_logged_5 12 rfl rfl)
theorem dX1_logged_130 : decode cX1_logged 130 = .ok (.iconst 2, 1) := dk_5 (dk_at dksX1_logged_5 13 rfl rfl)
theorem dX1_logged_131 : decode cX1_logged 131 = .ok (.if_icmp .ne 8, 3) := dk_160 0 8 (dk_at dksX1_logged_5 14 rfl rfl)
theorem dX1_logged_134 : decode cX1_logged 134 = .ok (.bipush 9, 2) := dk_16 9 (dk_at dksX1_logged_5 17 rfl rfl)
theorem dX1_logged_136 : decode cX1_logged 136 = .ok (.goto 4, 3) := dk_167 0 4 (dk_at dksX1_logged_5 19 rfl rfl)
theorem dX1_logged_139 : decode cX1_logged 139 = .ok (.iconst 0, 1) := dk_3 (dk_at dksX1_logged_5 22 rfl rfl)
theorem dX1_logged_140 : decode cX1_logged 140 = .ok (.invokestatic 108, 3) := dk_184 0 108 (dk_at dksX1_logged_6 0 rfl rfl)
theorem dX1_logged_143 : decode cX1_logged 143 = .ok (.ifCond .ne 5, 3) := dk_154 0 5 (dk_at dksX1_logged_6 3 rfl rfl)
theorem dX1_logged_146 : decode cX1_logged 146 = .ok (.iconst (-1), 1) := dk_2 (dk_at dksX1_logged_6 6 rfl rfl)
theorem dX1_logged_147 : decode cX1_logged 147 = .ok (.ireturn, 1) := dk_172 (dk_at dksX1_logged_6 7 rfl rfl)
theorem dX1_logged_148 : decode cX1_logged 148 = .ok (.iinc 2 1, 3) := dk_132 2 1 (dk_at dksX1_logged_6 8 rfl rfl)
theorem dX1_logged_151 : decode cX1_logged 151 = .ok (.goto (-119), 3) := dk_167 255 137 (dk_at dksX1_logged_6 11 rfl rfl)
theorem dX1_logged_154 : decode cX1_logged 154 = .ok (.aload_n 1, 1) := dk_43 (dk_at dksX1_logged_6 14 rfl rfl)
theorem dX1_logged_155 : decode cX1_logged 155 = .ok (.getfield 482, 3) := dk_180 1 226 (dk_at dksX1_logged_6 15 rfl rfl)
theorem dX1_logged_158 : decode cX1_logged 158 = .ok (.iconst 2, 1) := dk_5 (dk_at dksX1_logged_6 18 rfl rfl)
theorem dX1_logged_159 : decode cX1_logged 159 = .ok (.idiv, 1) := dk_108 (dk_at dksX1_logged_6 19 rfl rfl)
theorem dX1_logged_160 : decode cX1_logged 160 = .ok (.ireturn, 1) := dk_172 (dk_at dksX1_logged_6 20 rfl rfl)
abbrev cX1_mends : ByteArray := prog_1_method_53_code
def yX1_mends : MethodName := ⟨RX1, "mends", "(IIIIZ)J"⟩
def dkwX1_mends_4 : List UInt8 := [182, 1, 240, 173]
abbrev dktX1_mends_4 : List UInt8 := dkwX1_mends_4 ++ []
def dkwX1_mends_3 : List UInt8 := [21, 7, 46, 182, 1, 238, 132, 7, 1, 167, 255, 225, 42, 180, 0, 92, 27, 28, 29, 21, 4, 21, 5]
abbrev dktX1_mends_3 : List UInt8 := dkwX1_mends_3 ++ dktX1_mends_4
def dkwX1_mends_2 : List UInt8 := [54, 7, 21, 7, 21, 6, 162, 0, 30, 42, 180, 0, 92, 42, 180, 0, 83, 21, 7, 46, 42, 180, 0, 86]
abbrev dktX1_mends_2 : List UInt8 := dkwX1_mends_2 ++ dktX1_mends_3
def dkwX1_mends_1 : List UInt8 := [42, 180, 0, 14, 180, 1, 75, 182, 1, 150, 87, 42, 180, 0, 92, 42, 180, 0, 51, 182, 1, 235, 3]
abbrev dktX1_mends_1 : List UInt8 := dkwX1_mends_1 ++ dktX1_mends_2
def dkwX1_mends_0 : List UInt8 := [42, 182, 1, 232, 54, 6, 21, 6, 2, 159, 0, 7, 4, 167, 0, 4, 3, 184, 1, 110, 42, 180, 0, 51]
abbrev dktX1_mends_0 : List UInt8 := dkwX1_mends_0 ++ dktX1_mends_1
theorem dksX1_mends_0 : cX1_mends.data.toList.drop 0 = dktX1_mends_0 := by decide +kernel
theorem dksX1_mends_1 : cX1_mends.data.toList.drop 24 = dktX1_mends_1 := dk_seg dksX1_mends_0 24 rfl rfl
theorem dksX1_mends_2 : cX1_mends.data.toList.drop 47 = dktX1_mends_2 := dk_seg dksX1_mends_1 23 rfl rfl
theorem dksX1_mends_3 : cX1_mends.data.toList.drop 71 = dktX1_mends_3 := dk_seg dksX1_mends_2 24 rfl rfl
theorem dksX1_mends_4 : cX1_mends.data.toList.drop 94 = dktX1_mends_4 := dk_seg dksX1_mends_3 23 rfl rfl
theorem dX1_mends_0 : decode cX1_mends 0 = .ok (.aload_n 0, 1) := dk_42 (dk_at dksX1_mends_0 0 rfl rfl)
theorem dX1_mends_1 : decode cX1_mends 1 = .ok (.invokevirtual 488, 3) := dk_182 1 232 (dk_at dksX1_mends_0 1 rfl rfl)
theorem dX1_mends_4 : decode cX1_mends 4 = .ok (.istore 6, 2) := dk_54 6 (dk_at dksX1_mends_0 4 rfl rfl)
theorem dX1_mends_6 : decode cX1_mends 6 = .ok (.iload 6, 2) := dk_21 6 (dk_at dksX1_mends_0 6 rfl rfl)
theorem dX1_mends_8 : decode cX1_mends 8 = .ok (.iconst (-1), 1) := dk_2 (dk_at dksX1_mends_0 8 rfl rfl)
theorem dX1_mends_9 : decode cX1_mends 9 = .ok (.if_icmp .eq 7, 3) := dk_159 0 7 (dk_at dksX1_mends_0 9 rfl rfl)
theorem dX1_mends_12 : decode cX1_mends 12 = .ok (.iconst 1, 1) := dk_4 (dk_at dksX1_mends_0 12 rfl rfl)
theorem dX1_mends_13 : decode cX1_mends 13 = .ok (.goto 4, 3) := dk_167 0 4 (dk_at dksX1_mends_0 13 rfl rfl)
theorem dX1_mends_16 : decode cX1_mends 16 = .ok (.iconst 0, 1) := dk_3 (dk_at dksX1_mends_0 16 rfl rfl)
theorem dX1_mends_17 : decode cX1_mends 17 = .ok (.invokestatic 366, 3) := dk_184 1 110 (dk_at dksX1_mends_0 17 rfl rfl)
theorem dX1_mends_20 : decode cX1_mends 20 = .ok (.aload_n 0, 1) := dk_42 (dk_at dksX1_mends_0 20 rfl rfl)
theorem dX1_mends_21 : decode cX1_mends 21 = .ok (.getfield 51, 3) := dk_180 0 51 (dk_at dksX1_mends_0 21 rfl rfl)
theorem dX1_mends_24 : decode cX1_mends 24 = .ok (.aload_n 0, 1) := dk_42 (dk_at dksX1_mends_1 0 rfl rfl)
theorem dX1_mends_25 : decode cX1_mends 25 = .ok (.getfield 14, 3) := dk_180 0 14 (dk_at dksX1_mends_1 1 rfl rfl)
theorem dX1_mends_28 : decode cX1_mends 28 = .ok (.getfield 331, 3) := dk_180 1 75 (dk_at dksX1_mends_1 4 rfl rfl)
theorem dX1_mends_31 : decode cX1_mends 31 = .ok (.invokevirtual 406, 3) := dk_182 1 150 (dk_at dksX1_mends_1 7 rfl rfl)
theorem dX1_mends_34 : decode cX1_mends 34 = .ok (.pop, 1) := dk_87 (dk_at dksX1_mends_1 10 rfl rfl)
theorem dX1_mends_35 : decode cX1_mends 35 = .ok (.aload_n 0, 1) := dk_42 (dk_at dksX1_mends_1 11 rfl rfl)
theorem dX1_mends_36 : decode cX1_mends 36 = .ok (.getfield 92, 3) := dk_180 0 92 (dk_at dksX1_mends_1 12 rfl rfl)
theorem dX1_mends_39 : decode cX1_mends 39 = .ok (.aload_n 0, 1) := dk_42 (dk_at dksX1_mends_1 15 rfl rfl)
theorem dX1_mends_40 : decode cX1_mends 40 = .ok (.getfield 51, 3) := dk_180 0 51 (dk_at dksX1_mends_1 16 rfl rfl)
theorem dX1_mends_43 : decode cX1_mends 43 = .ok (.invokevirtual 491, 3) := dk_182 1 235 (dk_at dksX1_mends_1 19 rfl rfl)
theorem dX1_mends_46 : decode cX1_mends 46 = .ok (.iconst 0, 1) := dk_3 (dk_at dksX1_mends_1 22 rfl rfl)
theorem dX1_mends_47 : decode cX1_mends 47 = .ok (.istore 7, 2) := dk_54 7 (dk_at dksX1_mends_2 0 rfl rfl)
theorem dX1_mends_49 : decode cX1_mends 49 = .ok (.iload 7, 2) := dk_21 7 (dk_at dksX1_mends_2 2 rfl rfl)
theorem dX1_mends_51 : decode cX1_mends 51 = .ok (.iload 6, 2) := dk_21 6 (dk_at dksX1_mends_2 4 rfl rfl)
theorem dX1_mends_53 : decode cX1_mends 53 = .ok (.if_icmp .ge 30, 3) := dk_162 0 30 (dk_at dksX1_mends_2 6 rfl rfl)
theorem dX1_mends_56 : decode cX1_mends 56 = .ok (.aload_n 0, 1) := dk_42 (dk_at dksX1_mends_2 9 rfl rfl)
theorem dX1_mends_57 : decode cX1_mends 57 = .ok (.getfield 92, 3) := dk_180 0 92 (dk_at dksX1_mends_2 10 rfl rfl)
theorem dX1_mends_60 : decode cX1_mends 60 = .ok (.aload_n 0, 1) := dk_42 (dk_at dksX1_mends_2 13 rfl rfl)
theorem dX1_mends_61 : decode cX1_mends 61 = .ok (.getfield 83, 3) := dk_180 0 83 (dk_at dksX1_mends_2 14 rfl rfl)
theorem dX1_mends_64 : decode cX1_mends 64 = .ok (.iload 7, 2) := dk_21 7 (dk_at dksX1_mends_2 17 rfl rfl)
theorem dX1_mends_66 : decode cX1_mends 66 = .ok (.iaload, 1) := dk_46 (dk_at dksX1_mends_2 19 rfl rfl)
theorem dX1_mends_67 : decode cX1_mends 67 = .ok (.aload_n 0, 1) := dk_42 (dk_at dksX1_mends_2 20 rfl rfl)
theorem dX1_mends_68 : decode cX1_mends 68 = .ok (.getfield 86, 3) := dk_180 0 86 (dk_at dksX1_mends_2 21 rfl rfl)
theorem dX1_mends_71 : decode cX1_mends 71 = .ok (.iload 7, 2) := dk_21 7 (dk_at dksX1_mends_3 0 rfl rfl)
theorem dX1_mends_73 : decode cX1_mends 73 = .ok (.iaload, 1) := dk_46 (dk_at dksX1_mends_3 2 rfl rfl)
theorem dX1_mends_74 : decode cX1_mends 74 = .ok (.invokevirtual 494, 3) := dk_182 1 238 (dk_at dksX1_mends_3 3 rfl rfl)
theorem dX1_mends_77 : decode cX1_mends 77 = .ok (.iinc 7 1, 3) := dk_132 7 1 (dk_at dksX1_mends_3 6 rfl rfl)
theorem dX1_mends_80 : decode cX1_mends 80 = .ok (.goto (-31), 3) := dk_167 255 225 (dk_at dksX1_mends_3 9 rfl rfl)
theorem dX1_mends_83 : decode cX1_mends 83 = .ok (.aload_n 0, 1) := dk_42 (dk_at dksX1_mends_3 12 rfl rfl)
theorem dX1_mends_84 : decode cX1_mends 84 = .ok (.getfield 92, 3) := dk_180 0 92 (dk_at dksX1_mends_3 13 rfl rfl)
theorem dX1_mends_87 : decode cX1_mends 87 = .ok (.iload_n 1, 1) := dk_27 (dk_at dksX1_mends_3 16 rfl rfl)
theorem dX1_mends_88 : decode cX1_mends 88 = .ok (.iload_n 2, 1) := dk_28 (dk_at dksX1_mends_3 17 rfl rfl)
theorem dX1_mends_89 : decode cX1_mends 89 = .ok (.iload_n 3, 1) := dk_29 (dk_at dksX1_mends_3 18 rfl rfl)
theorem dX1_mends_90 : decode cX1_mends 90 = .ok (.iload 4, 2) := dk_21 4 (dk_at dksX1_mends_3 19 rfl rfl)
theorem dX1_mends_92 : decode cX1_mends 92 = .ok (.iload 5, 2) := dk_21 5 (dk_at dksX1_mends_3 21 rfl rfl)
theorem dX1_mends_94 : decode cX1_mends 94 = .ok (.invokevirtual 496, 3) := dk_182 1 240 (dk_at dksX1_mends_4 0 rfl rfl)
theorem dX1_mends_97 : decode cX1_mends 97 = .ok (.lreturn, 1) := dk_173 (dk_at dksX1_mends_4 3 rfl rfl)
abbrev cX1_play : ByteArray := prog_1_method_55_code
def yX1_play : MethodName := ⟨RX1, "play", "(III)I"⟩
def dkwX1_play_5 : List UInt8 := [160, 0, 8, 21, 5, 167, 0, 11, 42, 180, 0, 51, 29, 182, 1, 132, 172]
abbrev dktX1_play_5 : List UInt8 := dkwX1_play_5 ++ []
def dkwX1_play_4 : List UInt8 := [21, 6, 5, 184, 1, 154, 21, 6, 5, 100, 182, 1, 139, 87, 132, 5, 1, 167, 255, 185, 29, 16, 10]
abbrev dktX1_play_4 : List UInt8 := dkwX1_play_4 ++ dktX1_play_5
def dkwX1_play_3 : List UInt8 := [180, 0, 51, 21, 4, 16, 16, 122, 17, 127, 255, 126, 16, 100, 112, 182, 1, 245, 54, 6, 42, 180, 0, 51]
abbrev dktX1_play_3 : List UInt8 := dkwX1_play_3 ++ dktX1_play_4
def dkwX1_play_2 : List UInt8 := [180, 0, 51, 182, 1, 78, 154, 0, 61, 21, 4, 19, 1, 244, 104, 17, 48, 57, 96, 54, 4, 42, 42]
abbrev dktX1_play_2 : List UInt8 := dkwX1_play_2 ++ dktX1_play_3
def dkwX1_play_1 : List UInt8 := [180, 0, 14, 180, 1, 75, 182, 1, 150, 87, 27, 54, 4, 3, 54, 5, 21, 5, 28, 162, 0, 71, 42]
abbrev dktX1_play_1 : List UInt8 := dkwX1_play_1 ++ dktX1_play_2
def dkwX1_play_0 : List UInt8 := [28, 3, 17, 0, 200, 184, 0, 108, 184, 1, 110, 29, 16, 10, 184, 1, 82, 42, 180, 0, 51, 42]
abbrev dktX1_play_0 : List UInt8 := dkwX1_play_0 ++ dktX1_play_1
theorem dksX1_play_0 : cX1_play.data.toList.drop 0 = dktX1_play_0 := by decide +kernel
theorem dksX1_play_1 : cX1_play.data.toList.drop 22 = dktX1_play_1 := dk_seg dksX1_play_0 22 rfl rfl
theorem dksX1_play_2 : cX1_play.data.toList.drop 45 = dktX1_play_2 := dk_seg dksX1_play_1 23 rfl rfl
theorem dksX1_play_3 : cX1_play.data.toList.drop 68 = dktX1_play_3 := dk_seg dksX1_play_2 23 rfl rfl
theorem dksX1_play_4 : cX1_play.data.toList.drop 92 = dktX1_play_4 := dk_seg dksX1_play_3 24 rfl rfl
theorem dksX1_play_5 : cX1_play.data.toList.drop 115 = dktX1_play_5 := dk_seg dksX1_play_4 23 rfl rfl
theorem dX1_play_0 : decode cX1_play 0 = .ok (.iload_n 2, 1) := dk_28 (dk_at dksX1_play_0 0 rfl rfl)
theorem dX1_play_1 : decode cX1_play 1 = .ok (.iconst 0, 1) := dk_3 (dk_at dksX1_play_0 1 rfl rfl)
theorem dX1_play_2 : decode cX1_play 2 = .ok (.sipush 200, 3) := dk_17 0 200 (dk_at dksX1_play_0 2 rfl rfl)
theorem dX1_play_5 : decode cX1_play 5 = .ok (.invokestatic 108, 3) := dk_184 0 108 (dk_at dksX1_play_0 5 rfl rfl)
theorem dX1_play_8 : decode cX1_play 8 = .ok (.invokestatic 366, 3) := dk_184 1 110 (dk_at dksX1_play_0 8 rfl rfl)
theorem dX1_play_11 : decode cX1_play 11 = .ok (.iload_n 3, 1) := dk_29 (dk_at dksX1_play_0 11 rfl rfl)
theorem dX1_play_12 : decode cX1_play 12 = .ok (.bipush 10, 2) := dk_16 10 (dk_at dksX1_play_0 12 rfl rfl)
theorem dX1_play_14 : decode cX1_play 14 = .ok (.invokestatic 338, 3) := dk_184 1 82 (dk_at dksX1_play_0 14 rfl rfl)
theorem dX1_play_17 : decode cX1_play 17 = .ok (.aload_n 0, 1) := dk_42 (dk_at dksX1_play_0 17 rfl rfl)
theorem dX1_play_18 : decode cX1_play 18 = .ok (.getfield 51, 3) := dk_180 0 51 (dk_at dksX1_play_0 18 rfl rfl)
theorem dX1_play_21 : decode cX1_play 21 = .ok (.aload_n 0, 1) := dk_42 (dk_at dksX1_play_0 21 rfl rfl)
theorem dX1_play_22 : decode cX1_play 22 = .ok (.getfield 14, 3) := dk_180 0 14 (dk_at dksX1_play_1 0 rfl rfl)
theorem dX1_play_25 : decode cX1_play 25 = .ok (.getfield 331, 3) := dk_180 1 75 (dk_at dksX1_play_1 3 rfl rfl)
theorem dX1_play_28 : decode cX1_play 28 = .ok (.invokevirtual 406, 3) := dk_182 1 150 (dk_at dksX1_play_1 6 rfl rfl)
theorem dX1_play_31 : decode cX1_play 31 = .ok (.pop, 1) := dk_87 (dk_at dksX1_play_1 9 rfl rfl)
theorem dX1_play_32 : decode cX1_play 32 = .ok (.iload_n 1, 1) := dk_27 (dk_at dksX1_play_1 10 rfl rfl)
theorem dX1_play_33 : decode cX1_play 33 = .ok (.istore 4, 2) := dk_54 4 (dk_at dksX1_play_1 11 rfl rfl)
theorem dX1_play_35 : decode cX1_play 35 = .ok (.iconst 0, 1) := dk_3 (dk_at dksX1_play_1 13 rfl rfl)
theorem dX1_play_36 : decode cX1_play 36 = .ok (.istore 5, 2) := dk_54 5 (dk_at dksX1_play_1 14 rfl rfl)
theorem dX1_play_38 : decode cX1_play 38 = .ok (.iload 5, 2) := dk_21 5 (dk_at dksX1_play_1 16 rfl rfl)
theorem dX1_play_40 : decode cX1_play 40 = .ok (.iload_n 2, 1) := dk_28 (dk_at dksX1_play_1 18 rfl rfl)
theorem dX1_play_41 : decode cX1_play 41 = .ok (.if_icmp .ge 71, 3) := dk_162 0 71 (dk_at dksX1_play_1 19 rfl rfl)
theorem dX1_play_44 : decode cX1_play 44 = .ok (.aload_n 0, 1) := dk_42 (dk_at dksX1_play_1 22 rfl rfl)
theorem dX1_play_45 : decode cX1_play 45 = .ok (.getfield 51, 3) := dk_180 0 51 (dk_at dksX1_play_2 0 rfl rfl)
theorem dX1_play_48 : decode cX1_play 48 = .ok (.invokevirtual 334, 3) := dk_182 1 78 (dk_at dksX1_play_2 3 rfl rfl)
theorem dX1_play_51 : decode cX1_play 51 = .ok (.ifCond .ne 61, 3) := dk_154 0 61 (dk_at dksX1_play_2 6 rfl rfl)
theorem dX1_play_54 : decode cX1_play 54 = .ok (.iload 4, 2) := dk_21 4 (dk_at dksX1_play_2 9 rfl rfl)
theorem dX1_play_56 : decode cX1_play 56 = .ok (.ldc_w 500, 3) := dk_19 1 244 (dk_at dksX1_play_2 11 rfl rfl)
theorem dX1_play_59 : decode cX1_play 59 = .ok (.imul, 1) := dk_104 (dk_at dksX1_play_2 14 rfl rfl)
theorem dX1_play_60 : decode cX1_play 60 = .ok (.sipush 12345, 3) := dk_17 48 57 (dk_at dksX1_play_2 15 rfl rfl)
theorem dX1_play_63 : decode cX1_play 63 = .ok (.iadd, 1) := dk_96 (dk_at dksX1_play_2 18 rfl rfl)
theorem dX1_play_64 : decode cX1_play 64 = .ok (.istore 4, 2) := dk_54 4 (dk_at dksX1_play_2 19 rfl rfl)
theorem dX1_play_66 : decode cX1_play 66 = .ok (.aload_n 0, 1) := dk_42 (dk_at dksX1_play_2 21 rfl rfl)
theorem dX1_play_67 : decode cX1_play 67 = .ok (.aload_n 0, 1) := dk_42 (dk_at dksX1_play_2 22 rfl rfl)
theorem dX1_play_68 : decode cX1_play 68 = .ok (.getfield 51, 3) := dk_180 0 51 (dk_at dksX1_play_3 0 rfl rfl)
theorem dX1_play_71 : decode cX1_play 71 = .ok (.iload 4, 2) := dk_21 4 (dk_at dksX1_play_3 3 rfl rfl)
theorem dX1_play_73 : decode cX1_play 73 = .ok (.bipush 16, 2) := dk_16 16 (dk_at dksX1_play_3 5 rfl rfl)
theorem dX1_play_75 : decode cX1_play 75 = .ok (.ishr, 1) := dk_122 (dk_at dksX1_play_3 7 rfl rfl)
theorem dX1_play_76 : decode cX1_play 76 = .ok (.sipush 32767, 3) := dk_17 127 255 (dk_at dksX1_play_3 8 rfl rfl)
theorem dX1_play_79 : decode cX1_play 79 = .ok (.iand, 1) := dk_126 (dk_at dksX1_play_3 11 rfl rfl)
theorem dX1_play_80 : decode cX1_play 80 = .ok (.bipush 100, 2) := dk_16 100 (dk_at dksX1_play_3 12 rfl rfl)
theorem dX1_play_82 : decode cX1_play 82 = .ok (.irem, 1) := dk_112 (dk_at dksX1_play_3 14 rfl rfl)
theorem dX1_play_83 : decode cX1_play 83 = .ok (.invokevirtual 501, 3) := dk_182 1 245 (dk_at dksX1_play_3 15 rfl rfl)
theorem dX1_play_86 : decode cX1_play 86 = .ok (.istore 6, 2) := dk_54 6 (dk_at dksX1_play_3 18 rfl rfl)
theorem dX1_play_88 : decode cX1_play 88 = .ok (.aload_n 0, 1) := dk_42 (dk_at dksX1_play_3 20 rfl rfl)
theorem dX1_play_89 : decode cX1_play 89 = .ok (.getfield 51, 3) := dk_180 0 51 (dk_at dksX1_play_3 21 rfl rfl)
theorem dX1_play_92 : decode cX1_play 92 = .ok (.iload 6, 2) := dk_21 6 (dk_at dksX1_play_4 0 rfl rfl)
theorem dX1_play_94 : decode cX1_play 94 = .ok (.iconst 2, 1) := dk_5 (dk_at dksX1_play_4 2 rfl rfl)
theorem dX1_play_95 : decode cX1_play 95 = .ok (.invokestatic 410, 3) := dk_184 1 154 (dk_at dksX1_play_4 3 rfl rfl)
theorem dX1_play_98 : decode cX1_play 98 = .ok (.iload 6, 2) := dk_21 6 (dk_at dksX1_play_4 6 rfl rfl)
theorem dX1_play_100 : decode cX1_play 100 = .ok (.iconst 2, 1) := dk_5 (dk_at dksX1_play_4 8 rfl rfl)
theorem dX1_play_101 : decode cX1_play 101 = .ok (.isub, 1) := dk_100 (dk_at dksX1_play_4 9 rfl rfl)
theorem dX1_play_102 : decode cX1_play 102 = .ok (.invokevirtual 395, 3) := dk_182 1 139 (dk_at dksX1_play_4 10 rfl rfl)
theorem dX1_play_105 : decode cX1_play 105 = .ok (.pop, 1) := dk_87 (dk_at dksX1_play_4 13 rfl rfl)
theorem dX1_play_106 : decode cX1_play 106 = .ok (.iinc 5 1, 3) := dk_132 5 1 (dk_at dksX1_play_4 14 rfl rfl)
theorem dX1_play_109 : decode cX1_play 109 = .ok (.goto (-71), 3) := dk_167 255 185 (dk_at dksX1_play_4 17 rfl rfl)
theorem dX1_play_112 : decode cX1_play 112 = .ok (.iload_n 3, 1) := dk_29 (dk_at dksX1_play_4 20 rfl rfl)
theorem dX1_play_113 : decode cX1_play 113 = .ok (.bipush 10, 2) := dk_16 10 (dk_at dksX1_play_4 21 rfl rfl)
theorem dX1_play_115 : decode cX1_play 115 = .ok (.if_icmp .ne 8, 3) := dk_160 0 8 (dk_at dksX1_play_5 0 rfl rfl)
theorem dX1_play_118 : decode cX1_play 118 = .ok (.iload 5, 2) := dk_21 5 (dk_at dksX1_play_5 3 rfl rfl)
theorem dX1_play_120 : decode cX1_play 120 = .ok (.goto 11, 3) := dk_167 0 11 (dk_at dksX1_play_5 5 rfl rfl)
theorem dX1_play_123 : decode cX1_play 123 = .ok (.aload_n 0, 1) := dk_42 (dk_at dksX1_play_5 8 rfl rfl)
theorem dX1_play_124 : decode cX1_play 124 = .ok (.getfield 51, 3) := dk_180 0 51 (dk_at dksX1_play_5 9 rfl rfl)
theorem dX1_play_127 : decode cX1_play 127 = .ok (.iload_n 3, 1) := dk_29 (dk_at dksX1_play_5 12 rfl rfl)
theorem dX1_play_128 : decode cX1_play 128 = .ok (.invokevirtual 388, 3) := dk_182 1 132 (dk_at dksX1_play_5 13 rfl rfl)
theorem dX1_play_131 : decode cX1_play 131 = .ok (.ireturn, 1) := dk_172 (dk_at dksX1_play_5 16 rfl rfl)
abbrev cX1_drawn : ByteArray := prog_1_method_54_code
def yX1_drawn : MethodName := ⟨RX1, "drawn", "(LChaseCourt$Score;I)I"⟩
def dkwX1_drawn_2 : List UInt8 := [161, 0, 18, 21, 4, 45, 21, 5, 46, 100, 54, 4, 132, 5, 1, 167, 255, 235, 21, 5, 172]
abbrev dktX1_drawn_2 : List UInt8 := dkwX1_drawn_2 ++ []
def dkwX1_drawn_1 : List UInt8 := [180, 1, 116, 100, 182, 1, 102, 96, 50, 78, 28, 54, 4, 3, 54, 5, 21, 4, 45, 21, 5, 46]
abbrev dktX1_drawn_1 : List UInt8 := dkwX1_drawn_1 ++ dktX1_drawn_2
def dkwX1_drawn_0 : List UInt8 := [42, 180, 0, 14, 180, 0, 138, 7, 42, 43, 43, 180, 1, 116, 182, 1, 102, 104, 42, 43, 4, 43]
abbrev dktX1_drawn_0 : List UInt8 := dkwX1_drawn_0 ++ dktX1_drawn_1
theorem dksX1_drawn_0 : cX1_drawn.data.toList.drop 0 = dktX1_drawn_0 := by decide +kernel
theorem dksX1_drawn_1 : cX1_drawn.data.toList.drop 22 = dktX1_drawn_1 := dk_seg dksX1_drawn_0 22 rfl rfl
theorem dksX1_drawn_2 : cX1_drawn.data.toList.drop 44 = dktX1_drawn_2 := dk_seg dksX1_drawn_1 22 rfl rfl
theorem dX1_drawn_0 : decode cX1_drawn 0 = .ok (.aload_n 0, 1) := dk_42 (dk_at dksX1_drawn_0 0 rfl rfl)
theorem dX1_drawn_1 : decode cX1_drawn 1 = .ok (.getfield 14, 3) := dk_180 0 14 (dk_at dksX1_drawn_0 1 rfl rfl)
theorem dX1_drawn_4 : decode cX1_drawn 4 = .ok (.getfield 138, 3) := dk_180 0 138 (dk_at dksX1_drawn_0 4 rfl rfl)
theorem dX1_drawn_7 : decode cX1_drawn 7 = .ok (.iconst 4, 1) := dk_7 (dk_at dksX1_drawn_0 7 rfl rfl)
theorem dX1_drawn_8 : decode cX1_drawn 8 = .ok (.aload_n 0, 1) := dk_42 (dk_at dksX1_drawn_0 8 rfl rfl)
theorem dX1_drawn_9 : decode cX1_drawn 9 = .ok (.aload_n 1, 1) := dk_43 (dk_at dksX1_drawn_0 9 rfl rfl)
theorem dX1_drawn_10 : decode cX1_drawn 10 = .ok (.aload_n 1, 1) := dk_43 (dk_at dksX1_drawn_0 10 rfl rfl)
theorem dX1_drawn_11 : decode cX1_drawn 11 = .ok (.getfield 372, 3) := dk_180 1 116 (dk_at dksX1_drawn_0 11 rfl rfl)
theorem dX1_drawn_14 : decode cX1_drawn 14 = .ok (.invokevirtual 358, 3) := dk_182 1 102 (dk_at dksX1_drawn_0 14 rfl rfl)
theorem dX1_drawn_17 : decode cX1_drawn 17 = .ok (.imul, 1) := dk_104 (dk_at dksX1_drawn_0 17 rfl rfl)
theorem dX1_drawn_18 : decode cX1_drawn 18 = .ok (.aload_n 0, 1) := dk_42 (dk_at dksX1_drawn_0 18 rfl rfl)
theorem dX1_drawn_19 : decode cX1_drawn 19 = .ok (.aload_n 1, 1) := dk_43 (dk_at dksX1_drawn_0 19 rfl rfl)
theorem dX1_drawn_20 : decode cX1_drawn 20 = .ok (.iconst 1, 1) := dk_4 (dk_at dksX1_drawn_0 20 rfl rfl)
theorem dX1_drawn_21 : decode cX1_drawn 21 = .ok (.aload_n 1, 1) := dk_43 (dk_at dksX1_drawn_0 21 rfl rfl)
theorem dX1_drawn_22 : decode cX1_drawn 22 = .ok (.getfield 372, 3) := dk_180 1 116 (dk_at dksX1_drawn_1 0 rfl rfl)
theorem dX1_drawn_25 : decode cX1_drawn 25 = .ok (.isub, 1) := dk_100 (dk_at dksX1_drawn_1 3 rfl rfl)
theorem dX1_drawn_26 : decode cX1_drawn 26 = .ok (.invokevirtual 358, 3) := dk_182 1 102 (dk_at dksX1_drawn_1 4 rfl rfl)
theorem dX1_drawn_29 : decode cX1_drawn 29 = .ok (.iadd, 1) := dk_96 (dk_at dksX1_drawn_1 7 rfl rfl)
theorem dX1_drawn_30 : decode cX1_drawn 30 = .ok (.aaload, 1) := dk_50 (dk_at dksX1_drawn_1 8 rfl rfl)
theorem dX1_drawn_31 : decode cX1_drawn 31 = .ok (.astore_n 3, 1) := dk_78 (dk_at dksX1_drawn_1 9 rfl rfl)
theorem dX1_drawn_32 : decode cX1_drawn 32 = .ok (.iload_n 2, 1) := dk_28 (dk_at dksX1_drawn_1 10 rfl rfl)
theorem dX1_drawn_33 : decode cX1_drawn 33 = .ok (.istore 4, 2) := dk_54 4 (dk_at dksX1_drawn_1 11 rfl rfl)
theorem dX1_drawn_35 : decode cX1_drawn 35 = .ok (.iconst 0, 1) := dk_3 (dk_at dksX1_drawn_1 13 rfl rfl)
theorem dX1_drawn_36 : decode cX1_drawn 36 = .ok (.istore 5, 2) := dk_54 5 (dk_at dksX1_drawn_1 14 rfl rfl)
theorem dX1_drawn_38 : decode cX1_drawn 38 = .ok (.iload 4, 2) := dk_21 4 (dk_at dksX1_drawn_1 16 rfl rfl)
theorem dX1_drawn_40 : decode cX1_drawn 40 = .ok (.aload_n 3, 1) := dk_45 (dk_at dksX1_drawn_1 18 rfl rfl)
theorem dX1_drawn_41 : decode cX1_drawn 41 = .ok (.iload 5, 2) := dk_21 5 (dk_at dksX1_drawn_1 19 rfl rfl)
theorem dX1_drawn_43 : decode cX1_drawn 43 = .ok (.iaload, 1) := dk_46 (dk_at dksX1_drawn_1 21 rfl rfl)
theorem dX1_drawn_44 : decode cX1_drawn 44 = .ok (.if_icmp .lt 18, 3) := dk_161 0 18 (dk_at dksX1_drawn_2 0 rfl rfl)
theorem dX1_drawn_47 : decode cX1_drawn 47 = .ok (.iload 4, 2) := dk_21 4 (dk_at dksX1_drawn_2 3 rfl rfl)
theorem dX1_drawn_49 : decode cX1_drawn 49 = .ok (.aload_n 3, 1) := dk_45 (dk_at dksX1_drawn_2 5 rfl rfl)
theorem dX1_drawn_50 : decode cX1_drawn 50 = .ok (.iload 5, 2) := dk_21 5 (dk_at dksX1_drawn_2 6 rfl rfl)
theorem dX1_drawn_52 : decode cX1_drawn 52 = .ok (.iaload, 1) := dk_46 (dk_at dksX1_drawn_2 8 rfl rfl)
theorem dX1_drawn_53 : decode cX1_drawn 53 = .ok (.isub, 1) := dk_100 (dk_at dksX1_drawn_2 9 rfl rfl)
theorem dX1_drawn_54 : decode cX1_drawn 54 = .ok (.istore 4, 2) := dk_54 4 (dk_at dksX1_drawn_2 10 rfl rfl)
theorem dX1_drawn_56 : decode cX1_drawn 56 = .ok (.iinc 5 1, 3) := dk_132 5 1 (dk_at dksX1_drawn_2 12 rfl rfl)
theorem dX1_drawn_59 : decode cX1_drawn 59 = .ok (.goto (-21), 3) := dk_167 255 235 (dk_at dksX1_drawn_2 15 rfl rfl)
theorem dX1_drawn_62 : decode cX1_drawn 62 = .ok (.iload 5, 2) := dk_21 5 (dk_at dksX1_drawn_2 18 rfl rfl)
theorem dX1_drawn_64 : decode cX1_drawn 64 = .ok (.ireturn, 1) := dk_172 (dk_at dksX1_drawn_2 20 rfl rfl)
abbrev cJ0_init : ByteArray := prog_49_method_1_code
def yJ0_init : MethodName := ⟨RJ0, "<init>", "()V"⟩
theorem dJ0_init_0 : decode cJ0_init 0 = .ok (.aload_n 0, 1) := by decide +kernel
theorem dJ0_init_1 : decode cJ0_init 1 = .ok (.invokespecial 1, 3) := by decide +kernel
theorem dJ0_init_4 : decode cJ0_init 4 = .ok (.return_, 1) := by decide +kernel
abbrev cJ1_init : ByteArray := prog_50_method_1_code
def yJ1_init : MethodName := ⟨RJ1, "<init>", "()V"⟩
def dkwJ1_init_0 : List UInt8 := [42, 183, 0, 1, 42, 3, 181, 0, 7, 177]
abbrev dktJ1_init_0 : List UInt8 := dkwJ1_init_0 ++ []
theorem dksJ1_init_0 : cJ1_init.data.toList.drop 0 = dktJ1_init_0 := by decide +kernel
theorem dJ1_init_0 : decode cJ1_init 0 = .ok (.aload_n 0, 1) := dk_42 (dk_at dksJ1_init_0 0 rfl rfl)
theorem dJ1_init_1 : decode cJ1_init 1 = .ok (.invokespecial 1, 3) := dk_183 0 1 (dk_at dksJ1_init_0 1 rfl rfl)
theorem dJ1_init_4 : decode cJ1_init 4 = .ok (.aload_n 0, 1) := dk_42 (dk_at dksJ1_init_0 4 rfl rfl)
theorem dJ1_init_5 : decode cJ1_init 5 = .ok (.iconst 0, 1) := dk_3 (dk_at dksJ1_init_0 5 rfl rfl)
theorem dJ1_init_6 : decode cJ1_init 6 = .ok (.putfield 7, 3) := dk_181 0 7 (dk_at dksJ1_init_0 6 rfl rfl)
theorem dJ1_init_9 : decode cJ1_init 9 = .ok (.return_, 1) := dk_177 (dk_at dksJ1_init_0 9 rfl rfl)
abbrev cJ2_init : ByteArray := prog_51_method_2_code
def yJ2_init : MethodName := ⟨RJ2, "<init>", "()V"⟩
def dkwJ2_init_0 : List UInt8 := [42, 183, 0, 1, 42, 178, 0, 39, 181, 0, 9, 177]
abbrev dktJ2_init_0 : List UInt8 := dkwJ2_init_0 ++ []
theorem dksJ2_init_0 : cJ2_init.data.toList.drop 0 = dktJ2_init_0 := by decide +kernel
theorem dJ2_init_0 : decode cJ2_init 0 = .ok (.aload_n 0, 1) := dk_42 (dk_at dksJ2_init_0 0 rfl rfl)
theorem dJ2_init_1 : decode cJ2_init 1 = .ok (.invokespecial 1, 3) := dk_183 0 1 (dk_at dksJ2_init_0 1 rfl rfl)
theorem dJ2_init_4 : decode cJ2_init 4 = .ok (.aload_n 0, 1) := dk_42 (dk_at dksJ2_init_0 4 rfl rfl)
theorem dJ2_init_5 : decode cJ2_init 5 = .ok (.getstatic 39, 3) := dk_178 0 39 (dk_at dksJ2_init_0 5 rfl rfl)
theorem dJ2_init_8 : decode cJ2_init 8 = .ok (.putfield 9, 3) := dk_181 0 9 (dk_at dksJ2_init_0 8 rfl rfl)
theorem dJ2_init_11 : decode cJ2_init 11 = .ok (.return_, 1) := dk_177 (dk_at dksJ2_init_0 11 rfl rfl)
abbrev cJ2_addAll : ByteArray := prog_51_method_41_code
def yJ2_addAll : MethodName := ⟨RJ2, "addAll", "(Ljava/util/Collection;)Z"⟩
def dkwJ2_addAll_3 : List UInt8 := [181, 0, 48, 4, 172]
abbrev dktJ2_addAll_3 : List UInt8 := dkwJ2_addAll_3 ++ []
def dkwJ2_addAll_2 : List UInt8 := [21, 5, 29, 96, 182, 0, 69, 58, 4, 44, 3, 25, 4, 21, 5, 29, 184, 0, 112, 42, 21, 5, 29, 96]
abbrev dktJ2_addAll_2 : List UInt8 := dkwJ2_addAll_2 ++ dktJ2_addAll_3
def dkwJ2_addAll_1 : List UInt8 := [3, 172, 29, 42, 180, 0, 9, 89, 58, 4, 190, 42, 180, 0, 48, 89, 54, 5, 100, 164, 0, 13, 42]
abbrev dktJ2_addAll_1 : List UInt8 := dkwJ2_addAll_1 ++ dktJ2_addAll_2
def dkwJ2_addAll_0 : List UInt8 := [43, 185, 0, 42, 1, 0, 77, 42, 89, 180, 0, 63, 4, 96, 181, 0, 63, 44, 190, 62, 29, 154, 0, 5]
abbrev dktJ2_addAll_0 : List UInt8 := dkwJ2_addAll_0 ++ dktJ2_addAll_1
theorem dksJ2_addAll_0 : cJ2_addAll.data.toList.drop 0 = dktJ2_addAll_0 := by decide +kernel
theorem dksJ2_addAll_1 : cJ2_addAll.data.toList.drop 24 = dktJ2_addAll_1 := dk_seg dksJ2_addAll_0 24 rfl rfl
theorem dksJ2_addAll_2 : cJ2_addAll.data.toList.drop 47 = dktJ2_addAll_2 := dk_seg dksJ2_addAll_1 23 rfl rfl
theorem dksJ2_addAll_3 : cJ2_addAll.data.toList.drop 71 = dktJ2_addAll_3 := dk_seg dksJ2_addAll_2 24 rfl rfl
theorem dJ2_addAll_0 : decode cJ2_addAll 0 = .ok (.aload_n 1, 1) := dk_43 (dk_at dksJ2_addAll_0 0 rfl rfl)
theorem dJ2_addAll_1 : decode cJ2_addAll 1 = .ok (.invokeinterface 42 1, 5) := by decide +kernel
theorem dJ2_addAll_6 : decode cJ2_addAll 6 = .ok (.astore_n 2, 1) := dk_77 (dk_at dksJ2_addAll_0 6 rfl rfl)
theorem dJ2_addAll_7 : decode cJ2_addAll 7 = .ok (.aload_n 0, 1) := dk_42 (dk_at dksJ2_addAll_0 7 rfl rfl)
theorem dJ2_addAll_8 : decode cJ2_addAll 8 = .ok (.dup, 1) := dk_89 (dk_at dksJ2_addAll_0 8 rfl rfl)
theorem dJ2_addAll_9 : decode cJ2_addAll 9 = .ok (.getfield 63, 3) := dk_180 0 63 (dk_at dksJ2_addAll_0 9 rfl rfl)
theorem dJ2_addAll_12 : decode cJ2_addAll 12 = .ok (.iconst 1, 1) := dk_4 (dk_at dksJ2_addAll_0 12 rfl rfl)
theorem dJ2_addAll_13 : decode cJ2_addAll 13 = .ok (.iadd, 1) := dk_96 (dk_at dksJ2_addAll_0 13 rfl rfl)
theorem dJ2_addAll_14 : decode cJ2_addAll 14 = .ok (.putfield 63, 3) := dk_181 0 63 (dk_at dksJ2_addAll_0 14 rfl rfl)
theorem dJ2_addAll_17 : decode cJ2_addAll 17 = .ok (.aload_n 2, 1) := dk_44 (dk_at dksJ2_addAll_0 17 rfl rfl)
theorem dJ2_addAll_18 : decode cJ2_addAll 18 = .ok (.arraylength, 1) := dk_190 (dk_at dksJ2_addAll_0 18 rfl rfl)
theorem dJ2_addAll_19 : decode cJ2_addAll 19 = .ok (.istore_n 3, 1) := dk_62 (dk_at dksJ2_addAll_0 19 rfl rfl)
theorem dJ2_addAll_20 : decode cJ2_addAll 20 = .ok (.iload_n 3, 1) := dk_29 (dk_at dksJ2_addAll_0 20 rfl rfl)
theorem dJ2_addAll_21 : decode cJ2_addAll 21 = .ok (.ifCond .ne 5, 3) := dk_154 0 5 (dk_at dksJ2_addAll_0 21 rfl rfl)
theorem dJ2_addAll_24 : decode cJ2_addAll 24 = .ok (.iconst 0, 1) := dk_3 (dk_at dksJ2_addAll_1 0 rfl rfl)
theorem dJ2_addAll_25 : decode cJ2_addAll 25 = .ok (.ireturn, 1) := dk_172 (dk_at dksJ2_addAll_1 1 rfl rfl)
theorem dJ2_addAll_26 : decode cJ2_addAll 26 = .ok (.iload_n 3, 1) := dk_29 (dk_at dksJ2_addAll_1 2 rfl rfl)
theorem dJ2_addAll_27 : decode cJ2_addAll 27 = .ok (.aload_n 0, 1) := dk_42 (dk_at dksJ2_addAll_1 3 rfl rfl)
theorem dJ2_addAll_28 : decode cJ2_addAll 28 = .ok (.getfield 9, 3) := dk_180 0 9 (dk_at dksJ2_addAll_1 4 rfl rfl)
theorem dJ2_addAll_31 : decode cJ2_addAll 31 = .ok (.dup, 1) := dk_89 (dk_at dksJ2_addAll_1 7 rfl rfl)
theorem dJ2_addAll_32 : decode cJ2_addAll 32 = .ok (.astore 4, 2) := dk_58 4 (dk_at dksJ2_addAll_1 8 rfl rfl)
theorem dJ2_addAll_34 : decode cJ2_addAll 34 = .ok (.arraylength, 1) := dk_190 (dk_at dksJ2_addAll_1 10 rfl rfl)
theorem dJ2_addAll_35 : decode cJ2_addAll 35 = .ok (.aload_n 0, 1) := dk_42 (dk_at dksJ2_addAll_1 11 rfl rfl)
theorem dJ2_addAll_36 : decode cJ2_addAll 36 = .ok (.getfield 48, 3) := dk_180 0 48 (dk_at dksJ2_addAll_1 12 rfl rfl)
theorem dJ2_addAll_39 : decode cJ2_addAll 39 = .ok (.dup, 1) := dk_89 (dk_at dksJ2_addAll_1 15 rfl rfl)
theorem dJ2_addAll_40 : decode cJ2_addAll 40 = .ok (.istore 5, 2) := dk_54 5 (dk_at dksJ2_addAll_1 16 rfl rfl)
theorem dJ2_addAll_42 : decode cJ2_addAll 42 = .ok (.isub, 1) := dk_100 (dk_at dksJ2_addAll_1 18 rfl rfl)
theorem dJ2_addAll_43 : decode cJ2_addAll 43 = .ok (.if_icmp .le 13, 3) := dk_164 0 13 (dk_at dksJ2_addAll_1 19 rfl rfl)
theorem dJ2_addAll_46 : decode cJ2_addAll 46 = .ok (.aload_n 0, 1) := dk_42 (dk_at dksJ2_addAll_1 22 rfl rfl)
theorem dJ2_addAll_47 : decode cJ2_addAll 47 = .ok (.iload 5, 2) := dk_21 5 (dk_at dksJ2_addAll_2 0 rfl rfl)
theorem dJ2_addAll_49 : decode cJ2_addAll 49 = .ok (.iload_n 3, 1) := dk_29 (dk_at dksJ2_addAll_2 2 rfl rfl)
theorem dJ2_addAll_50 : decode cJ2_addAll 50 = .ok (.iadd, 1) := dk_96 (dk_at dksJ2_addAll_2 3 rfl rfl)
theorem dJ2_addAll_51 : decode cJ2_addAll 51 = .ok (.invokevirtual 69, 3) := dk_182 0 69 (dk_at dksJ2_addAll_2 4 rfl rfl)
theorem dJ2_addAll_54 : decode cJ2_addAll 54 = .ok (.astore 4, 2) := dk_58 4 (dk_at dksJ2_addAll_2 7 rfl rfl)
theorem dJ2_addAll_56 : decode cJ2_addAll 56 = .ok (.aload_n 2, 1) := dk_44 (dk_at dksJ2_addAll_2 9 rfl rfl)
theorem dJ2_addAll_57 : decode cJ2_addAll 57 = .ok (.iconst 0, 1) := dk_3 (dk_at dksJ2_addAll_2 10 rfl rfl)
theorem dJ2_addAll_58 : decode cJ2_addAll 58 = .ok (.aload 4, 2) := dk_25 4 (dk_at dksJ2_addAll_2 11 rfl rfl)
theorem dJ2_addAll_60 : decode cJ2_addAll 60 = .ok (.iload 5, 2) := dk_21 5 (dk_at dksJ2_addAll_2 13 rfl rfl)
theorem dJ2_addAll_62 : decode cJ2_addAll 62 = .ok (.iload_n 3, 1) := dk_29 (dk_at dksJ2_addAll_2 15 rfl rfl)
theorem dJ2_addAll_63 : decode cJ2_addAll 63 = .ok (.invokestatic 112, 3) := dk_184 0 112 (dk_at dksJ2_addAll_2 16 rfl rfl)
theorem dJ2_addAll_66 : decode cJ2_addAll 66 = .ok (.aload_n 0, 1) := dk_42 (dk_at dksJ2_addAll_2 19 rfl rfl)
theorem dJ2_addAll_67 : decode cJ2_addAll 67 = .ok (.iload 5, 2) := dk_21 5 (dk_at dksJ2_addAll_2 20 rfl rfl)
theorem dJ2_addAll_69 : decode cJ2_addAll 69 = .ok (.iload_n 3, 1) := dk_29 (dk_at dksJ2_addAll_2 22 rfl rfl)
theorem dJ2_addAll_70 : decode cJ2_addAll 70 = .ok (.iadd, 1) := dk_96 (dk_at dksJ2_addAll_2 23 rfl rfl)
theorem dJ2_addAll_71 : decode cJ2_addAll 71 = .ok (.putfield 48, 3) := dk_181 0 48 (dk_at dksJ2_addAll_3 0 rfl rfl)
theorem dJ2_addAll_74 : decode cJ2_addAll 74 = .ok (.iconst 1, 1) := dk_4 (dk_at dksJ2_addAll_3 3 rfl rfl)
theorem dJ2_addAll_75 : decode cJ2_addAll 75 = .ok (.ireturn, 1) := dk_172 (dk_at dksJ2_addAll_3 4 rfl rfl)
abbrev cJ2_toArray : ByteArray := prog_51_method_16_code
def yJ2_toArray : MethodName := ⟨RJ2, "toArray", "()[Ljava/lang/Object;"⟩
def dkwJ2_toArray_0 : List UInt8 := [42, 180, 0, 9, 42, 180, 0, 48, 184, 0, 66, 176]
abbrev dktJ2_toArray_0 : List UInt8 := dkwJ2_toArray_0 ++ []
theorem dksJ2_toArray_0 : cJ2_toArray.data.toList.drop 0 = dktJ2_toArray_0 := by decide +kernel
theorem dJ2_toArray_0 : decode cJ2_toArray 0 = .ok (.aload_n 0, 1) := dk_42 (dk_at dksJ2_toArray_0 0 rfl rfl)
theorem dJ2_toArray_1 : decode cJ2_toArray 1 = .ok (.getfield 9, 3) := dk_180 0 9 (dk_at dksJ2_toArray_0 1 rfl rfl)
theorem dJ2_toArray_4 : decode cJ2_toArray 4 = .ok (.aload_n 0, 1) := dk_42 (dk_at dksJ2_toArray_0 4 rfl rfl)
theorem dJ2_toArray_5 : decode cJ2_toArray 5 = .ok (.getfield 48, 3) := dk_180 0 48 (dk_at dksJ2_toArray_0 5 rfl rfl)
theorem dJ2_toArray_8 : decode cJ2_toArray 8 = .ok (.invokestatic 66, 3) := dk_184 0 66 (dk_at dksJ2_toArray_0 8 rfl rfl)
theorem dJ2_toArray_11 : decode cJ2_toArray 11 = .ok (.areturn, 1) := dk_176 (dk_at dksJ2_toArray_0 11 rfl rfl)
abbrev cJ2_grow : ByteArray := prog_51_method_6_code
def yJ2_grow : MethodName := ⟨RJ2, "grow", "(I)[Ljava/lang/Object;"⟩
def dkwJ2_grow_2 : List UInt8 := [27, 184, 0, 79, 189, 0, 7, 90, 181, 0, 9, 176]
abbrev dktJ2_grow_2 : List UInt8 := dkwJ2_grow_2 ++ []
def dkwJ2_grow_1 : List UInt8 := [28, 4, 122, 184, 0, 73, 62, 42, 42, 180, 0, 9, 29, 184, 0, 66, 90, 181, 0, 9, 176, 42, 16, 10]
abbrev dktJ2_grow_1 : List UInt8 := dkwJ2_grow_1 ++ dktJ2_grow_2
def dkwJ2_grow_0 : List UInt8 := [42, 180, 0, 9, 190, 61, 28, 157, 0, 13, 42, 180, 0, 9, 178, 0, 39, 165, 0, 28, 28, 27, 28, 100]
abbrev dktJ2_grow_0 : List UInt8 := dkwJ2_grow_0 ++ dktJ2_grow_1
theorem dksJ2_grow_0 : cJ2_grow.data.toList.drop 0 = dktJ2_grow_0 := by decide +kernel
theorem dksJ2_grow_1 : cJ2_grow.data.toList.drop 24 = dktJ2_grow_1 := dk_seg dksJ2_grow_0 24 rfl rfl
theorem dksJ2_grow_2 : cJ2_grow.data.toList.drop 48 = dktJ2_grow_2 := dk_seg dksJ2_grow_1 24 rfl rfl
theorem dJ2_grow_0 : decode cJ2_grow 0 = .ok (.aload_n 0, 1) := dk_42 (dk_at dksJ2_grow_0 0 rfl rfl)
theorem dJ2_grow_1 : decode cJ2_grow 1 = .ok (.getfield 9, 3) := dk_180 0 9 (dk_at dksJ2_grow_0 1 rfl rfl)
theorem dJ2_grow_4 : decode cJ2_grow 4 = .ok (.arraylength, 1) := dk_190 (dk_at dksJ2_grow_0 4 rfl rfl)
theorem dJ2_grow_5 : decode cJ2_grow 5 = .ok (.istore_n 2, 1) := dk_61 (dk_at dksJ2_grow_0 5 rfl rfl)
theorem dJ2_grow_6 : decode cJ2_grow 6 = .ok (.iload_n 2, 1) := dk_28 (dk_at dksJ2_grow_0 6 rfl rfl)
theorem dJ2_grow_7 : decode cJ2_grow 7 = .ok (.ifCond .gt 13, 3) := dk_157 0 13 (dk_at dksJ2_grow_0 7 rfl rfl)
theorem dJ2_grow_10 : decode cJ2_grow 10 = .ok (.aload_n 0, 1) := dk_42 (dk_at dksJ2_grow_0 10 rfl rfl)
theorem dJ2_grow_11 : decode cJ2_grow 11 = .ok (.getfield 9, 3) := dk_180 0 9 (dk_at dksJ2_grow_0 11 rfl rfl)
theorem dJ2_grow_14 : decode cJ2_grow 14 = .ok (.getstatic 39, 3) := dk_178 0 39 (dk_at dksJ2_grow_0 14 rfl rfl)
theorem dJ2_grow_17 : decode cJ2_grow 17 = .ok (.if_acmp .eq 28, 3) := dk_165 0 28 (dk_at dksJ2_grow_0 17 rfl rfl)
theorem dJ2_grow_20 : decode cJ2_grow 20 = .ok (.iload_n 2, 1) := dk_28 (dk_at dksJ2_grow_0 20 rfl rfl)
theorem dJ2_grow_21 : decode cJ2_grow 21 = .ok (.iload_n 1, 1) := dk_27 (dk_at dksJ2_grow_0 21 rfl rfl)
theorem dJ2_grow_22 : decode cJ2_grow 22 = .ok (.iload_n 2, 1) := dk_28 (dk_at dksJ2_grow_0 22 rfl rfl)
theorem dJ2_grow_23 : decode cJ2_grow 23 = .ok (.isub, 1) := dk_100 (dk_at dksJ2_grow_0 23 rfl rfl)
theorem dJ2_grow_24 : decode cJ2_grow 24 = .ok (.iload_n 2, 1) := dk_28 (dk_at dksJ2_grow_1 0 rfl rfl)
theorem dJ2_grow_25 : decode cJ2_grow 25 = .ok (.iconst 1, 1) := dk_4 (dk_at dksJ2_grow_1 1 rfl rfl)
theorem dJ2_grow_26 : decode cJ2_grow 26 = .ok (.ishr, 1) := dk_122 (dk_at dksJ2_grow_1 2 rfl rfl)
theorem dJ2_grow_27 : decode cJ2_grow 27 = .ok (.invokestatic 73, 3) := dk_184 0 73 (dk_at dksJ2_grow_1 3 rfl rfl)
theorem dJ2_grow_30 : decode cJ2_grow 30 = .ok (.istore_n 3, 1) := dk_62 (dk_at dksJ2_grow_1 6 rfl rfl)
theorem dJ2_grow_31 : decode cJ2_grow 31 = .ok (.aload_n 0, 1) := dk_42 (dk_at dksJ2_grow_1 7 rfl rfl)
theorem dJ2_grow_32 : decode cJ2_grow 32 = .ok (.aload_n 0, 1) := dk_42 (dk_at dksJ2_grow_1 8 rfl rfl)
theorem dJ2_grow_33 : decode cJ2_grow 33 = .ok (.getfield 9, 3) := dk_180 0 9 (dk_at dksJ2_grow_1 9 rfl rfl)
theorem dJ2_grow_36 : decode cJ2_grow 36 = .ok (.iload_n 3, 1) := dk_29 (dk_at dksJ2_grow_1 12 rfl rfl)
theorem dJ2_grow_37 : decode cJ2_grow 37 = .ok (.invokestatic 66, 3) := dk_184 0 66 (dk_at dksJ2_grow_1 13 rfl rfl)
theorem dJ2_grow_40 : decode cJ2_grow 40 = .ok (.dup_x1, 1) := dk_90 (dk_at dksJ2_grow_1 16 rfl rfl)
theorem dJ2_grow_41 : decode cJ2_grow 41 = .ok (.putfield 9, 3) := dk_181 0 9 (dk_at dksJ2_grow_1 17 rfl rfl)
theorem dJ2_grow_44 : decode cJ2_grow 44 = .ok (.areturn, 1) := dk_176 (dk_at dksJ2_grow_1 20 rfl rfl)
theorem dJ2_grow_45 : decode cJ2_grow 45 = .ok (.aload_n 0, 1) := dk_42 (dk_at dksJ2_grow_1 21 rfl rfl)
theorem dJ2_grow_46 : decode cJ2_grow 46 = .ok (.bipush 10, 2) := dk_16 10 (dk_at dksJ2_grow_1 22 rfl rfl)
theorem dJ2_grow_48 : decode cJ2_grow 48 = .ok (.iload_n 1, 1) := dk_27 (dk_at dksJ2_grow_2 0 rfl rfl)
theorem dJ2_grow_49 : decode cJ2_grow 49 = .ok (.invokestatic 79, 3) := dk_184 0 79 (dk_at dksJ2_grow_2 1 rfl rfl)
theorem dJ2_grow_52 : decode cJ2_grow 52 = .ok (.anewarray 7, 3) := dk_189 0 7 (dk_at dksJ2_grow_2 4 rfl rfl)
theorem dJ2_grow_55 : decode cJ2_grow 55 = .ok (.dup_x1, 1) := dk_90 (dk_at dksJ2_grow_2 7 rfl rfl)
theorem dJ2_grow_56 : decode cJ2_grow 56 = .ok (.putfield 9, 3) := dk_181 0 9 (dk_at dksJ2_grow_2 8 rfl rfl)
theorem dJ2_grow_59 : decode cJ2_grow 59 = .ok (.areturn, 1) := dk_176 (dk_at dksJ2_grow_2 11 rfl rfl)
abbrev cJ2_size : ByteArray := prog_51_method_8_code
def yJ2_size : MethodName := ⟨RJ2, "size", "()I"⟩
theorem dJ2_size_0 : decode cJ2_size 0 = .ok (.aload_n 0, 1) := by decide +kernel
theorem dJ2_size_1 : decode cJ2_size 1 = .ok (.getfield 48, 3) := by decide +kernel
theorem dJ2_size_4 : decode cJ2_size 4 = .ok (.ireturn, 1) := by decide +kernel
abbrev cJ2_add : ByteArray := prog_51_method_25_code
def yJ2_add : MethodName := ⟨RJ2, "add", "(Ljava/lang/Object;)Z"⟩
def dkwJ2_add_1 : List UInt8 := [172]
abbrev dktJ2_add_1 : List UInt8 := dkwJ2_add_1 ++ []
def dkwJ2_add_0 : List UInt8 := [42, 89, 180, 0, 63, 4, 96, 181, 0, 63, 42, 43, 42, 180, 0, 9, 42, 180, 0, 48, 182, 0, 131, 4]
abbrev dktJ2_add_0 : List UInt8 := dkwJ2_add_0 ++ dktJ2_add_1
theorem dksJ2_add_0 : cJ2_add.data.toList.drop 0 = dktJ2_add_0 := by decide +kernel
theorem dksJ2_add_1 : cJ2_add.data.toList.drop 24 = dktJ2_add_1 := dk_seg dksJ2_add_0 24 rfl rfl
theorem dJ2_add_0 : decode cJ2_add 0 = .ok (.aload_n 0, 1) := dk_42 (dk_at dksJ2_add_0 0 rfl rfl)
theorem dJ2_add_1 : decode cJ2_add 1 = .ok (.dup, 1) := dk_89 (dk_at dksJ2_add_0 1 rfl rfl)
theorem dJ2_add_2 : decode cJ2_add 2 = .ok (.getfield 63, 3) := dk_180 0 63 (dk_at dksJ2_add_0 2 rfl rfl)
theorem dJ2_add_5 : decode cJ2_add 5 = .ok (.iconst 1, 1) := dk_4 (dk_at dksJ2_add_0 5 rfl rfl)
theorem dJ2_add_6 : decode cJ2_add 6 = .ok (.iadd, 1) := dk_96 (dk_at dksJ2_add_0 6 rfl rfl)
theorem dJ2_add_7 : decode cJ2_add 7 = .ok (.putfield 63, 3) := dk_181 0 63 (dk_at dksJ2_add_0 7 rfl rfl)
theorem dJ2_add_10 : decode cJ2_add 10 = .ok (.aload_n 0, 1) := dk_42 (dk_at dksJ2_add_0 10 rfl rfl)
theorem dJ2_add_11 : decode cJ2_add 11 = .ok (.aload_n 1, 1) := dk_43 (dk_at dksJ2_add_0 11 rfl rfl)
theorem dJ2_add_12 : decode cJ2_add 12 = .ok (.aload_n 0, 1) := dk_42 (dk_at dksJ2_add_0 12 rfl rfl)
theorem dJ2_add_13 : decode cJ2_add 13 = .ok (.getfield 9, 3) := dk_180 0 9 (dk_at dksJ2_add_0 13 rfl rfl)
theorem dJ2_add_16 : decode cJ2_add 16 = .ok (.aload_n 0, 1) := dk_42 (dk_at dksJ2_add_0 16 rfl rfl)
theorem dJ2_add_17 : decode cJ2_add 17 = .ok (.getfield 48, 3) := dk_180 0 48 (dk_at dksJ2_add_0 17 rfl rfl)
theorem dJ2_add_20 : decode cJ2_add 20 = .ok (.invokevirtual 131, 3) := dk_182 0 131 (dk_at dksJ2_add_0 20 rfl rfl)
theorem dJ2_add_23 : decode cJ2_add 23 = .ok (.iconst 1, 1) := dk_4 (dk_at dksJ2_add_0 23 rfl rfl)
theorem dJ2_add_24 : decode cJ2_add 24 = .ok (.ireturn, 1) := dk_172 (dk_at dksJ2_add_1 0 rfl rfl)
abbrev cJ2_add_2 : ByteArray := prog_51_method_24_code
def yJ2_add_2 : MethodName := ⟨RJ2, "add", "(Ljava/lang/Object;[Ljava/lang/Object;I)V"⟩
def dkwJ2_add_2_0 : List UInt8 := [29, 44, 190, 160, 0, 8, 42, 182, 0, 129, 77, 44, 29, 43, 83, 42, 29, 4, 96, 181, 0, 48, 177]
abbrev dktJ2_add_2_0 : List UInt8 := dkwJ2_add_2_0 ++ []
theorem dksJ2_add_2_0 : cJ2_add_2.data.toList.drop 0 = dktJ2_add_2_0 := by decide +kernel
theorem dJ2_add_2_0 : decode cJ2_add_2 0 = .ok (.iload_n 3, 1) := dk_29 (dk_at dksJ2_add_2_0 0 rfl rfl)
theorem dJ2_add_2_1 : decode cJ2_add_2 1 = .ok (.aload_n 2, 1) := dk_44 (dk_at dksJ2_add_2_0 1 rfl rfl)
theorem dJ2_add_2_2 : decode cJ2_add_2 2 = .ok (.arraylength, 1) := dk_190 (dk_at dksJ2_add_2_0 2 rfl rfl)
theorem dJ2_add_2_3 : decode cJ2_add_2 3 = .ok (.if_icmp .ne 8, 3) := dk_160 0 8 (dk_at dksJ2_add_2_0 3 rfl rfl)
theorem dJ2_add_2_6 : decode cJ2_add_2 6 = .ok (.aload_n 0, 1) := dk_42 (dk_at dksJ2_add_2_0 6 rfl rfl)
theorem dJ2_add_2_7 : decode cJ2_add_2 7 = .ok (.invokevirtual 129, 3) := dk_182 0 129 (dk_at dksJ2_add_2_0 7 rfl rfl)
theorem dJ2_add_2_10 : decode cJ2_add_2 10 = .ok (.astore_n 2, 1) := dk_77 (dk_at dksJ2_add_2_0 10 rfl rfl)
theorem dJ2_add_2_11 : decode cJ2_add_2 11 = .ok (.aload_n 2, 1) := dk_44 (dk_at dksJ2_add_2_0 11 rfl rfl)
theorem dJ2_add_2_12 : decode cJ2_add_2 12 = .ok (.iload_n 3, 1) := dk_29 (dk_at dksJ2_add_2_0 12 rfl rfl)
theorem dJ2_add_2_13 : decode cJ2_add_2 13 = .ok (.aload_n 1, 1) := dk_43 (dk_at dksJ2_add_2_0 13 rfl rfl)
theorem dJ2_add_2_14 : decode cJ2_add_2 14 = .ok (.aastore, 1) := dk_83 (dk_at dksJ2_add_2_0 14 rfl rfl)
theorem dJ2_add_2_15 : decode cJ2_add_2 15 = .ok (.aload_n 0, 1) := dk_42 (dk_at dksJ2_add_2_0 15 rfl rfl)
theorem dJ2_add_2_16 : decode cJ2_add_2 16 = .ok (.iload_n 3, 1) := dk_29 (dk_at dksJ2_add_2_0 16 rfl rfl)
theorem dJ2_add_2_17 : decode cJ2_add_2 17 = .ok (.iconst 1, 1) := dk_4 (dk_at dksJ2_add_2_0 17 rfl rfl)
theorem dJ2_add_2_18 : decode cJ2_add_2 18 = .ok (.iadd, 1) := dk_96 (dk_at dksJ2_add_2_0 18 rfl rfl)
theorem dJ2_add_2_19 : decode cJ2_add_2 19 = .ok (.putfield 48, 3) := dk_181 0 48 (dk_at dksJ2_add_2_0 19 rfl rfl)
theorem dJ2_add_2_22 : decode cJ2_add_2 22 = .ok (.return_, 1) := dk_177 (dk_at dksJ2_add_2_0 22 rfl rfl)
abbrev cJ2_grow_2 : ByteArray := prog_51_method_7_code
def yJ2_grow_2 : MethodName := ⟨RJ2, "grow", "()[Ljava/lang/Object;"⟩
def dkwJ2_grow_2_0 : List UInt8 := [42, 42, 180, 0, 48, 4, 96, 182, 0, 69, 176]
abbrev dktJ2_grow_2_0 : List UInt8 := dkwJ2_grow_2_0 ++ []
theorem dksJ2_grow_2_0 : cJ2_grow_2.data.toList.drop 0 = dktJ2_grow_2_0 := by decide +kernel
theorem dJ2_grow_2_0 : decode cJ2_grow_2 0 = .ok (.aload_n 0, 1) := dk_42 (dk_at dksJ2_grow_2_0 0 rfl rfl)
theorem dJ2_grow_2_1 : decode cJ2_grow_2 1 = .ok (.aload_n 0, 1) := dk_42 (dk_at dksJ2_grow_2_0 1 rfl rfl)
theorem dJ2_grow_2_2 : decode cJ2_grow_2 2 = .ok (.getfield 48, 3) := dk_180 0 48 (dk_at dksJ2_grow_2_0 2 rfl rfl)
theorem dJ2_grow_2_5 : decode cJ2_grow_2 5 = .ok (.iconst 1, 1) := dk_4 (dk_at dksJ2_grow_2_0 5 rfl rfl)
theorem dJ2_grow_2_6 : decode cJ2_grow_2 6 = .ok (.iadd, 1) := dk_96 (dk_at dksJ2_grow_2_0 6 rfl rfl)
theorem dJ2_grow_2_7 : decode cJ2_grow_2 7 = .ok (.invokevirtual 69, 3) := dk_182 0 69 (dk_at dksJ2_grow_2_0 7 rfl rfl)
theorem dJ2_grow_2_10 : decode cJ2_grow_2 10 = .ok (.areturn, 1) := dk_176 (dk_at dksJ2_grow_2_0 10 rfl rfl)
abbrev cJ2_get : ByteArray := prog_51_method_20_code
def yJ2_get : MethodName := ⟨RJ2, "get", "(I)Ljava/lang/Object;"⟩
def dkwJ2_get_0 : List UInt8 := [27, 42, 180, 0, 48, 184, 0, 118, 87, 42, 27, 182, 0, 123, 176]
abbrev dktJ2_get_0 : List UInt8 := dkwJ2_get_0 ++ []
theorem dksJ2_get_0 : cJ2_get.data.toList.drop 0 = dktJ2_get_0 := by decide +kernel
theorem dJ2_get_0 : decode cJ2_get 0 = .ok (.iload_n 1, 1) := dk_27 (dk_at dksJ2_get_0 0 rfl rfl)
theorem dJ2_get_1 : decode cJ2_get 1 = .ok (.aload_n 0, 1) := dk_42 (dk_at dksJ2_get_0 1 rfl rfl)
theorem dJ2_get_2 : decode cJ2_get 2 = .ok (.getfield 48, 3) := dk_180 0 48 (dk_at dksJ2_get_0 2 rfl rfl)
theorem dJ2_get_5 : decode cJ2_get 5 = .ok (.invokestatic 118, 3) := dk_184 0 118 (dk_at dksJ2_get_0 5 rfl rfl)
theorem dJ2_get_8 : decode cJ2_get 8 = .ok (.pop, 1) := dk_87 (dk_at dksJ2_get_0 8 rfl rfl)
theorem dJ2_get_9 : decode cJ2_get 9 = .ok (.aload_n 0, 1) := dk_42 (dk_at dksJ2_get_0 9 rfl rfl)
theorem dJ2_get_10 : decode cJ2_get 10 = .ok (.iload_n 1, 1) := dk_27 (dk_at dksJ2_get_0 10 rfl rfl)
theorem dJ2_get_11 : decode cJ2_get 11 = .ok (.invokevirtual 123, 3) := dk_182 0 123 (dk_at dksJ2_get_0 11 rfl rfl)
theorem dJ2_get_14 : decode cJ2_get 14 = .ok (.areturn, 1) := dk_176 (dk_at dksJ2_get_0 14 rfl rfl)
abbrev cJ2_elementData : ByteArray := prog_51_method_18_code
def yJ2_elementData : MethodName := ⟨RJ2, "elementData", "(I)Ljava/lang/Object;"⟩
def dkwJ2_elementData_0 : List UInt8 := [42, 180, 0, 9, 27, 50, 176]
abbrev dktJ2_elementData_0 : List UInt8 := dkwJ2_elementData_0 ++ []
theorem dksJ2_elementData_0 : cJ2_elementData.data.toList.drop 0 = dktJ2_elementData_0 := by decide +kernel
theorem dJ2_elementData_0 : decode cJ2_elementData 0 = .ok (.aload_n 0, 1) := dk_42 (dk_at dksJ2_elementData_0 0 rfl rfl)
theorem dJ2_elementData_1 : decode cJ2_elementData 1 = .ok (.getfield 9, 3) := dk_180 0 9 (dk_at dksJ2_elementData_0 1 rfl rfl)
theorem dJ2_elementData_4 : decode cJ2_elementData 4 = .ok (.iload_n 1, 1) := dk_27 (dk_at dksJ2_elementData_0 4 rfl rfl)
theorem dJ2_elementData_5 : decode cJ2_elementData 5 = .ok (.aaload, 1) := dk_50 (dk_at dksJ2_elementData_0 5 rfl rfl)
theorem dJ2_elementData_6 : decode cJ2_elementData 6 = .ok (.areturn, 1) := dk_176 (dk_at dksJ2_elementData_0 6 rfl rfl)
abbrev cJ3_copyOf : ByteArray := prog_52_method_119_code
def yJ3_copyOf : MethodName := ⟨RJ3, "copyOf", "([Ljava/lang/Object;I)[Ljava/lang/Object;"⟩
def dkwJ3_copyOf_0 : List UInt8 := [42, 27, 42, 182, 0, 86, 184, 1, 44, 176]
abbrev dktJ3_copyOf_0 : List UInt8 := dkwJ3_copyOf_0 ++ []
theorem dksJ3_copyOf_0 : cJ3_copyOf.data.toList.drop 0 = dktJ3_copyOf_0 := by decide +kernel
theorem dJ3_copyOf_0 : decode cJ3_copyOf 0 = .ok (.aload_n 0, 1) := dk_42 (dk_at dksJ3_copyOf_0 0 rfl rfl)
theorem dJ3_copyOf_1 : decode cJ3_copyOf 1 = .ok (.iload_n 1, 1) := dk_27 (dk_at dksJ3_copyOf_0 1 rfl rfl)
theorem dJ3_copyOf_2 : decode cJ3_copyOf 2 = .ok (.aload_n 0, 1) := dk_42 (dk_at dksJ3_copyOf_0 2 rfl rfl)
theorem dJ3_copyOf_3 : decode cJ3_copyOf 3 = .ok (.invokevirtual 86, 3) := dk_182 0 86 (dk_at dksJ3_copyOf_0 3 rfl rfl)
theorem dJ3_copyOf_6 : decode cJ3_copyOf 6 = .ok (.invokestatic 300, 3) := dk_184 1 44 (dk_at dksJ3_copyOf_0 6 rfl rfl)
theorem dJ3_copyOf_9 : decode cJ3_copyOf 9 = .ok (.areturn, 1) := dk_176 (dk_at dksJ3_copyOf_0 9 rfl rfl)
abbrev cJ3_copyOf_2 : ByteArray := prog_52_method_120_code
def yJ3_copyOf_2 : MethodName := ⟨RJ3, "copyOf", "([Ljava/lang/Object;ILjava/lang/Class;)[Ljava/lang/Object;"⟩
def dkwJ3_copyOf_2_1 : List UInt8 := [78, 42, 3, 45, 3, 42, 190, 27, 184, 1, 48, 184, 0, 150, 45, 176]
abbrev dktJ3_copyOf_2_1 : List UInt8 := dkwJ3_copyOf_2_1 ++ []
def dkwJ3_copyOf_2_0 : List UInt8 := [44, 18, 110, 166, 0, 10, 27, 189, 0, 2, 167, 0, 14, 44, 182, 0, 90, 27, 184, 0, 95, 192, 0, 110]
abbrev dktJ3_copyOf_2_0 : List UInt8 := dkwJ3_copyOf_2_0 ++ dktJ3_copyOf_2_1
theorem dksJ3_copyOf_2_0 : cJ3_copyOf_2.data.toList.drop 0 = dktJ3_copyOf_2_0 := by decide +kernel
theorem dksJ3_copyOf_2_1 : cJ3_copyOf_2.data.toList.drop 24 = dktJ3_copyOf_2_1 := dk_seg dksJ3_copyOf_2_0 24 rfl rfl
theorem dJ3_copyOf_2_0 : decode cJ3_copyOf_2 0 = .ok (.aload_n 2, 1) := dk_44 (dk_at dksJ3_copyOf_2_0 0 rfl rfl)
theorem dJ3_copyOf_2_1 : decode cJ3_copyOf_2 1 = .ok (.ldc 110, 2) := dk_18 110 (dk_at dksJ3_copyOf_2_0 1 rfl rfl)
theorem dJ3_copyOf_2_3 : decode cJ3_copyOf_2 3 = .ok (.if_acmp .ne 10, 3) := dk_166 0 10 (dk_at dksJ3_copyOf_2_0 3 rfl rfl)
theorem dJ3_copyOf_2_6 : decode cJ3_copyOf_2 6 = .ok (.iload_n 1, 1) := dk_27 (dk_at dksJ3_copyOf_2_0 6 rfl rfl)
theorem dJ3_copyOf_2_7 : decode cJ3_copyOf_2 7 = .ok (.anewarray 2, 3) := dk_189 0 2 (dk_at dksJ3_copyOf_2_0 7 rfl rfl)
theorem dJ3_copyOf_2_10 : decode cJ3_copyOf_2 10 = .ok (.goto 14, 3) := dk_167 0 14 (dk_at dksJ3_copyOf_2_0 10 rfl rfl)
theorem dJ3_copyOf_2_13 : decode cJ3_copyOf_2 13 = .ok (.aload_n 2, 1) := dk_44 (dk_at dksJ3_copyOf_2_0 13 rfl rfl)
theorem dJ3_copyOf_2_14 : decode cJ3_copyOf_2 14 = .ok (.invokevirtual 90, 3) := dk_182 0 90 (dk_at dksJ3_copyOf_2_0 14 rfl rfl)
theorem dJ3_copyOf_2_17 : decode cJ3_copyOf_2 17 = .ok (.iload_n 1, 1) := dk_27 (dk_at dksJ3_copyOf_2_0 17 rfl rfl)
theorem dJ3_copyOf_2_18 : decode cJ3_copyOf_2 18 = .ok (.invokestatic 95, 3) := dk_184 0 95 (dk_at dksJ3_copyOf_2_0 18 rfl rfl)
theorem dJ3_copyOf_2_21 : decode cJ3_copyOf_2 21 = .ok (.checkcast 110, 3) := dk_192 0 110 (dk_at dksJ3_copyOf_2_0 21 rfl rfl)
theorem dJ3_copyOf_2_24 : decode cJ3_copyOf_2 24 = .ok (.astore_n 3, 1) := dk_78 (dk_at dksJ3_copyOf_2_1 0 rfl rfl)
theorem dJ3_copyOf_2_25 : decode cJ3_copyOf_2 25 = .ok (.aload_n 0, 1) := dk_42 (dk_at dksJ3_copyOf_2_1 1 rfl rfl)
theorem dJ3_copyOf_2_26 : decode cJ3_copyOf_2 26 = .ok (.iconst 0, 1) := dk_3 (dk_at dksJ3_copyOf_2_1 2 rfl rfl)
theorem dJ3_copyOf_2_27 : decode cJ3_copyOf_2 27 = .ok (.aload_n 3, 1) := dk_45 (dk_at dksJ3_copyOf_2_1 3 rfl rfl)
theorem dJ3_copyOf_2_28 : decode cJ3_copyOf_2 28 = .ok (.iconst 0, 1) := dk_3 (dk_at dksJ3_copyOf_2_1 4 rfl rfl)
theorem dJ3_copyOf_2_29 : decode cJ3_copyOf_2 29 = .ok (.aload_n 0, 1) := dk_42 (dk_at dksJ3_copyOf_2_1 5 rfl rfl)
theorem dJ3_copyOf_2_30 : decode cJ3_copyOf_2 30 = .ok (.arraylength, 1) := dk_190 (dk_at dksJ3_copyOf_2_1 6 rfl rfl)
theorem dJ3_copyOf_2_31 : decode cJ3_copyOf_2 31 = .ok (.iload_n 1, 1) := dk_27 (dk_at dksJ3_copyOf_2_1 7 rfl rfl)
theorem dJ3_copyOf_2_32 : decode cJ3_copyOf_2 32 = .ok (.invokestatic 304, 3) := dk_184 1 48 (dk_at dksJ3_copyOf_2_1 8 rfl rfl)
theorem dJ3_copyOf_2_35 : decode cJ3_copyOf_2 35 = .ok (.invokestatic 150, 3) := dk_184 0 150 (dk_at dksJ3_copyOf_2_1 11 rfl rfl)
theorem dJ3_copyOf_2_38 : decode cJ3_copyOf_2 38 = .ok (.aload_n 3, 1) := dk_45 (dk_at dksJ3_copyOf_2_1 14 rfl rfl)
theorem dJ3_copyOf_2_39 : decode cJ3_copyOf_2 39 = .ok (.areturn, 1) := dk_176 (dk_at dksJ3_copyOf_2_1 15 rfl rfl)
abbrev cJ3_copyOf_3 : ByteArray := prog_52_method_121_code
def yJ3_copyOf_3 : MethodName := ⟨RJ3, "copyOf", "([BI)[B"⟩
def dkwJ3_copyOf_3_1 : List UInt8 := [27, 184, 1, 48, 184, 0, 150, 44, 176]
abbrev dktJ3_copyOf_3_1 : List UInt8 := dkwJ3_copyOf_3_1 ++ []
def dkwJ3_copyOf_3_0 : List UInt8 := [27, 42, 190, 160, 0, 11, 42, 182, 1, 54, 192, 1, 55, 176, 27, 188, 8, 77, 42, 3, 44, 3, 42, 190]
abbrev dktJ3_copyOf_3_0 : List UInt8 := dkwJ3_copyOf_3_0 ++ dktJ3_copyOf_3_1
theorem dksJ3_copyOf_3_0 : cJ3_copyOf_3.data.toList.drop 0 = dktJ3_copyOf_3_0 := by decide +kernel
theorem dksJ3_copyOf_3_1 : cJ3_copyOf_3.data.toList.drop 24 = dktJ3_copyOf_3_1 := dk_seg dksJ3_copyOf_3_0 24 rfl rfl
theorem dJ3_copyOf_3_0 : decode cJ3_copyOf_3 0 = .ok (.iload_n 1, 1) := dk_27 (dk_at dksJ3_copyOf_3_0 0 rfl rfl)
theorem dJ3_copyOf_3_1 : decode cJ3_copyOf_3 1 = .ok (.aload_n 0, 1) := dk_42 (dk_at dksJ3_copyOf_3_0 1 rfl rfl)
theorem dJ3_copyOf_3_2 : decode cJ3_copyOf_3 2 = .ok (.arraylength, 1) := dk_190 (dk_at dksJ3_copyOf_3_0 2 rfl rfl)
theorem dJ3_copyOf_3_3 : decode cJ3_copyOf_3 3 = .ok (.if_icmp .ne 11, 3) := dk_160 0 11 (dk_at dksJ3_copyOf_3_0 3 rfl rfl)
theorem dJ3_copyOf_3_6 : decode cJ3_copyOf_3 6 = .ok (.aload_n 0, 1) := dk_42 (dk_at dksJ3_copyOf_3_0 6 rfl rfl)
theorem dJ3_copyOf_3_7 : decode cJ3_copyOf_3 7 = .ok (.invokevirtual 310, 3) := dk_182 1 54 (dk_at dksJ3_copyOf_3_0 7 rfl rfl)
theorem dJ3_copyOf_3_10 : decode cJ3_copyOf_3 10 = .ok (.checkcast 311, 3) := dk_192 1 55 (dk_at dksJ3_copyOf_3_0 10 rfl rfl)
theorem dJ3_copyOf_3_13 : decode cJ3_copyOf_3 13 = .ok (.areturn, 1) := dk_176 (dk_at dksJ3_copyOf_3_0 13 rfl rfl)
theorem dJ3_copyOf_3_14 : decode cJ3_copyOf_3 14 = .ok (.iload_n 1, 1) := dk_27 (dk_at dksJ3_copyOf_3_0 14 rfl rfl)
theorem dJ3_copyOf_3_15 : decode cJ3_copyOf_3 15 = .ok (.newarray .byte, 2) := dk_188_8 (dk_at dksJ3_copyOf_3_0 15 rfl rfl)
theorem dJ3_copyOf_3_17 : decode cJ3_copyOf_3 17 = .ok (.astore_n 2, 1) := dk_77 (dk_at dksJ3_copyOf_3_0 17 rfl rfl)
theorem dJ3_copyOf_3_18 : decode cJ3_copyOf_3 18 = .ok (.aload_n 0, 1) := dk_42 (dk_at dksJ3_copyOf_3_0 18 rfl rfl)
theorem dJ3_copyOf_3_19 : decode cJ3_copyOf_3 19 = .ok (.iconst 0, 1) := dk_3 (dk_at dksJ3_copyOf_3_0 19 rfl rfl)
theorem dJ3_copyOf_3_20 : decode cJ3_copyOf_3 20 = .ok (.aload_n 2, 1) := dk_44 (dk_at dksJ3_copyOf_3_0 20 rfl rfl)
theorem dJ3_copyOf_3_21 : decode cJ3_copyOf_3 21 = .ok (.iconst 0, 1) := dk_3 (dk_at dksJ3_copyOf_3_0 21 rfl rfl)
theorem dJ3_copyOf_3_22 : decode cJ3_copyOf_3 22 = .ok (.aload_n 0, 1) := dk_42 (dk_at dksJ3_copyOf_3_0 22 rfl rfl)
theorem dJ3_copyOf_3_23 : decode cJ3_copyOf_3 23 = .ok (.arraylength, 1) := dk_190 (dk_at dksJ3_copyOf_3_0 23 rfl rfl)
theorem dJ3_copyOf_3_24 : decode cJ3_copyOf_3 24 = .ok (.iload_n 1, 1) := dk_27 (dk_at dksJ3_copyOf_3_1 0 rfl rfl)
theorem dJ3_copyOf_3_25 : decode cJ3_copyOf_3 25 = .ok (.invokestatic 304, 3) := dk_184 1 48 (dk_at dksJ3_copyOf_3_1 1 rfl rfl)
theorem dJ3_copyOf_3_28 : decode cJ3_copyOf_3 28 = .ok (.invokestatic 150, 3) := dk_184 0 150 (dk_at dksJ3_copyOf_3_1 4 rfl rfl)
theorem dJ3_copyOf_3_31 : decode cJ3_copyOf_3 31 = .ok (.aload_n 2, 1) := dk_44 (dk_at dksJ3_copyOf_3_1 7 rfl rfl)
theorem dJ3_copyOf_3_32 : decode cJ3_copyOf_3 32 = .ok (.areturn, 1) := dk_176 (dk_at dksJ3_copyOf_3_1 8 rfl rfl)
abbrev cJ3_copyOfRange : ByteArray := prog_52_method_132_code
def yJ3_copyOfRange : MethodName := ⟨RJ3, "copyOfRange", "([BII)[B"⟩
def dkwJ3_copyOfRange_1 : List UInt8 := [176]
abbrev dktJ3_copyOfRange_1 : List UInt8 := dkwJ3_copyOfRange_1 ++ []
def dkwJ3_copyOfRange_0 : List UInt8 := [27, 154, 0, 9, 28, 42, 190, 159, 0, 10, 42, 27, 28, 184, 1, 83, 176, 42, 182, 1, 54, 192, 1, 55]
abbrev dktJ3_copyOfRange_0 : List UInt8 := dkwJ3_copyOfRange_0 ++ dktJ3_copyOfRange_1
theorem dksJ3_copyOfRange_0 : cJ3_copyOfRange.data.toList.drop 0 = dktJ3_copyOfRange_0 := by decide +kernel
theorem dksJ3_copyOfRange_1 : cJ3_copyOfRange.data.toList.drop 24 = dktJ3_copyOfRange_1 := dk_seg dksJ3_copyOfRange_0 24 rfl rfl
theorem dJ3_copyOfRange_0 : decode cJ3_copyOfRange 0 = .ok (.iload_n 1, 1) := dk_27 (dk_at dksJ3_copyOfRange_0 0 rfl rfl)
theorem dJ3_copyOfRange_1 : decode cJ3_copyOfRange 1 = .ok (.ifCond .ne 9, 3) := dk_154 0 9 (dk_at dksJ3_copyOfRange_0 1 rfl rfl)
theorem dJ3_copyOfRange_4 : decode cJ3_copyOfRange 4 = .ok (.iload_n 2, 1) := dk_28 (dk_at dksJ3_copyOfRange_0 4 rfl rfl)
theorem dJ3_copyOfRange_5 : decode cJ3_copyOfRange 5 = .ok (.aload_n 0, 1) := dk_42 (dk_at dksJ3_copyOfRange_0 5 rfl rfl)
theorem dJ3_copyOfRange_6 : decode cJ3_copyOfRange 6 = .ok (.arraylength, 1) := dk_190 (dk_at dksJ3_copyOfRange_0 6 rfl rfl)
theorem dJ3_copyOfRange_7 : decode cJ3_copyOfRange 7 = .ok (.if_icmp .eq 10, 3) := dk_159 0 10 (dk_at dksJ3_copyOfRange_0 7 rfl rfl)
theorem dJ3_copyOfRange_10 : decode cJ3_copyOfRange 10 = .ok (.aload_n 0, 1) := dk_42 (dk_at dksJ3_copyOfRange_0 10 rfl rfl)
theorem dJ3_copyOfRange_11 : decode cJ3_copyOfRange 11 = .ok (.iload_n 1, 1) := dk_27 (dk_at dksJ3_copyOfRange_0 11 rfl rfl)
theorem dJ3_copyOfRange_12 : decode cJ3_copyOfRange 12 = .ok (.iload_n 2, 1) := dk_28 (dk_at dksJ3_copyOfRange_0 12 rfl rfl)
theorem dJ3_copyOfRange_13 : decode cJ3_copyOfRange 13 = .ok (.invokestatic 339, 3) := dk_184 1 83 (dk_at dksJ3_copyOfRange_0 13 rfl rfl)
theorem dJ3_copyOfRange_16 : decode cJ3_copyOfRange 16 = .ok (.areturn, 1) := dk_176 (dk_at dksJ3_copyOfRange_0 16 rfl rfl)
theorem dJ3_copyOfRange_17 : decode cJ3_copyOfRange 17 = .ok (.aload_n 0, 1) := dk_42 (dk_at dksJ3_copyOfRange_0 17 rfl rfl)
theorem dJ3_copyOfRange_18 : decode cJ3_copyOfRange 18 = .ok (.invokevirtual 310, 3) := dk_182 1 54 (dk_at dksJ3_copyOfRange_0 18 rfl rfl)
theorem dJ3_copyOfRange_21 : decode cJ3_copyOfRange 21 = .ok (.checkcast 311, 3) := dk_192 1 55 (dk_at dksJ3_copyOfRange_0 21 rfl rfl)
theorem dJ3_copyOfRange_24 : decode cJ3_copyOfRange 24 = .ok (.areturn, 1) := dk_176 (dk_at dksJ3_copyOfRange_1 0 rfl rfl)
abbrev cJ3_copyOfRangeByte : ByteArray := prog_52_method_133_code
def yJ3_copyOfRangeByte : MethodName := ⟨RJ3, "copyOfRangeByte", "([BII)[B"⟩
def dkwJ3_copyOfRangeByte_1 : List UInt8 := [184, 1, 48, 184, 0, 150, 25, 4, 176]
abbrev dktJ3_copyOfRangeByte_1 : List UInt8 := dkwJ3_copyOfRangeByte_1 ++ []
def dkwJ3_copyOfRangeByte_0 : List UInt8 := [27, 28, 184, 1, 87, 28, 27, 100, 62, 29, 188, 8, 58, 4, 42, 27, 25, 4, 3, 42, 190, 27, 100, 29]
abbrev dktJ3_copyOfRangeByte_0 : List UInt8 := dkwJ3_copyOfRangeByte_0 ++ dktJ3_copyOfRangeByte_1
theorem dksJ3_copyOfRangeByte_0 : cJ3_copyOfRangeByte.data.toList.drop 0 = dktJ3_copyOfRangeByte_0 := by decide +kernel
theorem dksJ3_copyOfRangeByte_1 : cJ3_copyOfRangeByte.data.toList.drop 24 = dktJ3_copyOfRangeByte_1 := dk_seg dksJ3_copyOfRangeByte_0 24 rfl rfl
theorem dJ3_copyOfRangeByte_0 : decode cJ3_copyOfRangeByte 0 = .ok (.iload_n 1, 1) := dk_27 (dk_at dksJ3_copyOfRangeByte_0 0 rfl rfl)
theorem dJ3_copyOfRangeByte_1 : decode cJ3_copyOfRangeByte 1 = .ok (.iload_n 2, 1) := dk_28 (dk_at dksJ3_copyOfRangeByte_0 1 rfl rfl)
theorem dJ3_copyOfRangeByte_2 : decode cJ3_copyOfRangeByte 2 = .ok (.invokestatic 343, 3) := dk_184 1 87 (dk_at dksJ3_copyOfRangeByte_0 2 rfl rfl)
theorem dJ3_copyOfRangeByte_5 : decode cJ3_copyOfRangeByte 5 = .ok (.iload_n 2, 1) := dk_28 (dk_at dksJ3_copyOfRangeByte_0 5 rfl rfl)
theorem dJ3_copyOfRangeByte_6 : decode cJ3_copyOfRangeByte 6 = .ok (.iload_n 1, 1) := dk_27 (dk_at dksJ3_copyOfRangeByte_0 6 rfl rfl)
theorem dJ3_copyOfRangeByte_7 : decode cJ3_copyOfRangeByte 7 = .ok (.isub, 1) := dk_100 (dk_at dksJ3_copyOfRangeByte_0 7 rfl rfl)
theorem dJ3_copyOfRangeByte_8 : decode cJ3_copyOfRangeByte 8 = .ok (.istore_n 3, 1) := dk_62 (dk_at dksJ3_copyOfRangeByte_0 8 rfl rfl)
theorem dJ3_copyOfRangeByte_9 : decode cJ3_copyOfRangeByte 9 = .ok (.iload_n 3, 1) := dk_29 (dk_at dksJ3_copyOfRangeByte_0 9 rfl rfl)
theorem dJ3_copyOfRangeByte_10 : decode cJ3_copyOfRangeByte 10 = .ok (.newarray .byte, 2) := dk_188_8 (dk_at dksJ3_copyOfRangeByte_0 10 rfl rfl)
theorem dJ3_copyOfRangeByte_12 : decode cJ3_copyOfRangeByte 12 = .ok (.astore 4, 2) := dk_58 4 (dk_at dksJ3_copyOfRangeByte_0 12 rfl rfl)
theorem dJ3_copyOfRangeByte_14 : decode cJ3_copyOfRangeByte 14 = .ok (.aload_n 0, 1) := dk_42 (dk_at dksJ3_copyOfRangeByte_0 14 rfl rfl)
theorem dJ3_copyOfRangeByte_15 : decode cJ3_copyOfRangeByte 15 = .ok (.iload_n 1, 1) := dk_27 (dk_at dksJ3_copyOfRangeByte_0 15 rfl rfl)
theorem dJ3_copyOfRangeByte_16 : decode cJ3_copyOfRangeByte 16 = .ok (.aload 4, 2) := dk_25 4 (dk_at dksJ3_copyOfRangeByte_0 16 rfl rfl)
theorem dJ3_copyOfRangeByte_18 : decode cJ3_copyOfRangeByte 18 = .ok (.iconst 0, 1) := dk_3 (dk_at dksJ3_copyOfRangeByte_0 18 rfl rfl)
theorem dJ3_copyOfRangeByte_19 : decode cJ3_copyOfRangeByte 19 = .ok (.aload_n 0, 1) := dk_42 (dk_at dksJ3_copyOfRangeByte_0 19 rfl rfl)
theorem dJ3_copyOfRangeByte_20 : decode cJ3_copyOfRangeByte 20 = .ok (.arraylength, 1) := dk_190 (dk_at dksJ3_copyOfRangeByte_0 20 rfl rfl)
theorem dJ3_copyOfRangeByte_21 : decode cJ3_copyOfRangeByte 21 = .ok (.iload_n 1, 1) := dk_27 (dk_at dksJ3_copyOfRangeByte_0 21 rfl rfl)
theorem dJ3_copyOfRangeByte_22 : decode cJ3_copyOfRangeByte 22 = .ok (.isub, 1) := dk_100 (dk_at dksJ3_copyOfRangeByte_0 22 rfl rfl)
theorem dJ3_copyOfRangeByte_23 : decode cJ3_copyOfRangeByte 23 = .ok (.iload_n 3, 1) := dk_29 (dk_at dksJ3_copyOfRangeByte_0 23 rfl rfl)
theorem dJ3_copyOfRangeByte_24 : decode cJ3_copyOfRangeByte 24 = .ok (.invokestatic 304, 3) := dk_184 1 48 (dk_at dksJ3_copyOfRangeByte_1 0 rfl rfl)
theorem dJ3_copyOfRangeByte_27 : decode cJ3_copyOfRangeByte 27 = .ok (.invokestatic 150, 3) := dk_184 0 150 (dk_at dksJ3_copyOfRangeByte_1 3 rfl rfl)
theorem dJ3_copyOfRangeByte_30 : decode cJ3_copyOfRangeByte 30 = .ok (.aload 4, 2) := dk_25 4 (dk_at dksJ3_copyOfRangeByte_1 6 rfl rfl)
theorem dJ3_copyOfRangeByte_32 : decode cJ3_copyOfRangeByte 32 = .ok (.areturn, 1) := dk_176 (dk_at dksJ3_copyOfRangeByte_1 8 rfl rfl)
abbrev cJ3_checkLength : ByteArray := prog_52_method_131_code
def yJ3_checkLength : MethodName := ⟨RJ3, "checkLength", "(II)V"⟩
def dkwJ3_checkLength_1 : List UInt8 := [182, 0, 50, 27, 182, 0, 54, 182, 0, 61, 183, 0, 65, 191, 177]
abbrev dktJ3_checkLength_1 : List UInt8 := dkwJ3_checkLength_1 ++ []
def dkwJ3_checkLength_0 : List UInt8 := [27, 26, 162, 0, 35, 187, 0, 43, 89, 187, 0, 45, 89, 183, 0, 47, 26, 182, 0, 54, 19, 1, 81]
abbrev dktJ3_checkLength_0 : List UInt8 := dkwJ3_checkLength_0 ++ dktJ3_checkLength_1
theorem dksJ3_checkLength_0 : cJ3_checkLength.data.toList.drop 0 = dktJ3_checkLength_0 := by decide +kernel
theorem dksJ3_checkLength_1 : cJ3_checkLength.data.toList.drop 23 = dktJ3_checkLength_1 := dk_seg dksJ3_checkLength_0 23 rfl rfl
theorem dJ3_checkLength_0 : decode cJ3_checkLength 0 = .ok (.iload_n 1, 1) := dk_27 (dk_at dksJ3_checkLength_0 0 rfl rfl)
theorem dJ3_checkLength_1 : decode cJ3_checkLength 1 = .ok (.iload_n 0, 1) := dk_26 (dk_at dksJ3_checkLength_0 1 rfl rfl)
theorem dJ3_checkLength_2 : decode cJ3_checkLength 2 = .ok (.if_icmp .ge 35, 3) := dk_162 0 35 (dk_at dksJ3_checkLength_0 2 rfl rfl)
theorem dJ3_checkLength_5 : decode cJ3_checkLength 5 = .ok (.new 43, 3) := dk_187 0 43 (dk_at dksJ3_checkLength_0 5 rfl rfl)
theorem dJ3_checkLength_8 : decode cJ3_checkLength 8 = .ok (.dup, 1) := dk_89 (dk_at dksJ3_checkLength_0 8 rfl rfl)
theorem dJ3_checkLength_9 : decode cJ3_checkLength 9 = .ok (.new 45, 3) := dk_187 0 45 (dk_at dksJ3_checkLength_0 9 rfl rfl)
theorem dJ3_checkLength_12 : decode cJ3_checkLength 12 = .ok (.dup, 1) := dk_89 (dk_at dksJ3_checkLength_0 12 rfl rfl)
theorem dJ3_checkLength_13 : decode cJ3_checkLength 13 = .ok (.invokespecial 47, 3) := dk_183 0 47 (dk_at dksJ3_checkLength_0 13 rfl rfl)
theorem dJ3_checkLength_16 : decode cJ3_checkLength 16 = .ok (.iload_n 0, 1) := dk_26 (dk_at dksJ3_checkLength_0 16 rfl rfl)
theorem dJ3_checkLength_17 : decode cJ3_checkLength 17 = .ok (.invokevirtual 54, 3) := dk_182 0 54 (dk_at dksJ3_checkLength_0 17 rfl rfl)
theorem dJ3_checkLength_20 : decode cJ3_checkLength 20 = .ok (.ldc_w 337, 3) := dk_19 1 81 (dk_at dksJ3_checkLength_0 20 rfl rfl)
theorem dJ3_checkLength_23 : decode cJ3_checkLength 23 = .ok (.invokevirtual 50, 3) := dk_182 0 50 (dk_at dksJ3_checkLength_1 0 rfl rfl)
theorem dJ3_checkLength_26 : decode cJ3_checkLength 26 = .ok (.iload_n 1, 1) := dk_27 (dk_at dksJ3_checkLength_1 3 rfl rfl)
theorem dJ3_checkLength_27 : decode cJ3_checkLength 27 = .ok (.invokevirtual 54, 3) := dk_182 0 54 (dk_at dksJ3_checkLength_1 4 rfl rfl)
theorem dJ3_checkLength_30 : decode cJ3_checkLength 30 = .ok (.invokevirtual 61, 3) := dk_182 0 61 (dk_at dksJ3_checkLength_1 7 rfl rfl)
theorem dJ3_checkLength_33 : decode cJ3_checkLength 33 = .ok (.invokespecial 65, 3) := dk_183 0 65 (dk_at dksJ3_checkLength_1 10 rfl rfl)
theorem dJ3_checkLength_36 : decode cJ3_checkLength 36 = .ok (.athrow, 1) := dk_191 (dk_at dksJ3_checkLength_1 13 rfl rfl)
theorem dJ3_checkLength_37 : decode cJ3_checkLength 37 = .ok (.return_, 1) := dk_177 (dk_at dksJ3_checkLength_1 14 rfl rfl)
abbrev cJ3_fill : ByteArray := prog_52_method_103_code
def yJ3_fill : MethodName := ⟨RJ3, "fill", "([II)V"⟩
def dkwJ3_fill_0 : List UInt8 := [3, 61, 42, 190, 62, 28, 29, 162, 0, 13, 42, 28, 27, 79, 132, 2, 1, 167, 255, 244, 177]
abbrev dktJ3_fill_0 : List UInt8 := dkwJ3_fill_0 ++ []
theorem dksJ3_fill_0 : cJ3_fill.data.toList.drop 0 = dktJ3_fill_0 := by decide +kernel
theorem dJ3_fill_0 : decode cJ3_fill 0 = .ok (.iconst 0, 1) := dk_3 (dk_at dksJ3_fill_0 0 rfl rfl)
theorem dJ3_fill_1 : decode cJ3_fill 1 = .ok (.istore_n 2, 1) := dk_61 (dk_at dksJ3_fill_0 1 rfl rfl)
theorem dJ3_fill_2 : decode cJ3_fill 2 = .ok (.aload_n 0, 1) := dk_42 (dk_at dksJ3_fill_0 2 rfl rfl)
theorem dJ3_fill_3 : decode cJ3_fill 3 = .ok (.arraylength, 1) := dk_190 (dk_at dksJ3_fill_0 3 rfl rfl)
theorem dJ3_fill_4 : decode cJ3_fill 4 = .ok (.istore_n 3, 1) := dk_62 (dk_at dksJ3_fill_0 4 rfl rfl)
theorem dJ3_fill_5 : decode cJ3_fill 5 = .ok (.iload_n 2, 1) := dk_28 (dk_at dksJ3_fill_0 5 rfl rfl)
theorem dJ3_fill_6 : decode cJ3_fill 6 = .ok (.iload_n 3, 1) := dk_29 (dk_at dksJ3_fill_0 6 rfl rfl)
theorem dJ3_fill_7 : decode cJ3_fill 7 = .ok (.if_icmp .ge 13, 3) := dk_162 0 13 (dk_at dksJ3_fill_0 7 rfl rfl)
theorem dJ3_fill_10 : decode cJ3_fill 10 = .ok (.aload_n 0, 1) := dk_42 (dk_at dksJ3_fill_0 10 rfl rfl)
theorem dJ3_fill_11 : decode cJ3_fill 11 = .ok (.iload_n 2, 1) := dk_28 (dk_at dksJ3_fill_0 11 rfl rfl)
theorem dJ3_fill_12 : decode cJ3_fill 12 = .ok (.iload_n 1, 1) := dk_27 (dk_at dksJ3_fill_0 12 rfl rfl)
theorem dJ3_fill_13 : decode cJ3_fill 13 = .ok (.iastore, 1) := dk_79 (dk_at dksJ3_fill_0 13 rfl rfl)
theorem dJ3_fill_14 : decode cJ3_fill 14 = .ok (.iinc 2 1, 3) := dk_132 2 1 (dk_at dksJ3_fill_0 14 rfl rfl)
theorem dJ3_fill_17 : decode cJ3_fill 17 = .ok (.goto (-12), 3) := dk_167 255 244 (dk_at dksJ3_fill_0 17 rfl rfl)
theorem dJ3_fill_20 : decode cJ3_fill 20 = .ok (.return_, 1) := dk_177 (dk_at dksJ3_fill_0 20 rfl rfl)
abbrev cJ4_min : ByteArray := prog_36_method_69_code
def yJ4_min : MethodName := ⟨RJ4, "min", "(II)I"⟩
def dkwJ4_min_0 : List UInt8 := [26, 27, 163, 0, 7, 26, 167, 0, 4, 27, 172]
abbrev dktJ4_min_0 : List UInt8 := dkwJ4_min_0 ++ []
theorem dksJ4_min_0 : cJ4_min.data.toList.drop 0 = dktJ4_min_0 := by decide +kernel
theorem dJ4_min_0 : decode cJ4_min 0 = .ok (.iload_n 0, 1) := dk_26 (dk_at dksJ4_min_0 0 rfl rfl)
theorem dJ4_min_1 : decode cJ4_min 1 = .ok (.iload_n 1, 1) := dk_27 (dk_at dksJ4_min_0 1 rfl rfl)
theorem dJ4_min_2 : decode cJ4_min 2 = .ok (.if_icmp .gt 7, 3) := dk_163 0 7 (dk_at dksJ4_min_0 2 rfl rfl)
theorem dJ4_min_5 : decode cJ4_min 5 = .ok (.iload_n 0, 1) := dk_26 (dk_at dksJ4_min_0 5 rfl rfl)
theorem dJ4_min_6 : decode cJ4_min 6 = .ok (.goto 4, 3) := dk_167 0 4 (dk_at dksJ4_min_0 6 rfl rfl)
theorem dJ4_min_9 : decode cJ4_min 9 = .ok (.iload_n 1, 1) := dk_27 (dk_at dksJ4_min_0 9 rfl rfl)
theorem dJ4_min_10 : decode cJ4_min 10 = .ok (.ireturn, 1) := dk_172 (dk_at dksJ4_min_0 10 rfl rfl)
abbrev cJ4_max : ByteArray := prog_36_method_65_code
def yJ4_max : MethodName := ⟨RJ4, "max", "(II)I"⟩
def dkwJ4_max_0 : List UInt8 := [26, 27, 161, 0, 7, 26, 167, 0, 4, 27, 172]
abbrev dktJ4_max_0 : List UInt8 := dkwJ4_max_0 ++ []
theorem dksJ4_max_0 : cJ4_max.data.toList.drop 0 = dktJ4_max_0 := by decide +kernel
theorem dJ4_max_0 : decode cJ4_max 0 = .ok (.iload_n 0, 1) := dk_26 (dk_at dksJ4_max_0 0 rfl rfl)
theorem dJ4_max_1 : decode cJ4_max 1 = .ok (.iload_n 1, 1) := dk_27 (dk_at dksJ4_max_0 1 rfl rfl)
theorem dJ4_max_2 : decode cJ4_max 2 = .ok (.if_icmp .lt 7, 3) := dk_161 0 7 (dk_at dksJ4_max_0 2 rfl rfl)
theorem dJ4_max_5 : decode cJ4_max 5 = .ok (.iload_n 0, 1) := dk_26 (dk_at dksJ4_max_0 5 rfl rfl)
theorem dJ4_max_6 : decode cJ4_max 6 = .ok (.goto 4, 3) := dk_167 0 4 (dk_at dksJ4_max_0 6 rfl rfl)
theorem dJ4_max_9 : decode cJ4_max 9 = .ok (.iload_n 1, 1) := dk_27 (dk_at dksJ4_max_0 9 rfl rfl)
theorem dJ4_max_10 : decode cJ4_max 10 = .ok (.ireturn, 1) := dk_172 (dk_at dksJ4_max_0 10 rfl rfl)
abbrev cJ4_abs : ByteArray := prog_36_method_59_code
def yJ4_abs : MethodName := ⟨RJ4, "abs", "(I)I"⟩
def dkwJ4_abs_0 : List UInt8 := [26, 156, 0, 8, 26, 116, 167, 0, 4, 26, 172]
abbrev dktJ4_abs_0 : List UInt8 := dkwJ4_abs_0 ++ []
theorem dksJ4_abs_0 : cJ4_abs.data.toList.drop 0 = dktJ4_abs_0 := by decide +kernel
theorem dJ4_abs_0 : decode cJ4_abs 0 = .ok (.iload_n 0, 1) := dk_26 (dk_at dksJ4_abs_0 0 rfl rfl)
theorem dJ4_abs_1 : decode cJ4_abs 1 = .ok (.ifCond .ge 8, 3) := dk_156 0 8 (dk_at dksJ4_abs_0 1 rfl rfl)
theorem dJ4_abs_4 : decode cJ4_abs 4 = .ok (.iload_n 0, 1) := dk_26 (dk_at dksJ4_abs_0 4 rfl rfl)
theorem dJ4_abs_5 : decode cJ4_abs 5 = .ok (.ineg, 1) := dk_116 (dk_at dksJ4_abs_0 5 rfl rfl)
theorem dJ4_abs_6 : decode cJ4_abs 6 = .ok (.goto 4, 3) := dk_167 0 4 (dk_at dksJ4_abs_0 6 rfl rfl)
theorem dJ4_abs_9 : decode cJ4_abs 9 = .ok (.iload_n 0, 1) := dk_26 (dk_at dksJ4_abs_0 9 rfl rfl)
theorem dJ4_abs_10 : decode cJ4_abs 10 = .ok (.ireturn, 1) := dk_172 (dk_at dksJ4_abs_0 10 rfl rfl)
abbrev cJ5_newLength : ByteArray := prog_60_method_27_code
def yJ5_newLength : MethodName := ⟨RJ5, "newLength", "(III)I"⟩
def dkwJ5_newLength_1 : List UInt8 := [184, 0, 201, 172]
abbrev dktJ5_newLength_1 : List UInt8 := dkwJ5_newLength_1 ++ []
def dkwJ5_newLength_0 : List UInt8 := [26, 27, 28, 184, 0, 194, 96, 62, 3, 29, 162, 0, 11, 29, 18, 200, 163, 0, 5, 29, 172, 26, 27]
abbrev dktJ5_newLength_0 : List UInt8 := dkwJ5_newLength_0 ++ dktJ5_newLength_1
theorem dksJ5_newLength_0 : cJ5_newLength.data.toList.drop 0 = dktJ5_newLength_0 := by decide +kernel
theorem dksJ5_newLength_1 : cJ5_newLength.data.toList.drop 23 = dktJ5_newLength_1 := dk_seg dksJ5_newLength_0 23 rfl rfl
theorem dJ5_newLength_0 : decode cJ5_newLength 0 = .ok (.iload_n 0, 1) := dk_26 (dk_at dksJ5_newLength_0 0 rfl rfl)
theorem dJ5_newLength_1 : decode cJ5_newLength 1 = .ok (.iload_n 1, 1) := dk_27 (dk_at dksJ5_newLength_0 1 rfl rfl)
theorem dJ5_newLength_2 : decode cJ5_newLength 2 = .ok (.iload_n 2, 1) := dk_28 (dk_at dksJ5_newLength_0 2 rfl rfl)
theorem dJ5_newLength_3 : decode cJ5_newLength 3 = .ok (.invokestatic 194, 3) := dk_184 0 194 (dk_at dksJ5_newLength_0 3 rfl rfl)
theorem dJ5_newLength_6 : decode cJ5_newLength 6 = .ok (.iadd, 1) := dk_96 (dk_at dksJ5_newLength_0 6 rfl rfl)
theorem dJ5_newLength_7 : decode cJ5_newLength 7 = .ok (.istore_n 3, 1) := dk_62 (dk_at dksJ5_newLength_0 7 rfl rfl)
theorem dJ5_newLength_8 : decode cJ5_newLength 8 = .ok (.iconst 0, 1) := dk_3 (dk_at dksJ5_newLength_0 8 rfl rfl)
theorem dJ5_newLength_9 : decode cJ5_newLength 9 = .ok (.iload_n 3, 1) := dk_29 (dk_at dksJ5_newLength_0 9 rfl rfl)
theorem dJ5_newLength_10 : decode cJ5_newLength 10 = .ok (.if_icmp .ge 11, 3) := dk_162 0 11 (dk_at dksJ5_newLength_0 10 rfl rfl)
theorem dJ5_newLength_13 : decode cJ5_newLength 13 = .ok (.iload_n 3, 1) := dk_29 (dk_at dksJ5_newLength_0 13 rfl rfl)
theorem dJ5_newLength_14 : decode cJ5_newLength 14 = .ok (.ldc 200, 2) := dk_18 200 (dk_at dksJ5_newLength_0 14 rfl rfl)
theorem dJ5_newLength_16 : decode cJ5_newLength 16 = .ok (.if_icmp .gt 5, 3) := dk_163 0 5 (dk_at dksJ5_newLength_0 16 rfl rfl)
theorem dJ5_newLength_19 : decode cJ5_newLength 19 = .ok (.iload_n 3, 1) := dk_29 (dk_at dksJ5_newLength_0 19 rfl rfl)
theorem dJ5_newLength_20 : decode cJ5_newLength 20 = .ok (.ireturn, 1) := dk_172 (dk_at dksJ5_newLength_0 20 rfl rfl)
theorem dJ5_newLength_21 : decode cJ5_newLength 21 = .ok (.iload_n 0, 1) := dk_26 (dk_at dksJ5_newLength_0 21 rfl rfl)
theorem dJ5_newLength_22 : decode cJ5_newLength 22 = .ok (.iload_n 1, 1) := dk_27 (dk_at dksJ5_newLength_0 22 rfl rfl)
theorem dJ5_newLength_23 : decode cJ5_newLength 23 = .ok (.invokestatic 201, 3) := dk_184 0 201 (dk_at dksJ5_newLength_1 0 rfl rfl)
theorem dJ5_newLength_26 : decode cJ5_newLength 26 = .ok (.ireturn, 1) := dk_172 (dk_at dksJ5_newLength_1 3 rfl rfl)
abbrev cJ5_hugeLength : ByteArray := prog_60_method_28_code
def yJ5_hugeLength : MethodName := ⟨RJ5, "hugeLength", "(II)I"⟩
def dkwJ5_hugeLength_2 : List UInt8 := [191, 28, 18, 200, 163, 0, 6, 18, 200, 172, 28, 172]
abbrev dktJ5_hugeLength_2 : List UInt8 := dkwJ5_hugeLength_2 ++ []
def dkwJ5_hugeLength_1 : List UInt8 := [26, 182, 0, 98, 18, 208, 182, 0, 94, 27, 182, 0, 98, 18, 210, 182, 0, 94, 182, 0, 101, 183, 0, 212]
abbrev dktJ5_hugeLength_1 : List UInt8 := dkwJ5_hugeLength_1 ++ dktJ5_hugeLength_2
def dkwJ5_hugeLength_0 : List UInt8 := [26, 27, 96, 61, 28, 156, 0, 44, 187, 0, 204, 89, 187, 0, 89, 89, 183, 0, 91, 18, 206, 182, 0, 94]
abbrev dktJ5_hugeLength_0 : List UInt8 := dkwJ5_hugeLength_0 ++ dktJ5_hugeLength_1
theorem dksJ5_hugeLength_0 : cJ5_hugeLength.data.toList.drop 0 = dktJ5_hugeLength_0 := by decide +kernel
theorem dksJ5_hugeLength_1 : cJ5_hugeLength.data.toList.drop 24 = dktJ5_hugeLength_1 := dk_seg dksJ5_hugeLength_0 24 rfl rfl
theorem dksJ5_hugeLength_2 : cJ5_hugeLength.data.toList.drop 48 = dktJ5_hugeLength_2 := dk_seg dksJ5_hugeLength_1 24 rfl rfl
theorem dJ5_hugeLength_0 : decode cJ5_hugeLength 0 = .ok (.iload_n 0, 1) := dk_26 (dk_at dksJ5_hugeLength_0 0 rfl rfl)
theorem dJ5_hugeLength_1 : decode cJ5_hugeLength 1 = .ok (.iload_n 1, 1) := dk_27 (dk_at dksJ5_hugeLength_0 1 rfl rfl)
theorem dJ5_hugeLength_2 : decode cJ5_hugeLength 2 = .ok (.iadd, 1) := dk_96 (dk_at dksJ5_hugeLength_0 2 rfl rfl)
theorem dJ5_hugeLength_3 : decode cJ5_hugeLength 3 = .ok (.istore_n 2, 1) := dk_61 (dk_at dksJ5_hugeLength_0 3 rfl rfl)
theorem dJ5_hugeLength_4 : decode cJ5_hugeLength 4 = .ok (.iload_n 2, 1) := dk_28 (dk_at dksJ5_hugeLength_0 4 rfl rfl)
theorem dJ5_hugeLength_5 : decode cJ5_hugeLength 5 = .ok (.ifCond .ge 44, 3) := dk_156 0 44 (dk_at dksJ5_hugeLength_0 5 rfl rfl)
theorem dJ5_hugeLength_8 : decode cJ5_hugeLength 8 = .ok (.new 204, 3) := dk_187 0 204 (dk_at dksJ5_hugeLength_0 8 rfl rfl)
theorem dJ5_hugeLength_11 : decode cJ5_hugeLength 11 = .ok (.dup, 1) := dk_89 (dk_at dksJ5_hugeLength_0 11 rfl rfl)
theorem dJ5_hugeLength_12 : decode cJ5_hugeLength 12 = .ok (.new 89, 3) := dk_187 0 89 (dk_at dksJ5_hugeLength_0 12 rfl rfl)
theorem dJ5_hugeLength_15 : decode cJ5_hugeLength 15 = .ok (.dup, 1) := dk_89 (dk_at dksJ5_hugeLength_0 15 rfl rfl)
theorem dJ5_hugeLength_16 : decode cJ5_hugeLength 16 = .ok (.invokespecial 91, 3) := dk_183 0 91 (dk_at dksJ5_hugeLength_0 16 rfl rfl)
theorem dJ5_hugeLength_19 : decode cJ5_hugeLength 19 = .ok (.ldc 206, 2) := dk_18 206 (dk_at dksJ5_hugeLength_0 19 rfl rfl)
theorem dJ5_hugeLength_21 : decode cJ5_hugeLength 21 = .ok (.invokevirtual 94, 3) := dk_182 0 94 (dk_at dksJ5_hugeLength_0 21 rfl rfl)
theorem dJ5_hugeLength_24 : decode cJ5_hugeLength 24 = .ok (.iload_n 0, 1) := dk_26 (dk_at dksJ5_hugeLength_1 0 rfl rfl)
theorem dJ5_hugeLength_25 : decode cJ5_hugeLength 25 = .ok (.invokevirtual 98, 3) := dk_182 0 98 (dk_at dksJ5_hugeLength_1 1 rfl rfl)
theorem dJ5_hugeLength_28 : decode cJ5_hugeLength 28 = .ok (.ldc 208, 2) := dk_18 208 (dk_at dksJ5_hugeLength_1 4 rfl rfl)
theorem dJ5_hugeLength_30 : decode cJ5_hugeLength 30 = .ok (.invokevirtual 94, 3) := dk_182 0 94 (dk_at dksJ5_hugeLength_1 6 rfl rfl)
theorem dJ5_hugeLength_33 : decode cJ5_hugeLength 33 = .ok (.iload_n 1, 1) := dk_27 (dk_at dksJ5_hugeLength_1 9 rfl rfl)
theorem dJ5_hugeLength_34 : decode cJ5_hugeLength 34 = .ok (.invokevirtual 98, 3) := dk_182 0 98 (dk_at dksJ5_hugeLength_1 10 rfl rfl)
theorem dJ5_hugeLength_37 : decode cJ5_hugeLength 37 = .ok (.ldc 210, 2) := dk_18 210 (dk_at dksJ5_hugeLength_1 13 rfl rfl)
theorem dJ5_hugeLength_39 : decode cJ5_hugeLength 39 = .ok (.invokevirtual 94, 3) := dk_182 0 94 (dk_at dksJ5_hugeLength_1 15 rfl rfl)
theorem dJ5_hugeLength_42 : decode cJ5_hugeLength 42 = .ok (.invokevirtual 101, 3) := dk_182 0 101 (dk_at dksJ5_hugeLength_1 18 rfl rfl)
theorem dJ5_hugeLength_45 : decode cJ5_hugeLength 45 = .ok (.invokespecial 212, 3) := dk_183 0 212 (dk_at dksJ5_hugeLength_1 21 rfl rfl)
theorem dJ5_hugeLength_48 : decode cJ5_hugeLength 48 = .ok (.athrow, 1) := dk_191 (dk_at dksJ5_hugeLength_2 0 rfl rfl)
theorem dJ5_hugeLength_49 : decode cJ5_hugeLength 49 = .ok (.iload_n 2, 1) := dk_28 (dk_at dksJ5_hugeLength_2 1 rfl rfl)
theorem dJ5_hugeLength_50 : decode cJ5_hugeLength 50 = .ok (.ldc 200, 2) := dk_18 200 (dk_at dksJ5_hugeLength_2 2 rfl rfl)
theorem dJ5_hugeLength_52 : decode cJ5_hugeLength 52 = .ok (.if_icmp .gt 6, 3) := dk_163 0 6 (dk_at dksJ5_hugeLength_2 4 rfl rfl)
theorem dJ5_hugeLength_55 : decode cJ5_hugeLength 55 = .ok (.ldc 200, 2) := dk_18 200 (dk_at dksJ5_hugeLength_2 7 rfl rfl)
theorem dJ5_hugeLength_57 : decode cJ5_hugeLength 57 = .ok (.ireturn, 1) := dk_172 (dk_at dksJ5_hugeLength_2 9 rfl rfl)
theorem dJ5_hugeLength_58 : decode cJ5_hugeLength 58 = .ok (.iload_n 2, 1) := dk_28 (dk_at dksJ5_hugeLength_2 10 rfl rfl)
theorem dJ5_hugeLength_59 : decode cJ5_hugeLength 59 = .ok (.ireturn, 1) := dk_172 (dk_at dksJ5_hugeLength_2 11 rfl rfl)
abbrev cJ5_vectorizedHashCode : ByteArray := prog_60_method_4_code
def yJ5_vectorizedHashCode : MethodName := ⟨RJ5, "vectorizedHashCode", "(Ljava/lang/Object;IIII)I"⟩
def dkwJ5_vectorizedHashCode_6 : List UInt8 := [183, 0, 91, 18, 92, 182, 0, 94, 21, 4, 182, 0, 98, 182, 0, 101, 183, 0, 105, 191, 172]
abbrev dktJ5_vectorizedHashCode_6 : List UInt8 := dkwJ5_vectorizedHashCode_6 ++ []
def dkwJ5_vectorizedHashCode_5 : List UInt8 := [167, 0, 44, 29, 42, 192, 0, 82, 27, 28, 184, 0, 84, 167, 0, 31, 187, 0, 87, 89, 187, 0, 89, 89]
abbrev dktJ5_vectorizedHashCode_5 : List UInt8 := dkwJ5_vectorizedHashCode_5 ++ dktJ5_vectorizedHashCode_6
def dkwJ5_vectorizedHashCode_4 : List UInt8 := [29, 42, 192, 0, 60, 27, 28, 184, 0, 75, 167, 0, 57, 29, 42, 192, 0, 77, 27, 28, 184, 0, 79]
abbrev dktJ5_vectorizedHashCode_4 : List UInt8 := dkwJ5_vectorizedHashCode_4 ++ dktJ5_vectorizedHashCode_5
def dkwJ5_vectorizedHashCode_3 : List UInt8 := [192, 0, 60, 27, 28, 184, 0, 66, 167, 0, 83, 29, 42, 192, 0, 69, 27, 28, 184, 0, 71, 167, 0, 70]
abbrev dktJ5_vectorizedHashCode_3 : List UInt8 := dkwJ5_vectorizedHashCode_3 ++ dktJ5_vectorizedHashCode_4
def dkwJ5_vectorizedHashCode_2 : List UInt8 := [29, 42, 192, 0, 60, 27, 28, 184, 0, 62, 167, 0, 103, 42, 193, 0, 60, 153, 0, 16, 29, 42]
abbrev dktJ5_vectorizedHashCode_2 : List UInt8 := dkwJ5_vectorizedHashCode_2 ++ dktJ5_vectorizedHashCode_3
def dkwJ5_vectorizedHashCode_1 : List UInt8 := [170, 0, 0, 0, 0, 127, 0, 0, 0, 4, 0, 0, 0, 10, 0, 0, 0, 42, 0, 0, 0, 55, 0, 0, 0, 127, 0, 0, 0, 127, 0, 0, 0, 88, 0, 0, 0, 101, 0, 0, 0, 114]
abbrev dktJ5_vectorizedHashCode_1 : List UInt8 := dkwJ5_vectorizedHashCode_1 ++ dktJ5_vectorizedHashCode_2
def dkwJ5_vectorizedHashCode_0 : List UInt8 := [21, 4]
abbrev dktJ5_vectorizedHashCode_0 : List UInt8 := dkwJ5_vectorizedHashCode_0 ++ dktJ5_vectorizedHashCode_1
theorem dksJ5_vectorizedHashCode_0 : cJ5_vectorizedHashCode.data.toList.drop 0 = dktJ5_vectorizedHashCode_0 := by decide +kernel
theorem dksJ5_vectorizedHashCode_1 : cJ5_vectorizedHashCode.data.toList.drop 2 = dktJ5_vectorizedHashCode_1 := dk_seg dksJ5_vectorizedHashCode_0 2 rfl rfl
theorem dksJ5_vectorizedHashCode_2 : cJ5_vectorizedHashCode.data.toList.drop 44 = dktJ5_vectorizedHashCode_2 := dk_seg dksJ5_vectorizedHashCode_1 42 rfl rfl
theorem dksJ5_vectorizedHashCode_3 : cJ5_vectorizedHashCode.data.toList.drop 66 = dktJ5_vectorizedHashCode_3 := dk_seg dksJ5_vectorizedHashCode_2 22 rfl rfl
theorem dksJ5_vectorizedHashCode_4 : cJ5_vectorizedHashCode.data.toList.drop 90 = dktJ5_vectorizedHashCode_4 := dk_seg dksJ5_vectorizedHashCode_3 24 rfl rfl
theorem dksJ5_vectorizedHashCode_5 : cJ5_vectorizedHashCode.data.toList.drop 113 = dktJ5_vectorizedHashCode_5 := dk_seg dksJ5_vectorizedHashCode_4 23 rfl rfl
theorem dksJ5_vectorizedHashCode_6 : cJ5_vectorizedHashCode.data.toList.drop 137 = dktJ5_vectorizedHashCode_6 := dk_seg dksJ5_vectorizedHashCode_5 24 rfl rfl
theorem dJ5_vectorizedHashCode_0 : decode cJ5_vectorizedHashCode 0 = .ok (.iload 4, 2) := dk_21 4 (dk_at dksJ5_vectorizedHashCode_0 0 rfl rfl)
theorem dJ5_vectorizedHashCode_2 : decode cJ5_vectorizedHashCode 2 = .ok (.tableswitch 127 4 10 #[42, 55, 127, 127, 88, 101, 114], 42) := by decide +kernel
theorem dJ5_vectorizedHashCode_44 : decode cJ5_vectorizedHashCode 44 = .ok (.iload_n 3, 1) := dk_29 (dk_at dksJ5_vectorizedHashCode_2 0 rfl rfl)
theorem dJ5_vectorizedHashCode_45 : decode cJ5_vectorizedHashCode 45 = .ok (.aload_n 0, 1) := dk_42 (dk_at dksJ5_vectorizedHashCode_2 1 rfl rfl)
theorem dJ5_vectorizedHashCode_46 : decode cJ5_vectorizedHashCode 46 = .ok (.checkcast 60, 3) := dk_192 0 60 (dk_at dksJ5_vectorizedHashCode_2 2 rfl rfl)
theorem dJ5_vectorizedHashCode_49 : decode cJ5_vectorizedHashCode 49 = .ok (.iload_n 1, 1) := dk_27 (dk_at dksJ5_vectorizedHashCode_2 5 rfl rfl)
theorem dJ5_vectorizedHashCode_50 : decode cJ5_vectorizedHashCode 50 = .ok (.iload_n 2, 1) := dk_28 (dk_at dksJ5_vectorizedHashCode_2 6 rfl rfl)
theorem dJ5_vectorizedHashCode_51 : decode cJ5_vectorizedHashCode 51 = .ok (.invokestatic 62, 3) := dk_184 0 62 (dk_at dksJ5_vectorizedHashCode_2 7 rfl rfl)
theorem dJ5_vectorizedHashCode_54 : decode cJ5_vectorizedHashCode 54 = .ok (.goto 103, 3) := dk_167 0 103 (dk_at dksJ5_vectorizedHashCode_2 10 rfl rfl)
theorem dJ5_vectorizedHashCode_57 : decode cJ5_vectorizedHashCode 57 = .ok (.aload_n 0, 1) := dk_42 (dk_at dksJ5_vectorizedHashCode_2 13 rfl rfl)
theorem dJ5_vectorizedHashCode_58 : decode cJ5_vectorizedHashCode 58 = .ok (.instanceof 60, 3) := dk_193 0 60 (dk_at dksJ5_vectorizedHashCode_2 14 rfl rfl)
theorem dJ5_vectorizedHashCode_61 : decode cJ5_vectorizedHashCode 61 = .ok (.ifCond .eq 16, 3) := dk_153 0 16 (dk_at dksJ5_vectorizedHashCode_2 17 rfl rfl)
theorem dJ5_vectorizedHashCode_64 : decode cJ5_vectorizedHashCode 64 = .ok (.iload_n 3, 1) := dk_29 (dk_at dksJ5_vectorizedHashCode_2 20 rfl rfl)
theorem dJ5_vectorizedHashCode_65 : decode cJ5_vectorizedHashCode 65 = .ok (.aload_n 0, 1) := dk_42 (dk_at dksJ5_vectorizedHashCode_2 21 rfl rfl)
theorem dJ5_vectorizedHashCode_66 : decode cJ5_vectorizedHashCode 66 = .ok (.checkcast 60, 3) := dk_192 0 60 (dk_at dksJ5_vectorizedHashCode_3 0 rfl rfl)
theorem dJ5_vectorizedHashCode_69 : decode cJ5_vectorizedHashCode 69 = .ok (.iload_n 1, 1) := dk_27 (dk_at dksJ5_vectorizedHashCode_3 3 rfl rfl)
theorem dJ5_vectorizedHashCode_70 : decode cJ5_vectorizedHashCode 70 = .ok (.iload_n 2, 1) := dk_28 (dk_at dksJ5_vectorizedHashCode_3 4 rfl rfl)
theorem dJ5_vectorizedHashCode_71 : decode cJ5_vectorizedHashCode 71 = .ok (.invokestatic 66, 3) := dk_184 0 66 (dk_at dksJ5_vectorizedHashCode_3 5 rfl rfl)
theorem dJ5_vectorizedHashCode_74 : decode cJ5_vectorizedHashCode 74 = .ok (.goto 83, 3) := dk_167 0 83 (dk_at dksJ5_vectorizedHashCode_3 8 rfl rfl)
theorem dJ5_vectorizedHashCode_77 : decode cJ5_vectorizedHashCode 77 = .ok (.iload_n 3, 1) := dk_29 (dk_at dksJ5_vectorizedHashCode_3 11 rfl rfl)
theorem dJ5_vectorizedHashCode_78 : decode cJ5_vectorizedHashCode 78 = .ok (.aload_n 0, 1) := dk_42 (dk_at dksJ5_vectorizedHashCode_3 12 rfl rfl)
theorem dJ5_vectorizedHashCode_79 : decode cJ5_vectorizedHashCode 79 = .ok (.checkcast 69, 3) := dk_192 0 69 (dk_at dksJ5_vectorizedHashCode_3 13 rfl rfl)
theorem dJ5_vectorizedHashCode_82 : decode cJ5_vectorizedHashCode 82 = .ok (.iload_n 1, 1) := dk_27 (dk_at dksJ5_vectorizedHashCode_3 16 rfl rfl)
theorem dJ5_vectorizedHashCode_83 : decode cJ5_vectorizedHashCode 83 = .ok (.iload_n 2, 1) := dk_28 (dk_at dksJ5_vectorizedHashCode_3 17 rfl rfl)
theorem dJ5_vectorizedHashCode_84 : decode cJ5_vectorizedHashCode 84 = .ok (.invokestatic 71, 3) := dk_184 0 71 (dk_at dksJ5_vectorizedHashCode_3 18 rfl rfl)
theorem dJ5_vectorizedHashCode_87 : decode cJ5_vectorizedHashCode 87 = .ok (.goto 70, 3) := dk_167 0 70 (dk_at dksJ5_vectorizedHashCode_3 21 rfl rfl)
theorem dJ5_vectorizedHashCode_90 : decode cJ5_vectorizedHashCode 90 = .ok (.iload_n 3, 1) := dk_29 (dk_at dksJ5_vectorizedHashCode_4 0 rfl rfl)
theorem dJ5_vectorizedHashCode_91 : decode cJ5_vectorizedHashCode 91 = .ok (.aload_n 0, 1) := dk_42 (dk_at dksJ5_vectorizedHashCode_4 1 rfl rfl)
theorem dJ5_vectorizedHashCode_92 : decode cJ5_vectorizedHashCode 92 = .ok (.checkcast 60, 3) := dk_192 0 60 (dk_at dksJ5_vectorizedHashCode_4 2 rfl rfl)
theorem dJ5_vectorizedHashCode_95 : decode cJ5_vectorizedHashCode 95 = .ok (.iload_n 1, 1) := dk_27 (dk_at dksJ5_vectorizedHashCode_4 5 rfl rfl)
theorem dJ5_vectorizedHashCode_96 : decode cJ5_vectorizedHashCode 96 = .ok (.iload_n 2, 1) := dk_28 (dk_at dksJ5_vectorizedHashCode_4 6 rfl rfl)
theorem dJ5_vectorizedHashCode_97 : decode cJ5_vectorizedHashCode 97 = .ok (.invokestatic 75, 3) := dk_184 0 75 (dk_at dksJ5_vectorizedHashCode_4 7 rfl rfl)
theorem dJ5_vectorizedHashCode_100 : decode cJ5_vectorizedHashCode 100 = .ok (.goto 57, 3) := dk_167 0 57 (dk_at dksJ5_vectorizedHashCode_4 10 rfl rfl)
theorem dJ5_vectorizedHashCode_103 : decode cJ5_vectorizedHashCode 103 = .ok (.iload_n 3, 1) := dk_29 (dk_at dksJ5_vectorizedHashCode_4 13 rfl rfl)
theorem dJ5_vectorizedHashCode_104 : decode cJ5_vectorizedHashCode 104 = .ok (.aload_n 0, 1) := dk_42 (dk_at dksJ5_vectorizedHashCode_4 14 rfl rfl)
theorem dJ5_vectorizedHashCode_105 : decode cJ5_vectorizedHashCode 105 = .ok (.checkcast 77, 3) := dk_192 0 77 (dk_at dksJ5_vectorizedHashCode_4 15 rfl rfl)
theorem dJ5_vectorizedHashCode_108 : decode cJ5_vectorizedHashCode 108 = .ok (.iload_n 1, 1) := dk_27 (dk_at dksJ5_vectorizedHashCode_4 18 rfl rfl)
theorem dJ5_vectorizedHashCode_109 : decode cJ5_vectorizedHashCode 109 = .ok (.iload_n 2, 1) := dk_28 (dk_at dksJ5_vectorizedHashCode_4 19 rfl rfl)
theorem dJ5_vectorizedHashCode_110 : decode cJ5_vectorizedHashCode 110 = .ok (.invokestatic 79, 3) := dk_184 0 79 (dk_at dksJ5_vectorizedHashCode_4 20 rfl rfl)
theorem dJ5_vectorizedHashCode_113 : decode cJ5_vectorizedHashCode 113 = .ok (.goto 44, 3) := dk_167 0 44 (dk_at dksJ5_vectorizedHashCode_5 0 rfl rfl)
theorem dJ5_vectorizedHashCode_116 : decode cJ5_vectorizedHashCode 116 = .ok (.iload_n 3, 1) := dk_29 (dk_at dksJ5_vectorizedHashCode_5 3 rfl rfl)
theorem dJ5_vectorizedHashCode_117 : decode cJ5_vectorizedHashCode 117 = .ok (.aload_n 0, 1) := dk_42 (dk_at dksJ5_vectorizedHashCode_5 4 rfl rfl)
theorem dJ5_vectorizedHashCode_118 : decode cJ5_vectorizedHashCode 118 = .ok (.checkcast 82, 3) := dk_192 0 82 (dk_at dksJ5_vectorizedHashCode_5 5 rfl rfl)
theorem dJ5_vectorizedHashCode_121 : decode cJ5_vectorizedHashCode 121 = .ok (.iload_n 1, 1) := dk_27 (dk_at dksJ5_vectorizedHashCode_5 8 rfl rfl)
theorem dJ5_vectorizedHashCode_122 : decode cJ5_vectorizedHashCode 122 = .ok (.iload_n 2, 1) := dk_28 (dk_at dksJ5_vectorizedHashCode_5 9 rfl rfl)
theorem dJ5_vectorizedHashCode_123 : decode cJ5_vectorizedHashCode 123 = .ok (.invokestatic 84, 3) := dk_184 0 84 (dk_at dksJ5_vectorizedHashCode_5 10 rfl rfl)
theorem dJ5_vectorizedHashCode_126 : decode cJ5_vectorizedHashCode 126 = .ok (.goto 31, 3) := dk_167 0 31 (dk_at dksJ5_vectorizedHashCode_5 13 rfl rfl)
theorem dJ5_vectorizedHashCode_129 : decode cJ5_vectorizedHashCode 129 = .ok (.new 87, 3) := dk_187 0 87 (dk_at dksJ5_vectorizedHashCode_5 16 rfl rfl)
theorem dJ5_vectorizedHashCode_132 : decode cJ5_vectorizedHashCode 132 = .ok (.dup, 1) := dk_89 (dk_at dksJ5_vectorizedHashCode_5 19 rfl rfl)
theorem dJ5_vectorizedHashCode_133 : decode cJ5_vectorizedHashCode 133 = .ok (.new 89, 3) := dk_187 0 89 (dk_at dksJ5_vectorizedHashCode_5 20 rfl rfl)
theorem dJ5_vectorizedHashCode_136 : decode cJ5_vectorizedHashCode 136 = .ok (.dup, 1) := dk_89 (dk_at dksJ5_vectorizedHashCode_5 23 rfl rfl)
theorem dJ5_vectorizedHashCode_137 : decode cJ5_vectorizedHashCode 137 = .ok (.invokespecial 91, 3) := dk_183 0 91 (dk_at dksJ5_vectorizedHashCode_6 0 rfl rfl)
theorem dJ5_vectorizedHashCode_140 : decode cJ5_vectorizedHashCode 140 = .ok (.ldc 92, 2) := dk_18 92 (dk_at dksJ5_vectorizedHashCode_6 3 rfl rfl)
theorem dJ5_vectorizedHashCode_142 : decode cJ5_vectorizedHashCode 142 = .ok (.invokevirtual 94, 3) := dk_182 0 94 (dk_at dksJ5_vectorizedHashCode_6 5 rfl rfl)
theorem dJ5_vectorizedHashCode_145 : decode cJ5_vectorizedHashCode 145 = .ok (.iload 4, 2) := dk_21 4 (dk_at dksJ5_vectorizedHashCode_6 8 rfl rfl)
theorem dJ5_vectorizedHashCode_147 : decode cJ5_vectorizedHashCode 147 = .ok (.invokevirtual 98, 3) := dk_182 0 98 (dk_at dksJ5_vectorizedHashCode_6 10 rfl rfl)
theorem dJ5_vectorizedHashCode_150 : decode cJ5_vectorizedHashCode 150 = .ok (.invokevirtual 101, 3) := dk_182 0 101 (dk_at dksJ5_vectorizedHashCode_6 13 rfl rfl)
theorem dJ5_vectorizedHashCode_153 : decode cJ5_vectorizedHashCode 153 = .ok (.invokespecial 105, 3) := dk_183 0 105 (dk_at dksJ5_vectorizedHashCode_6 16 rfl rfl)
theorem dJ5_vectorizedHashCode_156 : decode cJ5_vectorizedHashCode 156 = .ok (.athrow, 1) := dk_191 (dk_at dksJ5_vectorizedHashCode_6 19 rfl rfl)
theorem dJ5_vectorizedHashCode_157 : decode cJ5_vectorizedHashCode 157 = .ok (.ireturn, 1) := dk_172 (dk_at dksJ5_vectorizedHashCode_6 20 rfl rfl)
abbrev cJ5_signedHashCode : ByteArray := prog_60_method_5_code
def yJ5_signedHashCode : MethodName := ⟨RJ5, "signedHashCode", "(I[BII)I"⟩
def dkwJ5_signedHashCode_1 : List UInt8 := [17, 0, 255, 126, 96, 59, 132, 5, 1, 167, 255, 232, 26, 172]
abbrev dktJ5_signedHashCode_1 : List UInt8 := dkwJ5_signedHashCode_1 ++ []
def dkwJ5_signedHashCode_0 : List UInt8 := [28, 29, 96, 54, 4, 28, 54, 5, 21, 5, 21, 4, 162, 0, 23, 16, 31, 26, 104, 43, 21, 5, 51]
abbrev dktJ5_signedHashCode_0 : List UInt8 := dkwJ5_signedHashCode_0 ++ dktJ5_signedHashCode_1
theorem dksJ5_signedHashCode_0 : cJ5_signedHashCode.data.toList.drop 0 = dktJ5_signedHashCode_0 := by decide +kernel
theorem dksJ5_signedHashCode_1 : cJ5_signedHashCode.data.toList.drop 23 = dktJ5_signedHashCode_1 := dk_seg dksJ5_signedHashCode_0 23 rfl rfl
theorem dJ5_signedHashCode_0 : decode cJ5_signedHashCode 0 = .ok (.iload_n 2, 1) := dk_28 (dk_at dksJ5_signedHashCode_0 0 rfl rfl)
theorem dJ5_signedHashCode_1 : decode cJ5_signedHashCode 1 = .ok (.iload_n 3, 1) := dk_29 (dk_at dksJ5_signedHashCode_0 1 rfl rfl)
theorem dJ5_signedHashCode_2 : decode cJ5_signedHashCode 2 = .ok (.iadd, 1) := dk_96 (dk_at dksJ5_signedHashCode_0 2 rfl rfl)
theorem dJ5_signedHashCode_3 : decode cJ5_signedHashCode 3 = .ok (.istore 4, 2) := dk_54 4 (dk_at dksJ5_signedHashCode_0 3 rfl rfl)
theorem dJ5_signedHashCode_5 : decode cJ5_signedHashCode 5 = .ok (.iload_n 2, 1) := dk_28 (dk_at dksJ5_signedHashCode_0 5 rfl rfl)
theorem dJ5_signedHashCode_6 : decode cJ5_signedHashCode 6 = .ok (.istore 5, 2) := dk_54 5 (dk_at dksJ5_signedHashCode_0 6 rfl rfl)
theorem dJ5_signedHashCode_8 : decode cJ5_signedHashCode 8 = .ok (.iload 5, 2) := dk_21 5 (dk_at dksJ5_signedHashCode_0 8 rfl rfl)
theorem dJ5_signedHashCode_10 : decode cJ5_signedHashCode 10 = .ok (.iload 4, 2) := dk_21 4 (dk_at dksJ5_signedHashCode_0 10 rfl rfl)
theorem dJ5_signedHashCode_12 : decode cJ5_signedHashCode 12 = .ok (.if_icmp .ge 23, 3) := dk_162 0 23 (dk_at dksJ5_signedHashCode_0 12 rfl rfl)
theorem dJ5_signedHashCode_15 : decode cJ5_signedHashCode 15 = .ok (.bipush 31, 2) := dk_16 31 (dk_at dksJ5_signedHashCode_0 15 rfl rfl)
theorem dJ5_signedHashCode_17 : decode cJ5_signedHashCode 17 = .ok (.iload_n 0, 1) := dk_26 (dk_at dksJ5_signedHashCode_0 17 rfl rfl)
theorem dJ5_signedHashCode_18 : decode cJ5_signedHashCode 18 = .ok (.imul, 1) := dk_104 (dk_at dksJ5_signedHashCode_0 18 rfl rfl)
theorem dJ5_signedHashCode_19 : decode cJ5_signedHashCode 19 = .ok (.aload_n 1, 1) := dk_43 (dk_at dksJ5_signedHashCode_0 19 rfl rfl)
theorem dJ5_signedHashCode_20 : decode cJ5_signedHashCode 20 = .ok (.iload 5, 2) := dk_21 5 (dk_at dksJ5_signedHashCode_0 20 rfl rfl)
theorem dJ5_signedHashCode_22 : decode cJ5_signedHashCode 22 = .ok (.baload, 1) := dk_51 (dk_at dksJ5_signedHashCode_0 22 rfl rfl)
theorem dJ5_signedHashCode_23 : decode cJ5_signedHashCode 23 = .ok (.sipush 255, 3) := dk_17 0 255 (dk_at dksJ5_signedHashCode_1 0 rfl rfl)
theorem dJ5_signedHashCode_26 : decode cJ5_signedHashCode 26 = .ok (.iand, 1) := dk_126 (dk_at dksJ5_signedHashCode_1 3 rfl rfl)
theorem dJ5_signedHashCode_27 : decode cJ5_signedHashCode 27 = .ok (.iadd, 1) := dk_96 (dk_at dksJ5_signedHashCode_1 4 rfl rfl)
theorem dJ5_signedHashCode_28 : decode cJ5_signedHashCode 28 = .ok (.istore_n 0, 1) := dk_59 (dk_at dksJ5_signedHashCode_1 5 rfl rfl)
theorem dJ5_signedHashCode_29 : decode cJ5_signedHashCode 29 = .ok (.iinc 5 1, 3) := dk_132 5 1 (dk_at dksJ5_signedHashCode_1 6 rfl rfl)
theorem dJ5_signedHashCode_32 : decode cJ5_signedHashCode 32 = .ok (.goto (-24), 3) := dk_167 255 232 (dk_at dksJ5_signedHashCode_1 9 rfl rfl)
theorem dJ5_signedHashCode_35 : decode cJ5_signedHashCode 35 = .ok (.iload_n 0, 1) := dk_26 (dk_at dksJ5_signedHashCode_1 12 rfl rfl)
theorem dJ5_signedHashCode_36 : decode cJ5_signedHashCode 36 = .ok (.ireturn, 1) := dk_172 (dk_at dksJ5_signedHashCode_1 13 rfl rfl)
abbrev cJ5_hashCode : ByteArray := prog_60_method_7_code
def yJ5_hashCode : MethodName := ⟨RJ5, "hashCode", "(I[CII)I"⟩
def dkwJ5_hashCode_1 : List UInt8 := [59, 132, 5, 1, 167, 255, 236, 26, 172]
abbrev dktJ5_hashCode_1 : List UInt8 := dkwJ5_hashCode_1 ++ []
def dkwJ5_hashCode_0 : List UInt8 := [28, 29, 96, 54, 4, 28, 54, 5, 21, 5, 21, 4, 162, 0, 19, 16, 31, 26, 104, 43, 21, 5, 52, 96]
abbrev dktJ5_hashCode_0 : List UInt8 := dkwJ5_hashCode_0 ++ dktJ5_hashCode_1
theorem dksJ5_hashCode_0 : cJ5_hashCode.data.toList.drop 0 = dktJ5_hashCode_0 := by decide +kernel
theorem dksJ5_hashCode_1 : cJ5_hashCode.data.toList.drop 24 = dktJ5_hashCode_1 := dk_seg dksJ5_hashCode_0 24 rfl rfl
theorem dJ5_hashCode_0 : decode cJ5_hashCode 0 = .ok (.iload_n 2, 1) := dk_28 (dk_at dksJ5_hashCode_0 0 rfl rfl)
theorem dJ5_hashCode_1 : decode cJ5_hashCode 1 = .ok (.iload_n 3, 1) := dk_29 (dk_at dksJ5_hashCode_0 1 rfl rfl)
theorem dJ5_hashCode_2 : decode cJ5_hashCode 2 = .ok (.iadd, 1) := dk_96 (dk_at dksJ5_hashCode_0 2 rfl rfl)
theorem dJ5_hashCode_3 : decode cJ5_hashCode 3 = .ok (.istore 4, 2) := dk_54 4 (dk_at dksJ5_hashCode_0 3 rfl rfl)
theorem dJ5_hashCode_5 : decode cJ5_hashCode 5 = .ok (.iload_n 2, 1) := dk_28 (dk_at dksJ5_hashCode_0 5 rfl rfl)
theorem dJ5_hashCode_6 : decode cJ5_hashCode 6 = .ok (.istore 5, 2) := dk_54 5 (dk_at dksJ5_hashCode_0 6 rfl rfl)
theorem dJ5_hashCode_8 : decode cJ5_hashCode 8 = .ok (.iload 5, 2) := dk_21 5 (dk_at dksJ5_hashCode_0 8 rfl rfl)
theorem dJ5_hashCode_10 : decode cJ5_hashCode 10 = .ok (.iload 4, 2) := dk_21 4 (dk_at dksJ5_hashCode_0 10 rfl rfl)
theorem dJ5_hashCode_12 : decode cJ5_hashCode 12 = .ok (.if_icmp .ge 19, 3) := dk_162 0 19 (dk_at dksJ5_hashCode_0 12 rfl rfl)
theorem dJ5_hashCode_15 : decode cJ5_hashCode 15 = .ok (.bipush 31, 2) := dk_16 31 (dk_at dksJ5_hashCode_0 15 rfl rfl)
theorem dJ5_hashCode_17 : decode cJ5_hashCode 17 = .ok (.iload_n 0, 1) := dk_26 (dk_at dksJ5_hashCode_0 17 rfl rfl)
theorem dJ5_hashCode_18 : decode cJ5_hashCode 18 = .ok (.imul, 1) := dk_104 (dk_at dksJ5_hashCode_0 18 rfl rfl)
theorem dJ5_hashCode_19 : decode cJ5_hashCode 19 = .ok (.aload_n 1, 1) := dk_43 (dk_at dksJ5_hashCode_0 19 rfl rfl)
theorem dJ5_hashCode_20 : decode cJ5_hashCode 20 = .ok (.iload 5, 2) := dk_21 5 (dk_at dksJ5_hashCode_0 20 rfl rfl)
theorem dJ5_hashCode_22 : decode cJ5_hashCode 22 = .ok (.caload, 1) := dk_52 (dk_at dksJ5_hashCode_0 22 rfl rfl)
theorem dJ5_hashCode_23 : decode cJ5_hashCode 23 = .ok (.iadd, 1) := dk_96 (dk_at dksJ5_hashCode_0 23 rfl rfl)
theorem dJ5_hashCode_24 : decode cJ5_hashCode 24 = .ok (.istore_n 0, 1) := dk_59 (dk_at dksJ5_hashCode_1 0 rfl rfl)
theorem dJ5_hashCode_25 : decode cJ5_hashCode 25 = .ok (.iinc 5 1, 3) := dk_132 5 1 (dk_at dksJ5_hashCode_1 1 rfl rfl)
theorem dJ5_hashCode_28 : decode cJ5_hashCode 28 = .ok (.goto (-20), 3) := dk_167 255 236 (dk_at dksJ5_hashCode_1 4 rfl rfl)
theorem dJ5_hashCode_31 : decode cJ5_hashCode 31 = .ok (.iload_n 0, 1) := dk_26 (dk_at dksJ5_hashCode_1 7 rfl rfl)
theorem dJ5_hashCode_32 : decode cJ5_hashCode 32 = .ok (.ireturn, 1) := dk_172 (dk_at dksJ5_hashCode_1 8 rfl rfl)
abbrev cJ5_hashCode_2 : ByteArray := prog_60_method_6_code
def yJ5_hashCode_2 : MethodName := ⟨RJ5, "hashCode", "(I[BII)I"⟩
def dkwJ5_hashCode_2_1 : List UInt8 := [59, 132, 5, 1, 167, 255, 236, 26, 172]
abbrev dktJ5_hashCode_2_1 : List UInt8 := dkwJ5_hashCode_2_1 ++ []
def dkwJ5_hashCode_2_0 : List UInt8 := [28, 29, 96, 54, 4, 28, 54, 5, 21, 5, 21, 4, 162, 0, 19, 16, 31, 26, 104, 43, 21, 5, 51, 96]
abbrev dktJ5_hashCode_2_0 : List UInt8 := dkwJ5_hashCode_2_0 ++ dktJ5_hashCode_2_1
theorem dksJ5_hashCode_2_0 : cJ5_hashCode_2.data.toList.drop 0 = dktJ5_hashCode_2_0 := by decide +kernel
theorem dksJ5_hashCode_2_1 : cJ5_hashCode_2.data.toList.drop 24 = dktJ5_hashCode_2_1 := dk_seg dksJ5_hashCode_2_0 24 rfl rfl
theorem dJ5_hashCode_2_0 : decode cJ5_hashCode_2 0 = .ok (.iload_n 2, 1) := dk_28 (dk_at dksJ5_hashCode_2_0 0 rfl rfl)
theorem dJ5_hashCode_2_1 : decode cJ5_hashCode_2 1 = .ok (.iload_n 3, 1) := dk_29 (dk_at dksJ5_hashCode_2_0 1 rfl rfl)
theorem dJ5_hashCode_2_2 : decode cJ5_hashCode_2 2 = .ok (.iadd, 1) := dk_96 (dk_at dksJ5_hashCode_2_0 2 rfl rfl)
theorem dJ5_hashCode_2_3 : decode cJ5_hashCode_2 3 = .ok (.istore 4, 2) := dk_54 4 (dk_at dksJ5_hashCode_2_0 3 rfl rfl)
theorem dJ5_hashCode_2_5 : decode cJ5_hashCode_2 5 = .ok (.iload_n 2, 1) := dk_28 (dk_at dksJ5_hashCode_2_0 5 rfl rfl)
theorem dJ5_hashCode_2_6 : decode cJ5_hashCode_2 6 = .ok (.istore 5, 2) := dk_54 5 (dk_at dksJ5_hashCode_2_0 6 rfl rfl)
theorem dJ5_hashCode_2_8 : decode cJ5_hashCode_2 8 = .ok (.iload 5, 2) := dk_21 5 (dk_at dksJ5_hashCode_2_0 8 rfl rfl)
theorem dJ5_hashCode_2_10 : decode cJ5_hashCode_2 10 = .ok (.iload 4, 2) := dk_21 4 (dk_at dksJ5_hashCode_2_0 10 rfl rfl)
theorem dJ5_hashCode_2_12 : decode cJ5_hashCode_2 12 = .ok (.if_icmp .ge 19, 3) := dk_162 0 19 (dk_at dksJ5_hashCode_2_0 12 rfl rfl)
theorem dJ5_hashCode_2_15 : decode cJ5_hashCode_2 15 = .ok (.bipush 31, 2) := dk_16 31 (dk_at dksJ5_hashCode_2_0 15 rfl rfl)
theorem dJ5_hashCode_2_17 : decode cJ5_hashCode_2 17 = .ok (.iload_n 0, 1) := dk_26 (dk_at dksJ5_hashCode_2_0 17 rfl rfl)
theorem dJ5_hashCode_2_18 : decode cJ5_hashCode_2 18 = .ok (.imul, 1) := dk_104 (dk_at dksJ5_hashCode_2_0 18 rfl rfl)
theorem dJ5_hashCode_2_19 : decode cJ5_hashCode_2 19 = .ok (.aload_n 1, 1) := dk_43 (dk_at dksJ5_hashCode_2_0 19 rfl rfl)
theorem dJ5_hashCode_2_20 : decode cJ5_hashCode_2 20 = .ok (.iload 5, 2) := dk_21 5 (dk_at dksJ5_hashCode_2_0 20 rfl rfl)
theorem dJ5_hashCode_2_22 : decode cJ5_hashCode_2 22 = .ok (.baload, 1) := dk_51 (dk_at dksJ5_hashCode_2_0 22 rfl rfl)
theorem dJ5_hashCode_2_23 : decode cJ5_hashCode_2 23 = .ok (.iadd, 1) := dk_96 (dk_at dksJ5_hashCode_2_0 23 rfl rfl)
theorem dJ5_hashCode_2_24 : decode cJ5_hashCode_2 24 = .ok (.istore_n 0, 1) := dk_59 (dk_at dksJ5_hashCode_2_1 0 rfl rfl)
theorem dJ5_hashCode_2_25 : decode cJ5_hashCode_2 25 = .ok (.iinc 5 1, 3) := dk_132 5 1 (dk_at dksJ5_hashCode_2_1 1 rfl rfl)
theorem dJ5_hashCode_2_28 : decode cJ5_hashCode_2 28 = .ok (.goto (-20), 3) := dk_167 255 236 (dk_at dksJ5_hashCode_2_1 4 rfl rfl)
theorem dJ5_hashCode_2_31 : decode cJ5_hashCode_2 31 = .ok (.iload_n 0, 1) := dk_26 (dk_at dksJ5_hashCode_2_1 7 rfl rfl)
theorem dJ5_hashCode_2_32 : decode cJ5_hashCode_2 32 = .ok (.ireturn, 1) := dk_172 (dk_at dksJ5_hashCode_2_1 8 rfl rfl)
abbrev cJ5_hashCode_3 : ByteArray := prog_60_method_8_code
def yJ5_hashCode_3 : MethodName := ⟨RJ5, "hashCode", "(I[SII)I"⟩
def dkwJ5_hashCode_3_1 : List UInt8 := [59, 132, 5, 1, 167, 255, 236, 26, 172]
abbrev dktJ5_hashCode_3_1 : List UInt8 := dkwJ5_hashCode_3_1 ++ []
def dkwJ5_hashCode_3_0 : List UInt8 := [28, 29, 96, 54, 4, 28, 54, 5, 21, 5, 21, 4, 162, 0, 19, 16, 31, 26, 104, 43, 21, 5, 53, 96]
abbrev dktJ5_hashCode_3_0 : List UInt8 := dkwJ5_hashCode_3_0 ++ dktJ5_hashCode_3_1
theorem dksJ5_hashCode_3_0 : cJ5_hashCode_3.data.toList.drop 0 = dktJ5_hashCode_3_0 := by decide +kernel
theorem dksJ5_hashCode_3_1 : cJ5_hashCode_3.data.toList.drop 24 = dktJ5_hashCode_3_1 := dk_seg dksJ5_hashCode_3_0 24 rfl rfl
theorem dJ5_hashCode_3_0 : decode cJ5_hashCode_3 0 = .ok (.iload_n 2, 1) := dk_28 (dk_at dksJ5_hashCode_3_0 0 rfl rfl)
theorem dJ5_hashCode_3_1 : decode cJ5_hashCode_3 1 = .ok (.iload_n 3, 1) := dk_29 (dk_at dksJ5_hashCode_3_0 1 rfl rfl)
theorem dJ5_hashCode_3_2 : decode cJ5_hashCode_3 2 = .ok (.iadd, 1) := dk_96 (dk_at dksJ5_hashCode_3_0 2 rfl rfl)
theorem dJ5_hashCode_3_3 : decode cJ5_hashCode_3 3 = .ok (.istore 4, 2) := dk_54 4 (dk_at dksJ5_hashCode_3_0 3 rfl rfl)
theorem dJ5_hashCode_3_5 : decode cJ5_hashCode_3 5 = .ok (.iload_n 2, 1) := dk_28 (dk_at dksJ5_hashCode_3_0 5 rfl rfl)
theorem dJ5_hashCode_3_6 : decode cJ5_hashCode_3 6 = .ok (.istore 5, 2) := dk_54 5 (dk_at dksJ5_hashCode_3_0 6 rfl rfl)
theorem dJ5_hashCode_3_8 : decode cJ5_hashCode_3 8 = .ok (.iload 5, 2) := dk_21 5 (dk_at dksJ5_hashCode_3_0 8 rfl rfl)
theorem dJ5_hashCode_3_10 : decode cJ5_hashCode_3 10 = .ok (.iload 4, 2) := dk_21 4 (dk_at dksJ5_hashCode_3_0 10 rfl rfl)
theorem dJ5_hashCode_3_12 : decode cJ5_hashCode_3 12 = .ok (.if_icmp .ge 19, 3) := dk_162 0 19 (dk_at dksJ5_hashCode_3_0 12 rfl rfl)
theorem dJ5_hashCode_3_15 : decode cJ5_hashCode_3 15 = .ok (.bipush 31, 2) := dk_16 31 (dk_at dksJ5_hashCode_3_0 15 rfl rfl)
theorem dJ5_hashCode_3_17 : decode cJ5_hashCode_3 17 = .ok (.iload_n 0, 1) := dk_26 (dk_at dksJ5_hashCode_3_0 17 rfl rfl)
theorem dJ5_hashCode_3_18 : decode cJ5_hashCode_3 18 = .ok (.imul, 1) := dk_104 (dk_at dksJ5_hashCode_3_0 18 rfl rfl)
theorem dJ5_hashCode_3_19 : decode cJ5_hashCode_3 19 = .ok (.aload_n 1, 1) := dk_43 (dk_at dksJ5_hashCode_3_0 19 rfl rfl)
theorem dJ5_hashCode_3_20 : decode cJ5_hashCode_3 20 = .ok (.iload 5, 2) := dk_21 5 (dk_at dksJ5_hashCode_3_0 20 rfl rfl)
theorem dJ5_hashCode_3_22 : decode cJ5_hashCode_3 22 = .ok (.saload, 1) := dk_53 (dk_at dksJ5_hashCode_3_0 22 rfl rfl)
theorem dJ5_hashCode_3_23 : decode cJ5_hashCode_3 23 = .ok (.iadd, 1) := dk_96 (dk_at dksJ5_hashCode_3_0 23 rfl rfl)
theorem dJ5_hashCode_3_24 : decode cJ5_hashCode_3 24 = .ok (.istore_n 0, 1) := dk_59 (dk_at dksJ5_hashCode_3_1 0 rfl rfl)
theorem dJ5_hashCode_3_25 : decode cJ5_hashCode_3 25 = .ok (.iinc 5 1, 3) := dk_132 5 1 (dk_at dksJ5_hashCode_3_1 1 rfl rfl)
theorem dJ5_hashCode_3_28 : decode cJ5_hashCode_3 28 = .ok (.goto (-20), 3) := dk_167 255 236 (dk_at dksJ5_hashCode_3_1 4 rfl rfl)
theorem dJ5_hashCode_3_31 : decode cJ5_hashCode_3 31 = .ok (.iload_n 0, 1) := dk_26 (dk_at dksJ5_hashCode_3_1 7 rfl rfl)
theorem dJ5_hashCode_3_32 : decode cJ5_hashCode_3 32 = .ok (.ireturn, 1) := dk_172 (dk_at dksJ5_hashCode_3_1 8 rfl rfl)
abbrev cJ5_hashCode_4 : ByteArray := prog_60_method_9_code
def yJ5_hashCode_4 : MethodName := ⟨RJ5, "hashCode", "(I[III)I"⟩
def dkwJ5_hashCode_4_1 : List UInt8 := [59, 132, 5, 1, 167, 255, 236, 26, 172]
abbrev dktJ5_hashCode_4_1 : List UInt8 := dkwJ5_hashCode_4_1 ++ []
def dkwJ5_hashCode_4_0 : List UInt8 := [28, 29, 96, 54, 4, 28, 54, 5, 21, 5, 21, 4, 162, 0, 19, 16, 31, 26, 104, 43, 21, 5, 46, 96]
abbrev dktJ5_hashCode_4_0 : List UInt8 := dkwJ5_hashCode_4_0 ++ dktJ5_hashCode_4_1
theorem dksJ5_hashCode_4_0 : cJ5_hashCode_4.data.toList.drop 0 = dktJ5_hashCode_4_0 := by decide +kernel
theorem dksJ5_hashCode_4_1 : cJ5_hashCode_4.data.toList.drop 24 = dktJ5_hashCode_4_1 := dk_seg dksJ5_hashCode_4_0 24 rfl rfl
theorem dJ5_hashCode_4_0 : decode cJ5_hashCode_4 0 = .ok (.iload_n 2, 1) := dk_28 (dk_at dksJ5_hashCode_4_0 0 rfl rfl)
theorem dJ5_hashCode_4_1 : decode cJ5_hashCode_4 1 = .ok (.iload_n 3, 1) := dk_29 (dk_at dksJ5_hashCode_4_0 1 rfl rfl)
theorem dJ5_hashCode_4_2 : decode cJ5_hashCode_4 2 = .ok (.iadd, 1) := dk_96 (dk_at dksJ5_hashCode_4_0 2 rfl rfl)
theorem dJ5_hashCode_4_3 : decode cJ5_hashCode_4 3 = .ok (.istore 4, 2) := dk_54 4 (dk_at dksJ5_hashCode_4_0 3 rfl rfl)
theorem dJ5_hashCode_4_5 : decode cJ5_hashCode_4 5 = .ok (.iload_n 2, 1) := dk_28 (dk_at dksJ5_hashCode_4_0 5 rfl rfl)
theorem dJ5_hashCode_4_6 : decode cJ5_hashCode_4 6 = .ok (.istore 5, 2) := dk_54 5 (dk_at dksJ5_hashCode_4_0 6 rfl rfl)
theorem dJ5_hashCode_4_8 : decode cJ5_hashCode_4 8 = .ok (.iload 5, 2) := dk_21 5 (dk_at dksJ5_hashCode_4_0 8 rfl rfl)
theorem dJ5_hashCode_4_10 : decode cJ5_hashCode_4 10 = .ok (.iload 4, 2) := dk_21 4 (dk_at dksJ5_hashCode_4_0 10 rfl rfl)
theorem dJ5_hashCode_4_12 : decode cJ5_hashCode_4 12 = .ok (.if_icmp .ge 19, 3) := dk_162 0 19 (dk_at dksJ5_hashCode_4_0 12 rfl rfl)
theorem dJ5_hashCode_4_15 : decode cJ5_hashCode_4 15 = .ok (.bipush 31, 2) := dk_16 31 (dk_at dksJ5_hashCode_4_0 15 rfl rfl)
theorem dJ5_hashCode_4_17 : decode cJ5_hashCode_4 17 = .ok (.iload_n 0, 1) := dk_26 (dk_at dksJ5_hashCode_4_0 17 rfl rfl)
theorem dJ5_hashCode_4_18 : decode cJ5_hashCode_4 18 = .ok (.imul, 1) := dk_104 (dk_at dksJ5_hashCode_4_0 18 rfl rfl)
theorem dJ5_hashCode_4_19 : decode cJ5_hashCode_4 19 = .ok (.aload_n 1, 1) := dk_43 (dk_at dksJ5_hashCode_4_0 19 rfl rfl)
theorem dJ5_hashCode_4_20 : decode cJ5_hashCode_4 20 = .ok (.iload 5, 2) := dk_21 5 (dk_at dksJ5_hashCode_4_0 20 rfl rfl)
theorem dJ5_hashCode_4_22 : decode cJ5_hashCode_4 22 = .ok (.iaload, 1) := dk_46 (dk_at dksJ5_hashCode_4_0 22 rfl rfl)
theorem dJ5_hashCode_4_23 : decode cJ5_hashCode_4 23 = .ok (.iadd, 1) := dk_96 (dk_at dksJ5_hashCode_4_0 23 rfl rfl)
theorem dJ5_hashCode_4_24 : decode cJ5_hashCode_4 24 = .ok (.istore_n 0, 1) := dk_59 (dk_at dksJ5_hashCode_4_1 0 rfl rfl)
theorem dJ5_hashCode_4_25 : decode cJ5_hashCode_4 25 = .ok (.iinc 5 1, 3) := dk_132 5 1 (dk_at dksJ5_hashCode_4_1 1 rfl rfl)
theorem dJ5_hashCode_4_28 : decode cJ5_hashCode_4 28 = .ok (.goto (-20), 3) := dk_167 255 236 (dk_at dksJ5_hashCode_4_1 4 rfl rfl)
theorem dJ5_hashCode_4_31 : decode cJ5_hashCode_4 31 = .ok (.iload_n 0, 1) := dk_26 (dk_at dksJ5_hashCode_4_1 7 rfl rfl)
theorem dJ5_hashCode_4_32 : decode cJ5_hashCode_4 32 = .ok (.ireturn, 1) := dk_172 (dk_at dksJ5_hashCode_4_1 8 rfl rfl)
abbrev cJ6_init : ByteArray := prog_23_method_2_code
def yJ6_init : MethodName := ⟨RJ6, "<init>", "(I)V"⟩
def dkwJ6_init_1 : List UInt8 := [167, 0, 16, 42, 27, 184, 0, 26, 181, 0, 15, 42, 4, 181, 0, 22, 177]
abbrev dktJ6_init_1 : List UInt8 := dkwJ6_init_1 ++ []
def dkwJ6_init_0 : List UInt8 := [42, 183, 0, 3, 178, 0, 18, 153, 0, 18, 42, 27, 188, 8, 181, 0, 15, 42, 3, 181, 0, 22]
abbrev dktJ6_init_0 : List UInt8 := dkwJ6_init_0 ++ dktJ6_init_1
theorem dksJ6_init_0 : cJ6_init.data.toList.drop 0 = dktJ6_init_0 := by decide +kernel
theorem dksJ6_init_1 : cJ6_init.data.toList.drop 22 = dktJ6_init_1 := dk_seg dksJ6_init_0 22 rfl rfl
theorem dJ6_init_0 : decode cJ6_init 0 = .ok (.aload_n 0, 1) := dk_42 (dk_at dksJ6_init_0 0 rfl rfl)
theorem dJ6_init_1 : decode cJ6_init 1 = .ok (.invokespecial 3, 3) := dk_183 0 3 (dk_at dksJ6_init_0 1 rfl rfl)
theorem dJ6_init_4 : decode cJ6_init 4 = .ok (.getstatic 18, 3) := dk_178 0 18 (dk_at dksJ6_init_0 4 rfl rfl)
theorem dJ6_init_7 : decode cJ6_init 7 = .ok (.ifCond .eq 18, 3) := dk_153 0 18 (dk_at dksJ6_init_0 7 rfl rfl)
theorem dJ6_init_10 : decode cJ6_init 10 = .ok (.aload_n 0, 1) := dk_42 (dk_at dksJ6_init_0 10 rfl rfl)
theorem dJ6_init_11 : decode cJ6_init 11 = .ok (.iload_n 1, 1) := dk_27 (dk_at dksJ6_init_0 11 rfl rfl)
theorem dJ6_init_12 : decode cJ6_init 12 = .ok (.newarray .byte, 2) := dk_188_8 (dk_at dksJ6_init_0 12 rfl rfl)
theorem dJ6_init_14 : decode cJ6_init 14 = .ok (.putfield 15, 3) := dk_181 0 15 (dk_at dksJ6_init_0 14 rfl rfl)
theorem dJ6_init_17 : decode cJ6_init 17 = .ok (.aload_n 0, 1) := dk_42 (dk_at dksJ6_init_0 17 rfl rfl)
theorem dJ6_init_18 : decode cJ6_init 18 = .ok (.iconst 0, 1) := dk_3 (dk_at dksJ6_init_0 18 rfl rfl)
theorem dJ6_init_19 : decode cJ6_init 19 = .ok (.putfield 22, 3) := dk_181 0 22 (dk_at dksJ6_init_0 19 rfl rfl)
theorem dJ6_init_22 : decode cJ6_init 22 = .ok (.goto 16, 3) := dk_167 0 16 (dk_at dksJ6_init_1 0 rfl rfl)
theorem dJ6_init_25 : decode cJ6_init 25 = .ok (.aload_n 0, 1) := dk_42 (dk_at dksJ6_init_1 3 rfl rfl)
theorem dJ6_init_26 : decode cJ6_init 26 = .ok (.iload_n 1, 1) := dk_27 (dk_at dksJ6_init_1 4 rfl rfl)
theorem dJ6_init_27 : decode cJ6_init 27 = .ok (.invokestatic 26, 3) := dk_184 0 26 (dk_at dksJ6_init_1 5 rfl rfl)
theorem dJ6_init_30 : decode cJ6_init 30 = .ok (.putfield 15, 3) := dk_181 0 15 (dk_at dksJ6_init_1 8 rfl rfl)
theorem dJ6_init_33 : decode cJ6_init 33 = .ok (.aload_n 0, 1) := dk_42 (dk_at dksJ6_init_1 11 rfl rfl)
theorem dJ6_init_34 : decode cJ6_init 34 = .ok (.iconst 1, 1) := dk_4 (dk_at dksJ6_init_1 12 rfl rfl)
theorem dJ6_init_35 : decode cJ6_init 35 = .ok (.putfield 22, 3) := dk_181 0 22 (dk_at dksJ6_init_1 13 rfl rfl)
theorem dJ6_init_38 : decode cJ6_init 38 = .ok (.return_, 1) := dk_177 (dk_at dksJ6_init_1 16 rfl rfl)
abbrev cJ6_append : ByteArray := prog_23_method_31_code
def yJ6_append : MethodName := ⟨RJ6, "append", "(C)Ljava/lang/AbstractStringBuilder;"⟩
def dkwJ6_append_3 : List UInt8 := [181, 0, 79, 27, 184, 0, 197, 42, 176]
abbrev dktJ6_append_3 : List UInt8 := dkwJ6_append_3 ++ []
def dkwJ6_append_2 : List UInt8 := [182, 0, 83, 153, 0, 7, 42, 182, 0, 195, 42, 180, 0, 15, 42, 89, 180, 0, 79, 90, 4, 96]
abbrev dktJ6_append_2 : List UInt8 := dkwJ6_append_2 ++ dktJ6_append_3
def dkwJ6_append_1 : List UInt8 := [42, 180, 0, 15, 42, 89, 180, 0, 79, 90, 4, 96, 181, 0, 79, 27, 145, 84, 167, 0, 33, 42]
abbrev dktJ6_append_1 : List UInt8 := dkwJ6_append_1 ++ dktJ6_append_2
def dkwJ6_append_0 : List UInt8 := [42, 42, 180, 0, 79, 4, 96, 182, 0, 100, 42, 182, 0, 83, 153, 0, 31, 27, 184, 0, 191, 153, 0, 24]
abbrev dktJ6_append_0 : List UInt8 := dkwJ6_append_0 ++ dktJ6_append_1
theorem dksJ6_append_0 : cJ6_append.data.toList.drop 0 = dktJ6_append_0 := by decide +kernel
theorem dksJ6_append_1 : cJ6_append.data.toList.drop 24 = dktJ6_append_1 := dk_seg dksJ6_append_0 24 rfl rfl
theorem dksJ6_append_2 : cJ6_append.data.toList.drop 46 = dktJ6_append_2 := dk_seg dksJ6_append_1 22 rfl rfl
theorem dksJ6_append_3 : cJ6_append.data.toList.drop 68 = dktJ6_append_3 := dk_seg dksJ6_append_2 22 rfl rfl
theorem dJ6_append_0 : decode cJ6_append 0 = .ok (.aload_n 0, 1) := dk_42 (dk_at dksJ6_append_0 0 rfl rfl)
theorem dJ6_append_1 : decode cJ6_append 1 = .ok (.aload_n 0, 1) := dk_42 (dk_at dksJ6_append_0 1 rfl rfl)
theorem dJ6_append_2 : decode cJ6_append 2 = .ok (.getfield 79, 3) := dk_180 0 79 (dk_at dksJ6_append_0 2 rfl rfl)
theorem dJ6_append_5 : decode cJ6_append 5 = .ok (.iconst 1, 1) := dk_4 (dk_at dksJ6_append_0 5 rfl rfl)
theorem dJ6_append_6 : decode cJ6_append 6 = .ok (.iadd, 1) := dk_96 (dk_at dksJ6_append_0 6 rfl rfl)
theorem dJ6_append_7 : decode cJ6_append 7 = .ok (.invokevirtual 100, 3) := dk_182 0 100 (dk_at dksJ6_append_0 7 rfl rfl)
theorem dJ6_append_10 : decode cJ6_append 10 = .ok (.aload_n 0, 1) := dk_42 (dk_at dksJ6_append_0 10 rfl rfl)
theorem dJ6_append_11 : decode cJ6_append 11 = .ok (.invokevirtual 83, 3) := dk_182 0 83 (dk_at dksJ6_append_0 11 rfl rfl)
theorem dJ6_append_14 : decode cJ6_append 14 = .ok (.ifCond .eq 31, 3) := dk_153 0 31 (dk_at dksJ6_append_0 14 rfl rfl)
theorem dJ6_append_17 : decode cJ6_append 17 = .ok (.iload_n 1, 1) := dk_27 (dk_at dksJ6_append_0 17 rfl rfl)
theorem dJ6_append_18 : decode cJ6_append 18 = .ok (.invokestatic 191, 3) := dk_184 0 191 (dk_at dksJ6_append_0 18 rfl rfl)
theorem dJ6_append_21 : decode cJ6_append 21 = .ok (.ifCond .eq 24, 3) := dk_153 0 24 (dk_at dksJ6_append_0 21 rfl rfl)
theorem dJ6_append_24 : decode cJ6_append 24 = .ok (.aload_n 0, 1) := dk_42 (dk_at dksJ6_append_1 0 rfl rfl)
theorem dJ6_append_25 : decode cJ6_append 25 = .ok (.getfield 15, 3) := dk_180 0 15 (dk_at dksJ6_append_1 1 rfl rfl)
theorem dJ6_append_28 : decode cJ6_append 28 = .ok (.aload_n 0, 1) := dk_42 (dk_at dksJ6_append_1 4 rfl rfl)
theorem dJ6_append_29 : decode cJ6_append 29 = .ok (.dup, 1) := dk_89 (dk_at dksJ6_append_1 5 rfl rfl)
theorem dJ6_append_30 : decode cJ6_append 30 = .ok (.getfield 79, 3) := dk_180 0 79 (dk_at dksJ6_append_1 6 rfl rfl)
theorem dJ6_append_33 : decode cJ6_append 33 = .ok (.dup_x1, 1) := dk_90 (dk_at dksJ6_append_1 9 rfl rfl)
theorem dJ6_append_34 : decode cJ6_append 34 = .ok (.iconst 1, 1) := dk_4 (dk_at dksJ6_append_1 10 rfl rfl)
theorem dJ6_append_35 : decode cJ6_append 35 = .ok (.iadd, 1) := dk_96 (dk_at dksJ6_append_1 11 rfl rfl)
theorem dJ6_append_36 : decode cJ6_append 36 = .ok (.putfield 79, 3) := dk_181 0 79 (dk_at dksJ6_append_1 12 rfl rfl)
theorem dJ6_append_39 : decode cJ6_append 39 = .ok (.iload_n 1, 1) := dk_27 (dk_at dksJ6_append_1 15 rfl rfl)
theorem dJ6_append_40 : decode cJ6_append 40 = .ok (.i2b, 1) := dk_145 (dk_at dksJ6_append_1 16 rfl rfl)
theorem dJ6_append_41 : decode cJ6_append 41 = .ok (.bastore, 1) := dk_84 (dk_at dksJ6_append_1 17 rfl rfl)
theorem dJ6_append_42 : decode cJ6_append 42 = .ok (.goto 33, 3) := dk_167 0 33 (dk_at dksJ6_append_1 18 rfl rfl)
theorem dJ6_append_45 : decode cJ6_append 45 = .ok (.aload_n 0, 1) := dk_42 (dk_at dksJ6_append_1 21 rfl rfl)
theorem dJ6_append_46 : decode cJ6_append 46 = .ok (.invokevirtual 83, 3) := dk_182 0 83 (dk_at dksJ6_append_2 0 rfl rfl)
theorem dJ6_append_49 : decode cJ6_append 49 = .ok (.ifCond .eq 7, 3) := dk_153 0 7 (dk_at dksJ6_append_2 3 rfl rfl)
theorem dJ6_append_52 : decode cJ6_append 52 = .ok (.aload_n 0, 1) := dk_42 (dk_at dksJ6_append_2 6 rfl rfl)
theorem dJ6_append_53 : decode cJ6_append 53 = .ok (.invokevirtual 195, 3) := dk_182 0 195 (dk_at dksJ6_append_2 7 rfl rfl)
theorem dJ6_append_56 : decode cJ6_append 56 = .ok (.aload_n 0, 1) := dk_42 (dk_at dksJ6_append_2 10 rfl rfl)
theorem dJ6_append_57 : decode cJ6_append 57 = .ok (.getfield 15, 3) := dk_180 0 15 (dk_at dksJ6_append_2 11 rfl rfl)
theorem dJ6_append_60 : decode cJ6_append 60 = .ok (.aload_n 0, 1) := dk_42 (dk_at dksJ6_append_2 14 rfl rfl)
theorem dJ6_append_61 : decode cJ6_append 61 = .ok (.dup, 1) := dk_89 (dk_at dksJ6_append_2 15 rfl rfl)
theorem dJ6_append_62 : decode cJ6_append 62 = .ok (.getfield 79, 3) := dk_180 0 79 (dk_at dksJ6_append_2 16 rfl rfl)
theorem dJ6_append_65 : decode cJ6_append 65 = .ok (.dup_x1, 1) := dk_90 (dk_at dksJ6_append_2 19 rfl rfl)
theorem dJ6_append_66 : decode cJ6_append 66 = .ok (.iconst 1, 1) := dk_4 (dk_at dksJ6_append_2 20 rfl rfl)
theorem dJ6_append_67 : decode cJ6_append 67 = .ok (.iadd, 1) := dk_96 (dk_at dksJ6_append_2 21 rfl rfl)
theorem dJ6_append_68 : decode cJ6_append 68 = .ok (.putfield 79, 3) := dk_181 0 79 (dk_at dksJ6_append_3 0 rfl rfl)
theorem dJ6_append_71 : decode cJ6_append 71 = .ok (.iload_n 1, 1) := dk_27 (dk_at dksJ6_append_3 3 rfl rfl)
theorem dJ6_append_72 : decode cJ6_append 72 = .ok (.invokestatic 197, 3) := dk_184 0 197 (dk_at dksJ6_append_3 4 rfl rfl)
theorem dJ6_append_75 : decode cJ6_append 75 = .ok (.aload_n 0, 1) := dk_42 (dk_at dksJ6_append_3 7 rfl rfl)
theorem dJ6_append_76 : decode cJ6_append 76 = .ok (.areturn, 1) := dk_176 (dk_at dksJ6_append_3 8 rfl rfl)
abbrev cJ6_ensureCapacityInternal : ByteArray := prog_23_method_9_code
def yJ6_ensureCapacityInternal : MethodName := ⟨RJ6, "ensureCapacityInternal", "(I)V"⟩
def dkwJ6_ensureCapacityInternal_1 : List UInt8 := [182, 0, 104, 42, 180, 0, 22, 120, 184, 0, 108, 181, 0, 15, 177]
abbrev dktJ6_ensureCapacityInternal_1 : List UInt8 := dkwJ6_ensureCapacityInternal_1 ++ []
def dkwJ6_ensureCapacityInternal_0 : List UInt8 := [42, 180, 0, 15, 190, 42, 180, 0, 22, 122, 61, 27, 28, 100, 158, 0, 24, 42, 42, 180, 0, 15, 42, 27]
abbrev dktJ6_ensureCapacityInternal_0 : List UInt8 := dkwJ6_ensureCapacityInternal_0 ++ dktJ6_ensureCapacityInternal_1
theorem dksJ6_ensureCapacityInternal_0 : cJ6_ensureCapacityInternal.data.toList.drop 0 = dktJ6_ensureCapacityInternal_0 := by decide +kernel
theorem dksJ6_ensureCapacityInternal_1 : cJ6_ensureCapacityInternal.data.toList.drop 24 = dktJ6_ensureCapacityInternal_1 := dk_seg dksJ6_ensureCapacityInternal_0 24 rfl rfl
theorem dJ6_ensureCapacityInternal_0 : decode cJ6_ensureCapacityInternal 0 = .ok (.aload_n 0, 1) := dk_42 (dk_at dksJ6_ensureCapacityInternal_0 0 rfl rfl)
theorem dJ6_ensureCapacityInternal_1 : decode cJ6_ensureCapacityInternal 1 = .ok (.getfield 15, 3) := dk_180 0 15 (dk_at dksJ6_ensureCapacityInternal_0 1 rfl rfl)
theorem dJ6_ensureCapacityInternal_4 : decode cJ6_ensureCapacityInternal 4 = .ok (.arraylength, 1) := dk_190 (dk_at dksJ6_ensureCapacityInternal_0 4 rfl rfl)
theorem dJ6_ensureCapacityInternal_5 : decode cJ6_ensureCapacityInternal 5 = .ok (.aload_n 0, 1) := dk_42 (dk_at dksJ6_ensureCapacityInternal_0 5 rfl rfl)
theorem dJ6_ensureCapacityInternal_6 : decode cJ6_ensureCapacityInternal 6 = .ok (.getfield 22, 3) := dk_180 0 22 (dk_at dksJ6_ensureCapacityInternal_0 6 rfl rfl)
theorem dJ6_ensureCapacityInternal_9 : decode cJ6_ensureCapacityInternal 9 = .ok (.ishr, 1) := dk_122 (dk_at dksJ6_ensureCapacityInternal_0 9 rfl rfl)
theorem dJ6_ensureCapacityInternal_10 : decode cJ6_ensureCapacityInternal 10 = .ok (.istore_n 2, 1) := dk_61 (dk_at dksJ6_ensureCapacityInternal_0 10 rfl rfl)
theorem dJ6_ensureCapacityInternal_11 : decode cJ6_ensureCapacityInternal 11 = .ok (.iload_n 1, 1) := dk_27 (dk_at dksJ6_ensureCapacityInternal_0 11 rfl rfl)
theorem dJ6_ensureCapacityInternal_12 : decode cJ6_ensureCapacityInternal 12 = .ok (.iload_n 2, 1) := dk_28 (dk_at dksJ6_ensureCapacityInternal_0 12 rfl rfl)
theorem dJ6_ensureCapacityInternal_13 : decode cJ6_ensureCapacityInternal 13 = .ok (.isub, 1) := dk_100 (dk_at dksJ6_ensureCapacityInternal_0 13 rfl rfl)
theorem dJ6_ensureCapacityInternal_14 : decode cJ6_ensureCapacityInternal 14 = .ok (.ifCond .le 24, 3) := dk_158 0 24 (dk_at dksJ6_ensureCapacityInternal_0 14 rfl rfl)
theorem dJ6_ensureCapacityInternal_17 : decode cJ6_ensureCapacityInternal 17 = .ok (.aload_n 0, 1) := dk_42 (dk_at dksJ6_ensureCapacityInternal_0 17 rfl rfl)
theorem dJ6_ensureCapacityInternal_18 : decode cJ6_ensureCapacityInternal 18 = .ok (.aload_n 0, 1) := dk_42 (dk_at dksJ6_ensureCapacityInternal_0 18 rfl rfl)
theorem dJ6_ensureCapacityInternal_19 : decode cJ6_ensureCapacityInternal 19 = .ok (.getfield 15, 3) := dk_180 0 15 (dk_at dksJ6_ensureCapacityInternal_0 19 rfl rfl)
theorem dJ6_ensureCapacityInternal_22 : decode cJ6_ensureCapacityInternal 22 = .ok (.aload_n 0, 1) := dk_42 (dk_at dksJ6_ensureCapacityInternal_0 22 rfl rfl)
theorem dJ6_ensureCapacityInternal_23 : decode cJ6_ensureCapacityInternal 23 = .ok (.iload_n 1, 1) := dk_27 (dk_at dksJ6_ensureCapacityInternal_0 23 rfl rfl)
theorem dJ6_ensureCapacityInternal_24 : decode cJ6_ensureCapacityInternal 24 = .ok (.invokevirtual 104, 3) := dk_182 0 104 (dk_at dksJ6_ensureCapacityInternal_1 0 rfl rfl)
theorem dJ6_ensureCapacityInternal_27 : decode cJ6_ensureCapacityInternal 27 = .ok (.aload_n 0, 1) := dk_42 (dk_at dksJ6_ensureCapacityInternal_1 3 rfl rfl)
theorem dJ6_ensureCapacityInternal_28 : decode cJ6_ensureCapacityInternal 28 = .ok (.getfield 22, 3) := dk_180 0 22 (dk_at dksJ6_ensureCapacityInternal_1 4 rfl rfl)
theorem dJ6_ensureCapacityInternal_31 : decode cJ6_ensureCapacityInternal 31 = .ok (.ishl, 1) := dk_120 (dk_at dksJ6_ensureCapacityInternal_1 7 rfl rfl)
theorem dJ6_ensureCapacityInternal_32 : decode cJ6_ensureCapacityInternal 32 = .ok (.invokestatic 108, 3) := dk_184 0 108 (dk_at dksJ6_ensureCapacityInternal_1 8 rfl rfl)
theorem dJ6_ensureCapacityInternal_35 : decode cJ6_ensureCapacityInternal 35 = .ok (.putfield 15, 3) := dk_181 0 15 (dk_at dksJ6_ensureCapacityInternal_1 11 rfl rfl)
theorem dJ6_ensureCapacityInternal_38 : decode cJ6_ensureCapacityInternal 38 = .ok (.return_, 1) := dk_177 (dk_at dksJ6_ensureCapacityInternal_1 14 rfl rfl)
abbrev cJ6_newCapacity : ByteArray := prog_23_method_10_code
def yJ6_newCapacity : MethodName := ⟨RJ6, "newCapacity", "(I)I"⟩
def dkwJ6_newCapacity_2 : List UInt8 := [183, 0, 124, 191, 21, 5, 42, 180, 0, 22, 122, 172]
abbrev dktJ6_newCapacity_2 : List UInt8 := dkwJ6_newCapacity_2 ++ []
def dkwJ6_newCapacity_1 : List UInt8 := [180, 0, 22, 120, 96, 184, 0, 114, 54, 5, 21, 5, 18, 39, 160, 0, 13, 187, 0, 120, 89, 18, 122]
abbrev dktJ6_newCapacity_1 : List UInt8 := dkwJ6_newCapacity_1 ++ dktJ6_newCapacity_2
def dkwJ6_newCapacity_0 : List UInt8 := [42, 180, 0, 15, 190, 61, 27, 42, 180, 0, 22, 120, 62, 29, 28, 100, 54, 4, 28, 21, 4, 28, 5, 42]
abbrev dktJ6_newCapacity_0 : List UInt8 := dkwJ6_newCapacity_0 ++ dktJ6_newCapacity_1
theorem dksJ6_newCapacity_0 : cJ6_newCapacity.data.toList.drop 0 = dktJ6_newCapacity_0 := by decide +kernel
theorem dksJ6_newCapacity_1 : cJ6_newCapacity.data.toList.drop 24 = dktJ6_newCapacity_1 := dk_seg dksJ6_newCapacity_0 24 rfl rfl
theorem dksJ6_newCapacity_2 : cJ6_newCapacity.data.toList.drop 47 = dktJ6_newCapacity_2 := dk_seg dksJ6_newCapacity_1 23 rfl rfl
theorem dJ6_newCapacity_0 : decode cJ6_newCapacity 0 = .ok (.aload_n 0, 1) := dk_42 (dk_at dksJ6_newCapacity_0 0 rfl rfl)
theorem dJ6_newCapacity_1 : decode cJ6_newCapacity 1 = .ok (.getfield 15, 3) := dk_180 0 15 (dk_at dksJ6_newCapacity_0 1 rfl rfl)
theorem dJ6_newCapacity_4 : decode cJ6_newCapacity 4 = .ok (.arraylength, 1) := dk_190 (dk_at dksJ6_newCapacity_0 4 rfl rfl)
theorem dJ6_newCapacity_5 : decode cJ6_newCapacity 5 = .ok (.istore_n 2, 1) := dk_61 (dk_at dksJ6_newCapacity_0 5 rfl rfl)
theorem dJ6_newCapacity_6 : decode cJ6_newCapacity 6 = .ok (.iload_n 1, 1) := dk_27 (dk_at dksJ6_newCapacity_0 6 rfl rfl)
theorem dJ6_newCapacity_7 : decode cJ6_newCapacity 7 = .ok (.aload_n 0, 1) := dk_42 (dk_at dksJ6_newCapacity_0 7 rfl rfl)
theorem dJ6_newCapacity_8 : decode cJ6_newCapacity 8 = .ok (.getfield 22, 3) := dk_180 0 22 (dk_at dksJ6_newCapacity_0 8 rfl rfl)
theorem dJ6_newCapacity_11 : decode cJ6_newCapacity 11 = .ok (.ishl, 1) := dk_120 (dk_at dksJ6_newCapacity_0 11 rfl rfl)
theorem dJ6_newCapacity_12 : decode cJ6_newCapacity 12 = .ok (.istore_n 3, 1) := dk_62 (dk_at dksJ6_newCapacity_0 12 rfl rfl)
theorem dJ6_newCapacity_13 : decode cJ6_newCapacity 13 = .ok (.iload_n 3, 1) := dk_29 (dk_at dksJ6_newCapacity_0 13 rfl rfl)
theorem dJ6_newCapacity_14 : decode cJ6_newCapacity 14 = .ok (.iload_n 2, 1) := dk_28 (dk_at dksJ6_newCapacity_0 14 rfl rfl)
theorem dJ6_newCapacity_15 : decode cJ6_newCapacity 15 = .ok (.isub, 1) := dk_100 (dk_at dksJ6_newCapacity_0 15 rfl rfl)
theorem dJ6_newCapacity_16 : decode cJ6_newCapacity 16 = .ok (.istore 4, 2) := dk_54 4 (dk_at dksJ6_newCapacity_0 16 rfl rfl)
theorem dJ6_newCapacity_18 : decode cJ6_newCapacity 18 = .ok (.iload_n 2, 1) := dk_28 (dk_at dksJ6_newCapacity_0 18 rfl rfl)
theorem dJ6_newCapacity_19 : decode cJ6_newCapacity 19 = .ok (.iload 4, 2) := dk_21 4 (dk_at dksJ6_newCapacity_0 19 rfl rfl)
theorem dJ6_newCapacity_21 : decode cJ6_newCapacity 21 = .ok (.iload_n 2, 1) := dk_28 (dk_at dksJ6_newCapacity_0 21 rfl rfl)
theorem dJ6_newCapacity_22 : decode cJ6_newCapacity 22 = .ok (.iconst 2, 1) := dk_5 (dk_at dksJ6_newCapacity_0 22 rfl rfl)
theorem dJ6_newCapacity_23 : decode cJ6_newCapacity 23 = .ok (.aload_n 0, 1) := dk_42 (dk_at dksJ6_newCapacity_0 23 rfl rfl)
theorem dJ6_newCapacity_24 : decode cJ6_newCapacity 24 = .ok (.getfield 22, 3) := dk_180 0 22 (dk_at dksJ6_newCapacity_1 0 rfl rfl)
theorem dJ6_newCapacity_27 : decode cJ6_newCapacity 27 = .ok (.ishl, 1) := dk_120 (dk_at dksJ6_newCapacity_1 3 rfl rfl)
theorem dJ6_newCapacity_28 : decode cJ6_newCapacity 28 = .ok (.iadd, 1) := dk_96 (dk_at dksJ6_newCapacity_1 4 rfl rfl)
theorem dJ6_newCapacity_29 : decode cJ6_newCapacity 29 = .ok (.invokestatic 114, 3) := dk_184 0 114 (dk_at dksJ6_newCapacity_1 5 rfl rfl)
theorem dJ6_newCapacity_32 : decode cJ6_newCapacity 32 = .ok (.istore 5, 2) := dk_54 5 (dk_at dksJ6_newCapacity_1 8 rfl rfl)
theorem dJ6_newCapacity_34 : decode cJ6_newCapacity 34 = .ok (.iload 5, 2) := dk_21 5 (dk_at dksJ6_newCapacity_1 10 rfl rfl)
theorem dJ6_newCapacity_36 : decode cJ6_newCapacity 36 = .ok (.ldc 39, 2) := dk_18 39 (dk_at dksJ6_newCapacity_1 12 rfl rfl)
theorem dJ6_newCapacity_38 : decode cJ6_newCapacity 38 = .ok (.if_icmp .ne 13, 3) := dk_160 0 13 (dk_at dksJ6_newCapacity_1 14 rfl rfl)
theorem dJ6_newCapacity_41 : decode cJ6_newCapacity 41 = .ok (.new 120, 3) := dk_187 0 120 (dk_at dksJ6_newCapacity_1 17 rfl rfl)
theorem dJ6_newCapacity_44 : decode cJ6_newCapacity 44 = .ok (.dup, 1) := dk_89 (dk_at dksJ6_newCapacity_1 20 rfl rfl)
theorem dJ6_newCapacity_45 : decode cJ6_newCapacity 45 = .ok (.ldc 122, 2) := dk_18 122 (dk_at dksJ6_newCapacity_1 21 rfl rfl)
theorem dJ6_newCapacity_47 : decode cJ6_newCapacity 47 = .ok (.invokespecial 124, 3) := dk_183 0 124 (dk_at dksJ6_newCapacity_2 0 rfl rfl)
theorem dJ6_newCapacity_50 : decode cJ6_newCapacity 50 = .ok (.athrow, 1) := dk_191 (dk_at dksJ6_newCapacity_2 3 rfl rfl)
theorem dJ6_newCapacity_51 : decode cJ6_newCapacity 51 = .ok (.iload 5, 2) := dk_21 5 (dk_at dksJ6_newCapacity_2 4 rfl rfl)
theorem dJ6_newCapacity_53 : decode cJ6_newCapacity 53 = .ok (.aload_n 0, 1) := dk_42 (dk_at dksJ6_newCapacity_2 6 rfl rfl)
theorem dJ6_newCapacity_54 : decode cJ6_newCapacity 54 = .ok (.getfield 22, 3) := dk_180 0 22 (dk_at dksJ6_newCapacity_2 7 rfl rfl)
theorem dJ6_newCapacity_57 : decode cJ6_newCapacity 57 = .ok (.ishr, 1) := dk_122 (dk_at dksJ6_newCapacity_2 10 rfl rfl)
theorem dJ6_newCapacity_58 : decode cJ6_newCapacity 58 = .ok (.ireturn, 1) := dk_172 (dk_at dksJ6_newCapacity_2 11 rfl rfl)
abbrev cJ6_isLatin1 : ByteArray := prog_23_method_68_code
def yJ6_isLatin1 : MethodName := ⟨RJ6, "isLatin1", "()Z"⟩
def dkwJ6_isLatin1_0 : List UInt8 := [178, 0, 18, 153, 0, 14, 42, 180, 0, 22, 154, 0, 7, 4, 167, 0, 4, 3, 172]
abbrev dktJ6_isLatin1_0 : List UInt8 := dkwJ6_isLatin1_0 ++ []
theorem dksJ6_isLatin1_0 : cJ6_isLatin1.data.toList.drop 0 = dktJ6_isLatin1_0 := by decide +kernel
theorem dJ6_isLatin1_0 : decode cJ6_isLatin1 0 = .ok (.getstatic 18, 3) := dk_178 0 18 (dk_at dksJ6_isLatin1_0 0 rfl rfl)
theorem dJ6_isLatin1_3 : decode cJ6_isLatin1 3 = .ok (.ifCond .eq 14, 3) := dk_153 0 14 (dk_at dksJ6_isLatin1_0 3 rfl rfl)
theorem dJ6_isLatin1_6 : decode cJ6_isLatin1 6 = .ok (.aload_n 0, 1) := dk_42 (dk_at dksJ6_isLatin1_0 6 rfl rfl)
theorem dJ6_isLatin1_7 : decode cJ6_isLatin1 7 = .ok (.getfield 22, 3) := dk_180 0 22 (dk_at dksJ6_isLatin1_0 7 rfl rfl)
theorem dJ6_isLatin1_10 : decode cJ6_isLatin1 10 = .ok (.ifCond .ne 7, 3) := dk_154 0 7 (dk_at dksJ6_isLatin1_0 10 rfl rfl)
theorem dJ6_isLatin1_13 : decode cJ6_isLatin1 13 = .ok (.iconst 1, 1) := dk_4 (dk_at dksJ6_isLatin1_0 13 rfl rfl)
theorem dJ6_isLatin1_14 : decode cJ6_isLatin1 14 = .ok (.goto 4, 3) := dk_167 0 4 (dk_at dksJ6_isLatin1_0 14 rfl rfl)
theorem dJ6_isLatin1_17 : decode cJ6_isLatin1 17 = .ok (.iconst 0, 1) := dk_3 (dk_at dksJ6_isLatin1_0 17 rfl rfl)
theorem dJ6_isLatin1_18 : decode cJ6_isLatin1 18 = .ok (.ireturn, 1) := dk_172 (dk_at dksJ6_isLatin1_0 18 rfl rfl)
abbrev cJ6_inflate : ByteArray := prog_23_method_11_code
def yJ6_inflate : MethodName := ⟨RJ6, "inflate", "()V"⟩
def dkwJ6_inflate_1 : List UInt8 := [42, 180, 0, 79, 184, 0, 125, 42, 43, 181, 0, 15, 42, 4, 181, 0, 22, 177]
abbrev dktJ6_inflate_1 : List UInt8 := dkwJ6_inflate_1 ++ []
def dkwJ6_inflate_0 : List UInt8 := [42, 182, 0, 83, 154, 0, 4, 177, 42, 180, 0, 15, 190, 184, 0, 26, 76, 42, 180, 0, 15, 3, 43, 3]
abbrev dktJ6_inflate_0 : List UInt8 := dkwJ6_inflate_0 ++ dktJ6_inflate_1
theorem dksJ6_inflate_0 : cJ6_inflate.data.toList.drop 0 = dktJ6_inflate_0 := by decide +kernel
theorem dksJ6_inflate_1 : cJ6_inflate.data.toList.drop 24 = dktJ6_inflate_1 := dk_seg dksJ6_inflate_0 24 rfl rfl
theorem dJ6_inflate_0 : decode cJ6_inflate 0 = .ok (.aload_n 0, 1) := dk_42 (dk_at dksJ6_inflate_0 0 rfl rfl)
theorem dJ6_inflate_1 : decode cJ6_inflate 1 = .ok (.invokevirtual 83, 3) := dk_182 0 83 (dk_at dksJ6_inflate_0 1 rfl rfl)
theorem dJ6_inflate_4 : decode cJ6_inflate 4 = .ok (.ifCond .ne 4, 3) := dk_154 0 4 (dk_at dksJ6_inflate_0 4 rfl rfl)
theorem dJ6_inflate_7 : decode cJ6_inflate 7 = .ok (.return_, 1) := dk_177 (dk_at dksJ6_inflate_0 7 rfl rfl)
theorem dJ6_inflate_8 : decode cJ6_inflate 8 = .ok (.aload_n 0, 1) := dk_42 (dk_at dksJ6_inflate_0 8 rfl rfl)
theorem dJ6_inflate_9 : decode cJ6_inflate 9 = .ok (.getfield 15, 3) := dk_180 0 15 (dk_at dksJ6_inflate_0 9 rfl rfl)
theorem dJ6_inflate_12 : decode cJ6_inflate 12 = .ok (.arraylength, 1) := dk_190 (dk_at dksJ6_inflate_0 12 rfl rfl)
theorem dJ6_inflate_13 : decode cJ6_inflate 13 = .ok (.invokestatic 26, 3) := dk_184 0 26 (dk_at dksJ6_inflate_0 13 rfl rfl)
theorem dJ6_inflate_16 : decode cJ6_inflate 16 = .ok (.astore_n 1, 1) := dk_76 (dk_at dksJ6_inflate_0 16 rfl rfl)
theorem dJ6_inflate_17 : decode cJ6_inflate 17 = .ok (.aload_n 0, 1) := dk_42 (dk_at dksJ6_inflate_0 17 rfl rfl)
theorem dJ6_inflate_18 : decode cJ6_inflate 18 = .ok (.getfield 15, 3) := dk_180 0 15 (dk_at dksJ6_inflate_0 18 rfl rfl)
theorem dJ6_inflate_21 : decode cJ6_inflate 21 = .ok (.iconst 0, 1) := dk_3 (dk_at dksJ6_inflate_0 21 rfl rfl)
theorem dJ6_inflate_22 : decode cJ6_inflate 22 = .ok (.aload_n 1, 1) := dk_43 (dk_at dksJ6_inflate_0 22 rfl rfl)
theorem dJ6_inflate_23 : decode cJ6_inflate 23 = .ok (.iconst 0, 1) := dk_3 (dk_at dksJ6_inflate_0 23 rfl rfl)
theorem dJ6_inflate_24 : decode cJ6_inflate 24 = .ok (.aload_n 0, 1) := dk_42 (dk_at dksJ6_inflate_1 0 rfl rfl)
theorem dJ6_inflate_25 : decode cJ6_inflate 25 = .ok (.getfield 79, 3) := dk_180 0 79 (dk_at dksJ6_inflate_1 1 rfl rfl)
theorem dJ6_inflate_28 : decode cJ6_inflate 28 = .ok (.invokestatic 125, 3) := dk_184 0 125 (dk_at dksJ6_inflate_1 4 rfl rfl)
theorem dJ6_inflate_31 : decode cJ6_inflate 31 = .ok (.aload_n 0, 1) := dk_42 (dk_at dksJ6_inflate_1 7 rfl rfl)
theorem dJ6_inflate_32 : decode cJ6_inflate 32 = .ok (.aload_n 1, 1) := dk_43 (dk_at dksJ6_inflate_1 8 rfl rfl)
theorem dJ6_inflate_33 : decode cJ6_inflate 33 = .ok (.putfield 15, 3) := dk_181 0 15 (dk_at dksJ6_inflate_1 9 rfl rfl)
theorem dJ6_inflate_36 : decode cJ6_inflate 36 = .ok (.aload_n 0, 1) := dk_42 (dk_at dksJ6_inflate_1 12 rfl rfl)
theorem dJ6_inflate_37 : decode cJ6_inflate 37 = .ok (.iconst 1, 1) := dk_4 (dk_at dksJ6_inflate_1 13 rfl rfl)
theorem dJ6_inflate_38 : decode cJ6_inflate 38 = .ok (.putfield 22, 3) := dk_181 0 22 (dk_at dksJ6_inflate_1 14 rfl rfl)
theorem dJ6_inflate_41 : decode cJ6_inflate 41 = .ok (.return_, 1) := dk_177 (dk_at dksJ6_inflate_1 17 rfl rfl)
abbrev cJ6_getValue : ByteArray := prog_23_method_64_code
def yJ6_getValue : MethodName := ⟨RJ6, "getValue", "()[B"⟩
theorem dJ6_getValue_0 : decode cJ6_getValue 0 = .ok (.aload_n 0, 1) := by decide +kernel
theorem dJ6_getValue_1 : decode cJ6_getValue 1 = .ok (.getfield 15, 3) := by decide +kernel
theorem dJ6_getValue_4 : decode cJ6_getValue 4 = .ok (.areturn, 1) := by decide +kernel
abbrev cJ6_length : ByteArray := prog_23_method_6_code
def yJ6_length : MethodName := ⟨RJ6, "length", "()I"⟩
theorem dJ6_length_0 : decode cJ6_length 0 = .ok (.aload_n 0, 1) := by decide +kernel
theorem dJ6_length_1 : decode cJ6_length 1 = .ok (.getfield 79, 3) := by decide +kernel
theorem dJ6_length_4 : decode cJ6_length 4 = .ok (.ireturn, 1) := by decide +kernel
abbrev cJ6_append_2 : ByteArray := prog_23_method_32_code
def yJ6_append_2 : MethodName := ⟨RJ6, "append", "(I)Ljava/lang/AbstractStringBuilder;"⟩
def dkwJ6_append_2_2 : List UInt8 := [42, 29, 181, 0, 79, 42, 176]
abbrev dktJ6_append_2_2 : List UInt8 := dkwJ6_append_2_2 ++ []
def dkwJ6_append_2_1 : List UInt8 := [27, 29, 42, 180, 0, 15, 184, 0, 248, 87, 167, 0, 14, 27, 28, 29, 42, 180, 0, 15, 184, 0, 251, 87]
abbrev dktJ6_append_2_1 : List UInt8 := dkwJ6_append_2_1 ++ dktJ6_append_2_2
def dkwJ6_append_2_0 : List UInt8 := [42, 180, 0, 79, 61, 28, 27, 184, 0, 245, 96, 62, 42, 29, 182, 0, 100, 42, 182, 0, 83, 153, 0, 16]
abbrev dktJ6_append_2_0 : List UInt8 := dkwJ6_append_2_0 ++ dktJ6_append_2_1
theorem dksJ6_append_2_0 : cJ6_append_2.data.toList.drop 0 = dktJ6_append_2_0 := by decide +kernel
theorem dksJ6_append_2_1 : cJ6_append_2.data.toList.drop 24 = dktJ6_append_2_1 := dk_seg dksJ6_append_2_0 24 rfl rfl
theorem dksJ6_append_2_2 : cJ6_append_2.data.toList.drop 48 = dktJ6_append_2_2 := dk_seg dksJ6_append_2_1 24 rfl rfl
theorem dJ6_append_2_0 : decode cJ6_append_2 0 = .ok (.aload_n 0, 1) := dk_42 (dk_at dksJ6_append_2_0 0 rfl rfl)
theorem dJ6_append_2_1 : decode cJ6_append_2 1 = .ok (.getfield 79, 3) := dk_180 0 79 (dk_at dksJ6_append_2_0 1 rfl rfl)
theorem dJ6_append_2_4 : decode cJ6_append_2 4 = .ok (.istore_n 2, 1) := dk_61 (dk_at dksJ6_append_2_0 4 rfl rfl)
theorem dJ6_append_2_5 : decode cJ6_append_2 5 = .ok (.iload_n 2, 1) := dk_28 (dk_at dksJ6_append_2_0 5 rfl rfl)
theorem dJ6_append_2_6 : decode cJ6_append_2 6 = .ok (.iload_n 1, 1) := dk_27 (dk_at dksJ6_append_2_0 6 rfl rfl)
theorem dJ6_append_2_7 : decode cJ6_append_2 7 = .ok (.invokestatic 245, 3) := dk_184 0 245 (dk_at dksJ6_append_2_0 7 rfl rfl)
theorem dJ6_append_2_10 : decode cJ6_append_2 10 = .ok (.iadd, 1) := dk_96 (dk_at dksJ6_append_2_0 10 rfl rfl)
theorem dJ6_append_2_11 : decode cJ6_append_2 11 = .ok (.istore_n 3, 1) := dk_62 (dk_at dksJ6_append_2_0 11 rfl rfl)
theorem dJ6_append_2_12 : decode cJ6_append_2 12 = .ok (.aload_n 0, 1) := dk_42 (dk_at dksJ6_append_2_0 12 rfl rfl)
theorem dJ6_append_2_13 : decode cJ6_append_2 13 = .ok (.iload_n 3, 1) := dk_29 (dk_at dksJ6_append_2_0 13 rfl rfl)
theorem dJ6_append_2_14 : decode cJ6_append_2 14 = .ok (.invokevirtual 100, 3) := dk_182 0 100 (dk_at dksJ6_append_2_0 14 rfl rfl)
theorem dJ6_append_2_17 : decode cJ6_append_2 17 = .ok (.aload_n 0, 1) := dk_42 (dk_at dksJ6_append_2_0 17 rfl rfl)
theorem dJ6_append_2_18 : decode cJ6_append_2 18 = .ok (.invokevirtual 83, 3) := dk_182 0 83 (dk_at dksJ6_append_2_0 18 rfl rfl)
theorem dJ6_append_2_21 : decode cJ6_append_2 21 = .ok (.ifCond .eq 16, 3) := dk_153 0 16 (dk_at dksJ6_append_2_0 21 rfl rfl)
theorem dJ6_append_2_24 : decode cJ6_append_2 24 = .ok (.iload_n 1, 1) := dk_27 (dk_at dksJ6_append_2_1 0 rfl rfl)
theorem dJ6_append_2_25 : decode cJ6_append_2 25 = .ok (.iload_n 3, 1) := dk_29 (dk_at dksJ6_append_2_1 1 rfl rfl)
theorem dJ6_append_2_26 : decode cJ6_append_2 26 = .ok (.aload_n 0, 1) := dk_42 (dk_at dksJ6_append_2_1 2 rfl rfl)
theorem dJ6_append_2_27 : decode cJ6_append_2 27 = .ok (.getfield 15, 3) := dk_180 0 15 (dk_at dksJ6_append_2_1 3 rfl rfl)
theorem dJ6_append_2_30 : decode cJ6_append_2 30 = .ok (.invokestatic 248, 3) := dk_184 0 248 (dk_at dksJ6_append_2_1 6 rfl rfl)
theorem dJ6_append_2_33 : decode cJ6_append_2 33 = .ok (.pop, 1) := dk_87 (dk_at dksJ6_append_2_1 9 rfl rfl)
theorem dJ6_append_2_34 : decode cJ6_append_2 34 = .ok (.goto 14, 3) := dk_167 0 14 (dk_at dksJ6_append_2_1 10 rfl rfl)
theorem dJ6_append_2_37 : decode cJ6_append_2 37 = .ok (.iload_n 1, 1) := dk_27 (dk_at dksJ6_append_2_1 13 rfl rfl)
theorem dJ6_append_2_38 : decode cJ6_append_2 38 = .ok (.iload_n 2, 1) := dk_28 (dk_at dksJ6_append_2_1 14 rfl rfl)
theorem dJ6_append_2_39 : decode cJ6_append_2 39 = .ok (.iload_n 3, 1) := dk_29 (dk_at dksJ6_append_2_1 15 rfl rfl)
theorem dJ6_append_2_40 : decode cJ6_append_2 40 = .ok (.aload_n 0, 1) := dk_42 (dk_at dksJ6_append_2_1 16 rfl rfl)
theorem dJ6_append_2_41 : decode cJ6_append_2 41 = .ok (.getfield 15, 3) := dk_180 0 15 (dk_at dksJ6_append_2_1 17 rfl rfl)
theorem dJ6_append_2_44 : decode cJ6_append_2 44 = .ok (.invokestatic 251, 3) := dk_184 0 251 (dk_at dksJ6_append_2_1 20 rfl rfl)
theorem dJ6_append_2_47 : decode cJ6_append_2 47 = .ok (.pop, 1) := dk_87 (dk_at dksJ6_append_2_1 23 rfl rfl)
theorem dJ6_append_2_48 : decode cJ6_append_2 48 = .ok (.aload_n 0, 1) := dk_42 (dk_at dksJ6_append_2_2 0 rfl rfl)
theorem dJ6_append_2_49 : decode cJ6_append_2 49 = .ok (.iload_n 3, 1) := dk_29 (dk_at dksJ6_append_2_2 1 rfl rfl)
theorem dJ6_append_2_50 : decode cJ6_append_2 50 = .ok (.putfield 79, 3) := dk_181 0 79 (dk_at dksJ6_append_2_2 2 rfl rfl)
theorem dJ6_append_2_53 : decode cJ6_append_2 53 = .ok (.aload_n 0, 1) := dk_42 (dk_at dksJ6_append_2_2 5 rfl rfl)
theorem dJ6_append_2_54 : decode cJ6_append_2 54 = .ok (.areturn, 1) := dk_176 (dk_at dksJ6_append_2_2 6 rfl rfl)
abbrev cJ6_append_3 : ByteArray := prog_23_method_22_code
def yJ6_append_3 : MethodName := ⟨RJ6, "append", "(Ljava/lang/String;)Ljava/lang/AbstractStringBuilder;"⟩
def dkwJ6_append_3_1 : List UInt8 := [42, 42, 180, 0, 79, 43, 182, 0, 208, 42, 89, 180, 0, 79, 28, 96, 181, 0, 79, 42, 176]
abbrev dktJ6_append_3_1 : List UInt8 := dkwJ6_append_3_1 ++ []
def dkwJ6_append_3_0 : List UInt8 := [43, 199, 0, 8, 42, 182, 0, 204, 176, 43, 182, 0, 32, 61, 42, 42, 180, 0, 79, 28, 96, 182, 0, 100]
abbrev dktJ6_append_3_0 : List UInt8 := dkwJ6_append_3_0 ++ dktJ6_append_3_1
theorem dksJ6_append_3_0 : cJ6_append_3.data.toList.drop 0 = dktJ6_append_3_0 := by decide +kernel
theorem dksJ6_append_3_1 : cJ6_append_3.data.toList.drop 24 = dktJ6_append_3_1 := dk_seg dksJ6_append_3_0 24 rfl rfl
theorem dJ6_append_3_0 : decode cJ6_append_3 0 = .ok (.aload_n 1, 1) := dk_43 (dk_at dksJ6_append_3_0 0 rfl rfl)
theorem dJ6_append_3_1 : decode cJ6_append_3 1 = .ok (.ifnonnull 8, 3) := dk_199 0 8 (dk_at dksJ6_append_3_0 1 rfl rfl)
theorem dJ6_append_3_4 : decode cJ6_append_3 4 = .ok (.aload_n 0, 1) := dk_42 (dk_at dksJ6_append_3_0 4 rfl rfl)
theorem dJ6_append_3_5 : decode cJ6_append_3 5 = .ok (.invokevirtual 204, 3) := dk_182 0 204 (dk_at dksJ6_append_3_0 5 rfl rfl)
theorem dJ6_append_3_8 : decode cJ6_append_3 8 = .ok (.areturn, 1) := dk_176 (dk_at dksJ6_append_3_0 8 rfl rfl)
theorem dJ6_append_3_9 : decode cJ6_append_3 9 = .ok (.aload_n 1, 1) := dk_43 (dk_at dksJ6_append_3_0 9 rfl rfl)
theorem dJ6_append_3_10 : decode cJ6_append_3 10 = .ok (.invokevirtual 32, 3) := dk_182 0 32 (dk_at dksJ6_append_3_0 10 rfl rfl)
theorem dJ6_append_3_13 : decode cJ6_append_3 13 = .ok (.istore_n 2, 1) := dk_61 (dk_at dksJ6_append_3_0 13 rfl rfl)
theorem dJ6_append_3_14 : decode cJ6_append_3 14 = .ok (.aload_n 0, 1) := dk_42 (dk_at dksJ6_append_3_0 14 rfl rfl)
theorem dJ6_append_3_15 : decode cJ6_append_3 15 = .ok (.aload_n 0, 1) := dk_42 (dk_at dksJ6_append_3_0 15 rfl rfl)
theorem dJ6_append_3_16 : decode cJ6_append_3 16 = .ok (.getfield 79, 3) := dk_180 0 79 (dk_at dksJ6_append_3_0 16 rfl rfl)
theorem dJ6_append_3_19 : decode cJ6_append_3 19 = .ok (.iload_n 2, 1) := dk_28 (dk_at dksJ6_append_3_0 19 rfl rfl)
theorem dJ6_append_3_20 : decode cJ6_append_3 20 = .ok (.iadd, 1) := dk_96 (dk_at dksJ6_append_3_0 20 rfl rfl)
theorem dJ6_append_3_21 : decode cJ6_append_3 21 = .ok (.invokevirtual 100, 3) := dk_182 0 100 (dk_at dksJ6_append_3_0 21 rfl rfl)
theorem dJ6_append_3_24 : decode cJ6_append_3 24 = .ok (.aload_n 0, 1) := dk_42 (dk_at dksJ6_append_3_1 0 rfl rfl)
theorem dJ6_append_3_25 : decode cJ6_append_3 25 = .ok (.aload_n 0, 1) := dk_42 (dk_at dksJ6_append_3_1 1 rfl rfl)
theorem dJ6_append_3_26 : decode cJ6_append_3 26 = .ok (.getfield 79, 3) := dk_180 0 79 (dk_at dksJ6_append_3_1 2 rfl rfl)
theorem dJ6_append_3_29 : decode cJ6_append_3 29 = .ok (.aload_n 1, 1) := dk_43 (dk_at dksJ6_append_3_1 5 rfl rfl)
theorem dJ6_append_3_30 : decode cJ6_append_3 30 = .ok (.invokevirtual 208, 3) := dk_182 0 208 (dk_at dksJ6_append_3_1 6 rfl rfl)
theorem dJ6_append_3_33 : decode cJ6_append_3 33 = .ok (.aload_n 0, 1) := dk_42 (dk_at dksJ6_append_3_1 9 rfl rfl)
theorem dJ6_append_3_34 : decode cJ6_append_3 34 = .ok (.dup, 1) := dk_89 (dk_at dksJ6_append_3_1 10 rfl rfl)
theorem dJ6_append_3_35 : decode cJ6_append_3 35 = .ok (.getfield 79, 3) := dk_180 0 79 (dk_at dksJ6_append_3_1 11 rfl rfl)
theorem dJ6_append_3_38 : decode cJ6_append_3 38 = .ok (.iload_n 2, 1) := dk_28 (dk_at dksJ6_append_3_1 14 rfl rfl)
theorem dJ6_append_3_39 : decode cJ6_append_3 39 = .ok (.iadd, 1) := dk_96 (dk_at dksJ6_append_3_1 15 rfl rfl)
theorem dJ6_append_3_40 : decode cJ6_append_3 40 = .ok (.putfield 79, 3) := dk_181 0 79 (dk_at dksJ6_append_3_1 16 rfl rfl)
theorem dJ6_append_3_43 : decode cJ6_append_3 43 = .ok (.aload_n 0, 1) := dk_42 (dk_at dksJ6_append_3_1 19 rfl rfl)
theorem dJ6_append_3_44 : decode cJ6_append_3 44 = .ok (.areturn, 1) := dk_176 (dk_at dksJ6_append_3_1 20 rfl rfl)
abbrev cJ6_appendNull : ByteArray := prog_23_method_26_code
def yJ6_appendNull : MethodName := ⟨RJ6, "appendNull", "()Ljava/lang/AbstractStringBuilder;"⟩
def dkwJ6_appendNull_3 : List UInt8 := [184, 0, 226, 60, 42, 27, 181, 0, 79, 42, 176]
abbrev dktJ6_appendNull_3 : List UInt8 := dkwJ6_appendNull_3 ++ []
def dkwJ6_appendNull_2 : List UInt8 := [16, 108, 84, 44, 27, 132, 1, 1, 16, 108, 84, 167, 0, 17, 44, 27, 16, 110, 16, 117, 16, 108, 16, 108]
abbrev dktJ6_appendNull_2 : List UInt8 := dkwJ6_appendNull_2 ++ dktJ6_appendNull_3
def dkwJ6_appendNull_1 : List UInt8 := [153, 0, 38, 44, 27, 132, 1, 1, 16, 110, 84, 44, 27, 132, 1, 1, 16, 117, 84, 44, 27, 132, 1, 1]
abbrev dktJ6_appendNull_1 : List UInt8 := dkwJ6_appendNull_1 ++ dktJ6_appendNull_2
def dkwJ6_appendNull_0 : List UInt8 := [42, 42, 180, 0, 79, 7, 96, 182, 0, 100, 42, 180, 0, 79, 60, 42, 180, 0, 15, 77, 42, 182, 0, 83]
abbrev dktJ6_appendNull_0 : List UInt8 := dkwJ6_appendNull_0 ++ dktJ6_appendNull_1
theorem dksJ6_appendNull_0 : cJ6_appendNull.data.toList.drop 0 = dktJ6_appendNull_0 := by decide +kernel
theorem dksJ6_appendNull_1 : cJ6_appendNull.data.toList.drop 24 = dktJ6_appendNull_1 := dk_seg dksJ6_appendNull_0 24 rfl rfl
theorem dksJ6_appendNull_2 : cJ6_appendNull.data.toList.drop 48 = dktJ6_appendNull_2 := dk_seg dksJ6_appendNull_1 24 rfl rfl
theorem dksJ6_appendNull_3 : cJ6_appendNull.data.toList.drop 72 = dktJ6_appendNull_3 := dk_seg dksJ6_appendNull_2 24 rfl rfl
theorem dJ6_appendNull_0 : decode cJ6_appendNull 0 = .ok (.aload_n 0, 1) := dk_42 (dk_at dksJ6_appendNull_0 0 rfl rfl)
theorem dJ6_appendNull_1 : decode cJ6_appendNull 1 = .ok (.aload_n 0, 1) := dk_42 (dk_at dksJ6_appendNull_0 1 rfl rfl)
theorem dJ6_appendNull_2 : decode cJ6_appendNull 2 = .ok (.getfield 79, 3) := dk_180 0 79 (dk_at dksJ6_appendNull_0 2 rfl rfl)
theorem dJ6_appendNull_5 : decode cJ6_appendNull 5 = .ok (.iconst 4, 1) := dk_7 (dk_at dksJ6_appendNull_0 5 rfl rfl)
theorem dJ6_appendNull_6 : decode cJ6_appendNull 6 = .ok (.iadd, 1) := dk_96 (dk_at dksJ6_appendNull_0 6 rfl rfl)
theorem dJ6_appendNull_7 : decode cJ6_appendNull 7 = .ok (.invokevirtual 100, 3) := dk_182 0 100 (dk_at dksJ6_appendNull_0 7 rfl rfl)
theorem dJ6_appendNull_10 : decode cJ6_appendNull 10 = .ok (.aload_n 0, 1) := dk_42 (dk_at dksJ6_appendNull_0 10 rfl rfl)
theorem dJ6_appendNull_11 : decode cJ6_appendNull 11 = .ok (.getfield 79, 3) := dk_180 0 79 (dk_at dksJ6_appendNull_0 11 rfl rfl)
theorem dJ6_appendNull_14 : decode cJ6_appendNull 14 = .ok (.istore_n 1, 1) := dk_60 (dk_at dksJ6_appendNull_0 14 rfl rfl)
theorem dJ6_appendNull_15 : decode cJ6_appendNull 15 = .ok (.aload_n 0, 1) := dk_42 (dk_at dksJ6_appendNull_0 15 rfl rfl)
theorem dJ6_appendNull_16 : decode cJ6_appendNull 16 = .ok (.getfield 15, 3) := dk_180 0 15 (dk_at dksJ6_appendNull_0 16 rfl rfl)
theorem dJ6_appendNull_19 : decode cJ6_appendNull 19 = .ok (.astore_n 2, 1) := dk_77 (dk_at dksJ6_appendNull_0 19 rfl rfl)
theorem dJ6_appendNull_20 : decode cJ6_appendNull 20 = .ok (.aload_n 0, 1) := dk_42 (dk_at dksJ6_appendNull_0 20 rfl rfl)
theorem dJ6_appendNull_21 : decode cJ6_appendNull 21 = .ok (.invokevirtual 83, 3) := dk_182 0 83 (dk_at dksJ6_appendNull_0 21 rfl rfl)
theorem dJ6_appendNull_24 : decode cJ6_appendNull 24 = .ok (.ifCond .eq 38, 3) := dk_153 0 38 (dk_at dksJ6_appendNull_1 0 rfl rfl)
theorem dJ6_appendNull_27 : decode cJ6_appendNull 27 = .ok (.aload_n 2, 1) := dk_44 (dk_at dksJ6_appendNull_1 3 rfl rfl)
theorem dJ6_appendNull_28 : decode cJ6_appendNull 28 = .ok (.iload_n 1, 1) := dk_27 (dk_at dksJ6_appendNull_1 4 rfl rfl)
theorem dJ6_appendNull_29 : decode cJ6_appendNull 29 = .ok (.iinc 1 1, 3) := dk_132 1 1 (dk_at dksJ6_appendNull_1 5 rfl rfl)
theorem dJ6_appendNull_32 : decode cJ6_appendNull 32 = .ok (.bipush 110, 2) := dk_16 110 (dk_at dksJ6_appendNull_1 8 rfl rfl)
theorem dJ6_appendNull_34 : decode cJ6_appendNull 34 = .ok (.bastore, 1) := dk_84 (dk_at dksJ6_appendNull_1 10 rfl rfl)
theorem dJ6_appendNull_35 : decode cJ6_appendNull 35 = .ok (.aload_n 2, 1) := dk_44 (dk_at dksJ6_appendNull_1 11 rfl rfl)
theorem dJ6_appendNull_36 : decode cJ6_appendNull 36 = .ok (.iload_n 1, 1) := dk_27 (dk_at dksJ6_appendNull_1 12 rfl rfl)
theorem dJ6_appendNull_37 : decode cJ6_appendNull 37 = .ok (.iinc 1 1, 3) := dk_132 1 1 (dk_at dksJ6_appendNull_1 13 rfl rfl)
theorem dJ6_appendNull_40 : decode cJ6_appendNull 40 = .ok (.bipush 117, 2) := dk_16 117 (dk_at dksJ6_appendNull_1 16 rfl rfl)
theorem dJ6_appendNull_42 : decode cJ6_appendNull 42 = .ok (.bastore, 1) := dk_84 (dk_at dksJ6_appendNull_1 18 rfl rfl)
theorem dJ6_appendNull_43 : decode cJ6_appendNull 43 = .ok (.aload_n 2, 1) := dk_44 (dk_at dksJ6_appendNull_1 19 rfl rfl)
theorem dJ6_appendNull_44 : decode cJ6_appendNull 44 = .ok (.iload_n 1, 1) := dk_27 (dk_at dksJ6_appendNull_1 20 rfl rfl)
theorem dJ6_appendNull_45 : decode cJ6_appendNull 45 = .ok (.iinc 1 1, 3) := dk_132 1 1 (dk_at dksJ6_appendNull_1 21 rfl rfl)
theorem dJ6_appendNull_48 : decode cJ6_appendNull 48 = .ok (.bipush 108, 2) := dk_16 108 (dk_at dksJ6_appendNull_2 0 rfl rfl)
theorem dJ6_appendNull_50 : decode cJ6_appendNull 50 = .ok (.bastore, 1) := dk_84 (dk_at dksJ6_appendNull_2 2 rfl rfl)
theorem dJ6_appendNull_51 : decode cJ6_appendNull 51 = .ok (.aload_n 2, 1) := dk_44 (dk_at dksJ6_appendNull_2 3 rfl rfl)
theorem dJ6_appendNull_52 : decode cJ6_appendNull 52 = .ok (.iload_n 1, 1) := dk_27 (dk_at dksJ6_appendNull_2 4 rfl rfl)
theorem dJ6_appendNull_53 : decode cJ6_appendNull 53 = .ok (.iinc 1 1, 3) := dk_132 1 1 (dk_at dksJ6_appendNull_2 5 rfl rfl)
theorem dJ6_appendNull_56 : decode cJ6_appendNull 56 = .ok (.bipush 108, 2) := dk_16 108 (dk_at dksJ6_appendNull_2 8 rfl rfl)
theorem dJ6_appendNull_58 : decode cJ6_appendNull 58 = .ok (.bastore, 1) := dk_84 (dk_at dksJ6_appendNull_2 10 rfl rfl)
theorem dJ6_appendNull_59 : decode cJ6_appendNull 59 = .ok (.goto 17, 3) := dk_167 0 17 (dk_at dksJ6_appendNull_2 11 rfl rfl)
theorem dJ6_appendNull_62 : decode cJ6_appendNull 62 = .ok (.aload_n 2, 1) := dk_44 (dk_at dksJ6_appendNull_2 14 rfl rfl)
theorem dJ6_appendNull_63 : decode cJ6_appendNull 63 = .ok (.iload_n 1, 1) := dk_27 (dk_at dksJ6_appendNull_2 15 rfl rfl)
theorem dJ6_appendNull_64 : decode cJ6_appendNull 64 = .ok (.bipush 110, 2) := dk_16 110 (dk_at dksJ6_appendNull_2 16 rfl rfl)
theorem dJ6_appendNull_66 : decode cJ6_appendNull 66 = .ok (.bipush 117, 2) := dk_16 117 (dk_at dksJ6_appendNull_2 18 rfl rfl)
theorem dJ6_appendNull_68 : decode cJ6_appendNull 68 = .ok (.bipush 108, 2) := dk_16 108 (dk_at dksJ6_appendNull_2 20 rfl rfl)
theorem dJ6_appendNull_70 : decode cJ6_appendNull 70 = .ok (.bipush 108, 2) := dk_16 108 (dk_at dksJ6_appendNull_2 22 rfl rfl)
theorem dJ6_appendNull_72 : decode cJ6_appendNull 72 = .ok (.invokestatic 226, 3) := dk_184 0 226 (dk_at dksJ6_appendNull_3 0 rfl rfl)
theorem dJ6_appendNull_75 : decode cJ6_appendNull 75 = .ok (.istore_n 1, 1) := dk_60 (dk_at dksJ6_appendNull_3 3 rfl rfl)
theorem dJ6_appendNull_76 : decode cJ6_appendNull 76 = .ok (.aload_n 0, 1) := dk_42 (dk_at dksJ6_appendNull_3 4 rfl rfl)
theorem dJ6_appendNull_77 : decode cJ6_appendNull 77 = .ok (.iload_n 1, 1) := dk_27 (dk_at dksJ6_appendNull_3 5 rfl rfl)
theorem dJ6_appendNull_78 : decode cJ6_appendNull 78 = .ok (.putfield 79, 3) := dk_181 0 79 (dk_at dksJ6_appendNull_3 6 rfl rfl)
theorem dJ6_appendNull_81 : decode cJ6_appendNull 81 = .ok (.aload_n 0, 1) := dk_42 (dk_at dksJ6_appendNull_3 9 rfl rfl)
theorem dJ6_appendNull_82 : decode cJ6_appendNull 82 = .ok (.areturn, 1) := dk_176 (dk_at dksJ6_appendNull_3 10 rfl rfl)
abbrev cJ6_putStringAt : ByteArray := prog_23_method_73_code
def yJ6_putStringAt : MethodName := ⟨RJ6, "putStringAt", "(ILjava/lang/String;)V"⟩
def dkwJ6_putStringAt_0 : List UInt8 := [42, 44, 182, 1, 141, 44, 42, 180, 0, 15, 27, 42, 180, 0, 22, 182, 1, 143, 177]
abbrev dktJ6_putStringAt_0 : List UInt8 := dkwJ6_putStringAt_0 ++ []
theorem dksJ6_putStringAt_0 : cJ6_putStringAt.data.toList.drop 0 = dktJ6_putStringAt_0 := by decide +kernel
theorem dJ6_putStringAt_0 : decode cJ6_putStringAt 0 = .ok (.aload_n 0, 1) := dk_42 (dk_at dksJ6_putStringAt_0 0 rfl rfl)
theorem dJ6_putStringAt_1 : decode cJ6_putStringAt 1 = .ok (.aload_n 2, 1) := dk_44 (dk_at dksJ6_putStringAt_0 1 rfl rfl)
theorem dJ6_putStringAt_2 : decode cJ6_putStringAt 2 = .ok (.invokevirtual 397, 3) := dk_182 1 141 (dk_at dksJ6_putStringAt_0 2 rfl rfl)
theorem dJ6_putStringAt_5 : decode cJ6_putStringAt 5 = .ok (.aload_n 2, 1) := dk_44 (dk_at dksJ6_putStringAt_0 5 rfl rfl)
theorem dJ6_putStringAt_6 : decode cJ6_putStringAt 6 = .ok (.aload_n 0, 1) := dk_42 (dk_at dksJ6_putStringAt_0 6 rfl rfl)
theorem dJ6_putStringAt_7 : decode cJ6_putStringAt 7 = .ok (.getfield 15, 3) := dk_180 0 15 (dk_at dksJ6_putStringAt_0 7 rfl rfl)
theorem dJ6_putStringAt_10 : decode cJ6_putStringAt 10 = .ok (.iload_n 1, 1) := dk_27 (dk_at dksJ6_putStringAt_0 10 rfl rfl)
theorem dJ6_putStringAt_11 : decode cJ6_putStringAt 11 = .ok (.aload_n 0, 1) := dk_42 (dk_at dksJ6_putStringAt_0 11 rfl rfl)
theorem dJ6_putStringAt_12 : decode cJ6_putStringAt 12 = .ok (.getfield 22, 3) := dk_180 0 22 (dk_at dksJ6_putStringAt_0 12 rfl rfl)
theorem dJ6_putStringAt_15 : decode cJ6_putStringAt 15 = .ok (.invokevirtual 399, 3) := dk_182 1 143 (dk_at dksJ6_putStringAt_0 15 rfl rfl)
theorem dJ6_putStringAt_18 : decode cJ6_putStringAt 18 = .ok (.return_, 1) := dk_177 (dk_at dksJ6_putStringAt_0 18 rfl rfl)
abbrev cJ6_inflateIfNeededFor : ByteArray := prog_23_method_71_code
def yJ6_inflateIfNeededFor : MethodName := ⟨RJ6, "inflateIfNeededFor", "(Ljava/lang/String;)V"⟩
def dkwJ6_inflateIfNeededFor_0 : List UInt8 := [178, 0, 18, 153, 0, 18, 42, 180, 0, 22, 43, 182, 0, 40, 159, 0, 7, 42, 182, 0, 195, 177]
abbrev dktJ6_inflateIfNeededFor_0 : List UInt8 := dkwJ6_inflateIfNeededFor_0 ++ []
theorem dksJ6_inflateIfNeededFor_0 : cJ6_inflateIfNeededFor.data.toList.drop 0 = dktJ6_inflateIfNeededFor_0 := by decide +kernel
theorem dJ6_inflateIfNeededFor_0 : decode cJ6_inflateIfNeededFor 0 = .ok (.getstatic 18, 3) := dk_178 0 18 (dk_at dksJ6_inflateIfNeededFor_0 0 rfl rfl)
theorem dJ6_inflateIfNeededFor_3 : decode cJ6_inflateIfNeededFor 3 = .ok (.ifCond .eq 18, 3) := dk_153 0 18 (dk_at dksJ6_inflateIfNeededFor_0 3 rfl rfl)
theorem dJ6_inflateIfNeededFor_6 : decode cJ6_inflateIfNeededFor 6 = .ok (.aload_n 0, 1) := dk_42 (dk_at dksJ6_inflateIfNeededFor_0 6 rfl rfl)
theorem dJ6_inflateIfNeededFor_7 : decode cJ6_inflateIfNeededFor 7 = .ok (.getfield 22, 3) := dk_180 0 22 (dk_at dksJ6_inflateIfNeededFor_0 7 rfl rfl)
theorem dJ6_inflateIfNeededFor_10 : decode cJ6_inflateIfNeededFor 10 = .ok (.aload_n 1, 1) := dk_43 (dk_at dksJ6_inflateIfNeededFor_0 10 rfl rfl)
theorem dJ6_inflateIfNeededFor_11 : decode cJ6_inflateIfNeededFor 11 = .ok (.invokevirtual 40, 3) := dk_182 0 40 (dk_at dksJ6_inflateIfNeededFor_0 11 rfl rfl)
theorem dJ6_inflateIfNeededFor_14 : decode cJ6_inflateIfNeededFor 14 = .ok (.if_icmp .eq 7, 3) := dk_159 0 7 (dk_at dksJ6_inflateIfNeededFor_0 14 rfl rfl)
theorem dJ6_inflateIfNeededFor_17 : decode cJ6_inflateIfNeededFor 17 = .ok (.aload_n 0, 1) := dk_42 (dk_at dksJ6_inflateIfNeededFor_0 17 rfl rfl)
theorem dJ6_inflateIfNeededFor_18 : decode cJ6_inflateIfNeededFor 18 = .ok (.invokevirtual 195, 3) := dk_182 0 195 (dk_at dksJ6_inflateIfNeededFor_0 18 rfl rfl)
theorem dJ6_inflateIfNeededFor_21 : decode cJ6_inflateIfNeededFor 21 = .ok (.return_, 1) := dk_177 (dk_at dksJ6_inflateIfNeededFor_0 21 rfl rfl)
abbrev cJ7_init : ByteArray := prog_40_method_1_code
def yJ7_init : MethodName := ⟨RJ7, "<init>", "()V"⟩
def dkwJ7_init_0 : List UInt8 := [42, 16, 16, 183, 0, 1, 177]
abbrev dktJ7_init_0 : List UInt8 := dkwJ7_init_0 ++ []
theorem dksJ7_init_0 : cJ7_init.data.toList.drop 0 = dktJ7_init_0 := by decide +kernel
theorem dJ7_init_0 : decode cJ7_init 0 = .ok (.aload_n 0, 1) := dk_42 (dk_at dksJ7_init_0 0 rfl rfl)
theorem dJ7_init_1 : decode cJ7_init 1 = .ok (.bipush 16, 2) := dk_16 16 (dk_at dksJ7_init_0 1 rfl rfl)
theorem dJ7_init_3 : decode cJ7_init 3 = .ok (.invokespecial 1, 3) := dk_183 0 1 (dk_at dksJ7_init_0 3 rfl rfl)
theorem dJ7_init_6 : decode cJ7_init 6 = .ok (.return_, 1) := dk_177 (dk_at dksJ7_init_0 6 rfl rfl)
abbrev cJ7_append : ByteArray := prog_40_method_14_code
def yJ7_append : MethodName := ⟨RJ7, "append", "(C)Ljava/lang/StringBuilder;"⟩
def dkwJ7_append_0 : List UInt8 := [42, 27, 183, 0, 50, 87, 42, 176]
abbrev dktJ7_append_0 : List UInt8 := dkwJ7_append_0 ++ []
theorem dksJ7_append_0 : cJ7_append.data.toList.drop 0 = dktJ7_append_0 := by decide +kernel
theorem dJ7_append_0 : decode cJ7_append 0 = .ok (.aload_n 0, 1) := dk_42 (dk_at dksJ7_append_0 0 rfl rfl)
theorem dJ7_append_1 : decode cJ7_append 1 = .ok (.iload_n 1, 1) := dk_27 (dk_at dksJ7_append_0 1 rfl rfl)
theorem dJ7_append_2 : decode cJ7_append 2 = .ok (.invokespecial 50, 3) := dk_183 0 50 (dk_at dksJ7_append_0 2 rfl rfl)
theorem dJ7_append_5 : decode cJ7_append 5 = .ok (.pop, 1) := dk_87 (dk_at dksJ7_append_0 5 rfl rfl)
theorem dJ7_append_6 : decode cJ7_append 6 = .ok (.aload_n 0, 1) := dk_42 (dk_at dksJ7_append_0 6 rfl rfl)
theorem dJ7_append_7 : decode cJ7_append 7 = .ok (.areturn, 1) := dk_176 (dk_at dksJ7_append_0 7 rfl rfl)
abbrev cJ7_toString : ByteArray := prog_40_method_42_code
def yJ7_toString : MethodName := ⟨RJ7, "toString", "()Ljava/lang/String;"⟩
def dkwJ7_toString_0 : List UInt8 := [187, 0, 18, 89, 42, 183, 0, 137, 176]
abbrev dktJ7_toString_0 : List UInt8 := dkwJ7_toString_0 ++ []
theorem dksJ7_toString_0 : cJ7_toString.data.toList.drop 0 = dktJ7_toString_0 := by decide +kernel
theorem dJ7_toString_0 : decode cJ7_toString 0 = .ok (.new 18, 3) := dk_187 0 18 (dk_at dksJ7_toString_0 0 rfl rfl)
theorem dJ7_toString_3 : decode cJ7_toString 3 = .ok (.dup, 1) := dk_89 (dk_at dksJ7_toString_0 3 rfl rfl)
theorem dJ7_toString_4 : decode cJ7_toString 4 = .ok (.aload_n 0, 1) := dk_42 (dk_at dksJ7_toString_0 4 rfl rfl)
theorem dJ7_toString_5 : decode cJ7_toString 5 = .ok (.invokespecial 137, 3) := dk_183 0 137 (dk_at dksJ7_toString_0 5 rfl rfl)
theorem dJ7_toString_8 : decode cJ7_toString 8 = .ok (.areturn, 1) := dk_176 (dk_at dksJ7_toString_0 8 rfl rfl)
abbrev cJ7_length : ByteArray := prog_40_method_93_code
def yJ7_length : MethodName := ⟨RJ7, "length", "()I"⟩
theorem dJ7_length_0 : decode cJ7_length 0 = .ok (.aload_n 0, 1) := by decide +kernel
theorem dJ7_length_1 : decode cJ7_length 1 = .ok (.invokespecial 343, 3) := by decide +kernel
theorem dJ7_length_4 : decode cJ7_length 4 = .ok (.ireturn, 1) := by decide +kernel
abbrev cJ7_append_2 : ByteArray := prog_40_method_15_code
def yJ7_append_2 : MethodName := ⟨RJ7, "append", "(I)Ljava/lang/StringBuilder;"⟩
def dkwJ7_append_2_0 : List UInt8 := [42, 27, 183, 0, 53, 87, 42, 176]
abbrev dktJ7_append_2_0 : List UInt8 := dkwJ7_append_2_0 ++ []
theorem dksJ7_append_2_0 : cJ7_append_2.data.toList.drop 0 = dktJ7_append_2_0 := by decide +kernel
theorem dJ7_append_2_0 : decode cJ7_append_2 0 = .ok (.aload_n 0, 1) := dk_42 (dk_at dksJ7_append_2_0 0 rfl rfl)
theorem dJ7_append_2_1 : decode cJ7_append_2 1 = .ok (.iload_n 1, 1) := dk_27 (dk_at dksJ7_append_2_0 1 rfl rfl)
theorem dJ7_append_2_2 : decode cJ7_append_2 2 = .ok (.invokespecial 53, 3) := dk_183 0 53 (dk_at dksJ7_append_2_0 2 rfl rfl)
theorem dJ7_append_2_5 : decode cJ7_append_2 5 = .ok (.pop, 1) := dk_87 (dk_at dksJ7_append_2_0 5 rfl rfl)
theorem dJ7_append_2_6 : decode cJ7_append_2 6 = .ok (.aload_n 0, 1) := dk_42 (dk_at dksJ7_append_2_0 6 rfl rfl)
theorem dJ7_append_2_7 : decode cJ7_append_2 7 = .ok (.areturn, 1) := dk_176 (dk_at dksJ7_append_2_0 7 rfl rfl)
abbrev cJ7_append_3 : ByteArray := prog_40_method_7_code
def yJ7_append_3 : MethodName := ⟨RJ7, "append", "(Ljava/lang/String;)Ljava/lang/StringBuilder;"⟩
def dkwJ7_append_3_0 : List UInt8 := [42, 43, 183, 0, 29, 87, 42, 176]
abbrev dktJ7_append_3_0 : List UInt8 := dkwJ7_append_3_0 ++ []
theorem dksJ7_append_3_0 : cJ7_append_3.data.toList.drop 0 = dktJ7_append_3_0 := by decide +kernel
theorem dJ7_append_3_0 : decode cJ7_append_3 0 = .ok (.aload_n 0, 1) := dk_42 (dk_at dksJ7_append_3_0 0 rfl rfl)
theorem dJ7_append_3_1 : decode cJ7_append_3 1 = .ok (.aload_n 1, 1) := dk_43 (dk_at dksJ7_append_3_0 1 rfl rfl)
theorem dJ7_append_3_2 : decode cJ7_append_3 2 = .ok (.invokespecial 29, 3) := dk_183 0 29 (dk_at dksJ7_append_3_0 2 rfl rfl)
theorem dJ7_append_3_5 : decode cJ7_append_3 5 = .ok (.pop, 1) := dk_87 (dk_at dksJ7_append_3_0 5 rfl rfl)
theorem dJ7_append_3_6 : decode cJ7_append_3 6 = .ok (.aload_n 0, 1) := dk_42 (dk_at dksJ7_append_3_0 6 rfl rfl)
theorem dJ7_append_3_7 : decode cJ7_append_3 7 = .ok (.areturn, 1) := dk_176 (dk_at dksJ7_append_3_0 7 rfl rfl)
abbrev cJ8_init : ByteArray := prog_39_method_53_code
def yJ8_init : MethodName := ⟨RJ8, "<init>", "(Ljava/lang/StringBuilder;)V"⟩
def dkwJ8_init_0 : List UInt8 := [42, 43, 1, 183, 1, 233, 177]
abbrev dktJ8_init_0 : List UInt8 := dkwJ8_init_0 ++ []
theorem dksJ8_init_0 : cJ8_init.data.toList.drop 0 = dktJ8_init_0 := by decide +kernel
theorem dJ8_init_0 : decode cJ8_init 0 = .ok (.aload_n 0, 1) := dk_42 (dk_at dksJ8_init_0 0 rfl rfl)
theorem dJ8_init_1 : decode cJ8_init 1 = .ok (.aload_n 1, 1) := dk_43 (dk_at dksJ8_init_0 1 rfl rfl)
theorem dJ8_init_2 : decode cJ8_init 2 = .ok (.aconst_null, 1) := dk_1 (dk_at dksJ8_init_0 2 rfl rfl)
theorem dJ8_init_3 : decode cJ8_init 3 = .ok (.invokespecial 489, 3) := dk_183 1 233 (dk_at dksJ8_init_0 3 rfl rfl)
theorem dJ8_init_6 : decode cJ8_init 6 = .ok (.return_, 1) := dk_177 (dk_at dksJ8_init_0 6 rfl rfl)
abbrev cJ8_init_2 : ByteArray := prog_39_method_150_code
def yJ8_init_2 : MethodName := ⟨RJ8, "<init>", "(Ljava/lang/AbstractStringBuilder;Ljava/lang/Void;)V"⟩
def dkwJ8_init_2_4 : List UInt8 := [181, 0, 9, 177]
abbrev dktJ8_init_2_4 : List UInt8 := dkwJ8_init_2_4 ++ []
def dkwJ8_init_2_3 : List UInt8 := [184, 0, 47, 181, 0, 15, 177, 42, 4, 181, 0, 15, 42, 45, 3, 21, 4, 4, 120, 184, 0, 54]
abbrev dktJ8_init_2_3 : List UInt8 := dkwJ8_init_2_3 ++ dktJ8_init_2_4
def dkwJ8_init_2_2 : List UInt8 := [180, 4, 24, 153, 0, 28, 42, 45, 3, 21, 4, 184, 4, 27, 181, 0, 9, 42, 42, 180, 0, 9, 21, 4]
abbrev dktJ8_init_2_2 : List UInt8 := dkwJ8_init_2_2 ++ dktJ8_init_2_3
def dkwJ8_init_2_1 : List UInt8 := [181, 0, 15, 42, 45, 3, 21, 4, 184, 0, 54, 181, 0, 9, 167, 0, 59, 178, 0, 38, 153, 0, 35, 43]
abbrev dktJ8_init_2_1 : List UInt8 := dkwJ8_init_2_1 ++ dktJ8_init_2_2
def dkwJ8_init_2_0 : List UInt8 := [42, 183, 0, 1, 43, 182, 2, 40, 78, 43, 182, 2, 37, 54, 4, 43, 182, 4, 23, 153, 0, 22, 42, 3]
abbrev dktJ8_init_2_0 : List UInt8 := dkwJ8_init_2_0 ++ dktJ8_init_2_1
theorem dksJ8_init_2_0 : cJ8_init_2.data.toList.drop 0 = dktJ8_init_2_0 := by decide +kernel
theorem dksJ8_init_2_1 : cJ8_init_2.data.toList.drop 24 = dktJ8_init_2_1 := dk_seg dksJ8_init_2_0 24 rfl rfl
theorem dksJ8_init_2_2 : cJ8_init_2.data.toList.drop 48 = dktJ8_init_2_2 := dk_seg dksJ8_init_2_1 24 rfl rfl
theorem dksJ8_init_2_3 : cJ8_init_2.data.toList.drop 72 = dktJ8_init_2_3 := dk_seg dksJ8_init_2_2 24 rfl rfl
theorem dksJ8_init_2_4 : cJ8_init_2.data.toList.drop 94 = dktJ8_init_2_4 := dk_seg dksJ8_init_2_3 22 rfl rfl
theorem dJ8_init_2_0 : decode cJ8_init_2 0 = .ok (.aload_n 0, 1) := dk_42 (dk_at dksJ8_init_2_0 0 rfl rfl)
theorem dJ8_init_2_1 : decode cJ8_init_2 1 = .ok (.invokespecial 1, 3) := dk_183 0 1 (dk_at dksJ8_init_2_0 1 rfl rfl)
theorem dJ8_init_2_4 : decode cJ8_init_2 4 = .ok (.aload_n 1, 1) := dk_43 (dk_at dksJ8_init_2_0 4 rfl rfl)
theorem dJ8_init_2_5 : decode cJ8_init_2 5 = .ok (.invokevirtual 552, 3) := dk_182 2 40 (dk_at dksJ8_init_2_0 5 rfl rfl)
theorem dJ8_init_2_8 : decode cJ8_init_2 8 = .ok (.astore_n 3, 1) := dk_78 (dk_at dksJ8_init_2_0 8 rfl rfl)
theorem dJ8_init_2_9 : decode cJ8_init_2 9 = .ok (.aload_n 1, 1) := dk_43 (dk_at dksJ8_init_2_0 9 rfl rfl)
theorem dJ8_init_2_10 : decode cJ8_init_2 10 = .ok (.invokevirtual 549, 3) := dk_182 2 37 (dk_at dksJ8_init_2_0 10 rfl rfl)
theorem dJ8_init_2_13 : decode cJ8_init_2 13 = .ok (.istore 4, 2) := dk_54 4 (dk_at dksJ8_init_2_0 13 rfl rfl)
theorem dJ8_init_2_15 : decode cJ8_init_2 15 = .ok (.aload_n 1, 1) := dk_43 (dk_at dksJ8_init_2_0 15 rfl rfl)
theorem dJ8_init_2_16 : decode cJ8_init_2 16 = .ok (.invokevirtual 1047, 3) := dk_182 4 23 (dk_at dksJ8_init_2_0 16 rfl rfl)
theorem dJ8_init_2_19 : decode cJ8_init_2 19 = .ok (.ifCond .eq 22, 3) := dk_153 0 22 (dk_at dksJ8_init_2_0 19 rfl rfl)
theorem dJ8_init_2_22 : decode cJ8_init_2 22 = .ok (.aload_n 0, 1) := dk_42 (dk_at dksJ8_init_2_0 22 rfl rfl)
theorem dJ8_init_2_23 : decode cJ8_init_2 23 = .ok (.iconst 0, 1) := dk_3 (dk_at dksJ8_init_2_0 23 rfl rfl)
theorem dJ8_init_2_24 : decode cJ8_init_2 24 = .ok (.putfield 15, 3) := dk_181 0 15 (dk_at dksJ8_init_2_1 0 rfl rfl)
theorem dJ8_init_2_27 : decode cJ8_init_2 27 = .ok (.aload_n 0, 1) := dk_42 (dk_at dksJ8_init_2_1 3 rfl rfl)
theorem dJ8_init_2_28 : decode cJ8_init_2 28 = .ok (.aload_n 3, 1) := dk_45 (dk_at dksJ8_init_2_1 4 rfl rfl)
theorem dJ8_init_2_29 : decode cJ8_init_2 29 = .ok (.iconst 0, 1) := dk_3 (dk_at dksJ8_init_2_1 5 rfl rfl)
theorem dJ8_init_2_30 : decode cJ8_init_2 30 = .ok (.iload 4, 2) := dk_21 4 (dk_at dksJ8_init_2_1 6 rfl rfl)
theorem dJ8_init_2_32 : decode cJ8_init_2 32 = .ok (.invokestatic 54, 3) := dk_184 0 54 (dk_at dksJ8_init_2_1 8 rfl rfl)
theorem dJ8_init_2_35 : decode cJ8_init_2 35 = .ok (.putfield 9, 3) := dk_181 0 9 (dk_at dksJ8_init_2_1 11 rfl rfl)
theorem dJ8_init_2_38 : decode cJ8_init_2 38 = .ok (.goto 59, 3) := dk_167 0 59 (dk_at dksJ8_init_2_1 14 rfl rfl)
theorem dJ8_init_2_41 : decode cJ8_init_2 41 = .ok (.getstatic 38, 3) := dk_178 0 38 (dk_at dksJ8_init_2_1 17 rfl rfl)
theorem dJ8_init_2_44 : decode cJ8_init_2 44 = .ok (.ifCond .eq 35, 3) := dk_153 0 35 (dk_at dksJ8_init_2_1 20 rfl rfl)
theorem dJ8_init_2_47 : decode cJ8_init_2 47 = .ok (.aload_n 1, 1) := dk_43 (dk_at dksJ8_init_2_1 23 rfl rfl)
theorem dJ8_init_2_48 : decode cJ8_init_2 48 = .ok (.getfield 1048, 3) := dk_180 4 24 (dk_at dksJ8_init_2_2 0 rfl rfl)
theorem dJ8_init_2_51 : decode cJ8_init_2 51 = .ok (.ifCond .eq 28, 3) := dk_153 0 28 (dk_at dksJ8_init_2_2 3 rfl rfl)
theorem dJ8_init_2_54 : decode cJ8_init_2 54 = .ok (.aload_n 0, 1) := dk_42 (dk_at dksJ8_init_2_2 6 rfl rfl)
theorem dJ8_init_2_55 : decode cJ8_init_2 55 = .ok (.aload_n 3, 1) := dk_45 (dk_at dksJ8_init_2_2 7 rfl rfl)
theorem dJ8_init_2_56 : decode cJ8_init_2 56 = .ok (.iconst 0, 1) := dk_3 (dk_at dksJ8_init_2_2 8 rfl rfl)
theorem dJ8_init_2_57 : decode cJ8_init_2 57 = .ok (.iload 4, 2) := dk_21 4 (dk_at dksJ8_init_2_2 9 rfl rfl)
theorem dJ8_init_2_59 : decode cJ8_init_2 59 = .ok (.invokestatic 1051, 3) := dk_184 4 27 (dk_at dksJ8_init_2_2 11 rfl rfl)
theorem dJ8_init_2_62 : decode cJ8_init_2 62 = .ok (.putfield 9, 3) := dk_181 0 9 (dk_at dksJ8_init_2_2 14 rfl rfl)
theorem dJ8_init_2_65 : decode cJ8_init_2 65 = .ok (.aload_n 0, 1) := dk_42 (dk_at dksJ8_init_2_2 17 rfl rfl)
theorem dJ8_init_2_66 : decode cJ8_init_2 66 = .ok (.aload_n 0, 1) := dk_42 (dk_at dksJ8_init_2_2 18 rfl rfl)
theorem dJ8_init_2_67 : decode cJ8_init_2 67 = .ok (.getfield 9, 3) := dk_180 0 9 (dk_at dksJ8_init_2_2 19 rfl rfl)
theorem dJ8_init_2_70 : decode cJ8_init_2 70 = .ok (.iload 4, 2) := dk_21 4 (dk_at dksJ8_init_2_2 22 rfl rfl)
theorem dJ8_init_2_72 : decode cJ8_init_2 72 = .ok (.invokestatic 47, 3) := dk_184 0 47 (dk_at dksJ8_init_2_3 0 rfl rfl)
theorem dJ8_init_2_75 : decode cJ8_init_2 75 = .ok (.putfield 15, 3) := dk_181 0 15 (dk_at dksJ8_init_2_3 3 rfl rfl)
theorem dJ8_init_2_78 : decode cJ8_init_2 78 = .ok (.return_, 1) := dk_177 (dk_at dksJ8_init_2_3 6 rfl rfl)
theorem dJ8_init_2_79 : decode cJ8_init_2 79 = .ok (.aload_n 0, 1) := dk_42 (dk_at dksJ8_init_2_3 7 rfl rfl)
theorem dJ8_init_2_80 : decode cJ8_init_2 80 = .ok (.iconst 1, 1) := dk_4 (dk_at dksJ8_init_2_3 8 rfl rfl)
theorem dJ8_init_2_81 : decode cJ8_init_2 81 = .ok (.putfield 15, 3) := dk_181 0 15 (dk_at dksJ8_init_2_3 9 rfl rfl)
theorem dJ8_init_2_84 : decode cJ8_init_2 84 = .ok (.aload_n 0, 1) := dk_42 (dk_at dksJ8_init_2_3 12 rfl rfl)
theorem dJ8_init_2_85 : decode cJ8_init_2 85 = .ok (.aload_n 3, 1) := dk_45 (dk_at dksJ8_init_2_3 13 rfl rfl)
theorem dJ8_init_2_86 : decode cJ8_init_2 86 = .ok (.iconst 0, 1) := dk_3 (dk_at dksJ8_init_2_3 14 rfl rfl)
theorem dJ8_init_2_87 : decode cJ8_init_2 87 = .ok (.iload 4, 2) := dk_21 4 (dk_at dksJ8_init_2_3 15 rfl rfl)
theorem dJ8_init_2_89 : decode cJ8_init_2 89 = .ok (.iconst 1, 1) := dk_4 (dk_at dksJ8_init_2_3 17 rfl rfl)
theorem dJ8_init_2_90 : decode cJ8_init_2 90 = .ok (.ishl, 1) := dk_120 (dk_at dksJ8_init_2_3 18 rfl rfl)
theorem dJ8_init_2_91 : decode cJ8_init_2 91 = .ok (.invokestatic 54, 3) := dk_184 0 54 (dk_at dksJ8_init_2_3 19 rfl rfl)
theorem dJ8_init_2_94 : decode cJ8_init_2 94 = .ok (.putfield 9, 3) := dk_181 0 9 (dk_at dksJ8_init_2_4 0 rfl rfl)
theorem dJ8_init_2_97 : decode cJ8_init_2 97 = .ok (.return_, 1) := dk_177 (dk_at dksJ8_init_2_4 3 rfl rfl)
abbrev cJ8_hashCode : ByteArray := prog_39_method_78_code
def yJ8_hashCode : MethodName := ⟨RJ8, "hashCode", "()I"⟩
def dkwJ8_hashCode_2 : List UInt8 := [181, 0, 23, 167, 0, 8, 42, 27, 181, 0, 19, 27, 172]
abbrev dktJ8_hashCode_2 : List UInt8 := dkwJ8_hashCode_2 ++ []
def dkwJ8_hashCode_1 : List UInt8 := [180, 0, 9, 184, 2, 116, 167, 0, 10, 42, 180, 0, 9, 184, 2, 120, 60, 27, 154, 0, 11, 42, 4]
abbrev dktJ8_hashCode_1 : List UInt8 := dkwJ8_hashCode_1 ++ dktJ8_hashCode_2
def dkwJ8_hashCode_0 : List UInt8 := [42, 180, 0, 19, 60, 27, 154, 0, 52, 42, 180, 0, 23, 154, 0, 45, 42, 182, 1, 236, 153, 0, 13, 42]
abbrev dktJ8_hashCode_0 : List UInt8 := dkwJ8_hashCode_0 ++ dktJ8_hashCode_1
theorem dksJ8_hashCode_0 : cJ8_hashCode.data.toList.drop 0 = dktJ8_hashCode_0 := by decide +kernel
theorem dksJ8_hashCode_1 : cJ8_hashCode.data.toList.drop 24 = dktJ8_hashCode_1 := dk_seg dksJ8_hashCode_0 24 rfl rfl
theorem dksJ8_hashCode_2 : cJ8_hashCode.data.toList.drop 47 = dktJ8_hashCode_2 := dk_seg dksJ8_hashCode_1 23 rfl rfl
theorem dJ8_hashCode_0 : decode cJ8_hashCode 0 = .ok (.aload_n 0, 1) := dk_42 (dk_at dksJ8_hashCode_0 0 rfl rfl)
theorem dJ8_hashCode_1 : decode cJ8_hashCode 1 = .ok (.getfield 19, 3) := dk_180 0 19 (dk_at dksJ8_hashCode_0 1 rfl rfl)
theorem dJ8_hashCode_4 : decode cJ8_hashCode 4 = .ok (.istore_n 1, 1) := dk_60 (dk_at dksJ8_hashCode_0 4 rfl rfl)
theorem dJ8_hashCode_5 : decode cJ8_hashCode 5 = .ok (.iload_n 1, 1) := dk_27 (dk_at dksJ8_hashCode_0 5 rfl rfl)
theorem dJ8_hashCode_6 : decode cJ8_hashCode 6 = .ok (.ifCond .ne 52, 3) := dk_154 0 52 (dk_at dksJ8_hashCode_0 6 rfl rfl)
theorem dJ8_hashCode_9 : decode cJ8_hashCode 9 = .ok (.aload_n 0, 1) := dk_42 (dk_at dksJ8_hashCode_0 9 rfl rfl)
theorem dJ8_hashCode_10 : decode cJ8_hashCode 10 = .ok (.getfield 23, 3) := dk_180 0 23 (dk_at dksJ8_hashCode_0 10 rfl rfl)
theorem dJ8_hashCode_13 : decode cJ8_hashCode 13 = .ok (.ifCond .ne 45, 3) := dk_154 0 45 (dk_at dksJ8_hashCode_0 13 rfl rfl)
theorem dJ8_hashCode_16 : decode cJ8_hashCode 16 = .ok (.aload_n 0, 1) := dk_42 (dk_at dksJ8_hashCode_0 16 rfl rfl)
theorem dJ8_hashCode_17 : decode cJ8_hashCode 17 = .ok (.invokevirtual 492, 3) := dk_182 1 236 (dk_at dksJ8_hashCode_0 17 rfl rfl)
theorem dJ8_hashCode_20 : decode cJ8_hashCode 20 = .ok (.ifCond .eq 13, 3) := dk_153 0 13 (dk_at dksJ8_hashCode_0 20 rfl rfl)
theorem dJ8_hashCode_23 : decode cJ8_hashCode 23 = .ok (.aload_n 0, 1) := dk_42 (dk_at dksJ8_hashCode_0 23 rfl rfl)
theorem dJ8_hashCode_24 : decode cJ8_hashCode 24 = .ok (.getfield 9, 3) := dk_180 0 9 (dk_at dksJ8_hashCode_1 0 rfl rfl)
theorem dJ8_hashCode_27 : decode cJ8_hashCode 27 = .ok (.invokestatic 628, 3) := dk_184 2 116 (dk_at dksJ8_hashCode_1 3 rfl rfl)
theorem dJ8_hashCode_30 : decode cJ8_hashCode 30 = .ok (.goto 10, 3) := dk_167 0 10 (dk_at dksJ8_hashCode_1 6 rfl rfl)
theorem dJ8_hashCode_33 : decode cJ8_hashCode 33 = .ok (.aload_n 0, 1) := dk_42 (dk_at dksJ8_hashCode_1 9 rfl rfl)
theorem dJ8_hashCode_34 : decode cJ8_hashCode 34 = .ok (.getfield 9, 3) := dk_180 0 9 (dk_at dksJ8_hashCode_1 10 rfl rfl)
theorem dJ8_hashCode_37 : decode cJ8_hashCode 37 = .ok (.invokestatic 632, 3) := dk_184 2 120 (dk_at dksJ8_hashCode_1 13 rfl rfl)
theorem dJ8_hashCode_40 : decode cJ8_hashCode 40 = .ok (.istore_n 1, 1) := dk_60 (dk_at dksJ8_hashCode_1 16 rfl rfl)
theorem dJ8_hashCode_41 : decode cJ8_hashCode 41 = .ok (.iload_n 1, 1) := dk_27 (dk_at dksJ8_hashCode_1 17 rfl rfl)
theorem dJ8_hashCode_42 : decode cJ8_hashCode 42 = .ok (.ifCond .ne 11, 3) := dk_154 0 11 (dk_at dksJ8_hashCode_1 18 rfl rfl)
theorem dJ8_hashCode_45 : decode cJ8_hashCode 45 = .ok (.aload_n 0, 1) := dk_42 (dk_at dksJ8_hashCode_1 21 rfl rfl)
theorem dJ8_hashCode_46 : decode cJ8_hashCode 46 = .ok (.iconst 1, 1) := dk_4 (dk_at dksJ8_hashCode_1 22 rfl rfl)
theorem dJ8_hashCode_47 : decode cJ8_hashCode 47 = .ok (.putfield 23, 3) := dk_181 0 23 (dk_at dksJ8_hashCode_2 0 rfl rfl)
theorem dJ8_hashCode_50 : decode cJ8_hashCode 50 = .ok (.goto 8, 3) := dk_167 0 8 (dk_at dksJ8_hashCode_2 3 rfl rfl)
theorem dJ8_hashCode_53 : decode cJ8_hashCode 53 = .ok (.aload_n 0, 1) := dk_42 (dk_at dksJ8_hashCode_2 6 rfl rfl)
theorem dJ8_hashCode_54 : decode cJ8_hashCode 54 = .ok (.iload_n 1, 1) := dk_27 (dk_at dksJ8_hashCode_2 7 rfl rfl)
theorem dJ8_hashCode_55 : decode cJ8_hashCode 55 = .ok (.putfield 19, 3) := dk_181 0 19 (dk_at dksJ8_hashCode_2 8 rfl rfl)
theorem dJ8_hashCode_58 : decode cJ8_hashCode 58 = .ok (.iload_n 1, 1) := dk_27 (dk_at dksJ8_hashCode_2 11 rfl rfl)
theorem dJ8_hashCode_59 : decode cJ8_hashCode 59 = .ok (.ireturn, 1) := dk_172 (dk_at dksJ8_hashCode_2 12 rfl rfl)
abbrev cJ8_equals : ByteArray := prog_39_method_66_code
def yJ8_equals : MethodName := ⟨RJ8, "equals", "(Ljava/lang/Object;)Z"⟩
def dkwJ8_equals_2 : List UInt8 := [184, 2, 29, 153, 0, 7, 4, 167, 0, 4, 3, 172]
abbrev dktJ8_equals_2 : List UInt8 := dkwJ8_equals_2 ++ []
def dkwJ8_equals_1 : List UInt8 := [153, 0, 14, 42, 180, 0, 15, 44, 180, 0, 15, 160, 0, 21, 42, 180, 0, 9, 44, 180, 0, 9]
abbrev dktJ8_equals_1 : List UInt8 := dkwJ8_equals_1 ++ dktJ8_equals_2
def dkwJ8_equals_0 : List UInt8 := [42, 43, 166, 0, 5, 4, 172, 43, 193, 0, 10, 153, 0, 43, 43, 192, 0, 10, 77, 178, 0, 38]
abbrev dktJ8_equals_0 : List UInt8 := dkwJ8_equals_0 ++ dktJ8_equals_1
theorem dksJ8_equals_0 : cJ8_equals.data.toList.drop 0 = dktJ8_equals_0 := by decide +kernel
theorem dksJ8_equals_1 : cJ8_equals.data.toList.drop 22 = dktJ8_equals_1 := dk_seg dksJ8_equals_0 22 rfl rfl
theorem dksJ8_equals_2 : cJ8_equals.data.toList.drop 44 = dktJ8_equals_2 := dk_seg dksJ8_equals_1 22 rfl rfl
theorem dJ8_equals_0 : decode cJ8_equals 0 = .ok (.aload_n 0, 1) := dk_42 (dk_at dksJ8_equals_0 0 rfl rfl)
theorem dJ8_equals_1 : decode cJ8_equals 1 = .ok (.aload_n 1, 1) := dk_43 (dk_at dksJ8_equals_0 1 rfl rfl)
theorem dJ8_equals_2 : decode cJ8_equals 2 = .ok (.if_acmp .ne 5, 3) := dk_166 0 5 (dk_at dksJ8_equals_0 2 rfl rfl)
theorem dJ8_equals_5 : decode cJ8_equals 5 = .ok (.iconst 1, 1) := dk_4 (dk_at dksJ8_equals_0 5 rfl rfl)
theorem dJ8_equals_6 : decode cJ8_equals 6 = .ok (.ireturn, 1) := dk_172 (dk_at dksJ8_equals_0 6 rfl rfl)
theorem dJ8_equals_7 : decode cJ8_equals 7 = .ok (.aload_n 1, 1) := dk_43 (dk_at dksJ8_equals_0 7 rfl rfl)
theorem dJ8_equals_8 : decode cJ8_equals 8 = .ok (.instanceof 10, 3) := dk_193 0 10 (dk_at dksJ8_equals_0 8 rfl rfl)
theorem dJ8_equals_11 : decode cJ8_equals 11 = .ok (.ifCond .eq 43, 3) := dk_153 0 43 (dk_at dksJ8_equals_0 11 rfl rfl)
theorem dJ8_equals_14 : decode cJ8_equals 14 = .ok (.aload_n 1, 1) := dk_43 (dk_at dksJ8_equals_0 14 rfl rfl)
theorem dJ8_equals_15 : decode cJ8_equals 15 = .ok (.checkcast 10, 3) := dk_192 0 10 (dk_at dksJ8_equals_0 15 rfl rfl)
theorem dJ8_equals_18 : decode cJ8_equals 18 = .ok (.astore_n 2, 1) := dk_77 (dk_at dksJ8_equals_0 18 rfl rfl)
theorem dJ8_equals_19 : decode cJ8_equals 19 = .ok (.getstatic 38, 3) := dk_178 0 38 (dk_at dksJ8_equals_0 19 rfl rfl)
theorem dJ8_equals_22 : decode cJ8_equals 22 = .ok (.ifCond .eq 14, 3) := dk_153 0 14 (dk_at dksJ8_equals_1 0 rfl rfl)
theorem dJ8_equals_25 : decode cJ8_equals 25 = .ok (.aload_n 0, 1) := dk_42 (dk_at dksJ8_equals_1 3 rfl rfl)
theorem dJ8_equals_26 : decode cJ8_equals 26 = .ok (.getfield 15, 3) := dk_180 0 15 (dk_at dksJ8_equals_1 4 rfl rfl)
theorem dJ8_equals_29 : decode cJ8_equals 29 = .ok (.aload_n 2, 1) := dk_44 (dk_at dksJ8_equals_1 7 rfl rfl)
theorem dJ8_equals_30 : decode cJ8_equals 30 = .ok (.getfield 15, 3) := dk_180 0 15 (dk_at dksJ8_equals_1 8 rfl rfl)
theorem dJ8_equals_33 : decode cJ8_equals 33 = .ok (.if_icmp .ne 21, 3) := dk_160 0 21 (dk_at dksJ8_equals_1 11 rfl rfl)
theorem dJ8_equals_36 : decode cJ8_equals 36 = .ok (.aload_n 0, 1) := dk_42 (dk_at dksJ8_equals_1 14 rfl rfl)
theorem dJ8_equals_37 : decode cJ8_equals 37 = .ok (.getfield 9, 3) := dk_180 0 9 (dk_at dksJ8_equals_1 15 rfl rfl)
theorem dJ8_equals_40 : decode cJ8_equals 40 = .ok (.aload_n 2, 1) := dk_44 (dk_at dksJ8_equals_1 18 rfl rfl)
theorem dJ8_equals_41 : decode cJ8_equals 41 = .ok (.getfield 9, 3) := dk_180 0 9 (dk_at dksJ8_equals_1 19 rfl rfl)
theorem dJ8_equals_44 : decode cJ8_equals 44 = .ok (.invokestatic 541, 3) := dk_184 2 29 (dk_at dksJ8_equals_2 0 rfl rfl)
theorem dJ8_equals_47 : decode cJ8_equals 47 = .ok (.ifCond .eq 7, 3) := dk_153 0 7 (dk_at dksJ8_equals_2 3 rfl rfl)
theorem dJ8_equals_50 : decode cJ8_equals 50 = .ok (.iconst 1, 1) := dk_4 (dk_at dksJ8_equals_2 6 rfl rfl)
theorem dJ8_equals_51 : decode cJ8_equals 51 = .ok (.goto 4, 3) := dk_167 0 4 (dk_at dksJ8_equals_2 7 rfl rfl)
theorem dJ8_equals_54 : decode cJ8_equals 54 = .ok (.iconst 0, 1) := dk_3 (dk_at dksJ8_equals_2 10 rfl rfl)
theorem dJ8_equals_55 : decode cJ8_equals 55 = .ok (.ireturn, 1) := dk_172 (dk_at dksJ8_equals_2 11 rfl rfl)
abbrev cJ10_hashCode : ByteArray := prog_41_method_21_code
def yJ10_hashCode : MethodName := ⟨RJ10, "hashCode", "([B)I"⟩
def dkwJ10_hashCode_2 : List UInt8 := [3, 167, 0, 22, 42, 3, 51, 17, 0, 255, 126, 167, 0, 12, 42, 3, 42, 190, 3, 7, 184, 0, 84, 172]
abbrev dktJ10_hashCode_2 : List UInt8 := dkwJ10_hashCode_2 ++ []
def dkwJ10_hashCode_1 : List UInt8 := [171, 0, 0, 0, 0, 40, 0, 0, 0, 2, 0, 0, 0, 0, 0, 0, 0, 26, 0, 0, 0, 1, 0, 0, 0, 30]
abbrev dktJ10_hashCode_1 : List UInt8 := dkwJ10_hashCode_1 ++ dktJ10_hashCode_2
def dkwJ10_hashCode_0 : List UInt8 := [42, 190]
abbrev dktJ10_hashCode_0 : List UInt8 := dkwJ10_hashCode_0 ++ dktJ10_hashCode_1
theorem dksJ10_hashCode_0 : cJ10_hashCode.data.toList.drop 0 = dktJ10_hashCode_0 := by decide +kernel
theorem dksJ10_hashCode_1 : cJ10_hashCode.data.toList.drop 2 = dktJ10_hashCode_1 := dk_seg dksJ10_hashCode_0 2 rfl rfl
theorem dksJ10_hashCode_2 : cJ10_hashCode.data.toList.drop 28 = dktJ10_hashCode_2 := dk_seg dksJ10_hashCode_1 26 rfl rfl
theorem dJ10_hashCode_0 : decode cJ10_hashCode 0 = .ok (.aload_n 0, 1) := dk_42 (dk_at dksJ10_hashCode_0 0 rfl rfl)
theorem dJ10_hashCode_1 : decode cJ10_hashCode 1 = .ok (.arraylength, 1) := dk_190 (dk_at dksJ10_hashCode_0 1 rfl rfl)
theorem dJ10_hashCode_2 : decode cJ10_hashCode 2 = .ok (.lookupswitch 40 #[(0, 26), (1, 30)], 26) := by decide +kernel
theorem dJ10_hashCode_28 : decode cJ10_hashCode 28 = .ok (.iconst 0, 1) := dk_3 (dk_at dksJ10_hashCode_2 0 rfl rfl)
theorem dJ10_hashCode_29 : decode cJ10_hashCode 29 = .ok (.goto 22, 3) := dk_167 0 22 (dk_at dksJ10_hashCode_2 1 rfl rfl)
theorem dJ10_hashCode_32 : decode cJ10_hashCode 32 = .ok (.aload_n 0, 1) := dk_42 (dk_at dksJ10_hashCode_2 4 rfl rfl)
theorem dJ10_hashCode_33 : decode cJ10_hashCode 33 = .ok (.iconst 0, 1) := dk_3 (dk_at dksJ10_hashCode_2 5 rfl rfl)
theorem dJ10_hashCode_34 : decode cJ10_hashCode 34 = .ok (.baload, 1) := dk_51 (dk_at dksJ10_hashCode_2 6 rfl rfl)
theorem dJ10_hashCode_35 : decode cJ10_hashCode 35 = .ok (.sipush 255, 3) := dk_17 0 255 (dk_at dksJ10_hashCode_2 7 rfl rfl)
theorem dJ10_hashCode_38 : decode cJ10_hashCode 38 = .ok (.iand, 1) := dk_126 (dk_at dksJ10_hashCode_2 10 rfl rfl)
theorem dJ10_hashCode_39 : decode cJ10_hashCode 39 = .ok (.goto 12, 3) := dk_167 0 12 (dk_at dksJ10_hashCode_2 11 rfl rfl)
theorem dJ10_hashCode_42 : decode cJ10_hashCode 42 = .ok (.aload_n 0, 1) := dk_42 (dk_at dksJ10_hashCode_2 14 rfl rfl)
theorem dJ10_hashCode_43 : decode cJ10_hashCode 43 = .ok (.iconst 0, 1) := dk_3 (dk_at dksJ10_hashCode_2 15 rfl rfl)
theorem dJ10_hashCode_44 : decode cJ10_hashCode 44 = .ok (.aload_n 0, 1) := dk_42 (dk_at dksJ10_hashCode_2 16 rfl rfl)
theorem dJ10_hashCode_45 : decode cJ10_hashCode 45 = .ok (.arraylength, 1) := dk_190 (dk_at dksJ10_hashCode_2 17 rfl rfl)
theorem dJ10_hashCode_46 : decode cJ10_hashCode 46 = .ok (.iconst 0, 1) := dk_3 (dk_at dksJ10_hashCode_2 18 rfl rfl)
theorem dJ10_hashCode_47 : decode cJ10_hashCode 47 = .ok (.iconst 4, 1) := dk_7 (dk_at dksJ10_hashCode_2 19 rfl rfl)
theorem dJ10_hashCode_48 : decode cJ10_hashCode 48 = .ok (.invokestatic 84, 3) := dk_184 0 84 (dk_at dksJ10_hashCode_2 20 rfl rfl)
theorem dJ10_hashCode_51 : decode cJ10_hashCode 51 = .ok (.ireturn, 1) := dk_172 (dk_at dksJ10_hashCode_2 23 rfl rfl)
abbrev cJ10_equals : ByteArray := prog_41_method_13_code
def yJ10_equals : MethodName := ⟨RJ10, "equals", "([B[B)Z"⟩
def dkwJ10_equals_1 : List UInt8 := [3, 172, 132, 2, 1, 167, 255, 236, 4, 172, 3, 172]
abbrev dktJ10_equals_1 : List UInt8 := dkwJ10_equals_1 ++ []
def dkwJ10_equals_0 : List UInt8 := [42, 190, 43, 190, 160, 0, 30, 3, 61, 28, 42, 190, 162, 0, 20, 42, 28, 51, 43, 28, 51, 159, 0, 5]
abbrev dktJ10_equals_0 : List UInt8 := dkwJ10_equals_0 ++ dktJ10_equals_1
theorem dksJ10_equals_0 : cJ10_equals.data.toList.drop 0 = dktJ10_equals_0 := by decide +kernel
theorem dksJ10_equals_1 : cJ10_equals.data.toList.drop 24 = dktJ10_equals_1 := dk_seg dksJ10_equals_0 24 rfl rfl
theorem dJ10_equals_0 : decode cJ10_equals 0 = .ok (.aload_n 0, 1) := dk_42 (dk_at dksJ10_equals_0 0 rfl rfl)
theorem dJ10_equals_1 : decode cJ10_equals 1 = .ok (.arraylength, 1) := dk_190 (dk_at dksJ10_equals_0 1 rfl rfl)
theorem dJ10_equals_2 : decode cJ10_equals 2 = .ok (.aload_n 1, 1) := dk_43 (dk_at dksJ10_equals_0 2 rfl rfl)
theorem dJ10_equals_3 : decode cJ10_equals 3 = .ok (.arraylength, 1) := dk_190 (dk_at dksJ10_equals_0 3 rfl rfl)
theorem dJ10_equals_4 : decode cJ10_equals 4 = .ok (.if_icmp .ne 30, 3) := dk_160 0 30 (dk_at dksJ10_equals_0 4 rfl rfl)
theorem dJ10_equals_7 : decode cJ10_equals 7 = .ok (.iconst 0, 1) := dk_3 (dk_at dksJ10_equals_0 7 rfl rfl)
theorem dJ10_equals_8 : decode cJ10_equals 8 = .ok (.istore_n 2, 1) := dk_61 (dk_at dksJ10_equals_0 8 rfl rfl)
theorem dJ10_equals_9 : decode cJ10_equals 9 = .ok (.iload_n 2, 1) := dk_28 (dk_at dksJ10_equals_0 9 rfl rfl)
theorem dJ10_equals_10 : decode cJ10_equals 10 = .ok (.aload_n 0, 1) := dk_42 (dk_at dksJ10_equals_0 10 rfl rfl)
theorem dJ10_equals_11 : decode cJ10_equals 11 = .ok (.arraylength, 1) := dk_190 (dk_at dksJ10_equals_0 11 rfl rfl)
theorem dJ10_equals_12 : decode cJ10_equals 12 = .ok (.if_icmp .ge 20, 3) := dk_162 0 20 (dk_at dksJ10_equals_0 12 rfl rfl)
theorem dJ10_equals_15 : decode cJ10_equals 15 = .ok (.aload_n 0, 1) := dk_42 (dk_at dksJ10_equals_0 15 rfl rfl)
theorem dJ10_equals_16 : decode cJ10_equals 16 = .ok (.iload_n 2, 1) := dk_28 (dk_at dksJ10_equals_0 16 rfl rfl)
theorem dJ10_equals_17 : decode cJ10_equals 17 = .ok (.baload, 1) := dk_51 (dk_at dksJ10_equals_0 17 rfl rfl)
theorem dJ10_equals_18 : decode cJ10_equals 18 = .ok (.aload_n 1, 1) := dk_43 (dk_at dksJ10_equals_0 18 rfl rfl)
theorem dJ10_equals_19 : decode cJ10_equals 19 = .ok (.iload_n 2, 1) := dk_28 (dk_at dksJ10_equals_0 19 rfl rfl)
theorem dJ10_equals_20 : decode cJ10_equals 20 = .ok (.baload, 1) := dk_51 (dk_at dksJ10_equals_0 20 rfl rfl)
theorem dJ10_equals_21 : decode cJ10_equals 21 = .ok (.if_icmp .eq 5, 3) := dk_159 0 5 (dk_at dksJ10_equals_0 21 rfl rfl)
theorem dJ10_equals_24 : decode cJ10_equals 24 = .ok (.iconst 0, 1) := dk_3 (dk_at dksJ10_equals_1 0 rfl rfl)
theorem dJ10_equals_25 : decode cJ10_equals 25 = .ok (.ireturn, 1) := dk_172 (dk_at dksJ10_equals_1 1 rfl rfl)
theorem dJ10_equals_26 : decode cJ10_equals 26 = .ok (.iinc 2 1, 3) := dk_132 2 1 (dk_at dksJ10_equals_1 2 rfl rfl)
theorem dJ10_equals_29 : decode cJ10_equals 29 = .ok (.goto (-20), 3) := dk_167 255 236 (dk_at dksJ10_equals_1 5 rfl rfl)
theorem dJ10_equals_32 : decode cJ10_equals 32 = .ok (.iconst 1, 1) := dk_4 (dk_at dksJ10_equals_1 8 rfl rfl)
theorem dJ10_equals_33 : decode cJ10_equals 33 = .ok (.ireturn, 1) := dk_172 (dk_at dksJ10_equals_1 9 rfl rfl)
theorem dJ10_equals_34 : decode cJ10_equals 34 = .ok (.iconst 0, 1) := dk_3 (dk_at dksJ10_equals_1 10 rfl rfl)
theorem dJ10_equals_35 : decode cJ10_equals 35 = .ok (.ireturn, 1) := dk_172 (dk_at dksJ10_equals_1 11 rfl rfl)
abbrev cJ12_init_3 : ByteArray := prog_45_method_5_code
def yJ12_init_3 : MethodName := ⟨RJ12, "<init>", "(Ljava/lang/String;Ljava/lang/Throwable;ZZ)V"⟩
def dkwJ12_init_3_2 : List UInt8 := [44, 181, 0, 7, 29, 154, 0, 8, 42, 1, 181, 0, 24, 177]
abbrev dktJ12_init_3_2 : List UInt8 := dkwJ12_init_3_2 ++ []
def dkwJ12_init_3_1 : List UInt8 := [21, 4, 153, 0, 11, 42, 182, 0, 27, 87, 167, 0, 8, 42, 1, 181, 0, 17, 42, 43, 181, 0, 31, 42]
abbrev dktJ12_init_3_1 : List UInt8 := dkwJ12_init_3_1 ++ dktJ12_init_3_2
def dkwJ12_init_3_0 : List UInt8 := [42, 183, 0, 1, 42, 42, 181, 0, 7, 42, 178, 0, 13, 181, 0, 17, 42, 178, 0, 20, 181, 0, 24]
abbrev dktJ12_init_3_0 : List UInt8 := dkwJ12_init_3_0 ++ dktJ12_init_3_1
theorem dksJ12_init_3_0 : cJ12_init_3.data.toList.drop 0 = dktJ12_init_3_0 := by decide +kernel
theorem dksJ12_init_3_1 : cJ12_init_3.data.toList.drop 23 = dktJ12_init_3_1 := dk_seg dksJ12_init_3_0 23 rfl rfl
theorem dksJ12_init_3_2 : cJ12_init_3.data.toList.drop 47 = dktJ12_init_3_2 := dk_seg dksJ12_init_3_1 24 rfl rfl
theorem dJ12_init_3_0 : decode cJ12_init_3 0 = .ok (.aload_n 0, 1) := dk_42 (dk_at dksJ12_init_3_0 0 rfl rfl)
theorem dJ12_init_3_1 : decode cJ12_init_3 1 = .ok (.invokespecial 1, 3) := dk_183 0 1 (dk_at dksJ12_init_3_0 1 rfl rfl)
theorem dJ12_init_3_4 : decode cJ12_init_3 4 = .ok (.aload_n 0, 1) := dk_42 (dk_at dksJ12_init_3_0 4 rfl rfl)
theorem dJ12_init_3_5 : decode cJ12_init_3 5 = .ok (.aload_n 0, 1) := dk_42 (dk_at dksJ12_init_3_0 5 rfl rfl)
theorem dJ12_init_3_6 : decode cJ12_init_3 6 = .ok (.putfield 7, 3) := dk_181 0 7 (dk_at dksJ12_init_3_0 6 rfl rfl)
theorem dJ12_init_3_9 : decode cJ12_init_3 9 = .ok (.aload_n 0, 1) := dk_42 (dk_at dksJ12_init_3_0 9 rfl rfl)
theorem dJ12_init_3_10 : decode cJ12_init_3 10 = .ok (.getstatic 13, 3) := dk_178 0 13 (dk_at dksJ12_init_3_0 10 rfl rfl)
theorem dJ12_init_3_13 : decode cJ12_init_3 13 = .ok (.putfield 17, 3) := dk_181 0 17 (dk_at dksJ12_init_3_0 13 rfl rfl)
theorem dJ12_init_3_16 : decode cJ12_init_3 16 = .ok (.aload_n 0, 1) := dk_42 (dk_at dksJ12_init_3_0 16 rfl rfl)
theorem dJ12_init_3_17 : decode cJ12_init_3 17 = .ok (.getstatic 20, 3) := dk_178 0 20 (dk_at dksJ12_init_3_0 17 rfl rfl)
theorem dJ12_init_3_20 : decode cJ12_init_3 20 = .ok (.putfield 24, 3) := dk_181 0 24 (dk_at dksJ12_init_3_0 20 rfl rfl)
theorem dJ12_init_3_23 : decode cJ12_init_3 23 = .ok (.iload 4, 2) := dk_21 4 (dk_at dksJ12_init_3_1 0 rfl rfl)
theorem dJ12_init_3_25 : decode cJ12_init_3 25 = .ok (.ifCond .eq 11, 3) := dk_153 0 11 (dk_at dksJ12_init_3_1 2 rfl rfl)
theorem dJ12_init_3_28 : decode cJ12_init_3 28 = .ok (.aload_n 0, 1) := dk_42 (dk_at dksJ12_init_3_1 5 rfl rfl)
theorem dJ12_init_3_29 : decode cJ12_init_3 29 = .ok (.invokevirtual 27, 3) := dk_182 0 27 (dk_at dksJ12_init_3_1 6 rfl rfl)
theorem dJ12_init_3_32 : decode cJ12_init_3 32 = .ok (.pop, 1) := dk_87 (dk_at dksJ12_init_3_1 9 rfl rfl)
theorem dJ12_init_3_33 : decode cJ12_init_3 33 = .ok (.goto 8, 3) := dk_167 0 8 (dk_at dksJ12_init_3_1 10 rfl rfl)
theorem dJ12_init_3_36 : decode cJ12_init_3 36 = .ok (.aload_n 0, 1) := dk_42 (dk_at dksJ12_init_3_1 13 rfl rfl)
theorem dJ12_init_3_37 : decode cJ12_init_3 37 = .ok (.aconst_null, 1) := dk_1 (dk_at dksJ12_init_3_1 14 rfl rfl)
theorem dJ12_init_3_38 : decode cJ12_init_3 38 = .ok (.putfield 17, 3) := dk_181 0 17 (dk_at dksJ12_init_3_1 15 rfl rfl)
theorem dJ12_init_3_41 : decode cJ12_init_3 41 = .ok (.aload_n 0, 1) := dk_42 (dk_at dksJ12_init_3_1 18 rfl rfl)
theorem dJ12_init_3_42 : decode cJ12_init_3 42 = .ok (.aload_n 1, 1) := dk_43 (dk_at dksJ12_init_3_1 19 rfl rfl)
theorem dJ12_init_3_43 : decode cJ12_init_3 43 = .ok (.putfield 31, 3) := dk_181 0 31 (dk_at dksJ12_init_3_1 20 rfl rfl)
theorem dJ12_init_3_46 : decode cJ12_init_3 46 = .ok (.aload_n 0, 1) := dk_42 (dk_at dksJ12_init_3_1 23 rfl rfl)
theorem dJ12_init_3_47 : decode cJ12_init_3 47 = .ok (.aload_n 2, 1) := dk_44 (dk_at dksJ12_init_3_2 0 rfl rfl)
theorem dJ12_init_3_48 : decode cJ12_init_3 48 = .ok (.putfield 7, 3) := dk_181 0 7 (dk_at dksJ12_init_3_2 1 rfl rfl)
theorem dJ12_init_3_51 : decode cJ12_init_3 51 = .ok (.iload_n 3, 1) := dk_29 (dk_at dksJ12_init_3_2 4 rfl rfl)
theorem dJ12_init_3_52 : decode cJ12_init_3 52 = .ok (.ifCond .ne 8, 3) := dk_154 0 8 (dk_at dksJ12_init_3_2 5 rfl rfl)
theorem dJ12_init_3_55 : decode cJ12_init_3 55 = .ok (.aload_n 0, 1) := dk_42 (dk_at dksJ12_init_3_2 8 rfl rfl)
theorem dJ12_init_3_56 : decode cJ12_init_3 56 = .ok (.aconst_null, 1) := dk_1 (dk_at dksJ12_init_3_2 9 rfl rfl)
theorem dJ12_init_3_57 : decode cJ12_init_3 57 = .ok (.putfield 24, 3) := dk_181 0 24 (dk_at dksJ12_init_3_2 10 rfl rfl)
theorem dJ12_init_3_60 : decode cJ12_init_3 60 = .ok (.return_, 1) := dk_177 (dk_at dksJ12_init_3_2 13 rfl rfl)
abbrev cJ13_init_3 : ByteArray := prog_30_method_1_code
def yJ13_init_3 : MethodName := ⟨RJ13, "<init>", "()V"⟩
theorem dJ13_init_3_0 : decode cJ13_init_3 0 = .ok (.aload_n 0, 1) := by decide +kernel
theorem dJ13_init_3_1 : decode cJ13_init_3 1 = .ok (.invokespecial 1, 3) := by decide +kernel
theorem dJ13_init_3_4 : decode cJ13_init_3 4 = .ok (.return_, 1) := by decide +kernel
abbrev cJ16_signum : ByteArray := prog_34_method_56_code
def yJ16_signum : MethodName := ⟨RJ16, "signum", "(I)I"⟩
def dkwJ16_signum_0 : List UInt8 := [26, 16, 31, 122, 26, 116, 16, 31, 124, 128, 172]
abbrev dktJ16_signum_0 : List UInt8 := dkwJ16_signum_0 ++ []
theorem dksJ16_signum_0 : cJ16_signum.data.toList.drop 0 = dktJ16_signum_0 := by decide +kernel
theorem dJ16_signum_0 : decode cJ16_signum 0 = .ok (.iload_n 0, 1) := dk_26 (dk_at dksJ16_signum_0 0 rfl rfl)
theorem dJ16_signum_1 : decode cJ16_signum 1 = .ok (.bipush 31, 2) := dk_16 31 (dk_at dksJ16_signum_0 1 rfl rfl)
theorem dJ16_signum_3 : decode cJ16_signum 3 = .ok (.ishr, 1) := dk_122 (dk_at dksJ16_signum_0 3 rfl rfl)
theorem dJ16_signum_4 : decode cJ16_signum 4 = .ok (.iload_n 0, 1) := dk_26 (dk_at dksJ16_signum_0 4 rfl rfl)
theorem dJ16_signum_5 : decode cJ16_signum 5 = .ok (.ineg, 1) := dk_116 (dk_at dksJ16_signum_0 5 rfl rfl)
theorem dJ16_signum_6 : decode cJ16_signum 6 = .ok (.bipush 31, 2) := dk_16 31 (dk_at dksJ16_signum_0 6 rfl rfl)
theorem dJ16_signum_8 : decode cJ16_signum 8 = .ok (.iushr, 1) := dk_124 (dk_at dksJ16_signum_0 8 rfl rfl)
theorem dJ16_signum_9 : decode cJ16_signum 9 = .ok (.ior, 1) := dk_128 (dk_at dksJ16_signum_0 9 rfl rfl)
theorem dJ16_signum_10 : decode cJ16_signum 10 = .ok (.ireturn, 1) := dk_172 (dk_at dksJ16_signum_0 10 rfl rfl)
abbrev cJ18_ordinal : ByteArray := prog_29_method_2_code
def yJ18_ordinal : MethodName := ⟨RJ18, "ordinal", "()I"⟩
theorem dJ18_ordinal_0 : decode cJ18_ordinal 0 = .ok (.aload_n 0, 1) := by decide +kernel
theorem dJ18_ordinal_1 : decode cJ18_ordinal 1 = .ok (.getfield 7, 3) := by decide +kernel
theorem dJ18_ordinal_4 : decode cJ18_ordinal 4 = .ok (.ireturn, 1) := by decide +kernel
abbrev cJ22_checkIndex : ByteArray := prog_56_method_17_code
def yJ22_checkIndex : MethodName := ⟨RJ22, "checkIndex", "(II)I"⟩
def dkwJ22_checkIndex_0 : List UInt8 := [26, 27, 1, 184, 0, 105, 172]
abbrev dktJ22_checkIndex_0 : List UInt8 := dkwJ22_checkIndex_0 ++ []
theorem dksJ22_checkIndex_0 : cJ22_checkIndex.data.toList.drop 0 = dktJ22_checkIndex_0 := by decide +kernel
theorem dJ22_checkIndex_0 : decode cJ22_checkIndex 0 = .ok (.iload_n 0, 1) := dk_26 (dk_at dksJ22_checkIndex_0 0 rfl rfl)
theorem dJ22_checkIndex_1 : decode cJ22_checkIndex 1 = .ok (.iload_n 1, 1) := dk_27 (dk_at dksJ22_checkIndex_0 1 rfl rfl)
theorem dJ22_checkIndex_2 : decode cJ22_checkIndex 2 = .ok (.aconst_null, 1) := dk_1 (dk_at dksJ22_checkIndex_0 2 rfl rfl)
theorem dJ22_checkIndex_3 : decode cJ22_checkIndex 3 = .ok (.invokestatic 105, 3) := dk_184 0 105 (dk_at dksJ22_checkIndex_0 3 rfl rfl)
theorem dJ22_checkIndex_6 : decode cJ22_checkIndex 6 = .ok (.ireturn, 1) := dk_172 (dk_at dksJ22_checkIndex_0 6 rfl rfl)
