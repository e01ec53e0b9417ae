/-! decode rows of the model's class -/
set_option maxRecDepth 100000
def mm_rm (d : Nat) (c : Nat) (s : Nat) : Room := { frames := d, cells := c, slots := s, locals := 48 * d }
abbrev cX9_init : ByteArray := prog_21_method_1_code
def yX9_init : MethodName := ⟨RX9, "<init>", "()V"⟩
def dkwX9_init_9 : List UInt8 := [17, 0, 199, 2, 79, 42, 180, 0, 7, 17, 0, 200, 2, 79, 177]
abbrev dktX9_init_9 : List UInt8 := dkwX9_init_9 ++ []
def dkwX9_init_8 : List UInt8 := [16, 50, 79, 132, 1, 1, 167, 255, 219, 42, 180, 0, 7, 17, 0, 194, 4, 79, 42, 180, 0, 7]
abbrev dktX9_init_8 : List UInt8 := dkwX9_init_8 ++ dktX9_init_9
def dkwX9_init_7 : List UInt8 := [180, 0, 7, 3, 16, 12, 27, 104, 96, 16, 50, 79, 42, 180, 0, 7, 3, 16, 12, 27, 104, 96, 4, 96]
abbrev dktX9_init_7 : List UInt8 := dkwX9_init_7 ++ dktX9_init_8
def dkwX9_init_6 : List UInt8 := [188, 11, 181, 0, 61, 42, 18, 60, 188, 11, 181, 0, 64, 3, 60, 27, 16, 16, 162, 0, 37, 42]
abbrev dktX9_init_6 : List UInt8 := dkwX9_init_6 ++ dktX9_init_7
def dkwX9_init_5 : List UInt8 := [181, 0, 51, 42, 17, 15, 160, 188, 10, 181, 0, 54, 42, 17, 15, 160, 188, 10, 181, 0, 57, 42, 18, 60]
abbrev dktX9_init_5 : List UInt8 := dkwX9_init_5 ++ dktX9_init_6
def dkwX9_init_4 : List UInt8 := [181, 0, 41, 42, 17, 60, 128, 188, 10, 181, 0, 44, 42, 16, 8, 188, 11, 181, 0, 47, 42, 7, 188, 11]
abbrev dktX9_init_4 : List UInt8 := dkwX9_init_4 ++ dktX9_init_5
def dkwX9_init_3 : List UInt8 := [17, 60, 128, 188, 10, 181, 0, 35, 42, 17, 60, 128, 188, 10, 181, 0, 38, 42, 17, 60, 128, 188, 10]
abbrev dktX9_init_3 : List UInt8 := dkwX9_init_3 ++ dktX9_init_4
def dkwX9_init_2 : List UInt8 := [188, 10, 181, 0, 26, 42, 16, 9, 188, 10, 181, 0, 29, 42, 17, 121, 0, 188, 10, 181, 0, 32, 42]
abbrev dktX9_init_2 : List UInt8 := dkwX9_init_2 ++ dktX9_init_3
def dkwX9_init_1 : List UInt8 := [17, 0, 201, 188, 10, 181, 0, 16, 42, 17, 1, 144, 188, 10, 181, 0, 19, 42, 2, 181, 0, 22, 42, 8]
abbrev dktX9_init_1 : List UInt8 := dkwX9_init_1 ++ dktX9_init_2
def dkwX9_init_0 : List UInt8 := [42, 183, 0, 1, 42, 17, 10, 56, 188, 10, 181, 0, 7, 42, 17, 10, 56, 188, 10, 181, 0, 13, 42]
abbrev dktX9_init_0 : List UInt8 := dkwX9_init_0 ++ dktX9_init_1
theorem dksX9_init_0 : cX9_init.data.toList.drop 0 = dktX9_init_0 := by decide +kernel
theorem dksX9_init_1 : cX9_init.data.toList.drop 23 = dktX9_init_1 := dk_seg dksX9_init_0 23 rfl rfl
theorem dksX9_init_2 : cX9_init.data.toList.drop 47 = dktX9_init_2 := dk_seg dksX9_init_1 24 rfl rfl
theorem dksX9_init_3 : cX9_init.data.toList.drop 70 = dktX9_init_3 := dk_seg dksX9_init_2 23 rfl rfl
theorem dksX9_init_4 : cX9_init.data.toList.drop 93 = dktX9_init_4 := dk_seg dksX9_init_3 23 rfl rfl
theorem dksX9_init_5 : cX9_init.data.toList.drop 117 = dktX9_init_5 := dk_seg dksX9_init_4 24 rfl rfl
theorem dksX9_init_6 : cX9_init.data.toList.drop 141 = dktX9_init_6 := dk_seg dksX9_init_5 24 rfl rfl
theorem dksX9_init_7 : cX9_init.data.toList.drop 163 = dktX9_init_7 := dk_seg dksX9_init_6 22 rfl rfl
theorem dksX9_init_8 : cX9_init.data.toList.drop 187 = dktX9_init_8 := dk_seg dksX9_init_7 24 rfl rfl
theorem dksX9_init_9 : cX9_init.data.toList.drop 209 = dktX9_init_9 := dk_seg dksX9_init_8 22 rfl rfl
theorem dX9_init_0 : decode cX9_init 0 = .ok (.aload_n 0, 1) := dk_42 (dk_at dksX9_init_0 0 rfl rfl)
theorem dX9_init_1 : decode cX9_init 1 = .ok (.invokespecial 1, 3) := dk_183 0 1 (dk_at dksX9_init_0 1 rfl rfl)
theorem dX9_init_4 : decode cX9_init 4 = .ok (.aload_n 0, 1) := dk_42 (dk_at dksX9_init_0 4 rfl rfl)
theorem dX9_init_5 : decode cX9_init 5 = .ok (.sipush 2616, 3) := dk_17 10 56 (dk_at dksX9_init_0 5 rfl rfl)
theorem dX9_init_8 : decode cX9_init 8 = .ok (.newarray .int, 2) := dk_188_10 (dk_at dksX9_init_0 8 rfl rfl)
theorem dX9_init_10 : decode cX9_init 10 = .ok (.putfield 7, 3) := dk_181 0 7 (dk_at dksX9_init_0 10 rfl rfl)
theorem dX9_init_13 : decode cX9_init 13 = .ok (.aload_n 0, 1) := dk_42 (dk_at dksX9_init_0 13 rfl rfl)
theorem dX9_init_14 : decode cX9_init 14 = .ok (.sipush 2616, 3) := dk_17 10 56 (dk_at dksX9_init_0 14 rfl rfl)
theorem dX9_init_17 : decode cX9_init 17 = .ok (.newarray .int, 2) := dk_188_10 (dk_at dksX9_init_0 17 rfl rfl)
theorem dX9_init_19 : decode cX9_init 19 = .ok (.putfield 13, 3) := dk_181 0 13 (dk_at dksX9_init_0 19 rfl rfl)
theorem dX9_init_22 : decode cX9_init 22 = .ok (.aload_n 0, 1) := dk_42 (dk_at dksX9_init_0 22 rfl rfl)
theorem dX9_init_23 : decode cX9_init 23 = .ok (.sipush 201, 3) := dk_17 0 201 (dk_at dksX9_init_1 0 rfl rfl)
theorem dX9_init_26 : decode cX9_init 26 = .ok (.newarray .int, 2) := dk_188_10 (dk_at dksX9_init_1 3 rfl rfl)
theorem dX9_init_28 : decode cX9_init 28 = .ok (.putfield 16, 3) := dk_181 0 16 (dk_at dksX9_init_1 5 rfl rfl)
theorem dX9_init_31 : decode cX9_init 31 = .ok (.aload_n 0, 1) := dk_42 (dk_at dksX9_init_1 8 rfl rfl)
theorem dX9_init_32 : decode cX9_init 32 = .ok (.sipush 400, 3) := dk_17 1 144 (dk_at dksX9_init_1 9 rfl rfl)
theorem dX9_init_35 : decode cX9_init 35 = .ok (.newarray .int, 2) := dk_188_10 (dk_at dksX9_init_1 12 rfl rfl)
theorem dX9_init_37 : decode cX9_init 37 = .ok (.putfield 19, 3) := dk_181 0 19 (dk_at dksX9_init_1 14 rfl rfl)
theorem dX9_init_40 : decode cX9_init 40 = .ok (.aload_n 0, 1) := dk_42 (dk_at dksX9_init_1 17 rfl rfl)
theorem dX9_init_41 : decode cX9_init 41 = .ok (.iconst (-1), 1) := dk_2 (dk_at dksX9_init_1 18 rfl rfl)
theorem dX9_init_42 : decode cX9_init 42 = .ok (.putfield 22, 3) := dk_181 0 22 (dk_at dksX9_init_1 19 rfl rfl)
theorem dX9_init_45 : decode cX9_init 45 = .ok (.aload_n 0, 1) := dk_42 (dk_at dksX9_init_1 22 rfl rfl)
theorem dX9_init_46 : decode cX9_init 46 = .ok (.iconst 5, 1) := dk_8 (dk_at dksX9_init_1 23 rfl rfl)
theorem dX9_init_47 : decode cX9_init 47 = .ok (.newarray .int, 2) := dk_188_10 (dk_at dksX9_init_2 0 rfl rfl)
theorem dX9_init_49 : decode cX9_init 49 = .ok (.putfield 26, 3) := dk_181 0 26 (dk_at dksX9_init_2 2 rfl rfl)
theorem dX9_init_52 : decode cX9_init 52 = .ok (.aload_n 0, 1) := dk_42 (dk_at dksX9_init_2 5 rfl rfl)
theorem dX9_init_53 : decode cX9_init 53 = .ok (.bipush 9, 2) := dk_16 9 (dk_at dksX9_init_2 6 rfl rfl)
theorem dX9_init_55 : decode cX9_init 55 = .ok (.newarray .int, 2) := dk_188_10 (dk_at dksX9_init_2 8 rfl rfl)
theorem dX9_init_57 : decode cX9_init 57 = .ok (.putfield 29, 3) := dk_181 0 29 (dk_at dksX9_init_2 10 rfl rfl)
theorem dX9_init_60 : decode cX9_init 60 = .ok (.aload_n 0, 1) := dk_42 (dk_at dksX9_init_2 13 rfl rfl)
theorem dX9_init_61 : decode cX9_init 61 = .ok (.sipush 30976, 3) := dk_17 121 0 (dk_at dksX9_init_2 14 rfl rfl)
theorem dX9_init_64 : decode cX9_init 64 = .ok (.newarray .int, 2) := dk_188_10 (dk_at dksX9_init_2 17 rfl rfl)
theorem dX9_init_66 : decode cX9_init 66 = .ok (.putfield 32, 3) := dk_181 0 32 (dk_at dksX9_init_2 19 rfl rfl)
theorem dX9_init_69 : decode cX9_init 69 = .ok (.aload_n 0, 1) := dk_42 (dk_at dksX9_init_2 22 rfl rfl)
theorem dX9_init_70 : decode cX9_init 70 = .ok (.sipush 15488, 3) := dk_17 60 128 (dk_at dksX9_init_3 0 rfl rfl)
theorem dX9_init_73 : decode cX9_init 73 = .ok (.newarray .int, 2) := dk_188_10 (dk_at dksX9_init_3 3 rfl rfl)
theorem dX9_init_75 : decode cX9_init 75 = .ok (.putfield 35, 3) := dk_181 0 35 (dk_at dksX9_init_3 5 rfl rfl)
theorem dX9_init_78 : decode cX9_init 78 = .ok (.aload_n 0, 1) := dk_42 (dk_at dksX9_init_3 8 rfl rfl)
theorem dX9_init_79 : decode cX9_init 79 = .ok (.sipush 15488, 3) := dk_17 60 128 (dk_at dksX9_init_3 9 rfl rfl)
theorem dX9_init_82 : decode cX9_init 82 = .ok (.newarray .int, 2) := dk_188_10 (dk_at dksX9_init_3 12 rfl rfl)
theorem dX9_init_84 : decode cX9_init 84 = .ok (.putfield 38, 3) := dk_181 0 38 (dk_at dksX9_init_3 14 rfl rfl)
theorem dX9_init_87 : decode cX9_init 87 = .ok (.aload_n 0, 1) := dk_42 (dk_at dksX9_init_3 17 rfl rfl)
theorem dX9_init_88 : decode cX9_init 88 = .ok (.sipush 15488, 3) := dk_17 60 128 (dk_at dksX9_init_3 18 rfl rfl)
theorem dX9_init_91 : decode cX9_init 91 = .ok (.newarray .int, 2) := dk_188_10 (dk_at dksX9_init_3 21 rfl rfl)
theorem dX9_init_93 : decode cX9_init 93 = .ok (.putfield 41, 3) := dk_181 0 41 (dk_at dksX9_init_4 0 rfl rfl)
theorem dX9_init_96 : decode cX9_init 96 = .ok (.aload_n 0, 1) := dk_42 (dk_at dksX9_init_4 3 rfl rfl)
theorem dX9_init_97 : decode cX9_init 97 = .ok (.sipush 15488, 3) := dk_17 60 128 (dk_at dksX9_init_4 4 rfl rfl)
theorem dX9_init_100 : decode cX9_init 100 = .ok (.newarray .int, 2) := dk_188_10 (dk_at dksX9_init_4 7 rfl rfl)
theorem dX9_init_102 : decode cX9_init 102 = .ok (.putfield 44, 3) := dk_181 0 44 (dk_at dksX9_init_4 9 rfl rfl)
theorem dX9_init_105 : decode cX9_init 105 = .ok (.aload_n 0, 1) := dk_42 (dk_at dksX9_init_4 12 rfl rfl)
theorem dX9_init_106 : decode cX9_init 106 = .ok (.bipush 8, 2) := dk_16 8 (dk_at dksX9_init_4 13 rfl rfl)
theorem dX9_init_108 : decode cX9_init 108 = .ok (.newarray .long, 2) := dk_188_11 (dk_at dksX9_init_4 15 rfl rfl)
theorem dX9_init_110 : decode cX9_init 110 = .ok (.putfield 47, 3) := dk_181 0 47 (dk_at dksX9_init_4 17 rfl rfl)
theorem dX9_init_113 : decode cX9_init 113 = .ok (.aload_n 0, 1) := dk_42 (dk_at dksX9_init_4 20 rfl rfl)
theorem dX9_init_114 : decode cX9_init 114 = .ok (.iconst 4, 1) := dk_7 (dk_at dksX9_init_4 21 rfl rfl)
theorem dX9_init_115 : decode cX9_init 115 = .ok (.newarray .long, 2) := dk_188_11 (dk_at dksX9_init_4 22 rfl rfl)
theorem dX9_init_117 : decode cX9_init 117 = .ok (.putfield 51, 3) := dk_181 0 51 (dk_at dksX9_init_5 0 rfl rfl)
theorem dX9_init_120 : decode cX9_init 120 = .ok (.aload_n 0, 1) := dk_42 (dk_at dksX9_init_5 3 rfl rfl)
theorem dX9_init_121 : decode cX9_init 121 = .ok (.sipush 4000, 3) := dk_17 15 160 (dk_at dksX9_init_5 4 rfl rfl)
theorem dX9_init_124 : decode cX9_init 124 = .ok (.newarray .int, 2) := dk_188_10 (dk_at dksX9_init_5 7 rfl rfl)
theorem dX9_init_126 : decode cX9_init 126 = .ok (.putfield 54, 3) := dk_181 0 54 (dk_at dksX9_init_5 9 rfl rfl)
theorem dX9_init_129 : decode cX9_init 129 = .ok (.aload_n 0, 1) := dk_42 (dk_at dksX9_init_5 12 rfl rfl)
theorem dX9_init_130 : decode cX9_init 130 = .ok (.sipush 4000, 3) := dk_17 15 160 (dk_at dksX9_init_5 13 rfl rfl)
theorem dX9_init_133 : decode cX9_init 133 = .ok (.newarray .int, 2) := dk_188_10 (dk_at dksX9_init_5 16 rfl rfl)
theorem dX9_init_135 : decode cX9_init 135 = .ok (.putfield 57, 3) := dk_181 0 57 (dk_at dksX9_init_5 18 rfl rfl)
theorem dX9_init_138 : decode cX9_init 138 = .ok (.aload_n 0, 1) := dk_42 (dk_at dksX9_init_5 21 rfl rfl)
theorem dX9_init_139 : decode cX9_init 139 = .ok (.ldc 60, 2) := dk_18 60 (dk_at dksX9_init_5 22 rfl rfl)
theorem dX9_init_141 : decode cX9_init 141 = .ok (.newarray .long, 2) := dk_188_11 (dk_at dksX9_init_6 0 rfl rfl)
theorem dX9_init_143 : decode cX9_init 143 = .ok (.putfield 61, 3) := dk_181 0 61 (dk_at dksX9_init_6 2 rfl rfl)
theorem dX9_init_146 : decode cX9_init 146 = .ok (.aload_n 0, 1) := dk_42 (dk_at dksX9_init_6 5 rfl rfl)
theorem dX9_init_147 : decode cX9_init 147 = .ok (.ldc 60, 2) := dk_18 60 (dk_at dksX9_init_6 6 rfl rfl)
theorem dX9_init_149 : decode cX9_init 149 = .ok (.newarray .long, 2) := dk_188_11 (dk_at dksX9_init_6 8 rfl rfl)
theorem dX9_init_151 : decode cX9_init 151 = .ok (.putfield 64, 3) := dk_181 0 64 (dk_at dksX9_init_6 10 rfl rfl)
theorem dX9_init_154 : decode cX9_init 154 = .ok (.iconst 0, 1) := dk_3 (dk_at dksX9_init_6 13 rfl rfl)
theorem dX9_init_155 : decode cX9_init 155 = .ok (.istore_n 1, 1) := dk_60 (dk_at dksX9_init_6 14 rfl rfl)
theorem dX9_init_156 : decode cX9_init 156 = .ok (.iload_n 1, 1) := dk_27 (dk_at dksX9_init_6 15 rfl rfl)
theorem dX9_init_157 : decode cX9_init 157 = .ok (.bipush 16, 2) := dk_16 16 (dk_at dksX9_init_6 16 rfl rfl)
theorem dX9_init_159 : decode cX9_init 159 = .ok (.if_icmp .ge 37, 3) := dk_162 0 37 (dk_at dksX9_init_6 18 rfl rfl)
theorem dX9_init_162 : decode cX9_init 162 = .ok (.aload_n 0, 1) := dk_42 (dk_at dksX9_init_6 21 rfl rfl)
theorem dX9_init_163 : decode cX9_init 163 = .ok (.getfield 7, 3) := dk_180 0 7 (dk_at dksX9_init_7 0 rfl rfl)
theorem dX9_init_166 : decode cX9_init 166 = .ok (.iconst 0, 1) := dk_3 (dk_at dksX9_init_7 3 rfl rfl)
theorem dX9_init_167 : decode cX9_init 167 = .ok (.bipush 12, 2) := dk_16 12 (dk_at dksX9_init_7 4 rfl rfl)
theorem dX9_init_169 : decode cX9_init 169 = .ok (.iload_n 1, 1) := dk_27 (dk_at dksX9_init_7 6 rfl rfl)
theorem dX9_init_170 : decode cX9_init 170 = .ok (.imul, 1) := dk_104 (dk_at dksX9_init_7 7 rfl rfl)
theorem dX9_init_171 : decode cX9_init 171 = .ok (.iadd, 1) := dk_96 (dk_at dksX9_init_7 8 rfl rfl)
theorem dX9_init_172 : decode cX9_init 172 = .ok (.bipush 50, 2) := dk_16 50 (dk_at dksX9_init_7 9 rfl rfl)
theorem dX9_init_174 : decode cX9_init 174 = .ok (.iastore, 1) := dk_79 (dk_at dksX9_init_7 11 rfl rfl)
theorem dX9_init_175 : decode cX9_init 175 = .ok (.aload_n 0, 1) := dk_42 (dk_at dksX9_init_7 12 rfl rfl)
theorem dX9_init_176 : decode cX9_init 176 = .ok (.getfield 7, 3) := dk_180 0 7 (dk_at dksX9_init_7 13 rfl rfl)
theorem dX9_init_179 : decode cX9_init 179 = .ok (.iconst 0, 1) := dk_3 (dk_at dksX9_init_7 16 rfl rfl)
theorem dX9_init_180 : decode cX9_init 180 = .ok (.bipush 12, 2) := dk_16 12 (dk_at dksX9_init_7 17 rfl rfl)
theorem dX9_init_182 : decode cX9_init 182 = .ok (.iload_n 1, 1) := dk_27 (dk_at dksX9_init_7 19 rfl rfl)
theorem dX9_init_183 : decode cX9_init 183 = .ok (.imul, 1) := dk_104 (dk_at dksX9_init_7 20 rfl rfl)
theorem dX9_init_184 : decode cX9_init 184 = .ok (.iadd, 1) := dk_96 (dk_at dksX9_init_7 21 rfl rfl)
theorem dX9_init_185 : decode cX9_init 185 = .ok (.iconst 1, 1) := dk_4 (dk_at dksX9_init_7 22 rfl rfl)
theorem dX9_init_186 : decode cX9_init 186 = .ok (.iadd, 1) := dk_96 (dk_at dksX9_init_7 23 rfl rfl)
theorem dX9_init_187 : decode cX9_init 187 = .ok (.bipush 50, 2) := dk_16 50 (dk_at dksX9_init_8 0 rfl rfl)
theorem dX9_init_189 : decode cX9_init 189 = .ok (.iastore, 1) := dk_79 (dk_at dksX9_init_8 2 rfl rfl)
theorem dX9_init_190 : decode cX9_init 190 = .ok (.iinc 1 1, 3) := dk_132 1 1 (dk_at dksX9_init_8 3 rfl rfl)
theorem dX9_init_193 : decode cX9_init 193 = .ok (.goto (-37), 3) := dk_167 255 219 (dk_at dksX9_init_8 6 rfl rfl)
theorem dX9_init_196 : decode cX9_init 196 = .ok (.aload_n 0, 1) := dk_42 (dk_at dksX9_init_8 9 rfl rfl)
theorem dX9_init_197 : decode cX9_init 197 = .ok (.getfield 7, 3) := dk_180 0 7 (dk_at dksX9_init_8 10 rfl rfl)
theorem dX9_init_200 : decode cX9_init 200 = .ok (.sipush 194, 3) := dk_17 0 194 (dk_at dksX9_init_8 13 rfl rfl)
theorem dX9_init_203 : decode cX9_init 203 = .ok (.iconst 1, 1) := dk_4 (dk_at dksX9_init_8 16 rfl rfl)
theorem dX9_init_204 : decode cX9_init 204 = .ok (.iastore, 1) := dk_79 (dk_at dksX9_init_8 17 rfl rfl)
theorem dX9_init_205 : decode cX9_init 205 = .ok (.aload_n 0, 1) := dk_42 (dk_at dksX9_init_8 18 rfl rfl)
theorem dX9_init_206 : decode cX9_init 206 = .ok (.getfield 7, 3) := dk_180 0 7 (dk_at dksX9_init_8 19 rfl rfl)
theorem dX9_init_209 : decode cX9_init 209 = .ok (.sipush 199, 3) := dk_17 0 199 (dk_at dksX9_init_9 0 rfl rfl)
theorem dX9_init_212 : decode cX9_init 212 = .ok (.iconst (-1), 1) := dk_2 (dk_at dksX9_init_9 3 rfl rfl)
theorem dX9_init_213 : decode cX9_init 213 = .ok (.iastore, 1) := dk_79 (dk_at dksX9_init_9 4 rfl rfl)
theorem dX9_init_214 : decode cX9_init 214 = .ok (.aload_n 0, 1) := dk_42 (dk_at dksX9_init_9 5 rfl rfl)
theorem dX9_init_215 : decode cX9_init 215 = .ok (.getfield 7, 3) := dk_180 0 7 (dk_at dksX9_init_9 6 rfl rfl)
theorem dX9_init_218 : decode cX9_init 218 = .ok (.sipush 200, 3) := dk_17 0 200 (dk_at dksX9_init_9 9 rfl rfl)
theorem dX9_init_221 : decode cX9_init 221 = .ok (.iconst (-1), 1) := dk_2 (dk_at dksX9_init_9 12 rfl rfl)
theorem dX9_init_222 : decode cX9_init 222 = .ok (.iastore, 1) := dk_79 (dk_at dksX9_init_9 13 rfl rfl)
theorem dX9_init_223 : decode cX9_init 223 = .ok (.return_, 1) := dk_177 (dk_at dksX9_init_9 14 rfl rfl)
abbrev cX9_thrown : ByteArray := prog_21_method_2_code
def yX9_thrown : MethodName := ⟨RX9, "thrown", "()I"⟩
theorem dX9_thrown_0 : decode cX9_thrown 0 = .ok (.aload_n 0, 1) := by decide +kernel
theorem dX9_thrown_1 : decode cX9_thrown 1 = .ok (.getfield 67, 3) := by decide +kernel
theorem dX9_thrown_4 : decode cX9_thrown 4 = .ok (.ireturn, 1) := by decide +kernel
abbrev cX9_feed : ByteArray := prog_21_method_5_code
def yX9_feed : MethodName := ⟨RX9, "feed", "(IIIII)I"⟩
def dkwX9_feed_5 : List UInt8 := [167, 255, 162, 42, 180, 0, 74, 172]
abbrev dktX9_feed_5 : List UInt8 := dkwX9_feed_5 ++ []
def dkwX9_feed_4 : List UInt8 := [112, 104, 100, 124, 17, 0, 255, 126, 79, 42, 89, 180, 0, 74, 4, 96, 181, 0, 74, 132, 6, 1]
abbrev dktX9_feed_4 : List UInt8 := dkwX9_feed_4 ++ dktX9_feed_5
def dkwX9_feed_3 : List UInt8 := [167, 0, 5, 21, 5, 54, 7, 42, 180, 0, 19, 42, 180, 0, 74, 21, 7, 16, 24, 16, 8, 21, 6, 7]
abbrev dktX9_feed_3 : List UInt8 := dkwX9_feed_3 ++ dktX9_feed_4
def dkwX9_feed_2 : List UInt8 := [28, 167, 0, 28, 21, 6, 16, 12, 162, 0, 7, 29, 167, 0, 17, 21, 6, 16, 16, 162, 0, 8, 21, 4]
abbrev dktX9_feed_2 : List UInt8 := dkwX9_feed_2 ++ dktX9_feed_3
def dkwX9_feed_1 : List UInt8 := [21, 6, 16, 20, 162, 0, 93, 21, 6, 7, 162, 0, 7, 27, 167, 0, 39, 21, 6, 16, 8, 162, 0, 7]
abbrev dktX9_feed_1 : List UInt8 := dkwX9_feed_1 ++ dktX9_feed_2
def dkwX9_feed_0 : List UInt8 := [42, 3, 181, 0, 67, 42, 180, 0, 74, 16, 20, 96, 17, 1, 144, 164, 0, 5, 2, 172, 3, 54, 6]
abbrev dktX9_feed_0 : List UInt8 := dkwX9_feed_0 ++ dktX9_feed_1
theorem dksX9_feed_0 : cX9_feed.data.toList.drop 0 = dktX9_feed_0 := by decide +kernel
theorem dksX9_feed_1 : cX9_feed.data.toList.drop 23 = dktX9_feed_1 := dk_seg dksX9_feed_0 23 rfl rfl
theorem dksX9_feed_2 : cX9_feed.data.toList.drop 47 = dktX9_feed_2 := dk_seg dksX9_feed_1 24 rfl rfl
theorem dksX9_feed_3 : cX9_feed.data.toList.drop 71 = dktX9_feed_3 := dk_seg dksX9_feed_2 24 rfl rfl
theorem dksX9_feed_4 : cX9_feed.data.toList.drop 95 = dktX9_feed_4 := dk_seg dksX9_feed_3 24 rfl rfl
theorem dksX9_feed_5 : cX9_feed.data.toList.drop 117 = dktX9_feed_5 := dk_seg dksX9_feed_4 22 rfl rfl
theorem dX9_feed_0 : decode cX9_feed 0 = .ok (.aload_n 0, 1) := dk_42 (dk_at dksX9_feed_0 0 rfl rfl)
theorem dX9_feed_1 : decode cX9_feed 1 = .ok (.iconst 0, 1) := dk_3 (dk_at dksX9_feed_0 1 rfl rfl)
theorem dX9_feed_2 : decode cX9_feed 2 = .ok (.putfield 67, 3) := dk_181 0 67 (dk_at dksX9_feed_0 2 rfl rfl)
theorem dX9_feed_5 : decode cX9_feed 5 = .ok (.aload_n 0, 1) := dk_42 (dk_at dksX9_feed_0 5 rfl rfl)
theorem dX9_feed_6 : decode cX9_feed 6 = .ok (.getfield 74, 3) := dk_180 0 74 (dk_at dksX9_feed_0 6 rfl rfl)
theorem dX9_feed_9 : decode cX9_feed 9 = .ok (.bipush 20, 2) := dk_16 20 (dk_at dksX9_feed_0 9 rfl rfl)
theorem dX9_feed_11 : decode cX9_feed 11 = .ok (.iadd, 1) := dk_96 (dk_at dksX9_feed_0 11 rfl rfl)
theorem dX9_feed_12 : decode cX9_feed 12 = .ok (.sipush 400, 3) := dk_17 1 144 (dk_at dksX9_feed_0 12 rfl rfl)
theorem dX9_feed_15 : decode cX9_feed 15 = .ok (.if_icmp .le 5, 3) := dk_164 0 5 (dk_at dksX9_feed_0 15 rfl rfl)
theorem dX9_feed_18 : decode cX9_feed 18 = .ok (.iconst (-1), 1) := dk_2 (dk_at dksX9_feed_0 18 rfl rfl)
theorem dX9_feed_19 : decode cX9_feed 19 = .ok (.ireturn, 1) := dk_172 (dk_at dksX9_feed_0 19 rfl rfl)
theorem dX9_feed_20 : decode cX9_feed 20 = .ok (.iconst 0, 1) := dk_3 (dk_at dksX9_feed_0 20 rfl rfl)
theorem dX9_feed_21 : decode cX9_feed 21 = .ok (.istore 6, 2) := dk_54 6 (dk_at dksX9_feed_0 21 rfl rfl)
theorem dX9_feed_23 : decode cX9_feed 23 = .ok (.iload 6, 2) := dk_21 6 (dk_at dksX9_feed_1 0 rfl rfl)
theorem dX9_feed_25 : decode cX9_feed 25 = .ok (.bipush 20, 2) := dk_16 20 (dk_at dksX9_feed_1 2 rfl rfl)
theorem dX9_feed_27 : decode cX9_feed 27 = .ok (.if_icmp .ge 93, 3) := dk_162 0 93 (dk_at dksX9_feed_1 4 rfl rfl)
theorem dX9_feed_30 : decode cX9_feed 30 = .ok (.iload 6, 2) := dk_21 6 (dk_at dksX9_feed_1 7 rfl rfl)
theorem dX9_feed_32 : decode cX9_feed 32 = .ok (.iconst 4, 1) := dk_7 (dk_at dksX9_feed_1 9 rfl rfl)
theorem dX9_feed_33 : decode cX9_feed 33 = .ok (.if_icmp .ge 7, 3) := dk_162 0 7 (dk_at dksX9_feed_1 10 rfl rfl)
theorem dX9_feed_36 : decode cX9_feed 36 = .ok (.iload_n 1, 1) := dk_27 (dk_at dksX9_feed_1 13 rfl rfl)
theorem dX9_feed_37 : decode cX9_feed 37 = .ok (.goto 39, 3) := dk_167 0 39 (dk_at dksX9_feed_1 14 rfl rfl)
theorem dX9_feed_40 : decode cX9_feed 40 = .ok (.iload 6, 2) := dk_21 6 (dk_at dksX9_feed_1 17 rfl rfl)
theorem dX9_feed_42 : decode cX9_feed 42 = .ok (.bipush 8, 2) := dk_16 8 (dk_at dksX9_feed_1 19 rfl rfl)
theorem dX9_feed_44 : decode cX9_feed 44 = .ok (.if_icmp .ge 7, 3) := dk_162 0 7 (dk_at dksX9_feed_1 21 rfl rfl)
theorem dX9_feed_47 : decode cX9_feed 47 = .ok (.iload_n 2, 1) := dk_28 (dk_at dksX9_feed_2 0 rfl rfl)
theorem dX9_feed_48 : decode cX9_feed 48 = .ok (.goto 28, 3) := dk_167 0 28 (dk_at dksX9_feed_2 1 rfl rfl)
theorem dX9_feed_51 : decode cX9_feed 51 = .ok (.iload 6, 2) := dk_21 6 (dk_at dksX9_feed_2 4 rfl rfl)
theorem dX9_feed_53 : decode cX9_feed 53 = .ok (.bipush 12, 2) := dk_16 12 (dk_at dksX9_feed_2 6 rfl rfl)
theorem dX9_feed_55 : decode cX9_feed 55 = .ok (.if_icmp .ge 7, 3) := dk_162 0 7 (dk_at dksX9_feed_2 8 rfl rfl)
theorem dX9_feed_58 : decode cX9_feed 58 = .ok (.iload_n 3, 1) := dk_29 (dk_at dksX9_feed_2 11 rfl rfl)
theorem dX9_feed_59 : decode cX9_feed 59 = .ok (.goto 17, 3) := dk_167 0 17 (dk_at dksX9_feed_2 12 rfl rfl)
theorem dX9_feed_62 : decode cX9_feed 62 = .ok (.iload 6, 2) := dk_21 6 (dk_at dksX9_feed_2 15 rfl rfl)
theorem dX9_feed_64 : decode cX9_feed 64 = .ok (.bipush 16, 2) := dk_16 16 (dk_at dksX9_feed_2 17 rfl rfl)
theorem dX9_feed_66 : decode cX9_feed 66 = .ok (.if_icmp .ge 8, 3) := dk_162 0 8 (dk_at dksX9_feed_2 19 rfl rfl)
theorem dX9_feed_69 : decode cX9_feed 69 = .ok (.iload 4, 2) := dk_21 4 (dk_at dksX9_feed_2 22 rfl rfl)
theorem dX9_feed_71 : decode cX9_feed 71 = .ok (.goto 5, 3) := dk_167 0 5 (dk_at dksX9_feed_3 0 rfl rfl)
theorem dX9_feed_74 : decode cX9_feed 74 = .ok (.iload 5, 2) := dk_21 5 (dk_at dksX9_feed_3 3 rfl rfl)
theorem dX9_feed_76 : decode cX9_feed 76 = .ok (.istore 7, 2) := dk_54 7 (dk_at dksX9_feed_3 5 rfl rfl)
theorem dX9_feed_78 : decode cX9_feed 78 = .ok (.aload_n 0, 1) := dk_42 (dk_at dksX9_feed_3 7 rfl rfl)
theorem dX9_feed_79 : decode cX9_feed 79 = .ok (.getfield 19, 3) := dk_180 0 19 (dk_at dksX9_feed_3 8 rfl rfl)
theorem dX9_feed_82 : decode cX9_feed 82 = .ok (.aload_n 0, 1) := dk_42 (dk_at dksX9_feed_3 11 rfl rfl)
theorem dX9_feed_83 : decode cX9_feed 83 = .ok (.getfield 74, 3) := dk_180 0 74 (dk_at dksX9_feed_3 12 rfl rfl)
theorem dX9_feed_86 : decode cX9_feed 86 = .ok (.iload 7, 2) := dk_21 7 (dk_at dksX9_feed_3 15 rfl rfl)
theorem dX9_feed_88 : decode cX9_feed 88 = .ok (.bipush 24, 2) := dk_16 24 (dk_at dksX9_feed_3 17 rfl rfl)
theorem dX9_feed_90 : decode cX9_feed 90 = .ok (.bipush 8, 2) := dk_16 8 (dk_at dksX9_feed_3 19 rfl rfl)
theorem dX9_feed_92 : decode cX9_feed 92 = .ok (.iload 6, 2) := dk_21 6 (dk_at dksX9_feed_3 21 rfl rfl)
theorem dX9_feed_94 : decode cX9_feed 94 = .ok (.iconst 4, 1) := dk_7 (dk_at dksX9_feed_3 23 rfl rfl)
theorem dX9_feed_95 : decode cX9_feed 95 = .ok (.irem, 1) := dk_112 (dk_at dksX9_feed_4 0 rfl rfl)
theorem dX9_feed_96 : decode cX9_feed 96 = .ok (.imul, 1) := dk_104 (dk_at dksX9_feed_4 1 rfl rfl)
theorem dX9_feed_97 : decode cX9_feed 97 = .ok (.isub, 1) := dk_100 (dk_at dksX9_feed_4 2 rfl rfl)
theorem dX9_feed_98 : decode cX9_feed 98 = .ok (.iushr, 1) := dk_124 (dk_at dksX9_feed_4 3 rfl rfl)
theorem dX9_feed_99 : decode cX9_feed 99 = .ok (.sipush 255, 3) := dk_17 0 255 (dk_at dksX9_feed_4 4 rfl rfl)
theorem dX9_feed_102 : decode cX9_feed 102 = .ok (.iand, 1) := dk_126 (dk_at dksX9_feed_4 7 rfl rfl)
theorem dX9_feed_103 : decode cX9_feed 103 = .ok (.iastore, 1) := dk_79 (dk_at dksX9_feed_4 8 rfl rfl)
theorem dX9_feed_104 : decode cX9_feed 104 = .ok (.aload_n 0, 1) := dk_42 (dk_at dksX9_feed_4 9 rfl rfl)
theorem dX9_feed_105 : decode cX9_feed 105 = .ok (.dup, 1) := dk_89 (dk_at dksX9_feed_4 10 rfl rfl)
theorem dX9_feed_106 : decode cX9_feed 106 = .ok (.getfield 74, 3) := dk_180 0 74 (dk_at dksX9_feed_4 11 rfl rfl)
theorem dX9_feed_109 : decode cX9_feed 109 = .ok (.iconst 1, 1) := dk_4 (dk_at dksX9_feed_4 14 rfl rfl)
theorem dX9_feed_110 : decode cX9_feed 110 = .ok (.iadd, 1) := dk_96 (dk_at dksX9_feed_4 15 rfl rfl)
theorem dX9_feed_111 : decode cX9_feed 111 = .ok (.putfield 74, 3) := dk_181 0 74 (dk_at dksX9_feed_4 16 rfl rfl)
theorem dX9_feed_114 : decode cX9_feed 114 = .ok (.iinc 6 1, 3) := dk_132 6 1 (dk_at dksX9_feed_4 19 rfl rfl)
theorem dX9_feed_117 : decode cX9_feed 117 = .ok (.goto (-94), 3) := dk_167 255 162 (dk_at dksX9_feed_5 0 rfl rfl)
theorem dX9_feed_120 : decode cX9_feed 120 = .ok (.aload_n 0, 1) := dk_42 (dk_at dksX9_feed_5 3 rfl rfl)
theorem dX9_feed_121 : decode cX9_feed 121 = .ok (.getfield 74, 3) := dk_180 0 74 (dk_at dksX9_feed_5 4 rfl rfl)
theorem dX9_feed_124 : decode cX9_feed 124 = .ok (.ireturn, 1) := dk_172 (dk_at dksX9_feed_5 7 rfl rfl)
abbrev cX9_end : ByteArray := prog_21_method_6_code
def yX9_end : MethodName := ⟨RX9, "end", "(I)Z"⟩
def dkwX9_end_1 : List UInt8 := [4, 172]
abbrev dktX9_end_1 : List UInt8 := dkwX9_end_1 ++ []
def dkwX9_end_0 : List UInt8 := [42, 3, 181, 0, 67, 27, 3, 42, 180, 0, 74, 184, 0, 70, 154, 0, 5, 3, 172, 42, 27, 181, 0, 74]
abbrev dktX9_end_0 : List UInt8 := dkwX9_end_0 ++ dktX9_end_1
theorem dksX9_end_0 : cX9_end.data.toList.drop 0 = dktX9_end_0 := by decide +kernel
theorem dksX9_end_1 : cX9_end.data.toList.drop 24 = dktX9_end_1 := dk_seg dksX9_end_0 24 rfl rfl
theorem dX9_end_0 : decode cX9_end 0 = .ok (.aload_n 0, 1) := dk_42 (dk_at dksX9_end_0 0 rfl rfl)
theorem dX9_end_1 : decode cX9_end 1 = .ok (.iconst 0, 1) := dk_3 (dk_at dksX9_end_0 1 rfl rfl)
theorem dX9_end_2 : decode cX9_end 2 = .ok (.putfield 67, 3) := dk_181 0 67 (dk_at dksX9_end_0 2 rfl rfl)
theorem dX9_end_5 : decode cX9_end 5 = .ok (.iload_n 1, 1) := dk_27 (dk_at dksX9_end_0 5 rfl rfl)
theorem dX9_end_6 : decode cX9_end 6 = .ok (.iconst 0, 1) := dk_3 (dk_at dksX9_end_0 6 rfl rfl)
theorem dX9_end_7 : decode cX9_end 7 = .ok (.aload_n 0, 1) := dk_42 (dk_at dksX9_end_0 7 rfl rfl)
theorem dX9_end_8 : decode cX9_end 8 = .ok (.getfield 74, 3) := dk_180 0 74 (dk_at dksX9_end_0 8 rfl rfl)
theorem dX9_end_11 : decode cX9_end 11 = .ok (.invokestatic 70, 3) := dk_184 0 70 (dk_at dksX9_end_0 11 rfl rfl)
theorem dX9_end_14 : decode cX9_end 14 = .ok (.ifCond .ne 5, 3) := dk_154 0 5 (dk_at dksX9_end_0 14 rfl rfl)
theorem dX9_end_17 : decode cX9_end 17 = .ok (.iconst 0, 1) := dk_3 (dk_at dksX9_end_0 17 rfl rfl)
theorem dX9_end_18 : decode cX9_end 18 = .ok (.ireturn, 1) := dk_172 (dk_at dksX9_end_0 18 rfl rfl)
theorem dX9_end_19 : decode cX9_end 19 = .ok (.aload_n 0, 1) := dk_42 (dk_at dksX9_end_0 19 rfl rfl)
theorem dX9_end_20 : decode cX9_end 20 = .ok (.iload_n 1, 1) := dk_27 (dk_at dksX9_end_0 20 rfl rfl)
theorem dX9_end_21 : decode cX9_end 21 = .ok (.putfield 74, 3) := dk_181 0 74 (dk_at dksX9_end_0 21 rfl rfl)
theorem dX9_end_24 : decode cX9_end 24 = .ok (.iconst 1, 1) := dk_4 (dk_at dksX9_end_1 0 rfl rfl)
theorem dX9_end_25 : decode cX9_end 25 = .ok (.ireturn, 1) := dk_172 (dk_at dksX9_end_1 1 rfl rfl)
abbrev cX9_isIn : ByteArray := prog_21_method_3_code
def yX9_isIn : MethodName := ⟨RX9, "isIn", "(III)Z"⟩
def dkwX9_isIn_0 : List UInt8 := [26, 27, 161, 0, 12, 26, 28, 163, 0, 7, 4, 167, 0, 4, 3, 172]
abbrev dktX9_isIn_0 : List UInt8 := dkwX9_isIn_0 ++ []
theorem dksX9_isIn_0 : cX9_isIn.data.toList.drop 0 = dktX9_isIn_0 := by decide +kernel
theorem dX9_isIn_0 : decode cX9_isIn 0 = .ok (.iload_n 0, 1) := dk_26 (dk_at dksX9_isIn_0 0 rfl rfl)
theorem dX9_isIn_1 : decode cX9_isIn 1 = .ok (.iload_n 1, 1) := dk_27 (dk_at dksX9_isIn_0 1 rfl rfl)
theorem dX9_isIn_2 : decode cX9_isIn 2 = .ok (.if_icmp .lt 12, 3) := dk_161 0 12 (dk_at dksX9_isIn_0 2 rfl rfl)
theorem dX9_isIn_5 : decode cX9_isIn 5 = .ok (.iload_n 0, 1) := dk_26 (dk_at dksX9_isIn_0 5 rfl rfl)
theorem dX9_isIn_6 : decode cX9_isIn 6 = .ok (.iload_n 2, 1) := dk_28 (dk_at dksX9_isIn_0 6 rfl rfl)
theorem dX9_isIn_7 : decode cX9_isIn 7 = .ok (.if_icmp .gt 7, 3) := dk_163 0 7 (dk_at dksX9_isIn_0 7 rfl rfl)
theorem dX9_isIn_10 : decode cX9_isIn 10 = .ok (.iconst 1, 1) := dk_4 (dk_at dksX9_isIn_0 10 rfl rfl)
theorem dX9_isIn_11 : decode cX9_isIn 11 = .ok (.goto 4, 3) := dk_167 0 4 (dk_at dksX9_isIn_0 11 rfl rfl)
theorem dX9_isIn_14 : decode cX9_isIn 14 = .ok (.iconst 0, 1) := dk_3 (dk_at dksX9_isIn_0 14 rfl rfl)
theorem dX9_isIn_15 : decode cX9_isIn 15 = .ok (.ireturn, 1) := dk_172 (dk_at dksX9_isIn_0 15 rfl rfl)
abbrev cX9_court : ByteArray := prog_21_method_15_code
def yX9_court : MethodName := ⟨RX9, "court", "()I"⟩
def dkwX9_court_8 : List UInt8 := [17, 0, 192, 92, 46, 4, 96, 79, 42, 180, 0, 7, 17, 0, 192, 46, 172]
abbrev dktX9_court_8 : List UInt8 := dkwX9_court_8 ++ []
def dkwX9_court_7 : List UInt8 := [42, 180, 0, 7, 27, 42, 180, 0, 16, 27, 46, 79, 132, 1, 1, 167, 255, 234, 3, 172, 42, 180, 0, 7]
abbrev dktX9_court_7 : List UInt8 := dkwX9_court_7 ++ dktX9_court_8
def dkwX9_court_6 : List UInt8 := [5, 167, 0, 4, 3, 181, 0, 67, 42, 180, 0, 67, 158, 0, 32, 3, 60, 27, 17, 0, 201, 162, 0, 21]
abbrev dktX9_court_6 : List UInt8 := dkwX9_court_6 ++ dktX9_court_7
def dkwX9_court_5 : List UInt8 := [180, 0, 22, 2, 159, 0, 7, 4, 167, 0, 21, 42, 180, 0, 7, 17, 0, 192, 46, 16, 12, 160, 0, 7]
abbrev dktX9_court_5 : List UInt8 := dkwX9_court_5 ++ dktX9_court_6
def dkwX9_court_4 : List UInt8 := [159, 0, 11, 42, 42, 180, 0, 83, 182, 0, 103, 132, 1, 1, 167, 255, 201, 42, 3, 181, 0, 74, 42, 42]
abbrev dktX9_court_4 : List UInt8 := dkwX9_court_4 ++ dktX9_court_5
def dkwX9_court_3 : List UInt8 := [180, 0, 7, 3, 16, 12, 27, 104, 96, 29, 96, 46, 96, 61, 132, 3, 1, 167, 255, 231, 28, 16, 100]
abbrev dktX9_court_3 : List UInt8 := dkwX9_court_3 ++ dktX9_court_4
def dkwX9_court_2 : List UInt8 := [182, 0, 142, 3, 60, 27, 16, 16, 162, 0, 55, 3, 61, 3, 62, 29, 16, 12, 162, 0, 25, 28, 42]
abbrev dktX9_court_2 : List UInt8 := dkwX9_court_2 ++ dktX9_court_3
def dkwX9_court_1 : List UInt8 := [167, 255, 234, 42, 2, 181, 0, 22, 42, 2, 181, 0, 77, 42, 42, 180, 0, 74, 181, 0, 83, 42, 3]
abbrev dktX9_court_1 : List UInt8 := dkwX9_court_1 ++ dktX9_court_2
def dkwX9_court_0 : List UInt8 := [3, 60, 27, 17, 0, 201, 162, 0, 21, 42, 180, 0, 16, 27, 42, 180, 0, 7, 27, 46, 79, 132, 1, 1]
abbrev dktX9_court_0 : List UInt8 := dkwX9_court_0 ++ dktX9_court_1
theorem dksX9_court_0 : cX9_court.data.toList.drop 0 = dktX9_court_0 := by decide +kernel
theorem dksX9_court_1 : cX9_court.data.toList.drop 24 = dktX9_court_1 := dk_seg dksX9_court_0 24 rfl rfl
theorem dksX9_court_2 : cX9_court.data.toList.drop 47 = dktX9_court_2 := dk_seg dksX9_court_1 23 rfl rfl
theorem dksX9_court_3 : cX9_court.data.toList.drop 70 = dktX9_court_3 := dk_seg dksX9_court_2 23 rfl rfl
theorem dksX9_court_4 : cX9_court.data.toList.drop 93 = dktX9_court_4 := dk_seg dksX9_court_3 23 rfl rfl
theorem dksX9_court_5 : cX9_court.data.toList.drop 117 = dktX9_court_5 := dk_seg dksX9_court_4 24 rfl rfl
theorem dksX9_court_6 : cX9_court.data.toList.drop 141 = dktX9_court_6 := dk_seg dksX9_court_5 24 rfl rfl
theorem dksX9_court_7 : cX9_court.data.toList.drop 165 = dktX9_court_7 := dk_seg dksX9_court_6 24 rfl rfl
theorem dksX9_court_8 : cX9_court.data.toList.drop 189 = dktX9_court_8 := dk_seg dksX9_court_7 24 rfl rfl
theorem dX9_court_0 : decode cX9_court 0 = .ok (.iconst 0, 1) := dk_3 (dk_at dksX9_court_0 0 rfl rfl)
theorem dX9_court_1 : decode cX9_court 1 = .ok (.istore_n 1, 1) := dk_60 (dk_at dksX9_court_0 1 rfl rfl)
theorem dX9_court_2 : decode cX9_court 2 = .ok (.iload_n 1, 1) := dk_27 (dk_at dksX9_court_0 2 rfl rfl)
theorem dX9_court_3 : decode cX9_court 3 = .ok (.sipush 201, 3) := dk_17 0 201 (dk_at dksX9_court_0 3 rfl rfl)
theorem dX9_court_6 : decode cX9_court 6 = .ok (.if_icmp .ge 21, 3) := dk_162 0 21 (dk_at dksX9_court_0 6 rfl rfl)
theorem dX9_court_9 : decode cX9_court 9 = .ok (.aload_n 0, 1) := dk_42 (dk_at dksX9_court_0 9 rfl rfl)
theorem dX9_court_10 : decode cX9_court 10 = .ok (.getfield 16, 3) := dk_180 0 16 (dk_at dksX9_court_0 10 rfl rfl)
theorem dX9_court_13 : decode cX9_court 13 = .ok (.iload_n 1, 1) := dk_27 (dk_at dksX9_court_0 13 rfl rfl)
theorem dX9_court_14 : decode cX9_court 14 = .ok (.aload_n 0, 1) := dk_42 (dk_at dksX9_court_0 14 rfl rfl)
theorem dX9_court_15 : decode cX9_court 15 = .ok (.getfield 7, 3) := dk_180 0 7 (dk_at dksX9_court_0 15 rfl rfl)
theorem dX9_court_18 : decode cX9_court 18 = .ok (.iload_n 1, 1) := dk_27 (dk_at dksX9_court_0 18 rfl rfl)
theorem dX9_court_19 : decode cX9_court 19 = .ok (.iaload, 1) := dk_46 (dk_at dksX9_court_0 19 rfl rfl)
theorem dX9_court_20 : decode cX9_court 20 = .ok (.iastore, 1) := dk_79 (dk_at dksX9_court_0 20 rfl rfl)
theorem dX9_court_21 : decode cX9_court 21 = .ok (.iinc 1 1, 3) := dk_132 1 1 (dk_at dksX9_court_0 21 rfl rfl)
theorem dX9_court_24 : decode cX9_court 24 = .ok (.goto (-22), 3) := dk_167 255 234 (dk_at dksX9_court_1 0 rfl rfl)
theorem dX9_court_27 : decode cX9_court 27 = .ok (.aload_n 0, 1) := dk_42 (dk_at dksX9_court_1 3 rfl rfl)
theorem dX9_court_28 : decode cX9_court 28 = .ok (.iconst (-1), 1) := dk_2 (dk_at dksX9_court_1 4 rfl rfl)
theorem dX9_court_29 : decode cX9_court 29 = .ok (.putfield 22, 3) := dk_181 0 22 (dk_at dksX9_court_1 5 rfl rfl)
theorem dX9_court_32 : decode cX9_court 32 = .ok (.aload_n 0, 1) := dk_42 (dk_at dksX9_court_1 8 rfl rfl)
theorem dX9_court_33 : decode cX9_court 33 = .ok (.iconst (-1), 1) := dk_2 (dk_at dksX9_court_1 9 rfl rfl)
theorem dX9_court_34 : decode cX9_court 34 = .ok (.putfield 77, 3) := dk_181 0 77 (dk_at dksX9_court_1 10 rfl rfl)
theorem dX9_court_37 : decode cX9_court 37 = .ok (.aload_n 0, 1) := dk_42 (dk_at dksX9_court_1 13 rfl rfl)
theorem dX9_court_38 : decode cX9_court 38 = .ok (.aload_n 0, 1) := dk_42 (dk_at dksX9_court_1 14 rfl rfl)
theorem dX9_court_39 : decode cX9_court 39 = .ok (.getfield 74, 3) := dk_180 0 74 (dk_at dksX9_court_1 15 rfl rfl)
theorem dX9_court_42 : decode cX9_court 42 = .ok (.putfield 83, 3) := dk_181 0 83 (dk_at dksX9_court_1 18 rfl rfl)
theorem dX9_court_45 : decode cX9_court 45 = .ok (.aload_n 0, 1) := dk_42 (dk_at dksX9_court_1 21 rfl rfl)
theorem dX9_court_46 : decode cX9_court 46 = .ok (.iconst 0, 1) := dk_3 (dk_at dksX9_court_1 22 rfl rfl)
theorem dX9_court_47 : decode cX9_court 47 = .ok (.invokevirtual 142, 3) := dk_182 0 142 (dk_at dksX9_court_2 0 rfl rfl)
theorem dX9_court_50 : decode cX9_court 50 = .ok (.iconst 0, 1) := dk_3 (dk_at dksX9_court_2 3 rfl rfl)
theorem dX9_court_51 : decode cX9_court 51 = .ok (.istore_n 1, 1) := dk_60 (dk_at dksX9_court_2 4 rfl rfl)
theorem dX9_court_52 : decode cX9_court 52 = .ok (.iload_n 1, 1) := dk_27 (dk_at dksX9_court_2 5 rfl rfl)
theorem dX9_court_53 : decode cX9_court 53 = .ok (.bipush 16, 2) := dk_16 16 (dk_at dksX9_court_2 6 rfl rfl)
theorem dX9_court_55 : decode cX9_court 55 = .ok (.if_icmp .ge 55, 3) := dk_162 0 55 (dk_at dksX9_court_2 8 rfl rfl)
theorem dX9_court_58 : decode cX9_court 58 = .ok (.iconst 0, 1) := dk_3 (dk_at dksX9_court_2 11 rfl rfl)
theorem dX9_court_59 : decode cX9_court 59 = .ok (.istore_n 2, 1) := dk_61 (dk_at dksX9_court_2 12 rfl rfl)
theorem dX9_court_60 : decode cX9_court 60 = .ok (.iconst 0, 1) := dk_3 (dk_at dksX9_court_2 13 rfl rfl)
theorem dX9_court_61 : decode cX9_court 61 = .ok (.istore_n 3, 1) := dk_62 (dk_at dksX9_court_2 14 rfl rfl)
theorem dX9_court_62 : decode cX9_court 62 = .ok (.iload_n 3, 1) := dk_29 (dk_at dksX9_court_2 15 rfl rfl)
theorem dX9_court_63 : decode cX9_court 63 = .ok (.bipush 12, 2) := dk_16 12 (dk_at dksX9_court_2 16 rfl rfl)
theorem dX9_court_65 : decode cX9_court 65 = .ok (.if_icmp .ge 25, 3) := dk_162 0 25 (dk_at dksX9_court_2 18 rfl rfl)
theorem dX9_court_68 : decode cX9_court 68 = .ok (.iload_n 2, 1) := dk_28 (dk_at dksX9_court_2 21 rfl rfl)
theorem dX9_court_69 : decode cX9_court 69 = .ok (.aload_n 0, 1) := dk_42 (dk_at dksX9_court_2 22 rfl rfl)
theorem dX9_court_70 : decode cX9_court 70 = .ok (.getfield 7, 3) := dk_180 0 7 (dk_at dksX9_court_3 0 rfl rfl)
theorem dX9_court_73 : decode cX9_court 73 = .ok (.iconst 0, 1) := dk_3 (dk_at dksX9_court_3 3 rfl rfl)
theorem dX9_court_74 : decode cX9_court 74 = .ok (.bipush 12, 2) := dk_16 12 (dk_at dksX9_court_3 4 rfl rfl)
theorem dX9_court_76 : decode cX9_court 76 = .ok (.iload_n 1, 1) := dk_27 (dk_at dksX9_court_3 6 rfl rfl)
theorem dX9_court_77 : decode cX9_court 77 = .ok (.imul, 1) := dk_104 (dk_at dksX9_court_3 7 rfl rfl)
theorem dX9_court_78 : decode cX9_court 78 = .ok (.iadd, 1) := dk_96 (dk_at dksX9_court_3 8 rfl rfl)
theorem dX9_court_79 : decode cX9_court 79 = .ok (.iload_n 3, 1) := dk_29 (dk_at dksX9_court_3 9 rfl rfl)
theorem dX9_court_80 : decode cX9_court 80 = .ok (.iadd, 1) := dk_96 (dk_at dksX9_court_3 10 rfl rfl)
theorem dX9_court_81 : decode cX9_court 81 = .ok (.iaload, 1) := dk_46 (dk_at dksX9_court_3 11 rfl rfl)
theorem dX9_court_82 : decode cX9_court 82 = .ok (.iadd, 1) := dk_96 (dk_at dksX9_court_3 12 rfl rfl)
theorem dX9_court_83 : decode cX9_court 83 = .ok (.istore_n 2, 1) := dk_61 (dk_at dksX9_court_3 13 rfl rfl)
theorem dX9_court_84 : decode cX9_court 84 = .ok (.iinc 3 1, 3) := dk_132 3 1 (dk_at dksX9_court_3 14 rfl rfl)
theorem dX9_court_87 : decode cX9_court 87 = .ok (.goto (-25), 3) := dk_167 255 231 (dk_at dksX9_court_3 17 rfl rfl)
theorem dX9_court_90 : decode cX9_court 90 = .ok (.iload_n 2, 1) := dk_28 (dk_at dksX9_court_3 20 rfl rfl)
theorem dX9_court_91 : decode cX9_court 91 = .ok (.bipush 100, 2) := dk_16 100 (dk_at dksX9_court_3 21 rfl rfl)
theorem dX9_court_93 : decode cX9_court 93 = .ok (.if_icmp .eq 11, 3) := dk_159 0 11 (dk_at dksX9_court_4 0 rfl rfl)
theorem dX9_court_96 : decode cX9_court 96 = .ok (.aload_n 0, 1) := dk_42 (dk_at dksX9_court_4 3 rfl rfl)
theorem dX9_court_97 : decode cX9_court 97 = .ok (.aload_n 0, 1) := dk_42 (dk_at dksX9_court_4 4 rfl rfl)
theorem dX9_court_98 : decode cX9_court 98 = .ok (.getfield 83, 3) := dk_180 0 83 (dk_at dksX9_court_4 5 rfl rfl)
theorem dX9_court_101 : decode cX9_court 101 = .ok (.invokevirtual 103, 3) := dk_182 0 103 (dk_at dksX9_court_4 8 rfl rfl)
theorem dX9_court_104 : decode cX9_court 104 = .ok (.iinc 1 1, 3) := dk_132 1 1 (dk_at dksX9_court_4 11 rfl rfl)
theorem dX9_court_107 : decode cX9_court 107 = .ok (.goto (-55), 3) := dk_167 255 201 (dk_at dksX9_court_4 14 rfl rfl)
theorem dX9_court_110 : decode cX9_court 110 = .ok (.aload_n 0, 1) := dk_42 (dk_at dksX9_court_4 17 rfl rfl)
theorem dX9_court_111 : decode cX9_court 111 = .ok (.iconst 0, 1) := dk_3 (dk_at dksX9_court_4 18 rfl rfl)
theorem dX9_court_112 : decode cX9_court 112 = .ok (.putfield 74, 3) := dk_181 0 74 (dk_at dksX9_court_4 19 rfl rfl)
theorem dX9_court_115 : decode cX9_court 115 = .ok (.aload_n 0, 1) := dk_42 (dk_at dksX9_court_4 22 rfl rfl)
theorem dX9_court_116 : decode cX9_court 116 = .ok (.aload_n 0, 1) := dk_42 (dk_at dksX9_court_4 23 rfl rfl)
theorem dX9_court_117 : decode cX9_court 117 = .ok (.getfield 22, 3) := dk_180 0 22 (dk_at dksX9_court_5 0 rfl rfl)
theorem dX9_court_120 : decode cX9_court 120 = .ok (.iconst (-1), 1) := dk_2 (dk_at dksX9_court_5 3 rfl rfl)
theorem dX9_court_121 : decode cX9_court 121 = .ok (.if_icmp .eq 7, 3) := dk_159 0 7 (dk_at dksX9_court_5 4 rfl rfl)
theorem dX9_court_124 : decode cX9_court 124 = .ok (.iconst 1, 1) := dk_4 (dk_at dksX9_court_5 7 rfl rfl)
theorem dX9_court_125 : decode cX9_court 125 = .ok (.goto 21, 3) := dk_167 0 21 (dk_at dksX9_court_5 8 rfl rfl)
theorem dX9_court_128 : decode cX9_court 128 = .ok (.aload_n 0, 1) := dk_42 (dk_at dksX9_court_5 11 rfl rfl)
theorem dX9_court_129 : decode cX9_court 129 = .ok (.getfield 7, 3) := dk_180 0 7 (dk_at dksX9_court_5 12 rfl rfl)
theorem dX9_court_132 : decode cX9_court 132 = .ok (.sipush 192, 3) := dk_17 0 192 (dk_at dksX9_court_5 15 rfl rfl)
theorem dX9_court_135 : decode cX9_court 135 = .ok (.iaload, 1) := dk_46 (dk_at dksX9_court_5 18 rfl rfl)
theorem dX9_court_136 : decode cX9_court 136 = .ok (.bipush 12, 2) := dk_16 12 (dk_at dksX9_court_5 19 rfl rfl)
theorem dX9_court_138 : decode cX9_court 138 = .ok (.if_icmp .ne 7, 3) := dk_160 0 7 (dk_at dksX9_court_5 21 rfl rfl)
theorem dX9_court_141 : decode cX9_court 141 = .ok (.iconst 2, 1) := dk_5 (dk_at dksX9_court_6 0 rfl rfl)
theorem dX9_court_142 : decode cX9_court 142 = .ok (.goto 4, 3) := dk_167 0 4 (dk_at dksX9_court_6 1 rfl rfl)
theorem dX9_court_145 : decode cX9_court 145 = .ok (.iconst 0, 1) := dk_3 (dk_at dksX9_court_6 4 rfl rfl)
theorem dX9_court_146 : decode cX9_court 146 = .ok (.putfield 67, 3) := dk_181 0 67 (dk_at dksX9_court_6 5 rfl rfl)
theorem dX9_court_149 : decode cX9_court 149 = .ok (.aload_n 0, 1) := dk_42 (dk_at dksX9_court_6 8 rfl rfl)
theorem dX9_court_150 : decode cX9_court 150 = .ok (.getfield 67, 3) := dk_180 0 67 (dk_at dksX9_court_6 9 rfl rfl)
theorem dX9_court_153 : decode cX9_court 153 = .ok (.ifCond .le 32, 3) := dk_158 0 32 (dk_at dksX9_court_6 12 rfl rfl)
theorem dX9_court_156 : decode cX9_court 156 = .ok (.iconst 0, 1) := dk_3 (dk_at dksX9_court_6 15 rfl rfl)
theorem dX9_court_157 : decode cX9_court 157 = .ok (.istore_n 1, 1) := dk_60 (dk_at dksX9_court_6 16 rfl rfl)
theorem dX9_court_158 : decode cX9_court 158 = .ok (.iload_n 1, 1) := dk_27 (dk_at dksX9_court_6 17 rfl rfl)
theorem dX9_court_159 : decode cX9_court 159 = .ok (.sipush 201, 3) := dk_17 0 201 (dk_at dksX9_court_6 18 rfl rfl)
theorem dX9_court_162 : decode cX9_court 162 = .ok (.if_icmp .ge 21, 3) := dk_162 0 21 (dk_at dksX9_court_6 21 rfl rfl)
theorem dX9_court_165 : decode cX9_court 165 = .ok (.aload_n 0, 1) := dk_42 (dk_at dksX9_court_7 0 rfl rfl)
theorem dX9_court_166 : decode cX9_court 166 = .ok (.getfield 7, 3) := dk_180 0 7 (dk_at dksX9_court_7 1 rfl rfl)
theorem dX9_court_169 : decode cX9_court 169 = .ok (.iload_n 1, 1) := dk_27 (dk_at dksX9_court_7 4 rfl rfl)
theorem dX9_court_170 : decode cX9_court 170 = .ok (.aload_n 0, 1) := dk_42 (dk_at dksX9_court_7 5 rfl rfl)
theorem dX9_court_171 : decode cX9_court 171 = .ok (.getfield 16, 3) := dk_180 0 16 (dk_at dksX9_court_7 6 rfl rfl)
theorem dX9_court_174 : decode cX9_court 174 = .ok (.iload_n 1, 1) := dk_27 (dk_at dksX9_court_7 9 rfl rfl)
theorem dX9_court_175 : decode cX9_court 175 = .ok (.iaload, 1) := dk_46 (dk_at dksX9_court_7 10 rfl rfl)
theorem dX9_court_176 : decode cX9_court 176 = .ok (.iastore, 1) := dk_79 (dk_at dksX9_court_7 11 rfl rfl)
theorem dX9_court_177 : decode cX9_court 177 = .ok (.iinc 1 1, 3) := dk_132 1 1 (dk_at dksX9_court_7 12 rfl rfl)
theorem dX9_court_180 : decode cX9_court 180 = .ok (.goto (-22), 3) := dk_167 255 234 (dk_at dksX9_court_7 15 rfl rfl)
theorem dX9_court_183 : decode cX9_court 183 = .ok (.iconst 0, 1) := dk_3 (dk_at dksX9_court_7 18 rfl rfl)
theorem dX9_court_184 : decode cX9_court 184 = .ok (.ireturn, 1) := dk_172 (dk_at dksX9_court_7 19 rfl rfl)
theorem dX9_court_185 : decode cX9_court 185 = .ok (.aload_n 0, 1) := dk_42 (dk_at dksX9_court_7 20 rfl rfl)
theorem dX9_court_186 : decode cX9_court 186 = .ok (.getfield 7, 3) := dk_180 0 7 (dk_at dksX9_court_7 21 rfl rfl)
theorem dX9_court_189 : decode cX9_court 189 = .ok (.sipush 192, 3) := dk_17 0 192 (dk_at dksX9_court_8 0 rfl rfl)
theorem dX9_court_192 : decode cX9_court 192 = .ok (.dup2, 1) := dk_92 (dk_at dksX9_court_8 3 rfl rfl)
theorem dX9_court_193 : decode cX9_court 193 = .ok (.iaload, 1) := dk_46 (dk_at dksX9_court_8 4 rfl rfl)
theorem dX9_court_194 : decode cX9_court 194 = .ok (.iconst 1, 1) := dk_4 (dk_at dksX9_court_8 5 rfl rfl)
theorem dX9_court_195 : decode cX9_court 195 = .ok (.iadd, 1) := dk_96 (dk_at dksX9_court_8 6 rfl rfl)
theorem dX9_court_196 : decode cX9_court 196 = .ok (.iastore, 1) := dk_79 (dk_at dksX9_court_8 7 rfl rfl)
theorem dX9_court_197 : decode cX9_court 197 = .ok (.aload_n 0, 1) := dk_42 (dk_at dksX9_court_8 8 rfl rfl)
theorem dX9_court_198 : decode cX9_court 198 = .ok (.getfield 7, 3) := dk_180 0 7 (dk_at dksX9_court_8 9 rfl rfl)
theorem dX9_court_201 : decode cX9_court 201 = .ok (.sipush 192, 3) := dk_17 0 192 (dk_at dksX9_court_8 12 rfl rfl)
theorem dX9_court_204 : decode cX9_court 204 = .ok (.iaload, 1) := dk_46 (dk_at dksX9_court_8 15 rfl rfl)
theorem dX9_court_205 : decode cX9_court 205 = .ok (.ireturn, 1) := dk_172 (dk_at dksX9_court_8 16 rfl rfl)
abbrev cX9_lines : ByteArray := prog_21_method_14_code
def yX9_lines : MethodName := ⟨RX9, "lines", "(Z)V"⟩
def dkwX9_lines_6 : List UInt8 := [182, 0, 103, 167, 255, 147, 177]
abbrev dktX9_lines_6 : List UInt8 := dkwX9_lines_6 ++ []
def dkwX9_lines_5 : List UInt8 := [182, 0, 138, 153, 0, 16, 42, 89, 180, 0, 80, 4, 96, 181, 0, 80, 167, 255, 158, 42, 42, 180, 0, 80]
abbrev dktX9_lines_5 : List UInt8 := dkwX9_lines_5 ++ dktX9_lines_6
def dkwX9_lines_4 : List UInt8 := [160, 0, 14, 42, 180, 0, 80, 42, 180, 0, 83, 160, 0, 8, 3, 61, 167, 255, 180, 42, 16, 59]
abbrev dktX9_lines_4 : List UInt8 := dkwX9_lines_4 ++ dktX9_lines_5
def dkwX9_lines_3 : List UInt8 := [42, 182, 0, 132, 167, 0, 7, 42, 182, 0, 135, 132, 3, 1, 42, 182, 0, 90, 42, 180, 0, 22, 2]
abbrev dktX9_lines_3 : List UInt8 := dkwX9_lines_3 ++ dktX9_lines_4
def dkwX9_lines_2 : List UInt8 := [182, 0, 90, 29, 16, 12, 160, 0, 14, 42, 42, 180, 0, 80, 182, 0, 103, 167, 0, 18, 27, 153, 0, 10]
abbrev dktX9_lines_2 : List UInt8 := dkwX9_lines_2 ++ dktX9_lines_3
def dkwX9_lines_1 : List UInt8 := [162, 0, 7, 4, 167, 0, 4, 3, 61, 3, 62, 28, 153, 0, 111, 42, 180, 0, 22, 2, 160, 0, 103, 42]
abbrev dktX9_lines_1 : List UInt8 := dkwX9_lines_1 ++ dktX9_lines_2
def dkwX9_lines_0 : List UInt8 := [42, 3, 181, 0, 80, 42, 3, 181, 0, 129, 42, 182, 0, 90, 42, 180, 0, 80, 42, 180, 0, 83]
abbrev dktX9_lines_0 : List UInt8 := dkwX9_lines_0 ++ dktX9_lines_1
theorem dksX9_lines_0 : cX9_lines.data.toList.drop 0 = dktX9_lines_0 := by decide +kernel
theorem dksX9_lines_1 : cX9_lines.data.toList.drop 22 = dktX9_lines_1 := dk_seg dksX9_lines_0 22 rfl rfl
theorem dksX9_lines_2 : cX9_lines.data.toList.drop 46 = dktX9_lines_2 := dk_seg dksX9_lines_1 24 rfl rfl
theorem dksX9_lines_3 : cX9_lines.data.toList.drop 70 = dktX9_lines_3 := dk_seg dksX9_lines_2 24 rfl rfl
theorem dksX9_lines_4 : cX9_lines.data.toList.drop 93 = dktX9_lines_4 := dk_seg dksX9_lines_3 23 rfl rfl
theorem dksX9_lines_5 : cX9_lines.data.toList.drop 115 = dktX9_lines_5 := dk_seg dksX9_lines_4 22 rfl rfl
theorem dksX9_lines_6 : cX9_lines.data.toList.drop 139 = dktX9_lines_6 := dk_seg dksX9_lines_5 24 rfl rfl
theorem dX9_lines_0 : decode cX9_lines 0 = .ok (.aload_n 0, 1) := dk_42 (dk_at dksX9_lines_0 0 rfl rfl)
theorem dX9_lines_1 : decode cX9_lines 1 = .ok (.iconst 0, 1) := dk_3 (dk_at dksX9_lines_0 1 rfl rfl)
theorem dX9_lines_2 : decode cX9_lines 2 = .ok (.putfield 80, 3) := dk_181 0 80 (dk_at dksX9_lines_0 2 rfl rfl)
theorem dX9_lines_5 : decode cX9_lines 5 = .ok (.aload_n 0, 1) := dk_42 (dk_at dksX9_lines_0 5 rfl rfl)
theorem dX9_lines_6 : decode cX9_lines 6 = .ok (.iconst 0, 1) := dk_3 (dk_at dksX9_lines_0 6 rfl rfl)
theorem dX9_lines_7 : decode cX9_lines 7 = .ok (.putfield 129, 3) := dk_181 0 129 (dk_at dksX9_lines_0 7 rfl rfl)
theorem dX9_lines_10 : decode cX9_lines 10 = .ok (.aload_n 0, 1) := dk_42 (dk_at dksX9_lines_0 10 rfl rfl)
theorem dX9_lines_11 : decode cX9_lines 11 = .ok (.invokevirtual 90, 3) := dk_182 0 90 (dk_at dksX9_lines_0 11 rfl rfl)
theorem dX9_lines_14 : decode cX9_lines 14 = .ok (.aload_n 0, 1) := dk_42 (dk_at dksX9_lines_0 14 rfl rfl)
theorem dX9_lines_15 : decode cX9_lines 15 = .ok (.getfield 80, 3) := dk_180 0 80 (dk_at dksX9_lines_0 15 rfl rfl)
theorem dX9_lines_18 : decode cX9_lines 18 = .ok (.aload_n 0, 1) := dk_42 (dk_at dksX9_lines_0 18 rfl rfl)
theorem dX9_lines_19 : decode cX9_lines 19 = .ok (.getfield 83, 3) := dk_180 0 83 (dk_at dksX9_lines_0 19 rfl rfl)
theorem dX9_lines_22 : decode cX9_lines 22 = .ok (.if_icmp .ge 7, 3) := dk_162 0 7 (dk_at dksX9_lines_1 0 rfl rfl)
theorem dX9_lines_25 : decode cX9_lines 25 = .ok (.iconst 1, 1) := dk_4 (dk_at dksX9_lines_1 3 rfl rfl)
theorem dX9_lines_26 : decode cX9_lines 26 = .ok (.goto 4, 3) := dk_167 0 4 (dk_at dksX9_lines_1 4 rfl rfl)
theorem dX9_lines_29 : decode cX9_lines 29 = .ok (.iconst 0, 1) := dk_3 (dk_at dksX9_lines_1 7 rfl rfl)
theorem dX9_lines_30 : decode cX9_lines 30 = .ok (.istore_n 2, 1) := dk_61 (dk_at dksX9_lines_1 8 rfl rfl)
theorem dX9_lines_31 : decode cX9_lines 31 = .ok (.iconst 0, 1) := dk_3 (dk_at dksX9_lines_1 9 rfl rfl)
theorem dX9_lines_32 : decode cX9_lines 32 = .ok (.istore_n 3, 1) := dk_62 (dk_at dksX9_lines_1 10 rfl rfl)
theorem dX9_lines_33 : decode cX9_lines 33 = .ok (.iload_n 2, 1) := dk_28 (dk_at dksX9_lines_1 11 rfl rfl)
theorem dX9_lines_34 : decode cX9_lines 34 = .ok (.ifCond .eq 111, 3) := dk_153 0 111 (dk_at dksX9_lines_1 12 rfl rfl)
theorem dX9_lines_37 : decode cX9_lines 37 = .ok (.aload_n 0, 1) := dk_42 (dk_at dksX9_lines_1 15 rfl rfl)
theorem dX9_lines_38 : decode cX9_lines 38 = .ok (.getfield 22, 3) := dk_180 0 22 (dk_at dksX9_lines_1 16 rfl rfl)
theorem dX9_lines_41 : decode cX9_lines 41 = .ok (.iconst (-1), 1) := dk_2 (dk_at dksX9_lines_1 19 rfl rfl)
theorem dX9_lines_42 : decode cX9_lines 42 = .ok (.if_icmp .ne 103, 3) := dk_160 0 103 (dk_at dksX9_lines_1 20 rfl rfl)
theorem dX9_lines_45 : decode cX9_lines 45 = .ok (.aload_n 0, 1) := dk_42 (dk_at dksX9_lines_1 23 rfl rfl)
theorem dX9_lines_46 : decode cX9_lines 46 = .ok (.invokevirtual 90, 3) := dk_182 0 90 (dk_at dksX9_lines_2 0 rfl rfl)
theorem dX9_lines_49 : decode cX9_lines 49 = .ok (.iload_n 3, 1) := dk_29 (dk_at dksX9_lines_2 3 rfl rfl)
theorem dX9_lines_50 : decode cX9_lines 50 = .ok (.bipush 12, 2) := dk_16 12 (dk_at dksX9_lines_2 4 rfl rfl)
theorem dX9_lines_52 : decode cX9_lines 52 = .ok (.if_icmp .ne 14, 3) := dk_160 0 14 (dk_at dksX9_lines_2 6 rfl rfl)
theorem dX9_lines_55 : decode cX9_lines 55 = .ok (.aload_n 0, 1) := dk_42 (dk_at dksX9_lines_2 9 rfl rfl)
theorem dX9_lines_56 : decode cX9_lines 56 = .ok (.aload_n 0, 1) := dk_42 (dk_at dksX9_lines_2 10 rfl rfl)
theorem dX9_lines_57 : decode cX9_lines 57 = .ok (.getfield 80, 3) := dk_180 0 80 (dk_at dksX9_lines_2 11 rfl rfl)
theorem dX9_lines_60 : decode cX9_lines 60 = .ok (.invokevirtual 103, 3) := dk_182 0 103 (dk_at dksX9_lines_2 14 rfl rfl)
theorem dX9_lines_63 : decode cX9_lines 63 = .ok (.goto 18, 3) := dk_167 0 18 (dk_at dksX9_lines_2 17 rfl rfl)
theorem dX9_lines_66 : decode cX9_lines 66 = .ok (.iload_n 1, 1) := dk_27 (dk_at dksX9_lines_2 20 rfl rfl)
theorem dX9_lines_67 : decode cX9_lines 67 = .ok (.ifCond .eq 10, 3) := dk_153 0 10 (dk_at dksX9_lines_2 21 rfl rfl)
theorem dX9_lines_70 : decode cX9_lines 70 = .ok (.aload_n 0, 1) := dk_42 (dk_at dksX9_lines_3 0 rfl rfl)
theorem dX9_lines_71 : decode cX9_lines 71 = .ok (.invokevirtual 132, 3) := dk_182 0 132 (dk_at dksX9_lines_3 1 rfl rfl)
theorem dX9_lines_74 : decode cX9_lines 74 = .ok (.goto 7, 3) := dk_167 0 7 (dk_at dksX9_lines_3 4 rfl rfl)
theorem dX9_lines_77 : decode cX9_lines 77 = .ok (.aload_n 0, 1) := dk_42 (dk_at dksX9_lines_3 7 rfl rfl)
theorem dX9_lines_78 : decode cX9_lines 78 = .ok (.invokevirtual 135, 3) := dk_182 0 135 (dk_at dksX9_lines_3 8 rfl rfl)
theorem dX9_lines_81 : decode cX9_lines 81 = .ok (.iinc 3 1, 3) := dk_132 3 1 (dk_at dksX9_lines_3 11 rfl rfl)
theorem dX9_lines_84 : decode cX9_lines 84 = .ok (.aload_n 0, 1) := dk_42 (dk_at dksX9_lines_3 14 rfl rfl)
theorem dX9_lines_85 : decode cX9_lines 85 = .ok (.invokevirtual 90, 3) := dk_182 0 90 (dk_at dksX9_lines_3 15 rfl rfl)
theorem dX9_lines_88 : decode cX9_lines 88 = .ok (.aload_n 0, 1) := dk_42 (dk_at dksX9_lines_3 18 rfl rfl)
theorem dX9_lines_89 : decode cX9_lines 89 = .ok (.getfield 22, 3) := dk_180 0 22 (dk_at dksX9_lines_3 19 rfl rfl)
theorem dX9_lines_92 : decode cX9_lines 92 = .ok (.iconst (-1), 1) := dk_2 (dk_at dksX9_lines_3 22 rfl rfl)
theorem dX9_lines_93 : decode cX9_lines 93 = .ok (.if_icmp .ne 14, 3) := dk_160 0 14 (dk_at dksX9_lines_4 0 rfl rfl)
theorem dX9_lines_96 : decode cX9_lines 96 = .ok (.aload_n 0, 1) := dk_42 (dk_at dksX9_lines_4 3 rfl rfl)
theorem dX9_lines_97 : decode cX9_lines 97 = .ok (.getfield 80, 3) := dk_180 0 80 (dk_at dksX9_lines_4 4 rfl rfl)
theorem dX9_lines_100 : decode cX9_lines 100 = .ok (.aload_n 0, 1) := dk_42 (dk_at dksX9_lines_4 7 rfl rfl)
theorem dX9_lines_101 : decode cX9_lines 101 = .ok (.getfield 83, 3) := dk_180 0 83 (dk_at dksX9_lines_4 8 rfl rfl)
theorem dX9_lines_104 : decode cX9_lines 104 = .ok (.if_icmp .ne 8, 3) := dk_160 0 8 (dk_at dksX9_lines_4 11 rfl rfl)
theorem dX9_lines_107 : decode cX9_lines 107 = .ok (.iconst 0, 1) := dk_3 (dk_at dksX9_lines_4 14 rfl rfl)
theorem dX9_lines_108 : decode cX9_lines 108 = .ok (.istore_n 2, 1) := dk_61 (dk_at dksX9_lines_4 15 rfl rfl)
theorem dX9_lines_109 : decode cX9_lines 109 = .ok (.goto (-76), 3) := dk_167 255 180 (dk_at dksX9_lines_4 16 rfl rfl)
theorem dX9_lines_112 : decode cX9_lines 112 = .ok (.aload_n 0, 1) := dk_42 (dk_at dksX9_lines_4 19 rfl rfl)
theorem dX9_lines_113 : decode cX9_lines 113 = .ok (.bipush 59, 2) := dk_16 59 (dk_at dksX9_lines_4 20 rfl rfl)
theorem dX9_lines_115 : decode cX9_lines 115 = .ok (.invokevirtual 138, 3) := dk_182 0 138 (dk_at dksX9_lines_5 0 rfl rfl)
theorem dX9_lines_118 : decode cX9_lines 118 = .ok (.ifCond .eq 16, 3) := dk_153 0 16 (dk_at dksX9_lines_5 3 rfl rfl)
theorem dX9_lines_121 : decode cX9_lines 121 = .ok (.aload_n 0, 1) := dk_42 (dk_at dksX9_lines_5 6 rfl rfl)
theorem dX9_lines_122 : decode cX9_lines 122 = .ok (.dup, 1) := dk_89 (dk_at dksX9_lines_5 7 rfl rfl)
theorem dX9_lines_123 : decode cX9_lines 123 = .ok (.getfield 80, 3) := dk_180 0 80 (dk_at dksX9_lines_5 8 rfl rfl)
theorem dX9_lines_126 : decode cX9_lines 126 = .ok (.iconst 1, 1) := dk_4 (dk_at dksX9_lines_5 11 rfl rfl)
theorem dX9_lines_127 : decode cX9_lines 127 = .ok (.iadd, 1) := dk_96 (dk_at dksX9_lines_5 12 rfl rfl)
theorem dX9_lines_128 : decode cX9_lines 128 = .ok (.putfield 80, 3) := dk_181 0 80 (dk_at dksX9_lines_5 13 rfl rfl)
theorem dX9_lines_131 : decode cX9_lines 131 = .ok (.goto (-98), 3) := dk_167 255 158 (dk_at dksX9_lines_5 16 rfl rfl)
theorem dX9_lines_134 : decode cX9_lines 134 = .ok (.aload_n 0, 1) := dk_42 (dk_at dksX9_lines_5 19 rfl rfl)
theorem dX9_lines_135 : decode cX9_lines 135 = .ok (.aload_n 0, 1) := dk_42 (dk_at dksX9_lines_5 20 rfl rfl)
theorem dX9_lines_136 : decode cX9_lines 136 = .ok (.getfield 80, 3) := dk_180 0 80 (dk_at dksX9_lines_5 21 rfl rfl)
theorem dX9_lines_139 : decode cX9_lines 139 = .ok (.invokevirtual 103, 3) := dk_182 0 103 (dk_at dksX9_lines_6 0 rfl rfl)
theorem dX9_lines_142 : decode cX9_lines 142 = .ok (.goto (-109), 3) := dk_167 255 147 (dk_at dksX9_lines_6 3 rfl rfl)
theorem dX9_lines_145 : decode cX9_lines 145 = .ok (.return_, 1) := dk_177 (dk_at dksX9_lines_6 6 rfl rfl)
abbrev cX9_skip : ByteArray := prog_21_method_8_code
def yX9_skip : MethodName := ⟨RX9, "skip", "()V"⟩
def dkwX9_skip_1 : List UInt8 := [42, 89, 180, 0, 80, 4, 96, 181, 0, 80, 167, 255, 222, 177]
abbrev dktX9_skip_1 : List UInt8 := dkwX9_skip_1 ++ []
def dkwX9_skip_0 : List UInt8 := [42, 180, 0, 80, 42, 180, 0, 83, 162, 0, 29, 42, 42, 180, 0, 80, 182, 0, 86, 16, 32, 160, 0, 16]
abbrev dktX9_skip_0 : List UInt8 := dkwX9_skip_0 ++ dktX9_skip_1
theorem dksX9_skip_0 : cX9_skip.data.toList.drop 0 = dktX9_skip_0 := by decide +kernel
theorem dksX9_skip_1 : cX9_skip.data.toList.drop 24 = dktX9_skip_1 := dk_seg dksX9_skip_0 24 rfl rfl
theorem dX9_skip_0 : decode cX9_skip 0 = .ok (.aload_n 0, 1) := dk_42 (dk_at dksX9_skip_0 0 rfl rfl)
theorem dX9_skip_1 : decode cX9_skip 1 = .ok (.getfield 80, 3) := dk_180 0 80 (dk_at dksX9_skip_0 1 rfl rfl)
theorem dX9_skip_4 : decode cX9_skip 4 = .ok (.aload_n 0, 1) := dk_42 (dk_at dksX9_skip_0 4 rfl rfl)
theorem dX9_skip_5 : decode cX9_skip 5 = .ok (.getfield 83, 3) := dk_180 0 83 (dk_at dksX9_skip_0 5 rfl rfl)
theorem dX9_skip_8 : decode cX9_skip 8 = .ok (.if_icmp .ge 29, 3) := dk_162 0 29 (dk_at dksX9_skip_0 8 rfl rfl)
theorem dX9_skip_11 : decode cX9_skip 11 = .ok (.aload_n 0, 1) := dk_42 (dk_at dksX9_skip_0 11 rfl rfl)
theorem dX9_skip_12 : decode cX9_skip 12 = .ok (.aload_n 0, 1) := dk_42 (dk_at dksX9_skip_0 12 rfl rfl)
theorem dX9_skip_13 : decode cX9_skip 13 = .ok (.getfield 80, 3) := dk_180 0 80 (dk_at dksX9_skip_0 13 rfl rfl)
theorem dX9_skip_16 : decode cX9_skip 16 = .ok (.invokevirtual 86, 3) := dk_182 0 86 (dk_at dksX9_skip_0 16 rfl rfl)
theorem dX9_skip_19 : decode cX9_skip 19 = .ok (.bipush 32, 2) := dk_16 32 (dk_at dksX9_skip_0 19 rfl rfl)
theorem dX9_skip_21 : decode cX9_skip 21 = .ok (.if_icmp .ne 16, 3) := dk_160 0 16 (dk_at dksX9_skip_0 21 rfl rfl)
theorem dX9_skip_24 : decode cX9_skip 24 = .ok (.aload_n 0, 1) := dk_42 (dk_at dksX9_skip_1 0 rfl rfl)
theorem dX9_skip_25 : decode cX9_skip 25 = .ok (.dup, 1) := dk_89 (dk_at dksX9_skip_1 1 rfl rfl)
theorem dX9_skip_26 : decode cX9_skip 26 = .ok (.getfield 80, 3) := dk_180 0 80 (dk_at dksX9_skip_1 2 rfl rfl)
theorem dX9_skip_29 : decode cX9_skip 29 = .ok (.iconst 1, 1) := dk_4 (dk_at dksX9_skip_1 5 rfl rfl)
theorem dX9_skip_30 : decode cX9_skip 30 = .ok (.iadd, 1) := dk_96 (dk_at dksX9_skip_1 6 rfl rfl)
theorem dX9_skip_31 : decode cX9_skip 31 = .ok (.putfield 80, 3) := dk_181 0 80 (dk_at dksX9_skip_1 7 rfl rfl)
theorem dX9_skip_34 : decode cX9_skip 34 = .ok (.goto (-34), 3) := dk_167 255 222 (dk_at dksX9_skip_1 10 rfl rfl)
theorem dX9_skip_37 : decode cX9_skip 37 = .ok (.return_, 1) := dk_177 (dk_at dksX9_skip_1 13 rfl rfl)
abbrev cX9_letter : ByteArray := prog_21_method_7_code
def yX9_letter : MethodName := ⟨RX9, "letter", "(I)I"⟩
def dkwX9_letter_1 : List UInt8 := [180, 0, 77, 27, 96, 46, 172]
abbrev dktX9_letter_1 : List UInt8 := dkwX9_letter_1 ++ []
def dkwX9_letter_0 : List UInt8 := [42, 180, 0, 77, 2, 160, 0, 12, 42, 180, 0, 19, 27, 46, 167, 0, 14, 42, 180, 0, 7, 42]
abbrev dktX9_letter_0 : List UInt8 := dkwX9_letter_0 ++ dktX9_letter_1
theorem dksX9_letter_0 : cX9_letter.data.toList.drop 0 = dktX9_letter_0 := by decide +kernel
theorem dksX9_letter_1 : cX9_letter.data.toList.drop 22 = dktX9_letter_1 := dk_seg dksX9_letter_0 22 rfl rfl
theorem dX9_letter_0 : decode cX9_letter 0 = .ok (.aload_n 0, 1) := dk_42 (dk_at dksX9_letter_0 0 rfl rfl)
theorem dX9_letter_1 : decode cX9_letter 1 = .ok (.getfield 77, 3) := dk_180 0 77 (dk_at dksX9_letter_0 1 rfl rfl)
theorem dX9_letter_4 : decode cX9_letter 4 = .ok (.iconst (-1), 1) := dk_2 (dk_at dksX9_letter_0 4 rfl rfl)
theorem dX9_letter_5 : decode cX9_letter 5 = .ok (.if_icmp .ne 12, 3) := dk_160 0 12 (dk_at dksX9_letter_0 5 rfl rfl)
theorem dX9_letter_8 : decode cX9_letter 8 = .ok (.aload_n 0, 1) := dk_42 (dk_at dksX9_letter_0 8 rfl rfl)
theorem dX9_letter_9 : decode cX9_letter 9 = .ok (.getfield 19, 3) := dk_180 0 19 (dk_at dksX9_letter_0 9 rfl rfl)
theorem dX9_letter_12 : decode cX9_letter 12 = .ok (.iload_n 1, 1) := dk_27 (dk_at dksX9_letter_0 12 rfl rfl)
theorem dX9_letter_13 : decode cX9_letter 13 = .ok (.iaload, 1) := dk_46 (dk_at dksX9_letter_0 13 rfl rfl)
theorem dX9_letter_14 : decode cX9_letter 14 = .ok (.goto 14, 3) := dk_167 0 14 (dk_at dksX9_letter_0 14 rfl rfl)
theorem dX9_letter_17 : decode cX9_letter 17 = .ok (.aload_n 0, 1) := dk_42 (dk_at dksX9_letter_0 17 rfl rfl)
theorem dX9_letter_18 : decode cX9_letter 18 = .ok (.getfield 7, 3) := dk_180 0 7 (dk_at dksX9_letter_0 18 rfl rfl)
theorem dX9_letter_21 : decode cX9_letter 21 = .ok (.aload_n 0, 1) := dk_42 (dk_at dksX9_letter_0 21 rfl rfl)
theorem dX9_letter_22 : decode cX9_letter 22 = .ok (.getfield 77, 3) := dk_180 0 77 (dk_at dksX9_letter_1 0 rfl rfl)
theorem dX9_letter_25 : decode cX9_letter 25 = .ok (.iload_n 1, 1) := dk_27 (dk_at dksX9_letter_1 3 rfl rfl)
theorem dX9_letter_26 : decode cX9_letter 26 = .ok (.iadd, 1) := dk_96 (dk_at dksX9_letter_1 4 rfl rfl)
theorem dX9_letter_27 : decode cX9_letter 27 = .ok (.iaload, 1) := dk_46 (dk_at dksX9_letter_1 5 rfl rfl)
theorem dX9_letter_28 : decode cX9_letter 28 = .ok (.ireturn, 1) := dk_172 (dk_at dksX9_letter_1 6 rfl rfl)
abbrev cX9_wrong : ByteArray := prog_21_method_11_code
def yX9_wrong : MethodName := ⟨RX9, "wrong", "(I)V"⟩
def dkwX9_wrong_0 : List UInt8 := [42, 180, 0, 22, 2, 160, 0, 8, 42, 27, 181, 0, 22, 177]
abbrev dktX9_wrong_0 : List UInt8 := dkwX9_wrong_0 ++ []
theorem dksX9_wrong_0 : cX9_wrong.data.toList.drop 0 = dktX9_wrong_0 := by decide +kernel
theorem dX9_wrong_0 : decode cX9_wrong 0 = .ok (.aload_n 0, 1) := dk_42 (dk_at dksX9_wrong_0 0 rfl rfl)
theorem dX9_wrong_1 : decode cX9_wrong 1 = .ok (.getfield 22, 3) := dk_180 0 22 (dk_at dksX9_wrong_0 1 rfl rfl)
theorem dX9_wrong_4 : decode cX9_wrong 4 = .ok (.iconst (-1), 1) := dk_2 (dk_at dksX9_wrong_0 4 rfl rfl)
theorem dX9_wrong_5 : decode cX9_wrong 5 = .ok (.if_icmp .ne 8, 3) := dk_160 0 8 (dk_at dksX9_wrong_0 5 rfl rfl)
theorem dX9_wrong_8 : decode cX9_wrong 8 = .ok (.aload_n 0, 1) := dk_42 (dk_at dksX9_wrong_0 8 rfl rfl)
theorem dX9_wrong_9 : decode cX9_wrong 9 = .ok (.iload_n 1, 1) := dk_27 (dk_at dksX9_wrong_0 9 rfl rfl)
theorem dX9_wrong_10 : decode cX9_wrong 10 = .ok (.putfield 22, 3) := dk_181 0 22 (dk_at dksX9_wrong_0 10 rfl rfl)
theorem dX9_wrong_13 : decode cX9_wrong 13 = .ok (.return_, 1) := dk_177 (dk_at dksX9_wrong_0 13 rfl rfl)
abbrev cX9_ruleLine : ByteArray := prog_21_method_22_code
def yX9_ruleLine : MethodName := ⟨RX9, "ruleLine", "()V"⟩
def dkwX9_ruleLine_3 : List UInt8 := [180, 0, 194, 2, 160, 0, 8, 42, 27, 181, 0, 194, 177]
abbrev dktX9_ruleLine_3 : List UInt8 := dkwX9_ruleLine_3 ++ []
def dkwX9_ruleLine_2 : List UInt8 := [153, 0, 7, 4, 167, 0, 4, 3, 61, 42, 180, 0, 22, 2, 160, 0, 20, 28, 153, 0, 16, 42]
abbrev dktX9_ruleLine_2 : List UInt8 := dkwX9_ruleLine_2 ++ dktX9_ruleLine_3
def dkwX9_ruleLine_1 : List UInt8 := [60, 42, 180, 0, 22, 2, 159, 0, 4, 177, 42, 18, 192, 182, 0, 109, 153, 0, 10, 42, 182, 0, 180]
abbrev dktX9_ruleLine_1 : List UInt8 := dkwX9_ruleLine_1 ++ dktX9_ruleLine_2
def dkwX9_ruleLine_0 : List UInt8 := [42, 18, 190, 182, 0, 109, 154, 0, 12, 42, 42, 180, 0, 80, 182, 0, 103, 177, 42, 3, 6, 182, 0, 113]
abbrev dktX9_ruleLine_0 : List UInt8 := dkwX9_ruleLine_0 ++ dktX9_ruleLine_1
theorem dksX9_ruleLine_0 : cX9_ruleLine.data.toList.drop 0 = dktX9_ruleLine_0 := by decide +kernel
theorem dksX9_ruleLine_1 : cX9_ruleLine.data.toList.drop 24 = dktX9_ruleLine_1 := dk_seg dksX9_ruleLine_0 24 rfl rfl
theorem dksX9_ruleLine_2 : cX9_ruleLine.data.toList.drop 47 = dktX9_ruleLine_2 := dk_seg dksX9_ruleLine_1 23 rfl rfl
theorem dksX9_ruleLine_3 : cX9_ruleLine.data.toList.drop 69 = dktX9_ruleLine_3 := dk_seg dksX9_ruleLine_2 22 rfl rfl
theorem dX9_ruleLine_0 : decode cX9_ruleLine 0 = .ok (.aload_n 0, 1) := dk_42 (dk_at dksX9_ruleLine_0 0 rfl rfl)
theorem dX9_ruleLine_1 : decode cX9_ruleLine 1 = .ok (.ldc 190, 2) := dk_18 190 (dk_at dksX9_ruleLine_0 1 rfl rfl)
theorem dX9_ruleLine_3 : decode cX9_ruleLine 3 = .ok (.invokevirtual 109, 3) := dk_182 0 109 (dk_at dksX9_ruleLine_0 3 rfl rfl)
theorem dX9_ruleLine_6 : decode cX9_ruleLine 6 = .ok (.ifCond .ne 12, 3) := dk_154 0 12 (dk_at dksX9_ruleLine_0 6 rfl rfl)
theorem dX9_ruleLine_9 : decode cX9_ruleLine 9 = .ok (.aload_n 0, 1) := dk_42 (dk_at dksX9_ruleLine_0 9 rfl rfl)
theorem dX9_ruleLine_10 : decode cX9_ruleLine 10 = .ok (.aload_n 0, 1) := dk_42 (dk_at dksX9_ruleLine_0 10 rfl rfl)
theorem dX9_ruleLine_11 : decode cX9_ruleLine 11 = .ok (.getfield 80, 3) := dk_180 0 80 (dk_at dksX9_ruleLine_0 11 rfl rfl)
theorem dX9_ruleLine_14 : decode cX9_ruleLine 14 = .ok (.invokevirtual 103, 3) := dk_182 0 103 (dk_at dksX9_ruleLine_0 14 rfl rfl)
theorem dX9_ruleLine_17 : decode cX9_ruleLine 17 = .ok (.return_, 1) := dk_177 (dk_at dksX9_ruleLine_0 17 rfl rfl)
theorem dX9_ruleLine_18 : decode cX9_ruleLine 18 = .ok (.aload_n 0, 1) := dk_42 (dk_at dksX9_ruleLine_0 18 rfl rfl)
theorem dX9_ruleLine_19 : decode cX9_ruleLine 19 = .ok (.iconst 0, 1) := dk_3 (dk_at dksX9_ruleLine_0 19 rfl rfl)
theorem dX9_ruleLine_20 : decode cX9_ruleLine 20 = .ok (.iconst 3, 1) := dk_6 (dk_at dksX9_ruleLine_0 20 rfl rfl)
theorem dX9_ruleLine_21 : decode cX9_ruleLine 21 = .ok (.invokevirtual 113, 3) := dk_182 0 113 (dk_at dksX9_ruleLine_0 21 rfl rfl)
theorem dX9_ruleLine_24 : decode cX9_ruleLine 24 = .ok (.istore_n 1, 1) := dk_60 (dk_at dksX9_ruleLine_1 0 rfl rfl)
theorem dX9_ruleLine_25 : decode cX9_ruleLine 25 = .ok (.aload_n 0, 1) := dk_42 (dk_at dksX9_ruleLine_1 1 rfl rfl)
theorem dX9_ruleLine_26 : decode cX9_ruleLine 26 = .ok (.getfield 22, 3) := dk_180 0 22 (dk_at dksX9_ruleLine_1 2 rfl rfl)
theorem dX9_ruleLine_29 : decode cX9_ruleLine 29 = .ok (.iconst (-1), 1) := dk_2 (dk_at dksX9_ruleLine_1 5 rfl rfl)
theorem dX9_ruleLine_30 : decode cX9_ruleLine 30 = .ok (.if_icmp .eq 4, 3) := dk_159 0 4 (dk_at dksX9_ruleLine_1 6 rfl rfl)
theorem dX9_ruleLine_33 : decode cX9_ruleLine 33 = .ok (.return_, 1) := dk_177 (dk_at dksX9_ruleLine_1 9 rfl rfl)
theorem dX9_ruleLine_34 : decode cX9_ruleLine 34 = .ok (.aload_n 0, 1) := dk_42 (dk_at dksX9_ruleLine_1 10 rfl rfl)
theorem dX9_ruleLine_35 : decode cX9_ruleLine 35 = .ok (.ldc 192, 2) := dk_18 192 (dk_at dksX9_ruleLine_1 11 rfl rfl)
theorem dX9_ruleLine_37 : decode cX9_ruleLine 37 = .ok (.invokevirtual 109, 3) := dk_182 0 109 (dk_at dksX9_ruleLine_1 13 rfl rfl)
theorem dX9_ruleLine_40 : decode cX9_ruleLine 40 = .ok (.ifCond .eq 10, 3) := dk_153 0 10 (dk_at dksX9_ruleLine_1 16 rfl rfl)
theorem dX9_ruleLine_43 : decode cX9_ruleLine 43 = .ok (.aload_n 0, 1) := dk_42 (dk_at dksX9_ruleLine_1 19 rfl rfl)
theorem dX9_ruleLine_44 : decode cX9_ruleLine 44 = .ok (.invokevirtual 180, 3) := dk_182 0 180 (dk_at dksX9_ruleLine_1 20 rfl rfl)
theorem dX9_ruleLine_47 : decode cX9_ruleLine 47 = .ok (.ifCond .eq 7, 3) := dk_153 0 7 (dk_at dksX9_ruleLine_2 0 rfl rfl)
theorem dX9_ruleLine_50 : decode cX9_ruleLine 50 = .ok (.iconst 1, 1) := dk_4 (dk_at dksX9_ruleLine_2 3 rfl rfl)
theorem dX9_ruleLine_51 : decode cX9_ruleLine 51 = .ok (.goto 4, 3) := dk_167 0 4 (dk_at dksX9_ruleLine_2 4 rfl rfl)
theorem dX9_ruleLine_54 : decode cX9_ruleLine 54 = .ok (.iconst 0, 1) := dk_3 (dk_at dksX9_ruleLine_2 7 rfl rfl)
theorem dX9_ruleLine_55 : decode cX9_ruleLine 55 = .ok (.istore_n 2, 1) := dk_61 (dk_at dksX9_ruleLine_2 8 rfl rfl)
theorem dX9_ruleLine_56 : decode cX9_ruleLine 56 = .ok (.aload_n 0, 1) := dk_42 (dk_at dksX9_ruleLine_2 9 rfl rfl)
theorem dX9_ruleLine_57 : decode cX9_ruleLine 57 = .ok (.getfield 22, 3) := dk_180 0 22 (dk_at dksX9_ruleLine_2 10 rfl rfl)
theorem dX9_ruleLine_60 : decode cX9_ruleLine 60 = .ok (.iconst (-1), 1) := dk_2 (dk_at dksX9_ruleLine_2 13 rfl rfl)
theorem dX9_ruleLine_61 : decode cX9_ruleLine 61 = .ok (.if_icmp .ne 20, 3) := dk_160 0 20 (dk_at dksX9_ruleLine_2 14 rfl rfl)
theorem dX9_ruleLine_64 : decode cX9_ruleLine 64 = .ok (.iload_n 2, 1) := dk_28 (dk_at dksX9_ruleLine_2 17 rfl rfl)
theorem dX9_ruleLine_65 : decode cX9_ruleLine 65 = .ok (.ifCond .eq 16, 3) := dk_153 0 16 (dk_at dksX9_ruleLine_2 18 rfl rfl)
theorem dX9_ruleLine_68 : decode cX9_ruleLine 68 = .ok (.aload_n 0, 1) := dk_42 (dk_at dksX9_ruleLine_2 21 rfl rfl)
theorem dX9_ruleLine_69 : decode cX9_ruleLine 69 = .ok (.getfield 194, 3) := dk_180 0 194 (dk_at dksX9_ruleLine_3 0 rfl rfl)
theorem dX9_ruleLine_72 : decode cX9_ruleLine 72 = .ok (.iconst (-1), 1) := dk_2 (dk_at dksX9_ruleLine_3 3 rfl rfl)
theorem dX9_ruleLine_73 : decode cX9_ruleLine 73 = .ok (.if_icmp .ne 8, 3) := dk_160 0 8 (dk_at dksX9_ruleLine_3 4 rfl rfl)
theorem dX9_ruleLine_76 : decode cX9_ruleLine 76 = .ok (.aload_n 0, 1) := dk_42 (dk_at dksX9_ruleLine_3 7 rfl rfl)
theorem dX9_ruleLine_77 : decode cX9_ruleLine 77 = .ok (.iload_n 1, 1) := dk_27 (dk_at dksX9_ruleLine_3 8 rfl rfl)
theorem dX9_ruleLine_78 : decode cX9_ruleLine 78 = .ok (.putfield 194, 3) := dk_181 0 194 (dk_at dksX9_ruleLine_3 9 rfl rfl)
theorem dX9_ruleLine_81 : decode cX9_ruleLine 81 = .ok (.return_, 1) := dk_177 (dk_at dksX9_ruleLine_3 12 rfl rfl)
abbrev cX9_has : ByteArray := prog_21_method_10_code
def yX9_has : MethodName := ⟨RX9, "has", "(Ljava/lang/String;)Z"⟩
def dkwX9_has_4 : List UInt8 := [4, 172]
abbrev dktX9_has_4 : List UInt8 := dkwX9_has_4 ++ []
def dkwX9_has_3 : List UInt8 := [182, 0, 86, 43, 29, 182, 0, 99, 159, 0, 5, 3, 172, 132, 3, 1, 167, 255, 225, 42, 28, 181, 0, 80]
abbrev dktX9_has_3 : List UInt8 := dkwX9_has_3 ++ dktX9_has_4
def dkwX9_has_2 : List UInt8 := [159, 0, 5, 3, 172, 3, 62, 29, 43, 182, 0, 93, 162, 0, 29, 42, 42, 180, 0, 80, 29, 96]
abbrev dktX9_has_2 : List UInt8 := dkwX9_has_2 ++ dktX9_has_3
def dkwX9_has_1 : List UInt8 := [16, 122, 184, 0, 70, 153, 0, 9, 132, 2, 1, 167, 255, 230, 28, 42, 180, 0, 80, 100, 43, 182, 0, 93]
abbrev dktX9_has_1 : List UInt8 := dkwX9_has_1 ++ dktX9_has_2
def dkwX9_has_0 : List UInt8 := [42, 182, 0, 90, 42, 180, 0, 80, 61, 28, 42, 180, 0, 83, 162, 0, 24, 42, 28, 182, 0, 86, 16, 97]
abbrev dktX9_has_0 : List UInt8 := dkwX9_has_0 ++ dktX9_has_1
theorem dksX9_has_0 : cX9_has.data.toList.drop 0 = dktX9_has_0 := by decide +kernel
theorem dksX9_has_1 : cX9_has.data.toList.drop 24 = dktX9_has_1 := dk_seg dksX9_has_0 24 rfl rfl
theorem dksX9_has_2 : cX9_has.data.toList.drop 48 = dktX9_has_2 := dk_seg dksX9_has_1 24 rfl rfl
theorem dksX9_has_3 : cX9_has.data.toList.drop 70 = dktX9_has_3 := dk_seg dksX9_has_2 22 rfl rfl
theorem dksX9_has_4 : cX9_has.data.toList.drop 94 = dktX9_has_4 := dk_seg dksX9_has_3 24 rfl rfl
theorem dX9_has_0 : decode cX9_has 0 = .ok (.aload_n 0, 1) := dk_42 (dk_at dksX9_has_0 0 rfl rfl)
theorem dX9_has_1 : decode cX9_has 1 = .ok (.invokevirtual 90, 3) := dk_182 0 90 (dk_at dksX9_has_0 1 rfl rfl)
theorem dX9_has_4 : decode cX9_has 4 = .ok (.aload_n 0, 1) := dk_42 (dk_at dksX9_has_0 4 rfl rfl)
theorem dX9_has_5 : decode cX9_has 5 = .ok (.getfield 80, 3) := dk_180 0 80 (dk_at dksX9_has_0 5 rfl rfl)
theorem dX9_has_8 : decode cX9_has 8 = .ok (.istore_n 2, 1) := dk_61 (dk_at dksX9_has_0 8 rfl rfl)
theorem dX9_has_9 : decode cX9_has 9 = .ok (.iload_n 2, 1) := dk_28 (dk_at dksX9_has_0 9 rfl rfl)
theorem dX9_has_10 : decode cX9_has 10 = .ok (.aload_n 0, 1) := dk_42 (dk_at dksX9_has_0 10 rfl rfl)
theorem dX9_has_11 : decode cX9_has 11 = .ok (.getfield 83, 3) := dk_180 0 83 (dk_at dksX9_has_0 11 rfl rfl)
theorem dX9_has_14 : decode cX9_has 14 = .ok (.if_icmp .ge 24, 3) := dk_162 0 24 (dk_at dksX9_has_0 14 rfl rfl)
theorem dX9_has_17 : decode cX9_has 17 = .ok (.aload_n 0, 1) := dk_42 (dk_at dksX9_has_0 17 rfl rfl)
theorem dX9_has_18 : decode cX9_has 18 = .ok (.iload_n 2, 1) := dk_28 (dk_at dksX9_has_0 18 rfl rfl)
theorem dX9_has_19 : decode cX9_has 19 = .ok (.invokevirtual 86, 3) := dk_182 0 86 (dk_at dksX9_has_0 19 rfl rfl)
theorem dX9_has_22 : decode cX9_has 22 = .ok (.bipush 97, 2) := dk_16 97 (dk_at dksX9_has_0 22 rfl rfl)
theorem dX9_has_24 : decode cX9_has 24 = .ok (.bipush 122, 2) := dk_16 122 (dk_at dksX9_has_1 0 rfl rfl)
theorem dX9_has_26 : decode cX9_has 26 = .ok (.invokestatic 70, 3) := dk_184 0 70 (dk_at dksX9_has_1 2 rfl rfl)
theorem dX9_has_29 : decode cX9_has 29 = .ok (.ifCond .eq 9, 3) := dk_153 0 9 (dk_at dksX9_has_1 5 rfl rfl)
theorem dX9_has_32 : decode cX9_has 32 = .ok (.iinc 2 1, 3) := dk_132 2 1 (dk_at dksX9_has_1 8 rfl rfl)
theorem dX9_has_35 : decode cX9_has 35 = .ok (.goto (-26), 3) := dk_167 255 230 (dk_at dksX9_has_1 11 rfl rfl)
theorem dX9_has_38 : decode cX9_has 38 = .ok (.iload_n 2, 1) := dk_28 (dk_at dksX9_has_1 14 rfl rfl)
theorem dX9_has_39 : decode cX9_has 39 = .ok (.aload_n 0, 1) := dk_42 (dk_at dksX9_has_1 15 rfl rfl)
theorem dX9_has_40 : decode cX9_has 40 = .ok (.getfield 80, 3) := dk_180 0 80 (dk_at dksX9_has_1 16 rfl rfl)
theorem dX9_has_43 : decode cX9_has 43 = .ok (.isub, 1) := dk_100 (dk_at dksX9_has_1 19 rfl rfl)
theorem dX9_has_44 : decode cX9_has 44 = .ok (.aload_n 1, 1) := dk_43 (dk_at dksX9_has_1 20 rfl rfl)
theorem dX9_has_45 : decode cX9_has 45 = .ok (.invokevirtual 93, 3) := dk_182 0 93 (dk_at dksX9_has_1 21 rfl rfl)
theorem dX9_has_48 : decode cX9_has 48 = .ok (.if_icmp .eq 5, 3) := dk_159 0 5 (dk_at dksX9_has_2 0 rfl rfl)
theorem dX9_has_51 : decode cX9_has 51 = .ok (.iconst 0, 1) := dk_3 (dk_at dksX9_has_2 3 rfl rfl)
theorem dX9_has_52 : decode cX9_has 52 = .ok (.ireturn, 1) := dk_172 (dk_at dksX9_has_2 4 rfl rfl)
theorem dX9_has_53 : decode cX9_has 53 = .ok (.iconst 0, 1) := dk_3 (dk_at dksX9_has_2 5 rfl rfl)
theorem dX9_has_54 : decode cX9_has 54 = .ok (.istore_n 3, 1) := dk_62 (dk_at dksX9_has_2 6 rfl rfl)
theorem dX9_has_55 : decode cX9_has 55 = .ok (.iload_n 3, 1) := dk_29 (dk_at dksX9_has_2 7 rfl rfl)
theorem dX9_has_56 : decode cX9_has 56 = .ok (.aload_n 1, 1) := dk_43 (dk_at dksX9_has_2 8 rfl rfl)
theorem dX9_has_57 : decode cX9_has 57 = .ok (.invokevirtual 93, 3) := dk_182 0 93 (dk_at dksX9_has_2 9 rfl rfl)
theorem dX9_has_60 : decode cX9_has 60 = .ok (.if_icmp .ge 29, 3) := dk_162 0 29 (dk_at dksX9_has_2 12 rfl rfl)
theorem dX9_has_63 : decode cX9_has 63 = .ok (.aload_n 0, 1) := dk_42 (dk_at dksX9_has_2 15 rfl rfl)
theorem dX9_has_64 : decode cX9_has 64 = .ok (.aload_n 0, 1) := dk_42 (dk_at dksX9_has_2 16 rfl rfl)
theorem dX9_has_65 : decode cX9_has 65 = .ok (.getfield 80, 3) := dk_180 0 80 (dk_at dksX9_has_2 17 rfl rfl)
theorem dX9_has_68 : decode cX9_has 68 = .ok (.iload_n 3, 1) := dk_29 (dk_at dksX9_has_2 20 rfl rfl)
theorem dX9_has_69 : decode cX9_has 69 = .ok (.iadd, 1) := dk_96 (dk_at dksX9_has_2 21 rfl rfl)
theorem dX9_has_70 : decode cX9_has 70 = .ok (.invokevirtual 86, 3) := dk_182 0 86 (dk_at dksX9_has_3 0 rfl rfl)
theorem dX9_has_73 : decode cX9_has 73 = .ok (.aload_n 1, 1) := dk_43 (dk_at dksX9_has_3 3 rfl rfl)
theorem dX9_has_74 : decode cX9_has 74 = .ok (.iload_n 3, 1) := dk_29 (dk_at dksX9_has_3 4 rfl rfl)
theorem dX9_has_75 : decode cX9_has 75 = .ok (.invokevirtual 99, 3) := dk_182 0 99 (dk_at dksX9_has_3 5 rfl rfl)
theorem dX9_has_78 : decode cX9_has 78 = .ok (.if_icmp .eq 5, 3) := dk_159 0 5 (dk_at dksX9_has_3 8 rfl rfl)
theorem dX9_has_81 : decode cX9_has 81 = .ok (.iconst 0, 1) := dk_3 (dk_at dksX9_has_3 11 rfl rfl)
theorem dX9_has_82 : decode cX9_has 82 = .ok (.ireturn, 1) := dk_172 (dk_at dksX9_has_3 12 rfl rfl)
theorem dX9_has_83 : decode cX9_has 83 = .ok (.iinc 3 1, 3) := dk_132 3 1 (dk_at dksX9_has_3 13 rfl rfl)
theorem dX9_has_86 : decode cX9_has 86 = .ok (.goto (-31), 3) := dk_167 255 225 (dk_at dksX9_has_3 16 rfl rfl)
theorem dX9_has_89 : decode cX9_has 89 = .ok (.aload_n 0, 1) := dk_42 (dk_at dksX9_has_3 19 rfl rfl)
theorem dX9_has_90 : decode cX9_has 90 = .ok (.iload_n 2, 1) := dk_28 (dk_at dksX9_has_3 20 rfl rfl)
theorem dX9_has_91 : decode cX9_has 91 = .ok (.putfield 80, 3) := dk_181 0 80 (dk_at dksX9_has_3 21 rfl rfl)
theorem dX9_has_94 : decode cX9_has 94 = .ok (.iconst 1, 1) := dk_4 (dk_at dksX9_has_4 0 rfl rfl)
theorem dX9_has_95 : decode cX9_has 95 = .ok (.ireturn, 1) := dk_172 (dk_at dksX9_has_4 1 rfl rfl)
abbrev cX9_figures : ByteArray := prog_21_method_12_code
def yX9_figures : MethodName := ⟨RX9, "figures", "(II)I"⟩
def dkwX9_figures_5 : List UInt8 := [161, 0, 9, 21, 4, 28, 164, 0, 8, 42, 29, 182, 0, 103, 21, 4, 172]
abbrev dktX9_figures_5 : List UInt8 := dkwX9_figures_5 ++ []
def dkwX9_figures_4 : List UInt8 := [167, 255, 188, 42, 180, 0, 80, 29, 159, 0, 25, 42, 180, 0, 80, 29, 100, 6, 163, 0, 15, 21, 4, 27]
abbrev dktX9_figures_4 : List UInt8 := dkwX9_figures_4 ++ dktX9_figures_5
def dkwX9_figures_3 : List UInt8 := [180, 0, 80, 182, 0, 86, 96, 16, 48, 100, 54, 4, 42, 89, 180, 0, 80, 4, 96, 181, 0, 80]
abbrev dktX9_figures_3 : List UInt8 := dkwX9_figures_3 ++ dktX9_figures_4
def dkwX9_figures_2 : List UInt8 := [184, 0, 70, 153, 0, 45, 42, 180, 0, 80, 29, 100, 7, 162, 0, 35, 16, 10, 21, 4, 104, 42, 42]
abbrev dktX9_figures_2 : List UInt8 := dkwX9_figures_2 ++ dktX9_figures_3
def dkwX9_figures_1 : List UInt8 := [180, 0, 80, 42, 180, 0, 83, 162, 0, 63, 42, 42, 180, 0, 80, 182, 0, 86, 16, 48, 16, 57]
abbrev dktX9_figures_1 : List UInt8 := dkwX9_figures_1 ++ dktX9_figures_2
def dkwX9_figures_0 : List UInt8 := [42, 180, 0, 22, 2, 159, 0, 5, 3, 172, 42, 182, 0, 90, 42, 180, 0, 80, 62, 3, 54, 4, 42]
abbrev dktX9_figures_0 : List UInt8 := dkwX9_figures_0 ++ dktX9_figures_1
theorem dksX9_figures_0 : cX9_figures.data.toList.drop 0 = dktX9_figures_0 := by decide +kernel
theorem dksX9_figures_1 : cX9_figures.data.toList.drop 23 = dktX9_figures_1 := dk_seg dksX9_figures_0 23 rfl rfl
theorem dksX9_figures_2 : cX9_figures.data.toList.drop 45 = dktX9_figures_2 := dk_seg dksX9_figures_1 22 rfl rfl
theorem dksX9_figures_3 : cX9_figures.data.toList.drop 68 = dktX9_figures_3 := dk_seg dksX9_figures_2 23 rfl rfl
theorem dksX9_figures_4 : cX9_figures.data.toList.drop 90 = dktX9_figures_4 := dk_seg dksX9_figures_3 22 rfl rfl
theorem dksX9_figures_5 : cX9_figures.data.toList.drop 114 = dktX9_figures_5 := dk_seg dksX9_figures_4 24 rfl rfl
theorem dX9_figures_0 : decode cX9_figures 0 = .ok (.aload_n 0, 1) := dk_42 (dk_at dksX9_figures_0 0 rfl rfl)
theorem dX9_figures_1 : decode cX9_figures 1 = .ok (.getfield 22, 3) := dk_180 0 22 (dk_at dksX9_figures_0 1 rfl rfl)
theorem dX9_figures_4 : decode cX9_figures 4 = .ok (.iconst (-1), 1) := dk_2 (dk_at dksX9_figures_0 4 rfl rfl)
theorem dX9_figures_5 : decode cX9_figures 5 = .ok (.if_icmp .eq 5, 3) := dk_159 0 5 (dk_at dksX9_figures_0 5 rfl rfl)
theorem dX9_figures_8 : decode cX9_figures 8 = .ok (.iconst 0, 1) := dk_3 (dk_at dksX9_figures_0 8 rfl rfl)
theorem dX9_figures_9 : decode cX9_figures 9 = .ok (.ireturn, 1) := dk_172 (dk_at dksX9_figures_0 9 rfl rfl)
theorem dX9_figures_10 : decode cX9_figures 10 = .ok (.aload_n 0, 1) := dk_42 (dk_at dksX9_figures_0 10 rfl rfl)
theorem dX9_figures_11 : decode cX9_figures 11 = .ok (.invokevirtual 90, 3) := dk_182 0 90 (dk_at dksX9_figures_0 11 rfl rfl)
theorem dX9_figures_14 : decode cX9_figures 14 = .ok (.aload_n 0, 1) := dk_42 (dk_at dksX9_figures_0 14 rfl rfl)
theorem dX9_figures_15 : decode cX9_figures 15 = .ok (.getfield 80, 3) := dk_180 0 80 (dk_at dksX9_figures_0 15 rfl rfl)
theorem dX9_figures_18 : decode cX9_figures 18 = .ok (.istore_n 3, 1) := dk_62 (dk_at dksX9_figures_0 18 rfl rfl)
theorem dX9_figures_19 : decode cX9_figures 19 = .ok (.iconst 0, 1) := dk_3 (dk_at dksX9_figures_0 19 rfl rfl)
theorem dX9_figures_20 : decode cX9_figures 20 = .ok (.istore 4, 2) := dk_54 4 (dk_at dksX9_figures_0 20 rfl rfl)
theorem dX9_figures_22 : decode cX9_figures 22 = .ok (.aload_n 0, 1) := dk_42 (dk_at dksX9_figures_0 22 rfl rfl)
theorem dX9_figures_23 : decode cX9_figures 23 = .ok (.getfield 80, 3) := dk_180 0 80 (dk_at dksX9_figures_1 0 rfl rfl)
theorem dX9_figures_26 : decode cX9_figures 26 = .ok (.aload_n 0, 1) := dk_42 (dk_at dksX9_figures_1 3 rfl rfl)
theorem dX9_figures_27 : decode cX9_figures 27 = .ok (.getfield 83, 3) := dk_180 0 83 (dk_at dksX9_figures_1 4 rfl rfl)
theorem dX9_figures_30 : decode cX9_figures 30 = .ok (.if_icmp .ge 63, 3) := dk_162 0 63 (dk_at dksX9_figures_1 7 rfl rfl)
theorem dX9_figures_33 : decode cX9_figures 33 = .ok (.aload_n 0, 1) := dk_42 (dk_at dksX9_figures_1 10 rfl rfl)
theorem dX9_figures_34 : decode cX9_figures 34 = .ok (.aload_n 0, 1) := dk_42 (dk_at dksX9_figures_1 11 rfl rfl)
theorem dX9_figures_35 : decode cX9_figures 35 = .ok (.getfield 80, 3) := dk_180 0 80 (dk_at dksX9_figures_1 12 rfl rfl)
theorem dX9_figures_38 : decode cX9_figures 38 = .ok (.invokevirtual 86, 3) := dk_182 0 86 (dk_at dksX9_figures_1 15 rfl rfl)
theorem dX9_figures_41 : decode cX9_figures 41 = .ok (.bipush 48, 2) := dk_16 48 (dk_at dksX9_figures_1 18 rfl rfl)
theorem dX9_figures_43 : decode cX9_figures 43 = .ok (.bipush 57, 2) := dk_16 57 (dk_at dksX9_figures_1 20 rfl rfl)
theorem dX9_figures_45 : decode cX9_figures 45 = .ok (.invokestatic 70, 3) := dk_184 0 70 (dk_at dksX9_figures_2 0 rfl rfl)
theorem dX9_figures_48 : decode cX9_figures 48 = .ok (.ifCond .eq 45, 3) := dk_153 0 45 (dk_at dksX9_figures_2 3 rfl rfl)
theorem dX9_figures_51 : decode cX9_figures 51 = .ok (.aload_n 0, 1) := dk_42 (dk_at dksX9_figures_2 6 rfl rfl)
theorem dX9_figures_52 : decode cX9_figures 52 = .ok (.getfield 80, 3) := dk_180 0 80 (dk_at dksX9_figures_2 7 rfl rfl)
theorem dX9_figures_55 : decode cX9_figures 55 = .ok (.iload_n 3, 1) := dk_29 (dk_at dksX9_figures_2 10 rfl rfl)
theorem dX9_figures_56 : decode cX9_figures 56 = .ok (.isub, 1) := dk_100 (dk_at dksX9_figures_2 11 rfl rfl)
theorem dX9_figures_57 : decode cX9_figures 57 = .ok (.iconst 4, 1) := dk_7 (dk_at dksX9_figures_2 12 rfl rfl)
theorem dX9_figures_58 : decode cX9_figures 58 = .ok (.if_icmp .ge 35, 3) := dk_162 0 35 (dk_at dksX9_figures_2 13 rfl rfl)
theorem dX9_figures_61 : decode cX9_figures 61 = .ok (.bipush 10, 2) := dk_16 10 (dk_at dksX9_figures_2 16 rfl rfl)
theorem dX9_figures_63 : decode cX9_figures 63 = .ok (.iload 4, 2) := dk_21 4 (dk_at dksX9_figures_2 18 rfl rfl)
theorem dX9_figures_65 : decode cX9_figures 65 = .ok (.imul, 1) := dk_104 (dk_at dksX9_figures_2 20 rfl rfl)
theorem dX9_figures_66 : decode cX9_figures 66 = .ok (.aload_n 0, 1) := dk_42 (dk_at dksX9_figures_2 21 rfl rfl)
theorem dX9_figures_67 : decode cX9_figures 67 = .ok (.aload_n 0, 1) := dk_42 (dk_at dksX9_figures_2 22 rfl rfl)
theorem dX9_figures_68 : decode cX9_figures 68 = .ok (.getfield 80, 3) := dk_180 0 80 (dk_at dksX9_figures_3 0 rfl rfl)
theorem dX9_figures_71 : decode cX9_figures 71 = .ok (.invokevirtual 86, 3) := dk_182 0 86 (dk_at dksX9_figures_3 3 rfl rfl)
theorem dX9_figures_74 : decode cX9_figures 74 = .ok (.iadd, 1) := dk_96 (dk_at dksX9_figures_3 6 rfl rfl)
theorem dX9_figures_75 : decode cX9_figures 75 = .ok (.bipush 48, 2) := dk_16 48 (dk_at dksX9_figures_3 7 rfl rfl)
theorem dX9_figures_77 : decode cX9_figures 77 = .ok (.isub, 1) := dk_100 (dk_at dksX9_figures_3 9 rfl rfl)
theorem dX9_figures_78 : decode cX9_figures 78 = .ok (.istore 4, 2) := dk_54 4 (dk_at dksX9_figures_3 10 rfl rfl)
theorem dX9_figures_80 : decode cX9_figures 80 = .ok (.aload_n 0, 1) := dk_42 (dk_at dksX9_figures_3 12 rfl rfl)
theorem dX9_figures_81 : decode cX9_figures 81 = .ok (.dup, 1) := dk_89 (dk_at dksX9_figures_3 13 rfl rfl)
theorem dX9_figures_82 : decode cX9_figures 82 = .ok (.getfield 80, 3) := dk_180 0 80 (dk_at dksX9_figures_3 14 rfl rfl)
theorem dX9_figures_85 : decode cX9_figures 85 = .ok (.iconst 1, 1) := dk_4 (dk_at dksX9_figures_3 17 rfl rfl)
theorem dX9_figures_86 : decode cX9_figures 86 = .ok (.iadd, 1) := dk_96 (dk_at dksX9_figures_3 18 rfl rfl)
theorem dX9_figures_87 : decode cX9_figures 87 = .ok (.putfield 80, 3) := dk_181 0 80 (dk_at dksX9_figures_3 19 rfl rfl)
theorem dX9_figures_90 : decode cX9_figures 90 = .ok (.goto (-68), 3) := dk_167 255 188 (dk_at dksX9_figures_4 0 rfl rfl)
theorem dX9_figures_93 : decode cX9_figures 93 = .ok (.aload_n 0, 1) := dk_42 (dk_at dksX9_figures_4 3 rfl rfl)
theorem dX9_figures_94 : decode cX9_figures 94 = .ok (.getfield 80, 3) := dk_180 0 80 (dk_at dksX9_figures_4 4 rfl rfl)
theorem dX9_figures_97 : decode cX9_figures 97 = .ok (.iload_n 3, 1) := dk_29 (dk_at dksX9_figures_4 7 rfl rfl)
theorem dX9_figures_98 : decode cX9_figures 98 = .ok (.if_icmp .eq 25, 3) := dk_159 0 25 (dk_at dksX9_figures_4 8 rfl rfl)
theorem dX9_figures_101 : decode cX9_figures 101 = .ok (.aload_n 0, 1) := dk_42 (dk_at dksX9_figures_4 11 rfl rfl)
theorem dX9_figures_102 : decode cX9_figures 102 = .ok (.getfield 80, 3) := dk_180 0 80 (dk_at dksX9_figures_4 12 rfl rfl)
theorem dX9_figures_105 : decode cX9_figures 105 = .ok (.iload_n 3, 1) := dk_29 (dk_at dksX9_figures_4 15 rfl rfl)
theorem dX9_figures_106 : decode cX9_figures 106 = .ok (.isub, 1) := dk_100 (dk_at dksX9_figures_4 16 rfl rfl)
theorem dX9_figures_107 : decode cX9_figures 107 = .ok (.iconst 3, 1) := dk_6 (dk_at dksX9_figures_4 17 rfl rfl)
theorem dX9_figures_108 : decode cX9_figures 108 = .ok (.if_icmp .gt 15, 3) := dk_163 0 15 (dk_at dksX9_figures_4 18 rfl rfl)
theorem dX9_figures_111 : decode cX9_figures 111 = .ok (.iload 4, 2) := dk_21 4 (dk_at dksX9_figures_4 21 rfl rfl)
theorem dX9_figures_113 : decode cX9_figures 113 = .ok (.iload_n 1, 1) := dk_27 (dk_at dksX9_figures_4 23 rfl rfl)
theorem dX9_figures_114 : decode cX9_figures 114 = .ok (.if_icmp .lt 9, 3) := dk_161 0 9 (dk_at dksX9_figures_5 0 rfl rfl)
theorem dX9_figures_117 : decode cX9_figures 117 = .ok (.iload 4, 2) := dk_21 4 (dk_at dksX9_figures_5 3 rfl rfl)
theorem dX9_figures_119 : decode cX9_figures 119 = .ok (.iload_n 2, 1) := dk_28 (dk_at dksX9_figures_5 5 rfl rfl)
theorem dX9_figures_120 : decode cX9_figures 120 = .ok (.if_icmp .le 8, 3) := dk_164 0 8 (dk_at dksX9_figures_5 6 rfl rfl)
theorem dX9_figures_123 : decode cX9_figures 123 = .ok (.aload_n 0, 1) := dk_42 (dk_at dksX9_figures_5 9 rfl rfl)
theorem dX9_figures_124 : decode cX9_figures 124 = .ok (.iload_n 3, 1) := dk_29 (dk_at dksX9_figures_5 10 rfl rfl)
theorem dX9_figures_125 : decode cX9_figures 125 = .ok (.invokevirtual 103, 3) := dk_182 0 103 (dk_at dksX9_figures_5 11 rfl rfl)
theorem dX9_figures_128 : decode cX9_figures 128 = .ok (.iload 4, 2) := dk_21 4 (dk_at dksX9_figures_5 14 rfl rfl)
theorem dX9_figures_130 : decode cX9_figures 130 = .ok (.ireturn, 1) := dk_172 (dk_at dksX9_figures_5 16 rfl rfl)
abbrev cX9_some : ByteArray := prog_21_method_21_code
def yX9_some : MethodName := ⟨RX9, "some", "()Z"⟩
def dkwX9_some_1 : List UInt8 := [182, 0, 185, 61, 27, 154, 0, 7, 28, 153, 0, 7, 4, 167, 0, 4, 3, 60, 167, 255, 220, 27, 172]
abbrev dktX9_some_1 : List UInt8 := dkwX9_some_1 ++ []
def dkwX9_some_0 : List UInt8 := [42, 182, 0, 185, 60, 42, 180, 0, 22, 2, 160, 0, 34, 42, 18, 188, 182, 0, 109, 153, 0, 25, 42]
abbrev dktX9_some_0 : List UInt8 := dkwX9_some_0 ++ dktX9_some_1
theorem dksX9_some_0 : cX9_some.data.toList.drop 0 = dktX9_some_0 := by decide +kernel
theorem dksX9_some_1 : cX9_some.data.toList.drop 23 = dktX9_some_1 := dk_seg dksX9_some_0 23 rfl rfl
theorem dX9_some_0 : decode cX9_some 0 = .ok (.aload_n 0, 1) := dk_42 (dk_at dksX9_some_0 0 rfl rfl)
theorem dX9_some_1 : decode cX9_some 1 = .ok (.invokevirtual 185, 3) := dk_182 0 185 (dk_at dksX9_some_0 1 rfl rfl)
theorem dX9_some_4 : decode cX9_some 4 = .ok (.istore_n 1, 1) := dk_60 (dk_at dksX9_some_0 4 rfl rfl)
theorem dX9_some_5 : decode cX9_some 5 = .ok (.aload_n 0, 1) := dk_42 (dk_at dksX9_some_0 5 rfl rfl)
theorem dX9_some_6 : decode cX9_some 6 = .ok (.getfield 22, 3) := dk_180 0 22 (dk_at dksX9_some_0 6 rfl rfl)
theorem dX9_some_9 : decode cX9_some 9 = .ok (.iconst (-1), 1) := dk_2 (dk_at dksX9_some_0 9 rfl rfl)
theorem dX9_some_10 : decode cX9_some 10 = .ok (.if_icmp .ne 34, 3) := dk_160 0 34 (dk_at dksX9_some_0 10 rfl rfl)
theorem dX9_some_13 : decode cX9_some 13 = .ok (.aload_n 0, 1) := dk_42 (dk_at dksX9_some_0 13 rfl rfl)
theorem dX9_some_14 : decode cX9_some 14 = .ok (.ldc 188, 2) := dk_18 188 (dk_at dksX9_some_0 14 rfl rfl)
theorem dX9_some_16 : decode cX9_some 16 = .ok (.invokevirtual 109, 3) := dk_182 0 109 (dk_at dksX9_some_0 16 rfl rfl)
theorem dX9_some_19 : decode cX9_some 19 = .ok (.ifCond .eq 25, 3) := dk_153 0 25 (dk_at dksX9_some_0 19 rfl rfl)
theorem dX9_some_22 : decode cX9_some 22 = .ok (.aload_n 0, 1) := dk_42 (dk_at dksX9_some_0 22 rfl rfl)
theorem dX9_some_23 : decode cX9_some 23 = .ok (.invokevirtual 185, 3) := dk_182 0 185 (dk_at dksX9_some_1 0 rfl rfl)
theorem dX9_some_26 : decode cX9_some 26 = .ok (.istore_n 2, 1) := dk_61 (dk_at dksX9_some_1 3 rfl rfl)
theorem dX9_some_27 : decode cX9_some 27 = .ok (.iload_n 1, 1) := dk_27 (dk_at dksX9_some_1 4 rfl rfl)
theorem dX9_some_28 : decode cX9_some 28 = .ok (.ifCond .ne 7, 3) := dk_154 0 7 (dk_at dksX9_some_1 5 rfl rfl)
theorem dX9_some_31 : decode cX9_some 31 = .ok (.iload_n 2, 1) := dk_28 (dk_at dksX9_some_1 8 rfl rfl)
theorem dX9_some_32 : decode cX9_some 32 = .ok (.ifCond .eq 7, 3) := dk_153 0 7 (dk_at dksX9_some_1 9 rfl rfl)
theorem dX9_some_35 : decode cX9_some 35 = .ok (.iconst 1, 1) := dk_4 (dk_at dksX9_some_1 12 rfl rfl)
theorem dX9_some_36 : decode cX9_some 36 = .ok (.goto 4, 3) := dk_167 0 4 (dk_at dksX9_some_1 13 rfl rfl)
theorem dX9_some_39 : decode cX9_some 39 = .ok (.iconst 0, 1) := dk_3 (dk_at dksX9_some_1 16 rfl rfl)
theorem dX9_some_40 : decode cX9_some 40 = .ok (.istore_n 1, 1) := dk_60 (dk_at dksX9_some_1 17 rfl rfl)
theorem dX9_some_41 : decode cX9_some 41 = .ok (.goto (-36), 3) := dk_167 255 220 (dk_at dksX9_some_1 18 rfl rfl)
theorem dX9_some_44 : decode cX9_some 44 = .ok (.iload_n 1, 1) := dk_27 (dk_at dksX9_some_1 21 rfl rfl)
theorem dX9_some_45 : decode cX9_some 45 = .ok (.ireturn, 1) := dk_172 (dk_at dksX9_some_1 22 rfl rfl)
abbrev cX9_every : ByteArray := prog_21_method_20_code
def yX9_every : MethodName := ⟨RX9, "every", "()Z"⟩
def dkwX9_every_1 : List UInt8 := [182, 0, 177, 61, 27, 153, 0, 11, 28, 153, 0, 7, 4, 167, 0, 4, 3, 60, 167, 255, 220, 27, 172]
abbrev dktX9_every_1 : List UInt8 := dkwX9_every_1 ++ []
def dkwX9_every_0 : List UInt8 := [42, 182, 0, 177, 60, 42, 180, 0, 22, 2, 160, 0, 34, 42, 18, 183, 182, 0, 109, 153, 0, 25, 42]
abbrev dktX9_every_0 : List UInt8 := dkwX9_every_0 ++ dktX9_every_1
theorem dksX9_every_0 : cX9_every.data.toList.drop 0 = dktX9_every_0 := by decide +kernel
theorem dksX9_every_1 : cX9_every.data.toList.drop 23 = dktX9_every_1 := dk_seg dksX9_every_0 23 rfl rfl
theorem dX9_every_0 : decode cX9_every 0 = .ok (.aload_n 0, 1) := dk_42 (dk_at dksX9_every_0 0 rfl rfl)
theorem dX9_every_1 : decode cX9_every 1 = .ok (.invokevirtual 177, 3) := dk_182 0 177 (dk_at dksX9_every_0 1 rfl rfl)
theorem dX9_every_4 : decode cX9_every 4 = .ok (.istore_n 1, 1) := dk_60 (dk_at dksX9_every_0 4 rfl rfl)
theorem dX9_every_5 : decode cX9_every 5 = .ok (.aload_n 0, 1) := dk_42 (dk_at dksX9_every_0 5 rfl rfl)
theorem dX9_every_6 : decode cX9_every 6 = .ok (.getfield 22, 3) := dk_180 0 22 (dk_at dksX9_every_0 6 rfl rfl)
theorem dX9_every_9 : decode cX9_every 9 = .ok (.iconst (-1), 1) := dk_2 (dk_at dksX9_every_0 9 rfl rfl)
theorem dX9_every_10 : decode cX9_every 10 = .ok (.if_icmp .ne 34, 3) := dk_160 0 34 (dk_at dksX9_every_0 10 rfl rfl)
theorem dX9_every_13 : decode cX9_every 13 = .ok (.aload_n 0, 1) := dk_42 (dk_at dksX9_every_0 13 rfl rfl)
theorem dX9_every_14 : decode cX9_every 14 = .ok (.ldc 183, 2) := dk_18 183 (dk_at dksX9_every_0 14 rfl rfl)
theorem dX9_every_16 : decode cX9_every 16 = .ok (.invokevirtual 109, 3) := dk_182 0 109 (dk_at dksX9_every_0 16 rfl rfl)
theorem dX9_every_19 : decode cX9_every 19 = .ok (.ifCond .eq 25, 3) := dk_153 0 25 (dk_at dksX9_every_0 19 rfl rfl)
theorem dX9_every_22 : decode cX9_every 22 = .ok (.aload_n 0, 1) := dk_42 (dk_at dksX9_every_0 22 rfl rfl)
theorem dX9_every_23 : decode cX9_every 23 = .ok (.invokevirtual 177, 3) := dk_182 0 177 (dk_at dksX9_every_1 0 rfl rfl)
theorem dX9_every_26 : decode cX9_every 26 = .ok (.istore_n 2, 1) := dk_61 (dk_at dksX9_every_1 3 rfl rfl)
theorem dX9_every_27 : decode cX9_every 27 = .ok (.iload_n 1, 1) := dk_27 (dk_at dksX9_every_1 4 rfl rfl)
theorem dX9_every_28 : decode cX9_every 28 = .ok (.ifCond .eq 11, 3) := dk_153 0 11 (dk_at dksX9_every_1 5 rfl rfl)
theorem dX9_every_31 : decode cX9_every 31 = .ok (.iload_n 2, 1) := dk_28 (dk_at dksX9_every_1 8 rfl rfl)
theorem dX9_every_32 : decode cX9_every 32 = .ok (.ifCond .eq 7, 3) := dk_153 0 7 (dk_at dksX9_every_1 9 rfl rfl)
theorem dX9_every_35 : decode cX9_every 35 = .ok (.iconst 1, 1) := dk_4 (dk_at dksX9_every_1 12 rfl rfl)
theorem dX9_every_36 : decode cX9_every 36 = .ok (.goto 4, 3) := dk_167 0 4 (dk_at dksX9_every_1 13 rfl rfl)
theorem dX9_every_39 : decode cX9_every 39 = .ok (.iconst 0, 1) := dk_3 (dk_at dksX9_every_1 16 rfl rfl)
theorem dX9_every_40 : decode cX9_every 40 = .ok (.istore_n 1, 1) := dk_60 (dk_at dksX9_every_1 17 rfl rfl)
theorem dX9_every_41 : decode cX9_every 41 = .ok (.goto (-36), 3) := dk_167 255 220 (dk_at dksX9_every_1 18 rfl rfl)
theorem dX9_every_44 : decode cX9_every 44 = .ok (.iload_n 1, 1) := dk_27 (dk_at dksX9_every_1 21 rfl rfl)
theorem dX9_every_45 : decode cX9_every 45 = .ok (.ireturn, 1) := dk_172 (dk_at dksX9_every_1 22 rfl rfl)
abbrev cX9_atom : ByteArray := prog_21_method_19_code
def yX9_atom : MethodName := ⟨RX9, "atom", "()Z"⟩
def dkwX9_atom_6 : List UInt8 := [180, 0, 80, 4, 96, 181, 0, 80, 42, 89, 180, 0, 129, 4, 100, 181, 0, 129, 29, 172]
abbrev dktX9_atom_6 : List UInt8 := dkwX9_atom_6 ++ []
def dkwX9_atom_5 : List UInt8 := [160, 0, 20, 42, 16, 41, 182, 0, 138, 154, 0, 11, 42, 42, 180, 0, 80, 182, 0, 103, 42, 89]
abbrev dktX9_atom_5 : List UInt8 := dkwX9_atom_5 ++ dktX9_atom_6
def dkwX9_atom_4 : List UInt8 := [167, 0, 53, 42, 89, 180, 0, 80, 4, 96, 181, 0, 80, 42, 182, 0, 180, 62, 42, 180, 0, 22, 2]
abbrev dktX9_atom_4 : List UInt8 := dkwX9_atom_4 ++ dktX9_atom_5
def dkwX9_atom_3 : List UInt8 := [181, 0, 129, 3, 62, 28, 153, 0, 19, 42, 182, 0, 177, 154, 0, 7, 4, 167, 0, 4, 3, 62]
abbrev dktX9_atom_3 : List UInt8 := dkwX9_atom_3 ++ dktX9_atom_4
def dkwX9_atom_2 : List UInt8 := [180, 0, 129, 16, 6, 160, 0, 10, 42, 27, 182, 0, 103, 3, 172, 42, 89, 180, 0, 129, 4, 96]
abbrev dktX9_atom_2 : List UInt8 := dkwX9_atom_2 ++ dktX9_atom_3
def dkwX9_atom_1 : List UInt8 := [182, 0, 109, 61, 28, 154, 0, 17, 42, 16, 40, 182, 0, 138, 154, 0, 8, 42, 182, 0, 173, 172, 42]
abbrev dktX9_atom_1 : List UInt8 := dkwX9_atom_1 ++ dktX9_atom_2
def dkwX9_atom_0 : List UInt8 := [42, 180, 0, 22, 2, 159, 0, 5, 3, 172, 42, 182, 0, 90, 42, 180, 0, 80, 60, 42, 18, 171]
abbrev dktX9_atom_0 : List UInt8 := dkwX9_atom_0 ++ dktX9_atom_1
theorem dksX9_atom_0 : cX9_atom.data.toList.drop 0 = dktX9_atom_0 := by decide +kernel
theorem dksX9_atom_1 : cX9_atom.data.toList.drop 22 = dktX9_atom_1 := dk_seg dksX9_atom_0 22 rfl rfl
theorem dksX9_atom_2 : cX9_atom.data.toList.drop 45 = dktX9_atom_2 := dk_seg dksX9_atom_1 23 rfl rfl
theorem dksX9_atom_3 : cX9_atom.data.toList.drop 67 = dktX9_atom_3 := dk_seg dksX9_atom_2 22 rfl rfl
theorem dksX9_atom_4 : cX9_atom.data.toList.drop 89 = dktX9_atom_4 := dk_seg dksX9_atom_3 22 rfl rfl
theorem dksX9_atom_5 : cX9_atom.data.toList.drop 112 = dktX9_atom_5 := dk_seg dksX9_atom_4 23 rfl rfl
theorem dksX9_atom_6 : cX9_atom.data.toList.drop 134 = dktX9_atom_6 := dk_seg dksX9_atom_5 22 rfl rfl
theorem dX9_atom_0 : decode cX9_atom 0 = .ok (.aload_n 0, 1) := dk_42 (dk_at dksX9_atom_0 0 rfl rfl)
theorem dX9_atom_1 : decode cX9_atom 1 = .ok (.getfield 22, 3) := dk_180 0 22 (dk_at dksX9_atom_0 1 rfl rfl)
theorem dX9_atom_4 : decode cX9_atom 4 = .ok (.iconst (-1), 1) := dk_2 (dk_at dksX9_atom_0 4 rfl rfl)
theorem dX9_atom_5 : decode cX9_atom 5 = .ok (.if_icmp .eq 5, 3) := dk_159 0 5 (dk_at dksX9_atom_0 5 rfl rfl)
theorem dX9_atom_8 : decode cX9_atom 8 = .ok (.iconst 0, 1) := dk_3 (dk_at dksX9_atom_0 8 rfl rfl)
theorem dX9_atom_9 : decode cX9_atom 9 = .ok (.ireturn, 1) := dk_172 (dk_at dksX9_atom_0 9 rfl rfl)
theorem dX9_atom_10 : decode cX9_atom 10 = .ok (.aload_n 0, 1) := dk_42 (dk_at dksX9_atom_0 10 rfl rfl)
theorem dX9_atom_11 : decode cX9_atom 11 = .ok (.invokevirtual 90, 3) := dk_182 0 90 (dk_at dksX9_atom_0 11 rfl rfl)
theorem dX9_atom_14 : decode cX9_atom 14 = .ok (.aload_n 0, 1) := dk_42 (dk_at dksX9_atom_0 14 rfl rfl)
theorem dX9_atom_15 : decode cX9_atom 15 = .ok (.getfield 80, 3) := dk_180 0 80 (dk_at dksX9_atom_0 15 rfl rfl)
theorem dX9_atom_18 : decode cX9_atom 18 = .ok (.istore_n 1, 1) := dk_60 (dk_at dksX9_atom_0 18 rfl rfl)
theorem dX9_atom_19 : decode cX9_atom 19 = .ok (.aload_n 0, 1) := dk_42 (dk_at dksX9_atom_0 19 rfl rfl)
theorem dX9_atom_20 : decode cX9_atom 20 = .ok (.ldc 171, 2) := dk_18 171 (dk_at dksX9_atom_0 20 rfl rfl)
theorem dX9_atom_22 : decode cX9_atom 22 = .ok (.invokevirtual 109, 3) := dk_182 0 109 (dk_at dksX9_atom_1 0 rfl rfl)
theorem dX9_atom_25 : decode cX9_atom 25 = .ok (.istore_n 2, 1) := dk_61 (dk_at dksX9_atom_1 3 rfl rfl)
theorem dX9_atom_26 : decode cX9_atom 26 = .ok (.iload_n 2, 1) := dk_28 (dk_at dksX9_atom_1 4 rfl rfl)
theorem dX9_atom_27 : decode cX9_atom 27 = .ok (.ifCond .ne 17, 3) := dk_154 0 17 (dk_at dksX9_atom_1 5 rfl rfl)
theorem dX9_atom_30 : decode cX9_atom 30 = .ok (.aload_n 0, 1) := dk_42 (dk_at dksX9_atom_1 8 rfl rfl)
theorem dX9_atom_31 : decode cX9_atom 31 = .ok (.bipush 40, 2) := dk_16 40 (dk_at dksX9_atom_1 9 rfl rfl)
theorem dX9_atom_33 : decode cX9_atom 33 = .ok (.invokevirtual 138, 3) := dk_182 0 138 (dk_at dksX9_atom_1 11 rfl rfl)
theorem dX9_atom_36 : decode cX9_atom 36 = .ok (.ifCond .ne 8, 3) := dk_154 0 8 (dk_at dksX9_atom_1 14 rfl rfl)
theorem dX9_atom_39 : decode cX9_atom 39 = .ok (.aload_n 0, 1) := dk_42 (dk_at dksX9_atom_1 17 rfl rfl)
theorem dX9_atom_40 : decode cX9_atom 40 = .ok (.invokevirtual 173, 3) := dk_182 0 173 (dk_at dksX9_atom_1 18 rfl rfl)
theorem dX9_atom_43 : decode cX9_atom 43 = .ok (.ireturn, 1) := dk_172 (dk_at dksX9_atom_1 21 rfl rfl)
theorem dX9_atom_44 : decode cX9_atom 44 = .ok (.aload_n 0, 1) := dk_42 (dk_at dksX9_atom_1 22 rfl rfl)
theorem dX9_atom_45 : decode cX9_atom 45 = .ok (.getfield 129, 3) := dk_180 0 129 (dk_at dksX9_atom_2 0 rfl rfl)
theorem dX9_atom_48 : decode cX9_atom 48 = .ok (.bipush 6, 2) := dk_16 6 (dk_at dksX9_atom_2 3 rfl rfl)
theorem dX9_atom_50 : decode cX9_atom 50 = .ok (.if_icmp .ne 10, 3) := dk_160 0 10 (dk_at dksX9_atom_2 5 rfl rfl)
theorem dX9_atom_53 : decode cX9_atom 53 = .ok (.aload_n 0, 1) := dk_42 (dk_at dksX9_atom_2 8 rfl rfl)
theorem dX9_atom_54 : decode cX9_atom 54 = .ok (.iload_n 1, 1) := dk_27 (dk_at dksX9_atom_2 9 rfl rfl)
theorem dX9_atom_55 : decode cX9_atom 55 = .ok (.invokevirtual 103, 3) := dk_182 0 103 (dk_at dksX9_atom_2 10 rfl rfl)
theorem dX9_atom_58 : decode cX9_atom 58 = .ok (.iconst 0, 1) := dk_3 (dk_at dksX9_atom_2 13 rfl rfl)
theorem dX9_atom_59 : decode cX9_atom 59 = .ok (.ireturn, 1) := dk_172 (dk_at dksX9_atom_2 14 rfl rfl)
theorem dX9_atom_60 : decode cX9_atom 60 = .ok (.aload_n 0, 1) := dk_42 (dk_at dksX9_atom_2 15 rfl rfl)
theorem dX9_atom_61 : decode cX9_atom 61 = .ok (.dup, 1) := dk_89 (dk_at dksX9_atom_2 16 rfl rfl)
theorem dX9_atom_62 : decode cX9_atom 62 = .ok (.getfield 129, 3) := dk_180 0 129 (dk_at dksX9_atom_2 17 rfl rfl)
theorem dX9_atom_65 : decode cX9_atom 65 = .ok (.iconst 1, 1) := dk_4 (dk_at dksX9_atom_2 20 rfl rfl)
theorem dX9_atom_66 : decode cX9_atom 66 = .ok (.iadd, 1) := dk_96 (dk_at dksX9_atom_2 21 rfl rfl)
theorem dX9_atom_67 : decode cX9_atom 67 = .ok (.putfield 129, 3) := dk_181 0 129 (dk_at dksX9_atom_3 0 rfl rfl)
theorem dX9_atom_70 : decode cX9_atom 70 = .ok (.iconst 0, 1) := dk_3 (dk_at dksX9_atom_3 3 rfl rfl)
theorem dX9_atom_71 : decode cX9_atom 71 = .ok (.istore_n 3, 1) := dk_62 (dk_at dksX9_atom_3 4 rfl rfl)
theorem dX9_atom_72 : decode cX9_atom 72 = .ok (.iload_n 2, 1) := dk_28 (dk_at dksX9_atom_3 5 rfl rfl)
theorem dX9_atom_73 : decode cX9_atom 73 = .ok (.ifCond .eq 19, 3) := dk_153 0 19 (dk_at dksX9_atom_3 6 rfl rfl)
theorem dX9_atom_76 : decode cX9_atom 76 = .ok (.aload_n 0, 1) := dk_42 (dk_at dksX9_atom_3 9 rfl rfl)
theorem dX9_atom_77 : decode cX9_atom 77 = .ok (.invokevirtual 177, 3) := dk_182 0 177 (dk_at dksX9_atom_3 10 rfl rfl)
theorem dX9_atom_80 : decode cX9_atom 80 = .ok (.ifCond .ne 7, 3) := dk_154 0 7 (dk_at dksX9_atom_3 13 rfl rfl)
theorem dX9_atom_83 : decode cX9_atom 83 = .ok (.iconst 1, 1) := dk_4 (dk_at dksX9_atom_3 16 rfl rfl)
theorem dX9_atom_84 : decode cX9_atom 84 = .ok (.goto 4, 3) := dk_167 0 4 (dk_at dksX9_atom_3 17 rfl rfl)
theorem dX9_atom_87 : decode cX9_atom 87 = .ok (.iconst 0, 1) := dk_3 (dk_at dksX9_atom_3 20 rfl rfl)
theorem dX9_atom_88 : decode cX9_atom 88 = .ok (.istore_n 3, 1) := dk_62 (dk_at dksX9_atom_3 21 rfl rfl)
theorem dX9_atom_89 : decode cX9_atom 89 = .ok (.goto 53, 3) := dk_167 0 53 (dk_at dksX9_atom_4 0 rfl rfl)
theorem dX9_atom_92 : decode cX9_atom 92 = .ok (.aload_n 0, 1) := dk_42 (dk_at dksX9_atom_4 3 rfl rfl)
theorem dX9_atom_93 : decode cX9_atom 93 = .ok (.dup, 1) := dk_89 (dk_at dksX9_atom_4 4 rfl rfl)
theorem dX9_atom_94 : decode cX9_atom 94 = .ok (.getfield 80, 3) := dk_180 0 80 (dk_at dksX9_atom_4 5 rfl rfl)
theorem dX9_atom_97 : decode cX9_atom 97 = .ok (.iconst 1, 1) := dk_4 (dk_at dksX9_atom_4 8 rfl rfl)
theorem dX9_atom_98 : decode cX9_atom 98 = .ok (.iadd, 1) := dk_96 (dk_at dksX9_atom_4 9 rfl rfl)
theorem dX9_atom_99 : decode cX9_atom 99 = .ok (.putfield 80, 3) := dk_181 0 80 (dk_at dksX9_atom_4 10 rfl rfl)
theorem dX9_atom_102 : decode cX9_atom 102 = .ok (.aload_n 0, 1) := dk_42 (dk_at dksX9_atom_4 13 rfl rfl)
theorem dX9_atom_103 : decode cX9_atom 103 = .ok (.invokevirtual 180, 3) := dk_182 0 180 (dk_at dksX9_atom_4 14 rfl rfl)
theorem dX9_atom_106 : decode cX9_atom 106 = .ok (.istore_n 3, 1) := dk_62 (dk_at dksX9_atom_4 17 rfl rfl)
theorem dX9_atom_107 : decode cX9_atom 107 = .ok (.aload_n 0, 1) := dk_42 (dk_at dksX9_atom_4 18 rfl rfl)
theorem dX9_atom_108 : decode cX9_atom 108 = .ok (.getfield 22, 3) := dk_180 0 22 (dk_at dksX9_atom_4 19 rfl rfl)
theorem dX9_atom_111 : decode cX9_atom 111 = .ok (.iconst (-1), 1) := dk_2 (dk_at dksX9_atom_4 22 rfl rfl)
theorem dX9_atom_112 : decode cX9_atom 112 = .ok (.if_icmp .ne 20, 3) := dk_160 0 20 (dk_at dksX9_atom_5 0 rfl rfl)
theorem dX9_atom_115 : decode cX9_atom 115 = .ok (.aload_n 0, 1) := dk_42 (dk_at dksX9_atom_5 3 rfl rfl)
theorem dX9_atom_116 : decode cX9_atom 116 = .ok (.bipush 41, 2) := dk_16 41 (dk_at dksX9_atom_5 4 rfl rfl)
theorem dX9_atom_118 : decode cX9_atom 118 = .ok (.invokevirtual 138, 3) := dk_182 0 138 (dk_at dksX9_atom_5 6 rfl rfl)
theorem dX9_atom_121 : decode cX9_atom 121 = .ok (.ifCond .ne 11, 3) := dk_154 0 11 (dk_at dksX9_atom_5 9 rfl rfl)
theorem dX9_atom_124 : decode cX9_atom 124 = .ok (.aload_n 0, 1) := dk_42 (dk_at dksX9_atom_5 12 rfl rfl)
theorem dX9_atom_125 : decode cX9_atom 125 = .ok (.aload_n 0, 1) := dk_42 (dk_at dksX9_atom_5 13 rfl rfl)
theorem dX9_atom_126 : decode cX9_atom 126 = .ok (.getfield 80, 3) := dk_180 0 80 (dk_at dksX9_atom_5 14 rfl rfl)
theorem dX9_atom_129 : decode cX9_atom 129 = .ok (.invokevirtual 103, 3) := dk_182 0 103 (dk_at dksX9_atom_5 17 rfl rfl)
theorem dX9_atom_132 : decode cX9_atom 132 = .ok (.aload_n 0, 1) := dk_42 (dk_at dksX9_atom_5 20 rfl rfl)
theorem dX9_atom_133 : decode cX9_atom 133 = .ok (.dup, 1) := dk_89 (dk_at dksX9_atom_5 21 rfl rfl)
theorem dX9_atom_134 : decode cX9_atom 134 = .ok (.getfield 80, 3) := dk_180 0 80 (dk_at dksX9_atom_6 0 rfl rfl)
theorem dX9_atom_137 : decode cX9_atom 137 = .ok (.iconst 1, 1) := dk_4 (dk_at dksX9_atom_6 3 rfl rfl)
theorem dX9_atom_138 : decode cX9_atom 138 = .ok (.iadd, 1) := dk_96 (dk_at dksX9_atom_6 4 rfl rfl)
theorem dX9_atom_139 : decode cX9_atom 139 = .ok (.putfield 80, 3) := dk_181 0 80 (dk_at dksX9_atom_6 5 rfl rfl)
theorem dX9_atom_142 : decode cX9_atom 142 = .ok (.aload_n 0, 1) := dk_42 (dk_at dksX9_atom_6 8 rfl rfl)
theorem dX9_atom_143 : decode cX9_atom 143 = .ok (.dup, 1) := dk_89 (dk_at dksX9_atom_6 9 rfl rfl)
theorem dX9_atom_144 : decode cX9_atom 144 = .ok (.getfield 129, 3) := dk_180 0 129 (dk_at dksX9_atom_6 10 rfl rfl)
theorem dX9_atom_147 : decode cX9_atom 147 = .ok (.iconst 1, 1) := dk_4 (dk_at dksX9_atom_6 13 rfl rfl)
theorem dX9_atom_148 : decode cX9_atom 148 = .ok (.isub, 1) := dk_100 (dk_at dksX9_atom_6 14 rfl rfl)
theorem dX9_atom_149 : decode cX9_atom 149 = .ok (.putfield 129, 3) := dk_181 0 129 (dk_at dksX9_atom_6 15 rfl rfl)
theorem dX9_atom_152 : decode cX9_atom 152 = .ok (.iload_n 3, 1) := dk_29 (dk_at dksX9_atom_6 18 rfl rfl)
theorem dX9_atom_153 : decode cX9_atom 153 = .ok (.ireturn, 1) := dk_172 (dk_at dksX9_atom_6 19 rfl rfl)
abbrev cX9_isSign : ByteArray := prog_21_method_9_code
def yX9_isSign : MethodName := ⟨RX9, "isSign", "(I)Z"⟩
def dkwX9_isSign_1 : List UInt8 := [160, 0, 7, 4, 167, 0, 4, 3, 172]
abbrev dktX9_isSign_1 : List UInt8 := dkwX9_isSign_1 ++ []
def dkwX9_isSign_0 : List UInt8 := [42, 182, 0, 90, 42, 180, 0, 80, 42, 180, 0, 83, 162, 0, 19, 42, 42, 180, 0, 80, 182, 0, 86, 27]
abbrev dktX9_isSign_0 : List UInt8 := dkwX9_isSign_0 ++ dktX9_isSign_1
theorem dksX9_isSign_0 : cX9_isSign.data.toList.drop 0 = dktX9_isSign_0 := by decide +kernel
theorem dksX9_isSign_1 : cX9_isSign.data.toList.drop 24 = dktX9_isSign_1 := dk_seg dksX9_isSign_0 24 rfl rfl
theorem dX9_isSign_0 : decode cX9_isSign 0 = .ok (.aload_n 0, 1) := dk_42 (dk_at dksX9_isSign_0 0 rfl rfl)
theorem dX9_isSign_1 : decode cX9_isSign 1 = .ok (.invokevirtual 90, 3) := dk_182 0 90 (dk_at dksX9_isSign_0 1 rfl rfl)
theorem dX9_isSign_4 : decode cX9_isSign 4 = .ok (.aload_n 0, 1) := dk_42 (dk_at dksX9_isSign_0 4 rfl rfl)
theorem dX9_isSign_5 : decode cX9_isSign 5 = .ok (.getfield 80, 3) := dk_180 0 80 (dk_at dksX9_isSign_0 5 rfl rfl)
theorem dX9_isSign_8 : decode cX9_isSign 8 = .ok (.aload_n 0, 1) := dk_42 (dk_at dksX9_isSign_0 8 rfl rfl)
theorem dX9_isSign_9 : decode cX9_isSign 9 = .ok (.getfield 83, 3) := dk_180 0 83 (dk_at dksX9_isSign_0 9 rfl rfl)
theorem dX9_isSign_12 : decode cX9_isSign 12 = .ok (.if_icmp .ge 19, 3) := dk_162 0 19 (dk_at dksX9_isSign_0 12 rfl rfl)
theorem dX9_isSign_15 : decode cX9_isSign 15 = .ok (.aload_n 0, 1) := dk_42 (dk_at dksX9_isSign_0 15 rfl rfl)
theorem dX9_isSign_16 : decode cX9_isSign 16 = .ok (.aload_n 0, 1) := dk_42 (dk_at dksX9_isSign_0 16 rfl rfl)
theorem dX9_isSign_17 : decode cX9_isSign 17 = .ok (.getfield 80, 3) := dk_180 0 80 (dk_at dksX9_isSign_0 17 rfl rfl)
theorem dX9_isSign_20 : decode cX9_isSign 20 = .ok (.invokevirtual 86, 3) := dk_182 0 86 (dk_at dksX9_isSign_0 20 rfl rfl)
theorem dX9_isSign_23 : decode cX9_isSign 23 = .ok (.iload_n 1, 1) := dk_27 (dk_at dksX9_isSign_0 23 rfl rfl)
theorem dX9_isSign_24 : decode cX9_isSign 24 = .ok (.if_icmp .ne 7, 3) := dk_160 0 7 (dk_at dksX9_isSign_1 0 rfl rfl)
theorem dX9_isSign_27 : decode cX9_isSign 27 = .ok (.iconst 1, 1) := dk_4 (dk_at dksX9_isSign_1 3 rfl rfl)
theorem dX9_isSign_28 : decode cX9_isSign 28 = .ok (.goto 4, 3) := dk_167 0 4 (dk_at dksX9_isSign_1 4 rfl rfl)
theorem dX9_isSign_31 : decode cX9_isSign 31 = .ok (.iconst 0, 1) := dk_3 (dk_at dksX9_isSign_1 7 rfl rfl)
theorem dX9_isSign_32 : decode cX9_isSign 32 = .ok (.ireturn, 1) := dk_172 (dk_at dksX9_isSign_1 8 rfl rfl)
abbrev cX9_plainCond : ByteArray := prog_21_method_18_code
def yX9_plainCond : MethodName := ⟨RX9, "plainCond", "()Z"⟩
def dkwX9_plainCond_4 : List UInt8 := [27, 29, 162, 0, 7, 4, 167, 0, 17, 3, 167, 0, 13, 27, 29, 164, 0, 7, 4, 167, 0, 4, 3, 172]
abbrev dktX9_plainCond_4 : List UInt8 := dkwX9_plainCond_4 ++ []
def dkwX9_plainCond_3 : List UInt8 := [182, 0, 103, 3, 172, 42, 89, 180, 0, 80, 4, 96, 181, 0, 80, 42, 182, 0, 168, 62, 28, 153, 0, 16]
abbrev dktX9_plainCond_3 : List UInt8 := dkwX9_plainCond_3 ++ dktX9_plainCond_4
def dkwX9_plainCond_2 : List UInt8 := [182, 0, 138, 61, 28, 154, 0, 22, 42, 16, 62, 182, 0, 138, 154, 0, 13, 42, 42, 180, 0, 80]
abbrev dktX9_plainCond_2 : List UInt8 := dkwX9_plainCond_2 ++ dktX9_plainCond_3
def dkwX9_plainCond_1 : List UInt8 := [180, 0, 165, 172, 42, 182, 0, 168, 60, 42, 180, 0, 22, 2, 159, 0, 5, 3, 172, 42, 16, 60]
abbrev dktX9_plainCond_1 : List UInt8 := dkwX9_plainCond_1 ++ dktX9_plainCond_2
def dkwX9_plainCond_0 : List UInt8 := [42, 18, 157, 182, 0, 109, 153, 0, 8, 42, 180, 0, 159, 172, 42, 18, 163, 182, 0, 109, 153, 0, 8, 42]
abbrev dktX9_plainCond_0 : List UInt8 := dkwX9_plainCond_0 ++ dktX9_plainCond_1
theorem dksX9_plainCond_0 : cX9_plainCond.data.toList.drop 0 = dktX9_plainCond_0 := by decide +kernel
theorem dksX9_plainCond_1 : cX9_plainCond.data.toList.drop 24 = dktX9_plainCond_1 := dk_seg dksX9_plainCond_0 24 rfl rfl
theorem dksX9_plainCond_2 : cX9_plainCond.data.toList.drop 46 = dktX9_plainCond_2 := dk_seg dksX9_plainCond_1 22 rfl rfl
theorem dksX9_plainCond_3 : cX9_plainCond.data.toList.drop 68 = dktX9_plainCond_3 := dk_seg dksX9_plainCond_2 22 rfl rfl
theorem dksX9_plainCond_4 : cX9_plainCond.data.toList.drop 92 = dktX9_plainCond_4 := dk_seg dksX9_plainCond_3 24 rfl rfl
theorem dX9_plainCond_0 : decode cX9_plainCond 0 = .ok (.aload_n 0, 1) := dk_42 (dk_at dksX9_plainCond_0 0 rfl rfl)
theorem dX9_plainCond_1 : decode cX9_plainCond 1 = .ok (.ldc 157, 2) := dk_18 157 (dk_at dksX9_plainCond_0 1 rfl rfl)
theorem dX9_plainCond_3 : decode cX9_plainCond 3 = .ok (.invokevirtual 109, 3) := dk_182 0 109 (dk_at dksX9_plainCond_0 3 rfl rfl)
theorem dX9_plainCond_6 : decode cX9_plainCond 6 = .ok (.ifCond .eq 8, 3) := dk_153 0 8 (dk_at dksX9_plainCond_0 6 rfl rfl)
theorem dX9_plainCond_9 : decode cX9_plainCond 9 = .ok (.aload_n 0, 1) := dk_42 (dk_at dksX9_plainCond_0 9 rfl rfl)
theorem dX9_plainCond_10 : decode cX9_plainCond 10 = .ok (.getfield 159, 3) := dk_180 0 159 (dk_at dksX9_plainCond_0 10 rfl rfl)
theorem dX9_plainCond_13 : decode cX9_plainCond 13 = .ok (.ireturn, 1) := dk_172 (dk_at dksX9_plainCond_0 13 rfl rfl)
theorem dX9_plainCond_14 : decode cX9_plainCond 14 = .ok (.aload_n 0, 1) := dk_42 (dk_at dksX9_plainCond_0 14 rfl rfl)
theorem dX9_plainCond_15 : decode cX9_plainCond 15 = .ok (.ldc 163, 2) := dk_18 163 (dk_at dksX9_plainCond_0 15 rfl rfl)
theorem dX9_plainCond_17 : decode cX9_plainCond 17 = .ok (.invokevirtual 109, 3) := dk_182 0 109 (dk_at dksX9_plainCond_0 17 rfl rfl)
theorem dX9_plainCond_20 : decode cX9_plainCond 20 = .ok (.ifCond .eq 8, 3) := dk_153 0 8 (dk_at dksX9_plainCond_0 20 rfl rfl)
theorem dX9_plainCond_23 : decode cX9_plainCond 23 = .ok (.aload_n 0, 1) := dk_42 (dk_at dksX9_plainCond_0 23 rfl rfl)
theorem dX9_plainCond_24 : decode cX9_plainCond 24 = .ok (.getfield 165, 3) := dk_180 0 165 (dk_at dksX9_plainCond_1 0 rfl rfl)
theorem dX9_plainCond_27 : decode cX9_plainCond 27 = .ok (.ireturn, 1) := dk_172 (dk_at dksX9_plainCond_1 3 rfl rfl)
theorem dX9_plainCond_28 : decode cX9_plainCond 28 = .ok (.aload_n 0, 1) := dk_42 (dk_at dksX9_plainCond_1 4 rfl rfl)
theorem dX9_plainCond_29 : decode cX9_plainCond 29 = .ok (.invokevirtual 168, 3) := dk_182 0 168 (dk_at dksX9_plainCond_1 5 rfl rfl)
theorem dX9_plainCond_32 : decode cX9_plainCond 32 = .ok (.istore_n 1, 1) := dk_60 (dk_at dksX9_plainCond_1 8 rfl rfl)
theorem dX9_plainCond_33 : decode cX9_plainCond 33 = .ok (.aload_n 0, 1) := dk_42 (dk_at dksX9_plainCond_1 9 rfl rfl)
theorem dX9_plainCond_34 : decode cX9_plainCond 34 = .ok (.getfield 22, 3) := dk_180 0 22 (dk_at dksX9_plainCond_1 10 rfl rfl)
theorem dX9_plainCond_37 : decode cX9_plainCond 37 = .ok (.iconst (-1), 1) := dk_2 (dk_at dksX9_plainCond_1 13 rfl rfl)
theorem dX9_plainCond_38 : decode cX9_plainCond 38 = .ok (.if_icmp .eq 5, 3) := dk_159 0 5 (dk_at dksX9_plainCond_1 14 rfl rfl)
theorem dX9_plainCond_41 : decode cX9_plainCond 41 = .ok (.iconst 0, 1) := dk_3 (dk_at dksX9_plainCond_1 17 rfl rfl)
theorem dX9_plainCond_42 : decode cX9_plainCond 42 = .ok (.ireturn, 1) := dk_172 (dk_at dksX9_plainCond_1 18 rfl rfl)
theorem dX9_plainCond_43 : decode cX9_plainCond 43 = .ok (.aload_n 0, 1) := dk_42 (dk_at dksX9_plainCond_1 19 rfl rfl)
theorem dX9_plainCond_44 : decode cX9_plainCond 44 = .ok (.bipush 60, 2) := dk_16 60 (dk_at dksX9_plainCond_1 20 rfl rfl)
theorem dX9_plainCond_46 : decode cX9_plainCond 46 = .ok (.invokevirtual 138, 3) := dk_182 0 138 (dk_at dksX9_plainCond_2 0 rfl rfl)
theorem dX9_plainCond_49 : decode cX9_plainCond 49 = .ok (.istore_n 2, 1) := dk_61 (dk_at dksX9_plainCond_2 3 rfl rfl)
theorem dX9_plainCond_50 : decode cX9_plainCond 50 = .ok (.iload_n 2, 1) := dk_28 (dk_at dksX9_plainCond_2 4 rfl rfl)
theorem dX9_plainCond_51 : decode cX9_plainCond 51 = .ok (.ifCond .ne 22, 3) := dk_154 0 22 (dk_at dksX9_plainCond_2 5 rfl rfl)
theorem dX9_plainCond_54 : decode cX9_plainCond 54 = .ok (.aload_n 0, 1) := dk_42 (dk_at dksX9_plainCond_2 8 rfl rfl)
theorem dX9_plainCond_55 : decode cX9_plainCond 55 = .ok (.bipush 62, 2) := dk_16 62 (dk_at dksX9_plainCond_2 9 rfl rfl)
theorem dX9_plainCond_57 : decode cX9_plainCond 57 = .ok (.invokevirtual 138, 3) := dk_182 0 138 (dk_at dksX9_plainCond_2 11 rfl rfl)
theorem dX9_plainCond_60 : decode cX9_plainCond 60 = .ok (.ifCond .ne 13, 3) := dk_154 0 13 (dk_at dksX9_plainCond_2 14 rfl rfl)
theorem dX9_plainCond_63 : decode cX9_plainCond 63 = .ok (.aload_n 0, 1) := dk_42 (dk_at dksX9_plainCond_2 17 rfl rfl)
theorem dX9_plainCond_64 : decode cX9_plainCond 64 = .ok (.aload_n 0, 1) := dk_42 (dk_at dksX9_plainCond_2 18 rfl rfl)
theorem dX9_plainCond_65 : decode cX9_plainCond 65 = .ok (.getfield 80, 3) := dk_180 0 80 (dk_at dksX9_plainCond_2 19 rfl rfl)
theorem dX9_plainCond_68 : decode cX9_plainCond 68 = .ok (.invokevirtual 103, 3) := dk_182 0 103 (dk_at dksX9_plainCond_3 0 rfl rfl)
theorem dX9_plainCond_71 : decode cX9_plainCond 71 = .ok (.iconst 0, 1) := dk_3 (dk_at dksX9_plainCond_3 3 rfl rfl)
theorem dX9_plainCond_72 : decode cX9_plainCond 72 = .ok (.ireturn, 1) := dk_172 (dk_at dksX9_plainCond_3 4 rfl rfl)
theorem dX9_plainCond_73 : decode cX9_plainCond 73 = .ok (.aload_n 0, 1) := dk_42 (dk_at dksX9_plainCond_3 5 rfl rfl)
theorem dX9_plainCond_74 : decode cX9_plainCond 74 = .ok (.dup, 1) := dk_89 (dk_at dksX9_plainCond_3 6 rfl rfl)
theorem dX9_plainCond_75 : decode cX9_plainCond 75 = .ok (.getfield 80, 3) := dk_180 0 80 (dk_at dksX9_plainCond_3 7 rfl rfl)
theorem dX9_plainCond_78 : decode cX9_plainCond 78 = .ok (.iconst 1, 1) := dk_4 (dk_at dksX9_plainCond_3 10 rfl rfl)
theorem dX9_plainCond_79 : decode cX9_plainCond 79 = .ok (.iadd, 1) := dk_96 (dk_at dksX9_plainCond_3 11 rfl rfl)
theorem dX9_plainCond_80 : decode cX9_plainCond 80 = .ok (.putfield 80, 3) := dk_181 0 80 (dk_at dksX9_plainCond_3 12 rfl rfl)
theorem dX9_plainCond_83 : decode cX9_plainCond 83 = .ok (.aload_n 0, 1) := dk_42 (dk_at dksX9_plainCond_3 15 rfl rfl)
theorem dX9_plainCond_84 : decode cX9_plainCond 84 = .ok (.invokevirtual 168, 3) := dk_182 0 168 (dk_at dksX9_plainCond_3 16 rfl rfl)
theorem dX9_plainCond_87 : decode cX9_plainCond 87 = .ok (.istore_n 3, 1) := dk_62 (dk_at dksX9_plainCond_3 19 rfl rfl)
theorem dX9_plainCond_88 : decode cX9_plainCond 88 = .ok (.iload_n 2, 1) := dk_28 (dk_at dksX9_plainCond_3 20 rfl rfl)
theorem dX9_plainCond_89 : decode cX9_plainCond 89 = .ok (.ifCond .eq 16, 3) := dk_153 0 16 (dk_at dksX9_plainCond_3 21 rfl rfl)
theorem dX9_plainCond_92 : decode cX9_plainCond 92 = .ok (.iload_n 1, 1) := dk_27 (dk_at dksX9_plainCond_4 0 rfl rfl)
theorem dX9_plainCond_93 : decode cX9_plainCond 93 = .ok (.iload_n 3, 1) := dk_29 (dk_at dksX9_plainCond_4 1 rfl rfl)
theorem dX9_plainCond_94 : decode cX9_plainCond 94 = .ok (.if_icmp .ge 7, 3) := dk_162 0 7 (dk_at dksX9_plainCond_4 2 rfl rfl)
theorem dX9_plainCond_97 : decode cX9_plainCond 97 = .ok (.iconst 1, 1) := dk_4 (dk_at dksX9_plainCond_4 5 rfl rfl)
theorem dX9_plainCond_98 : decode cX9_plainCond 98 = .ok (.goto 17, 3) := dk_167 0 17 (dk_at dksX9_plainCond_4 6 rfl rfl)
theorem dX9_plainCond_101 : decode cX9_plainCond 101 = .ok (.iconst 0, 1) := dk_3 (dk_at dksX9_plainCond_4 9 rfl rfl)
theorem dX9_plainCond_102 : decode cX9_plainCond 102 = .ok (.goto 13, 3) := dk_167 0 13 (dk_at dksX9_plainCond_4 10 rfl rfl)
theorem dX9_plainCond_105 : decode cX9_plainCond 105 = .ok (.iload_n 1, 1) := dk_27 (dk_at dksX9_plainCond_4 13 rfl rfl)
theorem dX9_plainCond_106 : decode cX9_plainCond 106 = .ok (.iload_n 3, 1) := dk_29 (dk_at dksX9_plainCond_4 14 rfl rfl)
theorem dX9_plainCond_107 : decode cX9_plainCond 107 = .ok (.if_icmp .le 7, 3) := dk_164 0 7 (dk_at dksX9_plainCond_4 15 rfl rfl)
theorem dX9_plainCond_110 : decode cX9_plainCond 110 = .ok (.iconst 1, 1) := dk_4 (dk_at dksX9_plainCond_4 18 rfl rfl)
theorem dX9_plainCond_111 : decode cX9_plainCond 111 = .ok (.goto 4, 3) := dk_167 0 4 (dk_at dksX9_plainCond_4 19 rfl rfl)
theorem dX9_plainCond_114 : decode cX9_plainCond 114 = .ok (.iconst 0, 1) := dk_3 (dk_at dksX9_plainCond_4 22 rfl rfl)
theorem dX9_plainCond_115 : decode cX9_plainCond 115 = .ok (.ireturn, 1) := dk_172 (dk_at dksX9_plainCond_4 23 rfl rfl)
abbrev cX9_sum : ByteArray := prog_21_method_17_code
def yX9_sum : MethodName := ⟨RX9, "sum", "()I"⟩
def dkwX9_sum_1 : List UInt8 := [180, 0, 80, 4, 96, 181, 0, 80, 27, 42, 182, 0, 154, 96, 60, 167, 255, 222, 27, 172]
abbrev dktX9_sum_1 : List UInt8 := dkwX9_sum_1 ++ []
def dkwX9_sum_0 : List UInt8 := [42, 182, 0, 154, 60, 42, 180, 0, 22, 2, 160, 0, 32, 42, 16, 43, 182, 0, 138, 153, 0, 23, 42, 89]
abbrev dktX9_sum_0 : List UInt8 := dkwX9_sum_0 ++ dktX9_sum_1
theorem dksX9_sum_0 : cX9_sum.data.toList.drop 0 = dktX9_sum_0 := by decide +kernel
theorem dksX9_sum_1 : cX9_sum.data.toList.drop 24 = dktX9_sum_1 := dk_seg dksX9_sum_0 24 rfl rfl
theorem dX9_sum_0 : decode cX9_sum 0 = .ok (.aload_n 0, 1) := dk_42 (dk_at dksX9_sum_0 0 rfl rfl)
theorem dX9_sum_1 : decode cX9_sum 1 = .ok (.invokevirtual 154, 3) := dk_182 0 154 (dk_at dksX9_sum_0 1 rfl rfl)
theorem dX9_sum_4 : decode cX9_sum 4 = .ok (.istore_n 1, 1) := dk_60 (dk_at dksX9_sum_0 4 rfl rfl)
theorem dX9_sum_5 : decode cX9_sum 5 = .ok (.aload_n 0, 1) := dk_42 (dk_at dksX9_sum_0 5 rfl rfl)
theorem dX9_sum_6 : decode cX9_sum 6 = .ok (.getfield 22, 3) := dk_180 0 22 (dk_at dksX9_sum_0 6 rfl rfl)
theorem dX9_sum_9 : decode cX9_sum 9 = .ok (.iconst (-1), 1) := dk_2 (dk_at dksX9_sum_0 9 rfl rfl)
theorem dX9_sum_10 : decode cX9_sum 10 = .ok (.if_icmp .ne 32, 3) := dk_160 0 32 (dk_at dksX9_sum_0 10 rfl rfl)
theorem dX9_sum_13 : decode cX9_sum 13 = .ok (.aload_n 0, 1) := dk_42 (dk_at dksX9_sum_0 13 rfl rfl)
theorem dX9_sum_14 : decode cX9_sum 14 = .ok (.bipush 43, 2) := dk_16 43 (dk_at dksX9_sum_0 14 rfl rfl)
theorem dX9_sum_16 : decode cX9_sum 16 = .ok (.invokevirtual 138, 3) := dk_182 0 138 (dk_at dksX9_sum_0 16 rfl rfl)
theorem dX9_sum_19 : decode cX9_sum 19 = .ok (.ifCond .eq 23, 3) := dk_153 0 23 (dk_at dksX9_sum_0 19 rfl rfl)
theorem dX9_sum_22 : decode cX9_sum 22 = .ok (.aload_n 0, 1) := dk_42 (dk_at dksX9_sum_0 22 rfl rfl)
theorem dX9_sum_23 : decode cX9_sum 23 = .ok (.dup, 1) := dk_89 (dk_at dksX9_sum_0 23 rfl rfl)
theorem dX9_sum_24 : decode cX9_sum 24 = .ok (.getfield 80, 3) := dk_180 0 80 (dk_at dksX9_sum_1 0 rfl rfl)
theorem dX9_sum_27 : decode cX9_sum 27 = .ok (.iconst 1, 1) := dk_4 (dk_at dksX9_sum_1 3 rfl rfl)
theorem dX9_sum_28 : decode cX9_sum 28 = .ok (.iadd, 1) := dk_96 (dk_at dksX9_sum_1 4 rfl rfl)
theorem dX9_sum_29 : decode cX9_sum 29 = .ok (.putfield 80, 3) := dk_181 0 80 (dk_at dksX9_sum_1 5 rfl rfl)
theorem dX9_sum_32 : decode cX9_sum 32 = .ok (.iload_n 1, 1) := dk_27 (dk_at dksX9_sum_1 8 rfl rfl)
theorem dX9_sum_33 : decode cX9_sum 33 = .ok (.aload_n 0, 1) := dk_42 (dk_at dksX9_sum_1 9 rfl rfl)
theorem dX9_sum_34 : decode cX9_sum 34 = .ok (.invokevirtual 154, 3) := dk_182 0 154 (dk_at dksX9_sum_1 10 rfl rfl)
theorem dX9_sum_37 : decode cX9_sum 37 = .ok (.iadd, 1) := dk_96 (dk_at dksX9_sum_1 13 rfl rfl)
theorem dX9_sum_38 : decode cX9_sum 38 = .ok (.istore_n 1, 1) := dk_60 (dk_at dksX9_sum_1 14 rfl rfl)
theorem dX9_sum_39 : decode cX9_sum 39 = .ok (.goto (-34), 3) := dk_167 255 222 (dk_at dksX9_sum_1 15 rfl rfl)
theorem dX9_sum_42 : decode cX9_sum 42 = .ok (.iload_n 1, 1) := dk_27 (dk_at dksX9_sum_1 18 rfl rfl)
theorem dX9_sum_43 : decode cX9_sum 43 = .ok (.ireturn, 1) := dk_172 (dk_at dksX9_sum_1 19 rfl rfl)
abbrev cX9_part : ByteArray := prog_21_method_16_code
def yX9_part : MethodName := ⟨RX9, "part", "()I"⟩
def dkwX9_part_6 : List UInt8 := [27, 46, 172]
abbrev dktX9_part_6 : List UInt8 := dkwX9_part_6 ++ []
def dkwX9_part_5 : List UInt8 := [167, 0, 4, 2, 60, 27, 2, 160, 0, 13, 42, 42, 180, 0, 80, 182, 0, 103, 3, 172, 42, 180, 0, 26]
abbrev dktX9_part_5 : List UInt8 := dkwX9_part_5 ++ dktX9_part_6
def dkwX9_part_4 : List UInt8 := [18, 152, 182, 0, 109, 153, 0, 7, 6, 167, 0, 17, 42, 18, 123, 182, 0, 109, 153, 0, 7, 7]
abbrev dktX9_part_4 : List UInt8 := dkwX9_part_4 ++ dktX9_part_5
def dkwX9_part_3 : List UInt8 := [182, 0, 109, 153, 0, 7, 4, 167, 0, 43, 42, 18, 150, 182, 0, 109, 153, 0, 7, 5, 167, 0, 30, 42]
abbrev dktX9_part_3 : List UInt8 := dkwX9_part_3 ++ dktX9_part_4
def dkwX9_part_2 : List UInt8 := [17, 3, 231, 182, 0, 113, 172, 42, 18, 146, 182, 0, 109, 153, 0, 7, 3, 167, 0, 56, 42, 18, 148]
abbrev dktX9_part_2 : List UInt8 := dkwX9_part_2 ++ dktX9_part_3
def dkwX9_part_1 : List UInt8 := [162, 0, 30, 42, 42, 180, 0, 80, 182, 0, 86, 16, 48, 16, 57, 184, 0, 70, 153, 0, 12, 42, 3]
abbrev dktX9_part_1 : List UInt8 := dkwX9_part_1 ++ dktX9_part_2
def dkwX9_part_0 : List UInt8 := [42, 180, 0, 22, 2, 159, 0, 5, 3, 172, 42, 182, 0, 90, 42, 180, 0, 80, 42, 180, 0, 83]
abbrev dktX9_part_0 : List UInt8 := dkwX9_part_0 ++ dktX9_part_1
theorem dksX9_part_0 : cX9_part.data.toList.drop 0 = dktX9_part_0 := by decide +kernel
theorem dksX9_part_1 : cX9_part.data.toList.drop 22 = dktX9_part_1 := dk_seg dksX9_part_0 22 rfl rfl
theorem dksX9_part_2 : cX9_part.data.toList.drop 45 = dktX9_part_2 := dk_seg dksX9_part_1 23 rfl rfl
theorem dksX9_part_3 : cX9_part.data.toList.drop 68 = dktX9_part_3 := dk_seg dksX9_part_2 23 rfl rfl
theorem dksX9_part_4 : cX9_part.data.toList.drop 92 = dktX9_part_4 := dk_seg dksX9_part_3 24 rfl rfl
theorem dksX9_part_5 : cX9_part.data.toList.drop 114 = dktX9_part_5 := dk_seg dksX9_part_4 22 rfl rfl
theorem dksX9_part_6 : cX9_part.data.toList.drop 138 = dktX9_part_6 := dk_seg dksX9_part_5 24 rfl rfl
theorem dX9_part_0 : decode cX9_part 0 = .ok (.aload_n 0, 1) := dk_42 (dk_at dksX9_part_0 0 rfl rfl)
theorem dX9_part_1 : decode cX9_part 1 = .ok (.getfield 22, 3) := dk_180 0 22 (dk_at dksX9_part_0 1 rfl rfl)
theorem dX9_part_4 : decode cX9_part 4 = .ok (.iconst (-1), 1) := dk_2 (dk_at dksX9_part_0 4 rfl rfl)
theorem dX9_part_5 : decode cX9_part 5 = .ok (.if_icmp .eq 5, 3) := dk_159 0 5 (dk_at dksX9_part_0 5 rfl rfl)
theorem dX9_part_8 : decode cX9_part 8 = .ok (.iconst 0, 1) := dk_3 (dk_at dksX9_part_0 8 rfl rfl)
theorem dX9_part_9 : decode cX9_part 9 = .ok (.ireturn, 1) := dk_172 (dk_at dksX9_part_0 9 rfl rfl)
theorem dX9_part_10 : decode cX9_part 10 = .ok (.aload_n 0, 1) := dk_42 (dk_at dksX9_part_0 10 rfl rfl)
theorem dX9_part_11 : decode cX9_part 11 = .ok (.invokevirtual 90, 3) := dk_182 0 90 (dk_at dksX9_part_0 11 rfl rfl)
theorem dX9_part_14 : decode cX9_part 14 = .ok (.aload_n 0, 1) := dk_42 (dk_at dksX9_part_0 14 rfl rfl)
theorem dX9_part_15 : decode cX9_part 15 = .ok (.getfield 80, 3) := dk_180 0 80 (dk_at dksX9_part_0 15 rfl rfl)
theorem dX9_part_18 : decode cX9_part 18 = .ok (.aload_n 0, 1) := dk_42 (dk_at dksX9_part_0 18 rfl rfl)
theorem dX9_part_19 : decode cX9_part 19 = .ok (.getfield 83, 3) := dk_180 0 83 (dk_at dksX9_part_0 19 rfl rfl)
theorem dX9_part_22 : decode cX9_part 22 = .ok (.if_icmp .ge 30, 3) := dk_162 0 30 (dk_at dksX9_part_1 0 rfl rfl)
theorem dX9_part_25 : decode cX9_part 25 = .ok (.aload_n 0, 1) := dk_42 (dk_at dksX9_part_1 3 rfl rfl)
theorem dX9_part_26 : decode cX9_part 26 = .ok (.aload_n 0, 1) := dk_42 (dk_at dksX9_part_1 4 rfl rfl)
theorem dX9_part_27 : decode cX9_part 27 = .ok (.getfield 80, 3) := dk_180 0 80 (dk_at dksX9_part_1 5 rfl rfl)
theorem dX9_part_30 : decode cX9_part 30 = .ok (.invokevirtual 86, 3) := dk_182 0 86 (dk_at dksX9_part_1 8 rfl rfl)
theorem dX9_part_33 : decode cX9_part 33 = .ok (.bipush 48, 2) := dk_16 48 (dk_at dksX9_part_1 11 rfl rfl)
theorem dX9_part_35 : decode cX9_part 35 = .ok (.bipush 57, 2) := dk_16 57 (dk_at dksX9_part_1 13 rfl rfl)
theorem dX9_part_37 : decode cX9_part 37 = .ok (.invokestatic 70, 3) := dk_184 0 70 (dk_at dksX9_part_1 15 rfl rfl)
theorem dX9_part_40 : decode cX9_part 40 = .ok (.ifCond .eq 12, 3) := dk_153 0 12 (dk_at dksX9_part_1 18 rfl rfl)
theorem dX9_part_43 : decode cX9_part 43 = .ok (.aload_n 0, 1) := dk_42 (dk_at dksX9_part_1 21 rfl rfl)
theorem dX9_part_44 : decode cX9_part 44 = .ok (.iconst 0, 1) := dk_3 (dk_at dksX9_part_1 22 rfl rfl)
theorem dX9_part_45 : decode cX9_part 45 = .ok (.sipush 999, 3) := dk_17 3 231 (dk_at dksX9_part_2 0 rfl rfl)
theorem dX9_part_48 : decode cX9_part 48 = .ok (.invokevirtual 113, 3) := dk_182 0 113 (dk_at dksX9_part_2 3 rfl rfl)
theorem dX9_part_51 : decode cX9_part 51 = .ok (.ireturn, 1) := dk_172 (dk_at dksX9_part_2 6 rfl rfl)
theorem dX9_part_52 : decode cX9_part 52 = .ok (.aload_n 0, 1) := dk_42 (dk_at dksX9_part_2 7 rfl rfl)
theorem dX9_part_53 : decode cX9_part 53 = .ok (.ldc 146, 2) := dk_18 146 (dk_at dksX9_part_2 8 rfl rfl)
theorem dX9_part_55 : decode cX9_part 55 = .ok (.invokevirtual 109, 3) := dk_182 0 109 (dk_at dksX9_part_2 10 rfl rfl)
theorem dX9_part_58 : decode cX9_part 58 = .ok (.ifCond .eq 7, 3) := dk_153 0 7 (dk_at dksX9_part_2 13 rfl rfl)
theorem dX9_part_61 : decode cX9_part 61 = .ok (.iconst 0, 1) := dk_3 (dk_at dksX9_part_2 16 rfl rfl)
theorem dX9_part_62 : decode cX9_part 62 = .ok (.goto 56, 3) := dk_167 0 56 (dk_at dksX9_part_2 17 rfl rfl)
theorem dX9_part_65 : decode cX9_part 65 = .ok (.aload_n 0, 1) := dk_42 (dk_at dksX9_part_2 20 rfl rfl)
theorem dX9_part_66 : decode cX9_part 66 = .ok (.ldc 148, 2) := dk_18 148 (dk_at dksX9_part_2 21 rfl rfl)
theorem dX9_part_68 : decode cX9_part 68 = .ok (.invokevirtual 109, 3) := dk_182 0 109 (dk_at dksX9_part_3 0 rfl rfl)
theorem dX9_part_71 : decode cX9_part 71 = .ok (.ifCond .eq 7, 3) := dk_153 0 7 (dk_at dksX9_part_3 3 rfl rfl)
theorem dX9_part_74 : decode cX9_part 74 = .ok (.iconst 1, 1) := dk_4 (dk_at dksX9_part_3 6 rfl rfl)
theorem dX9_part_75 : decode cX9_part 75 = .ok (.goto 43, 3) := dk_167 0 43 (dk_at dksX9_part_3 7 rfl rfl)
theorem dX9_part_78 : decode cX9_part 78 = .ok (.aload_n 0, 1) := dk_42 (dk_at dksX9_part_3 10 rfl rfl)
theorem dX9_part_79 : decode cX9_part 79 = .ok (.ldc 150, 2) := dk_18 150 (dk_at dksX9_part_3 11 rfl rfl)
theorem dX9_part_81 : decode cX9_part 81 = .ok (.invokevirtual 109, 3) := dk_182 0 109 (dk_at dksX9_part_3 13 rfl rfl)
theorem dX9_part_84 : decode cX9_part 84 = .ok (.ifCond .eq 7, 3) := dk_153 0 7 (dk_at dksX9_part_3 16 rfl rfl)
theorem dX9_part_87 : decode cX9_part 87 = .ok (.iconst 2, 1) := dk_5 (dk_at dksX9_part_3 19 rfl rfl)
theorem dX9_part_88 : decode cX9_part 88 = .ok (.goto 30, 3) := dk_167 0 30 (dk_at dksX9_part_3 20 rfl rfl)
theorem dX9_part_91 : decode cX9_part 91 = .ok (.aload_n 0, 1) := dk_42 (dk_at dksX9_part_3 23 rfl rfl)
theorem dX9_part_92 : decode cX9_part 92 = .ok (.ldc 152, 2) := dk_18 152 (dk_at dksX9_part_4 0 rfl rfl)
theorem dX9_part_94 : decode cX9_part 94 = .ok (.invokevirtual 109, 3) := dk_182 0 109 (dk_at dksX9_part_4 2 rfl rfl)
theorem dX9_part_97 : decode cX9_part 97 = .ok (.ifCond .eq 7, 3) := dk_153 0 7 (dk_at dksX9_part_4 5 rfl rfl)
theorem dX9_part_100 : decode cX9_part 100 = .ok (.iconst 3, 1) := dk_6 (dk_at dksX9_part_4 8 rfl rfl)
theorem dX9_part_101 : decode cX9_part 101 = .ok (.goto 17, 3) := dk_167 0 17 (dk_at dksX9_part_4 9 rfl rfl)
theorem dX9_part_104 : decode cX9_part 104 = .ok (.aload_n 0, 1) := dk_42 (dk_at dksX9_part_4 12 rfl rfl)
theorem dX9_part_105 : decode cX9_part 105 = .ok (.ldc 123, 2) := dk_18 123 (dk_at dksX9_part_4 13 rfl rfl)
theorem dX9_part_107 : decode cX9_part 107 = .ok (.invokevirtual 109, 3) := dk_182 0 109 (dk_at dksX9_part_4 15 rfl rfl)
theorem dX9_part_110 : decode cX9_part 110 = .ok (.ifCond .eq 7, 3) := dk_153 0 7 (dk_at dksX9_part_4 18 rfl rfl)
theorem dX9_part_113 : decode cX9_part 113 = .ok (.iconst 4, 1) := dk_7 (dk_at dksX9_part_4 21 rfl rfl)
theorem dX9_part_114 : decode cX9_part 114 = .ok (.goto 4, 3) := dk_167 0 4 (dk_at dksX9_part_5 0 rfl rfl)
theorem dX9_part_117 : decode cX9_part 117 = .ok (.iconst (-1), 1) := dk_2 (dk_at dksX9_part_5 3 rfl rfl)
theorem dX9_part_118 : decode cX9_part 118 = .ok (.istore_n 1, 1) := dk_60 (dk_at dksX9_part_5 4 rfl rfl)
theorem dX9_part_119 : decode cX9_part 119 = .ok (.iload_n 1, 1) := dk_27 (dk_at dksX9_part_5 5 rfl rfl)
theorem dX9_part_120 : decode cX9_part 120 = .ok (.iconst (-1), 1) := dk_2 (dk_at dksX9_part_5 6 rfl rfl)
theorem dX9_part_121 : decode cX9_part 121 = .ok (.if_icmp .ne 13, 3) := dk_160 0 13 (dk_at dksX9_part_5 7 rfl rfl)
theorem dX9_part_124 : decode cX9_part 124 = .ok (.aload_n 0, 1) := dk_42 (dk_at dksX9_part_5 10 rfl rfl)
theorem dX9_part_125 : decode cX9_part 125 = .ok (.aload_n 0, 1) := dk_42 (dk_at dksX9_part_5 11 rfl rfl)
theorem dX9_part_126 : decode cX9_part 126 = .ok (.getfield 80, 3) := dk_180 0 80 (dk_at dksX9_part_5 12 rfl rfl)
theorem dX9_part_129 : decode cX9_part 129 = .ok (.invokevirtual 103, 3) := dk_182 0 103 (dk_at dksX9_part_5 15 rfl rfl)
theorem dX9_part_132 : decode cX9_part 132 = .ok (.iconst 0, 1) := dk_3 (dk_at dksX9_part_5 18 rfl rfl)
theorem dX9_part_133 : decode cX9_part 133 = .ok (.ireturn, 1) := dk_172 (dk_at dksX9_part_5 19 rfl rfl)
theorem dX9_part_134 : decode cX9_part 134 = .ok (.aload_n 0, 1) := dk_42 (dk_at dksX9_part_5 20 rfl rfl)
theorem dX9_part_135 : decode cX9_part 135 = .ok (.getfield 26, 3) := dk_180 0 26 (dk_at dksX9_part_5 21 rfl rfl)
theorem dX9_part_138 : decode cX9_part 138 = .ok (.iload_n 1, 1) := dk_27 (dk_at dksX9_part_6 0 rfl rfl)
theorem dX9_part_139 : decode cX9_part 139 = .ok (.iaload, 1) := dk_46 (dk_at dksX9_part_6 1 rfl rfl)
theorem dX9_part_140 : decode cX9_part 140 = .ok (.ireturn, 1) := dk_172 (dk_at dksX9_part_6 2 rfl rfl)
abbrev cX9_courtLine : ByteArray := prog_21_method_13_code
def yX9_courtLine : MethodName := ⟨RX9, "courtLine", "()V"⟩
def dkwX9_courtLine_9 : List UInt8 := [3, 4, 182, 0, 113, 79, 167, 0, 11, 42, 42, 180, 0, 80, 182, 0, 103, 177]
abbrev dktX9_courtLine_9 : List UInt8 := dkwX9_courtLine_9 ++ []
def dkwX9_courtLine_8 : List UInt8 := [182, 0, 113, 79, 167, 0, 37, 42, 18, 127, 182, 0, 109, 153, 0, 20, 42, 180, 0, 7, 17, 0, 196, 42]
abbrev dktX9_courtLine_8 : List UInt8 := dkwX9_courtLine_8 ++ dktX9_courtLine_9
def dkwX9_courtLine_7 : List UInt8 := [167, 0, 63, 42, 18, 125, 182, 0, 109, 153, 0, 20, 42, 180, 0, 7, 17, 0, 195, 42, 3, 5]
abbrev dktX9_courtLine_7 : List UInt8 := dkwX9_courtLine_7 ++ dktX9_courtLine_8
def dkwX9_courtLine_6 : List UInt8 := [18, 123, 182, 0, 109, 153, 0, 21, 42, 180, 0, 7, 17, 0, 194, 42, 4, 16, 6, 182, 0, 113, 79]
abbrev dktX9_courtLine_6 : List UInt8 := dkwX9_courtLine_6 ++ dktX9_courtLine_7
def dkwX9_courtLine_5 : List UInt8 := [42, 180, 0, 7, 3, 16, 12, 7, 27, 104, 28, 96, 104, 96, 29, 96, 21, 4, 79, 167, 0, 90, 42]
abbrev dktX9_courtLine_5 : List UInt8 := dkwX9_courtLine_5 ++ dktX9_courtLine_6
def dkwX9_courtLine_4 : List UInt8 := [16, 9, 182, 0, 113, 96, 62, 42, 3, 16, 100, 182, 0, 113, 54, 4, 42, 180, 0, 22, 2, 160, 0, 22]
abbrev dktX9_courtLine_4 : List UInt8 := dkwX9_courtLine_4 ++ dktX9_courtLine_5
def dkwX9_courtLine_3 : List UInt8 := [62, 29, 2, 160, 0, 12, 42, 42, 180, 0, 80, 182, 0, 103, 177, 29, 5, 160, 0, 13, 5, 42, 3]
abbrev dktX9_courtLine_3 : List UInt8 := dkwX9_courtLine_3 ++ dktX9_courtLine_4
def dkwX9_courtLine_2 : List UInt8 := [182, 0, 109, 153, 0, 7, 4, 167, 0, 17, 42, 18, 121, 182, 0, 109, 153, 0, 7, 5, 167, 0, 4, 2]
abbrev dktX9_courtLine_2 : List UInt8 := dkwX9_courtLine_2 ++ dktX9_courtLine_3
def dkwX9_courtLine_1 : List UInt8 := [180, 0, 22, 2, 159, 0, 4, 177, 42, 18, 117, 182, 0, 109, 153, 0, 7, 3, 167, 0, 30, 42, 18, 119]
abbrev dktX9_courtLine_1 : List UInt8 := dkwX9_courtLine_1 ++ dktX9_courtLine_2
def dkwX9_courtLine_0 : List UInt8 := [42, 18, 107, 182, 0, 109, 153, 0, 135, 42, 3, 6, 182, 0, 113, 60, 42, 3, 6, 182, 0, 113, 61, 42]
abbrev dktX9_courtLine_0 : List UInt8 := dkwX9_courtLine_0 ++ dktX9_courtLine_1
theorem dksX9_courtLine_0 : cX9_courtLine.data.toList.drop 0 = dktX9_courtLine_0 := by decide +kernel
theorem dksX9_courtLine_1 : cX9_courtLine.data.toList.drop 24 = dktX9_courtLine_1 := dk_seg dksX9_courtLine_0 24 rfl rfl
theorem dksX9_courtLine_2 : cX9_courtLine.data.toList.drop 48 = dktX9_courtLine_2 := dk_seg dksX9_courtLine_1 24 rfl rfl
theorem dksX9_courtLine_3 : cX9_courtLine.data.toList.drop 72 = dktX9_courtLine_3 := dk_seg dksX9_courtLine_2 24 rfl rfl
theorem dksX9_courtLine_4 : cX9_courtLine.data.toList.drop 95 = dktX9_courtLine_4 := dk_seg dksX9_courtLine_3 23 rfl rfl
theorem dksX9_courtLine_5 : cX9_courtLine.data.toList.drop 119 = dktX9_courtLine_5 := dk_seg dksX9_courtLine_4 24 rfl rfl
theorem dksX9_courtLine_6 : cX9_courtLine.data.toList.drop 142 = dktX9_courtLine_6 := dk_seg dksX9_courtLine_5 23 rfl rfl
theorem dksX9_courtLine_7 : cX9_courtLine.data.toList.drop 165 = dktX9_courtLine_7 := dk_seg dksX9_courtLine_6 23 rfl rfl
theorem dksX9_courtLine_8 : cX9_courtLine.data.toList.drop 187 = dktX9_courtLine_8 := dk_seg dksX9_courtLine_7 22 rfl rfl
theorem dksX9_courtLine_9 : cX9_courtLine.data.toList.drop 211 = dktX9_courtLine_9 := dk_seg dksX9_courtLine_8 24 rfl rfl
theorem dX9_courtLine_0 : decode cX9_courtLine 0 = .ok (.aload_n 0, 1) := dk_42 (dk_at dksX9_courtLine_0 0 rfl rfl)
theorem dX9_courtLine_1 : decode cX9_courtLine 1 = .ok (.ldc 107, 2) := dk_18 107 (dk_at dksX9_courtLine_0 1 rfl rfl)
theorem dX9_courtLine_3 : decode cX9_courtLine 3 = .ok (.invokevirtual 109, 3) := dk_182 0 109 (dk_at dksX9_courtLine_0 3 rfl rfl)
theorem dX9_courtLine_6 : decode cX9_courtLine 6 = .ok (.ifCond .eq 135, 3) := dk_153 0 135 (dk_at dksX9_courtLine_0 6 rfl rfl)
theorem dX9_courtLine_9 : decode cX9_courtLine 9 = .ok (.aload_n 0, 1) := dk_42 (dk_at dksX9_courtLine_0 9 rfl rfl)
theorem dX9_courtLine_10 : decode cX9_courtLine 10 = .ok (.iconst 0, 1) := dk_3 (dk_at dksX9_courtLine_0 10 rfl rfl)
theorem dX9_courtLine_11 : decode cX9_courtLine 11 = .ok (.iconst 3, 1) := dk_6 (dk_at dksX9_courtLine_0 11 rfl rfl)
theorem dX9_courtLine_12 : decode cX9_courtLine 12 = .ok (.invokevirtual 113, 3) := dk_182 0 113 (dk_at dksX9_courtLine_0 12 rfl rfl)
theorem dX9_courtLine_15 : decode cX9_courtLine 15 = .ok (.istore_n 1, 1) := dk_60 (dk_at dksX9_courtLine_0 15 rfl rfl)
theorem dX9_courtLine_16 : decode cX9_courtLine 16 = .ok (.aload_n 0, 1) := dk_42 (dk_at dksX9_courtLine_0 16 rfl rfl)
theorem dX9_courtLine_17 : decode cX9_courtLine 17 = .ok (.iconst 0, 1) := dk_3 (dk_at dksX9_courtLine_0 17 rfl rfl)
theorem dX9_courtLine_18 : decode cX9_courtLine 18 = .ok (.iconst 3, 1) := dk_6 (dk_at dksX9_courtLine_0 18 rfl rfl)
theorem dX9_courtLine_19 : decode cX9_courtLine 19 = .ok (.invokevirtual 113, 3) := dk_182 0 113 (dk_at dksX9_courtLine_0 19 rfl rfl)
theorem dX9_courtLine_22 : decode cX9_courtLine 22 = .ok (.istore_n 2, 1) := dk_61 (dk_at dksX9_courtLine_0 22 rfl rfl)
theorem dX9_courtLine_23 : decode cX9_courtLine 23 = .ok (.aload_n 0, 1) := dk_42 (dk_at dksX9_courtLine_0 23 rfl rfl)
theorem dX9_courtLine_24 : decode cX9_courtLine 24 = .ok (.getfield 22, 3) := dk_180 0 22 (dk_at dksX9_courtLine_1 0 rfl rfl)
theorem dX9_courtLine_27 : decode cX9_courtLine 27 = .ok (.iconst (-1), 1) := dk_2 (dk_at dksX9_courtLine_1 3 rfl rfl)
theorem dX9_courtLine_28 : decode cX9_courtLine 28 = .ok (.if_icmp .eq 4, 3) := dk_159 0 4 (dk_at dksX9_courtLine_1 4 rfl rfl)
theorem dX9_courtLine_31 : decode cX9_courtLine 31 = .ok (.return_, 1) := dk_177 (dk_at dksX9_courtLine_1 7 rfl rfl)
theorem dX9_courtLine_32 : decode cX9_courtLine 32 = .ok (.aload_n 0, 1) := dk_42 (dk_at dksX9_courtLine_1 8 rfl rfl)
theorem dX9_courtLine_33 : decode cX9_courtLine 33 = .ok (.ldc 117, 2) := dk_18 117 (dk_at dksX9_courtLine_1 9 rfl rfl)
theorem dX9_courtLine_35 : decode cX9_courtLine 35 = .ok (.invokevirtual 109, 3) := dk_182 0 109 (dk_at dksX9_courtLine_1 11 rfl rfl)
theorem dX9_courtLine_38 : decode cX9_courtLine 38 = .ok (.ifCond .eq 7, 3) := dk_153 0 7 (dk_at dksX9_courtLine_1 14 rfl rfl)
theorem dX9_courtLine_41 : decode cX9_courtLine 41 = .ok (.iconst 0, 1) := dk_3 (dk_at dksX9_courtLine_1 17 rfl rfl)
theorem dX9_courtLine_42 : decode cX9_courtLine 42 = .ok (.goto 30, 3) := dk_167 0 30 (dk_at dksX9_courtLine_1 18 rfl rfl)
theorem dX9_courtLine_45 : decode cX9_courtLine 45 = .ok (.aload_n 0, 1) := dk_42 (dk_at dksX9_courtLine_1 21 rfl rfl)
theorem dX9_courtLine_46 : decode cX9_courtLine 46 = .ok (.ldc 119, 2) := dk_18 119 (dk_at dksX9_courtLine_1 22 rfl rfl)
theorem dX9_courtLine_48 : decode cX9_courtLine 48 = .ok (.invokevirtual 109, 3) := dk_182 0 109 (dk_at dksX9_courtLine_2 0 rfl rfl)
theorem dX9_courtLine_51 : decode cX9_courtLine 51 = .ok (.ifCond .eq 7, 3) := dk_153 0 7 (dk_at dksX9_courtLine_2 3 rfl rfl)
theorem dX9_courtLine_54 : decode cX9_courtLine 54 = .ok (.iconst 1, 1) := dk_4 (dk_at dksX9_courtLine_2 6 rfl rfl)
theorem dX9_courtLine_55 : decode cX9_courtLine 55 = .ok (.goto 17, 3) := dk_167 0 17 (dk_at dksX9_courtLine_2 7 rfl rfl)
theorem dX9_courtLine_58 : decode cX9_courtLine 58 = .ok (.aload_n 0, 1) := dk_42 (dk_at dksX9_courtLine_2 10 rfl rfl)
theorem dX9_courtLine_59 : decode cX9_courtLine 59 = .ok (.ldc 121, 2) := dk_18 121 (dk_at dksX9_courtLine_2 11 rfl rfl)
theorem dX9_courtLine_61 : decode cX9_courtLine 61 = .ok (.invokevirtual 109, 3) := dk_182 0 109 (dk_at dksX9_courtLine_2 13 rfl rfl)
theorem dX9_courtLine_64 : decode cX9_courtLine 64 = .ok (.ifCond .eq 7, 3) := dk_153 0 7 (dk_at dksX9_courtLine_2 16 rfl rfl)
theorem dX9_courtLine_67 : decode cX9_courtLine 67 = .ok (.iconst 2, 1) := dk_5 (dk_at dksX9_courtLine_2 19 rfl rfl)
theorem dX9_courtLine_68 : decode cX9_courtLine 68 = .ok (.goto 4, 3) := dk_167 0 4 (dk_at dksX9_courtLine_2 20 rfl rfl)
theorem dX9_courtLine_71 : decode cX9_courtLine 71 = .ok (.iconst (-1), 1) := dk_2 (dk_at dksX9_courtLine_2 23 rfl rfl)
theorem dX9_courtLine_72 : decode cX9_courtLine 72 = .ok (.istore_n 3, 1) := dk_62 (dk_at dksX9_courtLine_3 0 rfl rfl)
theorem dX9_courtLine_73 : decode cX9_courtLine 73 = .ok (.iload_n 3, 1) := dk_29 (dk_at dksX9_courtLine_3 1 rfl rfl)
theorem dX9_courtLine_74 : decode cX9_courtLine 74 = .ok (.iconst (-1), 1) := dk_2 (dk_at dksX9_courtLine_3 2 rfl rfl)
theorem dX9_courtLine_75 : decode cX9_courtLine 75 = .ok (.if_icmp .ne 12, 3) := dk_160 0 12 (dk_at dksX9_courtLine_3 3 rfl rfl)
theorem dX9_courtLine_78 : decode cX9_courtLine 78 = .ok (.aload_n 0, 1) := dk_42 (dk_at dksX9_courtLine_3 6 rfl rfl)
theorem dX9_courtLine_79 : decode cX9_courtLine 79 = .ok (.aload_n 0, 1) := dk_42 (dk_at dksX9_courtLine_3 7 rfl rfl)
theorem dX9_courtLine_80 : decode cX9_courtLine 80 = .ok (.getfield 80, 3) := dk_180 0 80 (dk_at dksX9_courtLine_3 8 rfl rfl)
theorem dX9_courtLine_83 : decode cX9_courtLine 83 = .ok (.invokevirtual 103, 3) := dk_182 0 103 (dk_at dksX9_courtLine_3 11 rfl rfl)
theorem dX9_courtLine_86 : decode cX9_courtLine 86 = .ok (.return_, 1) := dk_177 (dk_at dksX9_courtLine_3 14 rfl rfl)
theorem dX9_courtLine_87 : decode cX9_courtLine 87 = .ok (.iload_n 3, 1) := dk_29 (dk_at dksX9_courtLine_3 15 rfl rfl)
theorem dX9_courtLine_88 : decode cX9_courtLine 88 = .ok (.iconst 2, 1) := dk_5 (dk_at dksX9_courtLine_3 16 rfl rfl)
theorem dX9_courtLine_89 : decode cX9_courtLine 89 = .ok (.if_icmp .ne 13, 3) := dk_160 0 13 (dk_at dksX9_courtLine_3 17 rfl rfl)
theorem dX9_courtLine_92 : decode cX9_courtLine 92 = .ok (.iconst 2, 1) := dk_5 (dk_at dksX9_courtLine_3 20 rfl rfl)
theorem dX9_courtLine_93 : decode cX9_courtLine 93 = .ok (.aload_n 0, 1) := dk_42 (dk_at dksX9_courtLine_3 21 rfl rfl)
theorem dX9_courtLine_94 : decode cX9_courtLine 94 = .ok (.iconst 0, 1) := dk_3 (dk_at dksX9_courtLine_3 22 rfl rfl)
theorem dX9_courtLine_95 : decode cX9_courtLine 95 = .ok (.bipush 9, 2) := dk_16 9 (dk_at dksX9_courtLine_4 0 rfl rfl)
theorem dX9_courtLine_97 : decode cX9_courtLine 97 = .ok (.invokevirtual 113, 3) := dk_182 0 113 (dk_at dksX9_courtLine_4 2 rfl rfl)
theorem dX9_courtLine_100 : decode cX9_courtLine 100 = .ok (.iadd, 1) := dk_96 (dk_at dksX9_courtLine_4 5 rfl rfl)
theorem dX9_courtLine_101 : decode cX9_courtLine 101 = .ok (.istore_n 3, 1) := dk_62 (dk_at dksX9_courtLine_4 6 rfl rfl)
theorem dX9_courtLine_102 : decode cX9_courtLine 102 = .ok (.aload_n 0, 1) := dk_42 (dk_at dksX9_courtLine_4 7 rfl rfl)
theorem dX9_courtLine_103 : decode cX9_courtLine 103 = .ok (.iconst 0, 1) := dk_3 (dk_at dksX9_courtLine_4 8 rfl rfl)
theorem dX9_courtLine_104 : decode cX9_courtLine 104 = .ok (.bipush 100, 2) := dk_16 100 (dk_at dksX9_courtLine_4 9 rfl rfl)
theorem dX9_courtLine_106 : decode cX9_courtLine 106 = .ok (.invokevirtual 113, 3) := dk_182 0 113 (dk_at dksX9_courtLine_4 11 rfl rfl)
theorem dX9_courtLine_109 : decode cX9_courtLine 109 = .ok (.istore 4, 2) := dk_54 4 (dk_at dksX9_courtLine_4 14 rfl rfl)
theorem dX9_courtLine_111 : decode cX9_courtLine 111 = .ok (.aload_n 0, 1) := dk_42 (dk_at dksX9_courtLine_4 16 rfl rfl)
theorem dX9_courtLine_112 : decode cX9_courtLine 112 = .ok (.getfield 22, 3) := dk_180 0 22 (dk_at dksX9_courtLine_4 17 rfl rfl)
theorem dX9_courtLine_115 : decode cX9_courtLine 115 = .ok (.iconst (-1), 1) := dk_2 (dk_at dksX9_courtLine_4 20 rfl rfl)
theorem dX9_courtLine_116 : decode cX9_courtLine 116 = .ok (.if_icmp .ne 22, 3) := dk_160 0 22 (dk_at dksX9_courtLine_4 21 rfl rfl)
theorem dX9_courtLine_119 : decode cX9_courtLine 119 = .ok (.aload_n 0, 1) := dk_42 (dk_at dksX9_courtLine_5 0 rfl rfl)
theorem dX9_courtLine_120 : decode cX9_courtLine 120 = .ok (.getfield 7, 3) := dk_180 0 7 (dk_at dksX9_courtLine_5 1 rfl rfl)
theorem dX9_courtLine_123 : decode cX9_courtLine 123 = .ok (.iconst 0, 1) := dk_3 (dk_at dksX9_courtLine_5 4 rfl rfl)
theorem dX9_courtLine_124 : decode cX9_courtLine 124 = .ok (.bipush 12, 2) := dk_16 12 (dk_at dksX9_courtLine_5 5 rfl rfl)
theorem dX9_courtLine_126 : decode cX9_courtLine 126 = .ok (.iconst 4, 1) := dk_7 (dk_at dksX9_courtLine_5 7 rfl rfl)
theorem dX9_courtLine_127 : decode cX9_courtLine 127 = .ok (.iload_n 1, 1) := dk_27 (dk_at dksX9_courtLine_5 8 rfl rfl)
theorem dX9_courtLine_128 : decode cX9_courtLine 128 = .ok (.imul, 1) := dk_104 (dk_at dksX9_courtLine_5 9 rfl rfl)
theorem dX9_courtLine_129 : decode cX9_courtLine 129 = .ok (.iload_n 2, 1) := dk_28 (dk_at dksX9_courtLine_5 10 rfl rfl)
theorem dX9_courtLine_130 : decode cX9_courtLine 130 = .ok (.iadd, 1) := dk_96 (dk_at dksX9_courtLine_5 11 rfl rfl)
theorem dX9_courtLine_131 : decode cX9_courtLine 131 = .ok (.imul, 1) := dk_104 (dk_at dksX9_courtLine_5 12 rfl rfl)
theorem dX9_courtLine_132 : decode cX9_courtLine 132 = .ok (.iadd, 1) := dk_96 (dk_at dksX9_courtLine_5 13 rfl rfl)
theorem dX9_courtLine_133 : decode cX9_courtLine 133 = .ok (.iload_n 3, 1) := dk_29 (dk_at dksX9_courtLine_5 14 rfl rfl)
theorem dX9_courtLine_134 : decode cX9_courtLine 134 = .ok (.iadd, 1) := dk_96 (dk_at dksX9_courtLine_5 15 rfl rfl)
theorem dX9_courtLine_135 : decode cX9_courtLine 135 = .ok (.iload 4, 2) := dk_21 4 (dk_at dksX9_courtLine_5 16 rfl rfl)
theorem dX9_courtLine_137 : decode cX9_courtLine 137 = .ok (.iastore, 1) := dk_79 (dk_at dksX9_courtLine_5 18 rfl rfl)
theorem dX9_courtLine_138 : decode cX9_courtLine 138 = .ok (.goto 90, 3) := dk_167 0 90 (dk_at dksX9_courtLine_5 19 rfl rfl)
theorem dX9_courtLine_141 : decode cX9_courtLine 141 = .ok (.aload_n 0, 1) := dk_42 (dk_at dksX9_courtLine_5 22 rfl rfl)
theorem dX9_courtLine_142 : decode cX9_courtLine 142 = .ok (.ldc 123, 2) := dk_18 123 (dk_at dksX9_courtLine_6 0 rfl rfl)
theorem dX9_courtLine_144 : decode cX9_courtLine 144 = .ok (.invokevirtual 109, 3) := dk_182 0 109 (dk_at dksX9_courtLine_6 2 rfl rfl)
theorem dX9_courtLine_147 : decode cX9_courtLine 147 = .ok (.ifCond .eq 21, 3) := dk_153 0 21 (dk_at dksX9_courtLine_6 5 rfl rfl)
theorem dX9_courtLine_150 : decode cX9_courtLine 150 = .ok (.aload_n 0, 1) := dk_42 (dk_at dksX9_courtLine_6 8 rfl rfl)
theorem dX9_courtLine_151 : decode cX9_courtLine 151 = .ok (.getfield 7, 3) := dk_180 0 7 (dk_at dksX9_courtLine_6 9 rfl rfl)
theorem dX9_courtLine_154 : decode cX9_courtLine 154 = .ok (.sipush 194, 3) := dk_17 0 194 (dk_at dksX9_courtLine_6 12 rfl rfl)
theorem dX9_courtLine_157 : decode cX9_courtLine 157 = .ok (.aload_n 0, 1) := dk_42 (dk_at dksX9_courtLine_6 15 rfl rfl)
theorem dX9_courtLine_158 : decode cX9_courtLine 158 = .ok (.iconst 1, 1) := dk_4 (dk_at dksX9_courtLine_6 16 rfl rfl)
theorem dX9_courtLine_159 : decode cX9_courtLine 159 = .ok (.bipush 6, 2) := dk_16 6 (dk_at dksX9_courtLine_6 17 rfl rfl)
theorem dX9_courtLine_161 : decode cX9_courtLine 161 = .ok (.invokevirtual 113, 3) := dk_182 0 113 (dk_at dksX9_courtLine_6 19 rfl rfl)
theorem dX9_courtLine_164 : decode cX9_courtLine 164 = .ok (.iastore, 1) := dk_79 (dk_at dksX9_courtLine_6 22 rfl rfl)
theorem dX9_courtLine_165 : decode cX9_courtLine 165 = .ok (.goto 63, 3) := dk_167 0 63 (dk_at dksX9_courtLine_7 0 rfl rfl)
theorem dX9_courtLine_168 : decode cX9_courtLine 168 = .ok (.aload_n 0, 1) := dk_42 (dk_at dksX9_courtLine_7 3 rfl rfl)
theorem dX9_courtLine_169 : decode cX9_courtLine 169 = .ok (.ldc 125, 2) := dk_18 125 (dk_at dksX9_courtLine_7 4 rfl rfl)
theorem dX9_courtLine_171 : decode cX9_courtLine 171 = .ok (.invokevirtual 109, 3) := dk_182 0 109 (dk_at dksX9_courtLine_7 6 rfl rfl)
theorem dX9_courtLine_174 : decode cX9_courtLine 174 = .ok (.ifCond .eq 20, 3) := dk_153 0 20 (dk_at dksX9_courtLine_7 9 rfl rfl)
theorem dX9_courtLine_177 : decode cX9_courtLine 177 = .ok (.aload_n 0, 1) := dk_42 (dk_at dksX9_courtLine_7 12 rfl rfl)
theorem dX9_courtLine_178 : decode cX9_courtLine 178 = .ok (.getfield 7, 3) := dk_180 0 7 (dk_at dksX9_courtLine_7 13 rfl rfl)
theorem dX9_courtLine_181 : decode cX9_courtLine 181 = .ok (.sipush 195, 3) := dk_17 0 195 (dk_at dksX9_courtLine_7 16 rfl rfl)
theorem dX9_courtLine_184 : decode cX9_courtLine 184 = .ok (.aload_n 0, 1) := dk_42 (dk_at dksX9_courtLine_7 19 rfl rfl)
theorem dX9_courtLine_185 : decode cX9_courtLine 185 = .ok (.iconst 0, 1) := dk_3 (dk_at dksX9_courtLine_7 20 rfl rfl)
theorem dX9_courtLine_186 : decode cX9_courtLine 186 = .ok (.iconst 2, 1) := dk_5 (dk_at dksX9_courtLine_7 21 rfl rfl)
theorem dX9_courtLine_187 : decode cX9_courtLine 187 = .ok (.invokevirtual 113, 3) := dk_182 0 113 (dk_at dksX9_courtLine_8 0 rfl rfl)
theorem dX9_courtLine_190 : decode cX9_courtLine 190 = .ok (.iastore, 1) := dk_79 (dk_at dksX9_courtLine_8 3 rfl rfl)
theorem dX9_courtLine_191 : decode cX9_courtLine 191 = .ok (.goto 37, 3) := dk_167 0 37 (dk_at dksX9_courtLine_8 4 rfl rfl)
theorem dX9_courtLine_194 : decode cX9_courtLine 194 = .ok (.aload_n 0, 1) := dk_42 (dk_at dksX9_courtLine_8 7 rfl rfl)
theorem dX9_courtLine_195 : decode cX9_courtLine 195 = .ok (.ldc 127, 2) := dk_18 127 (dk_at dksX9_courtLine_8 8 rfl rfl)
theorem dX9_courtLine_197 : decode cX9_courtLine 197 = .ok (.invokevirtual 109, 3) := dk_182 0 109 (dk_at dksX9_courtLine_8 10 rfl rfl)
theorem dX9_courtLine_200 : decode cX9_courtLine 200 = .ok (.ifCond .eq 20, 3) := dk_153 0 20 (dk_at dksX9_courtLine_8 13 rfl rfl)
theorem dX9_courtLine_203 : decode cX9_courtLine 203 = .ok (.aload_n 0, 1) := dk_42 (dk_at dksX9_courtLine_8 16 rfl rfl)
theorem dX9_courtLine_204 : decode cX9_courtLine 204 = .ok (.getfield 7, 3) := dk_180 0 7 (dk_at dksX9_courtLine_8 17 rfl rfl)
theorem dX9_courtLine_207 : decode cX9_courtLine 207 = .ok (.sipush 196, 3) := dk_17 0 196 (dk_at dksX9_courtLine_8 20 rfl rfl)
theorem dX9_courtLine_210 : decode cX9_courtLine 210 = .ok (.aload_n 0, 1) := dk_42 (dk_at dksX9_courtLine_8 23 rfl rfl)
theorem dX9_courtLine_211 : decode cX9_courtLine 211 = .ok (.iconst 0, 1) := dk_3 (dk_at dksX9_courtLine_9 0 rfl rfl)
theorem dX9_courtLine_212 : decode cX9_courtLine 212 = .ok (.iconst 1, 1) := dk_4 (dk_at dksX9_courtLine_9 1 rfl rfl)
theorem dX9_courtLine_213 : decode cX9_courtLine 213 = .ok (.invokevirtual 113, 3) := dk_182 0 113 (dk_at dksX9_courtLine_9 2 rfl rfl)
theorem dX9_courtLine_216 : decode cX9_courtLine 216 = .ok (.iastore, 1) := dk_79 (dk_at dksX9_courtLine_9 5 rfl rfl)
theorem dX9_courtLine_217 : decode cX9_courtLine 217 = .ok (.goto 11, 3) := dk_167 0 11 (dk_at dksX9_courtLine_9 6 rfl rfl)
theorem dX9_courtLine_220 : decode cX9_courtLine 220 = .ok (.aload_n 0, 1) := dk_42 (dk_at dksX9_courtLine_9 9 rfl rfl)
theorem dX9_courtLine_221 : decode cX9_courtLine 221 = .ok (.aload_n 0, 1) := dk_42 (dk_at dksX9_courtLine_9 10 rfl rfl)
theorem dX9_courtLine_222 : decode cX9_courtLine 222 = .ok (.getfield 80, 3) := dk_180 0 80 (dk_at dksX9_courtLine_9 11 rfl rfl)
theorem dX9_courtLine_225 : decode cX9_courtLine 225 = .ok (.invokevirtual 103, 3) := dk_182 0 103 (dk_at dksX9_courtLine_9 14 rfl rfl)
theorem dX9_courtLine_228 : decode cX9_courtLine 228 = .ok (.return_, 1) := dk_177 (dk_at dksX9_courtLine_9 17 rfl rfl)
abbrev cX9_rule : ByteArray := prog_21_method_23_code
def yX9_rule : MethodName := ⟨RX9, "rule", "()I"⟩
def dkwX9_rule_6 : List UInt8 := [96, 79, 42, 180, 0, 7, 17, 0, 193, 46, 4, 100, 172]
abbrev dktX9_rule_6 : List UInt8 := dkwX9_rule_6 ++ []
def dkwX9_rule_5 : List UInt8 := [96, 42, 180, 0, 19, 29, 46, 79, 132, 3, 1, 167, 255, 232, 42, 180, 0, 7, 17, 0, 193, 92, 46, 4]
abbrev dktX9_rule_5 : List UInt8 := dkwX9_rule_5 ++ dktX9_rule_6
def dkwX9_rule_4 : List UInt8 := [96, 61, 42, 180, 0, 7, 28, 27, 79, 3, 62, 29, 27, 162, 0, 25, 42, 180, 0, 7, 28, 4, 96, 29]
abbrev dktX9_rule_4 : List UInt8 := dkwX9_rule_4 ++ dktX9_rule_5
def dkwX9_rule_3 : List UInt8 := [42, 180, 0, 67, 158, 0, 5, 3, 172, 17, 0, 210, 17, 1, 145, 42, 180, 0, 7, 17, 0, 193, 46, 104]
abbrev dktX9_rule_3 : List UInt8 := dkwX9_rule_3 ++ dktX9_rule_4
def dkwX9_rule_2 : List UInt8 := [167, 0, 21, 42, 180, 0, 7, 17, 0, 193, 46, 16, 6, 160, 0, 7, 5, 167, 0, 4, 3, 181, 0, 67]
abbrev dktX9_rule_2 : List UInt8 := dkwX9_rule_2 ++ dktX9_rule_3
def dkwX9_rule_1 : List UInt8 := [4, 182, 0, 142, 42, 180, 0, 74, 60, 42, 3, 181, 0, 74, 42, 42, 180, 0, 22, 2, 159, 0, 7, 4]
abbrev dktX9_rule_1 : List UInt8 := dkwX9_rule_1 ++ dktX9_rule_2
def dkwX9_rule_0 : List UInt8 := [42, 2, 181, 0, 22, 42, 2, 181, 0, 77, 42, 42, 180, 0, 74, 181, 0, 83, 42, 2, 181, 0, 194, 42]
abbrev dktX9_rule_0 : List UInt8 := dkwX9_rule_0 ++ dktX9_rule_1
theorem dksX9_rule_0 : cX9_rule.data.toList.drop 0 = dktX9_rule_0 := by decide +kernel
theorem dksX9_rule_1 : cX9_rule.data.toList.drop 24 = dktX9_rule_1 := dk_seg dksX9_rule_0 24 rfl rfl
theorem dksX9_rule_2 : cX9_rule.data.toList.drop 48 = dktX9_rule_2 := dk_seg dksX9_rule_1 24 rfl rfl
theorem dksX9_rule_3 : cX9_rule.data.toList.drop 72 = dktX9_rule_3 := dk_seg dksX9_rule_2 24 rfl rfl
theorem dksX9_rule_4 : cX9_rule.data.toList.drop 96 = dktX9_rule_4 := dk_seg dksX9_rule_3 24 rfl rfl
theorem dksX9_rule_5 : cX9_rule.data.toList.drop 120 = dktX9_rule_5 := dk_seg dksX9_rule_4 24 rfl rfl
theorem dksX9_rule_6 : cX9_rule.data.toList.drop 144 = dktX9_rule_6 := dk_seg dksX9_rule_5 24 rfl rfl
theorem dX9_rule_0 : decode cX9_rule 0 = .ok (.aload_n 0, 1) := dk_42 (dk_at dksX9_rule_0 0 rfl rfl)
theorem dX9_rule_1 : decode cX9_rule 1 = .ok (.iconst (-1), 1) := dk_2 (dk_at dksX9_rule_0 1 rfl rfl)
theorem dX9_rule_2 : decode cX9_rule 2 = .ok (.putfield 22, 3) := dk_181 0 22 (dk_at dksX9_rule_0 2 rfl rfl)
theorem dX9_rule_5 : decode cX9_rule 5 = .ok (.aload_n 0, 1) := dk_42 (dk_at dksX9_rule_0 5 rfl rfl)
theorem dX9_rule_6 : decode cX9_rule 6 = .ok (.iconst (-1), 1) := dk_2 (dk_at dksX9_rule_0 6 rfl rfl)
theorem dX9_rule_7 : decode cX9_rule 7 = .ok (.putfield 77, 3) := dk_181 0 77 (dk_at dksX9_rule_0 7 rfl rfl)
theorem dX9_rule_10 : decode cX9_rule 10 = .ok (.aload_n 0, 1) := dk_42 (dk_at dksX9_rule_0 10 rfl rfl)
theorem dX9_rule_11 : decode cX9_rule 11 = .ok (.aload_n 0, 1) := dk_42 (dk_at dksX9_rule_0 11 rfl rfl)
theorem dX9_rule_12 : decode cX9_rule 12 = .ok (.getfield 74, 3) := dk_180 0 74 (dk_at dksX9_rule_0 12 rfl rfl)
theorem dX9_rule_15 : decode cX9_rule 15 = .ok (.putfield 83, 3) := dk_181 0 83 (dk_at dksX9_rule_0 15 rfl rfl)
theorem dX9_rule_18 : decode cX9_rule 18 = .ok (.aload_n 0, 1) := dk_42 (dk_at dksX9_rule_0 18 rfl rfl)
theorem dX9_rule_19 : decode cX9_rule 19 = .ok (.iconst (-1), 1) := dk_2 (dk_at dksX9_rule_0 19 rfl rfl)
theorem dX9_rule_20 : decode cX9_rule 20 = .ok (.putfield 194, 3) := dk_181 0 194 (dk_at dksX9_rule_0 20 rfl rfl)
theorem dX9_rule_23 : decode cX9_rule 23 = .ok (.aload_n 0, 1) := dk_42 (dk_at dksX9_rule_0 23 rfl rfl)
theorem dX9_rule_24 : decode cX9_rule 24 = .ok (.iconst 1, 1) := dk_4 (dk_at dksX9_rule_1 0 rfl rfl)
theorem dX9_rule_25 : decode cX9_rule 25 = .ok (.invokevirtual 142, 3) := dk_182 0 142 (dk_at dksX9_rule_1 1 rfl rfl)
theorem dX9_rule_28 : decode cX9_rule 28 = .ok (.aload_n 0, 1) := dk_42 (dk_at dksX9_rule_1 4 rfl rfl)
theorem dX9_rule_29 : decode cX9_rule 29 = .ok (.getfield 74, 3) := dk_180 0 74 (dk_at dksX9_rule_1 5 rfl rfl)
theorem dX9_rule_32 : decode cX9_rule 32 = .ok (.istore_n 1, 1) := dk_60 (dk_at dksX9_rule_1 8 rfl rfl)
theorem dX9_rule_33 : decode cX9_rule 33 = .ok (.aload_n 0, 1) := dk_42 (dk_at dksX9_rule_1 9 rfl rfl)
theorem dX9_rule_34 : decode cX9_rule 34 = .ok (.iconst 0, 1) := dk_3 (dk_at dksX9_rule_1 10 rfl rfl)
theorem dX9_rule_35 : decode cX9_rule 35 = .ok (.putfield 74, 3) := dk_181 0 74 (dk_at dksX9_rule_1 11 rfl rfl)
theorem dX9_rule_38 : decode cX9_rule 38 = .ok (.aload_n 0, 1) := dk_42 (dk_at dksX9_rule_1 14 rfl rfl)
theorem dX9_rule_39 : decode cX9_rule 39 = .ok (.aload_n 0, 1) := dk_42 (dk_at dksX9_rule_1 15 rfl rfl)
theorem dX9_rule_40 : decode cX9_rule 40 = .ok (.getfield 22, 3) := dk_180 0 22 (dk_at dksX9_rule_1 16 rfl rfl)
theorem dX9_rule_43 : decode cX9_rule 43 = .ok (.iconst (-1), 1) := dk_2 (dk_at dksX9_rule_1 19 rfl rfl)
theorem dX9_rule_44 : decode cX9_rule 44 = .ok (.if_icmp .eq 7, 3) := dk_159 0 7 (dk_at dksX9_rule_1 20 rfl rfl)
theorem dX9_rule_47 : decode cX9_rule 47 = .ok (.iconst 1, 1) := dk_4 (dk_at dksX9_rule_1 23 rfl rfl)
theorem dX9_rule_48 : decode cX9_rule 48 = .ok (.goto 21, 3) := dk_167 0 21 (dk_at dksX9_rule_2 0 rfl rfl)
theorem dX9_rule_51 : decode cX9_rule 51 = .ok (.aload_n 0, 1) := dk_42 (dk_at dksX9_rule_2 3 rfl rfl)
theorem dX9_rule_52 : decode cX9_rule 52 = .ok (.getfield 7, 3) := dk_180 0 7 (dk_at dksX9_rule_2 4 rfl rfl)
theorem dX9_rule_55 : decode cX9_rule 55 = .ok (.sipush 193, 3) := dk_17 0 193 (dk_at dksX9_rule_2 7 rfl rfl)
theorem dX9_rule_58 : decode cX9_rule 58 = .ok (.iaload, 1) := dk_46 (dk_at dksX9_rule_2 10 rfl rfl)
theorem dX9_rule_59 : decode cX9_rule 59 = .ok (.bipush 6, 2) := dk_16 6 (dk_at dksX9_rule_2 11 rfl rfl)
theorem dX9_rule_61 : decode cX9_rule 61 = .ok (.if_icmp .ne 7, 3) := dk_160 0 7 (dk_at dksX9_rule_2 13 rfl rfl)
theorem dX9_rule_64 : decode cX9_rule 64 = .ok (.iconst 2, 1) := dk_5 (dk_at dksX9_rule_2 16 rfl rfl)
theorem dX9_rule_65 : decode cX9_rule 65 = .ok (.goto 4, 3) := dk_167 0 4 (dk_at dksX9_rule_2 17 rfl rfl)
theorem dX9_rule_68 : decode cX9_rule 68 = .ok (.iconst 0, 1) := dk_3 (dk_at dksX9_rule_2 20 rfl rfl)
theorem dX9_rule_69 : decode cX9_rule 69 = .ok (.putfield 67, 3) := dk_181 0 67 (dk_at dksX9_rule_2 21 rfl rfl)
theorem dX9_rule_72 : decode cX9_rule 72 = .ok (.aload_n 0, 1) := dk_42 (dk_at dksX9_rule_3 0 rfl rfl)
theorem dX9_rule_73 : decode cX9_rule 73 = .ok (.getfield 67, 3) := dk_180 0 67 (dk_at dksX9_rule_3 1 rfl rfl)
theorem dX9_rule_76 : decode cX9_rule 76 = .ok (.ifCond .le 5, 3) := dk_158 0 5 (dk_at dksX9_rule_3 4 rfl rfl)
theorem dX9_rule_79 : decode cX9_rule 79 = .ok (.iconst 0, 1) := dk_3 (dk_at dksX9_rule_3 7 rfl rfl)
theorem dX9_rule_80 : decode cX9_rule 80 = .ok (.ireturn, 1) := dk_172 (dk_at dksX9_rule_3 8 rfl rfl)
theorem dX9_rule_81 : decode cX9_rule 81 = .ok (.sipush 210, 3) := dk_17 0 210 (dk_at dksX9_rule_3 9 rfl rfl)
theorem dX9_rule_84 : decode cX9_rule 84 = .ok (.sipush 401, 3) := dk_17 1 145 (dk_at dksX9_rule_3 12 rfl rfl)
theorem dX9_rule_87 : decode cX9_rule 87 = .ok (.aload_n 0, 1) := dk_42 (dk_at dksX9_rule_3 15 rfl rfl)
theorem dX9_rule_88 : decode cX9_rule 88 = .ok (.getfield 7, 3) := dk_180 0 7 (dk_at dksX9_rule_3 16 rfl rfl)
theorem dX9_rule_91 : decode cX9_rule 91 = .ok (.sipush 193, 3) := dk_17 0 193 (dk_at dksX9_rule_3 19 rfl rfl)
theorem dX9_rule_94 : decode cX9_rule 94 = .ok (.iaload, 1) := dk_46 (dk_at dksX9_rule_3 22 rfl rfl)
theorem dX9_rule_95 : decode cX9_rule 95 = .ok (.imul, 1) := dk_104 (dk_at dksX9_rule_3 23 rfl rfl)
theorem dX9_rule_96 : decode cX9_rule 96 = .ok (.iadd, 1) := dk_96 (dk_at dksX9_rule_4 0 rfl rfl)
theorem dX9_rule_97 : decode cX9_rule 97 = .ok (.istore_n 2, 1) := dk_61 (dk_at dksX9_rule_4 1 rfl rfl)
theorem dX9_rule_98 : decode cX9_rule 98 = .ok (.aload_n 0, 1) := dk_42 (dk_at dksX9_rule_4 2 rfl rfl)
theorem dX9_rule_99 : decode cX9_rule 99 = .ok (.getfield 7, 3) := dk_180 0 7 (dk_at dksX9_rule_4 3 rfl rfl)
theorem dX9_rule_102 : decode cX9_rule 102 = .ok (.iload_n 2, 1) := dk_28 (dk_at dksX9_rule_4 6 rfl rfl)
theorem dX9_rule_103 : decode cX9_rule 103 = .ok (.iload_n 1, 1) := dk_27 (dk_at dksX9_rule_4 7 rfl rfl)
theorem dX9_rule_104 : decode cX9_rule 104 = .ok (.iastore, 1) := dk_79 (dk_at dksX9_rule_4 8 rfl rfl)
theorem dX9_rule_105 : decode cX9_rule 105 = .ok (.iconst 0, 1) := dk_3 (dk_at dksX9_rule_4 9 rfl rfl)
theorem dX9_rule_106 : decode cX9_rule 106 = .ok (.istore_n 3, 1) := dk_62 (dk_at dksX9_rule_4 10 rfl rfl)
theorem dX9_rule_107 : decode cX9_rule 107 = .ok (.iload_n 3, 1) := dk_29 (dk_at dksX9_rule_4 11 rfl rfl)
theorem dX9_rule_108 : decode cX9_rule 108 = .ok (.iload_n 1, 1) := dk_27 (dk_at dksX9_rule_4 12 rfl rfl)
theorem dX9_rule_109 : decode cX9_rule 109 = .ok (.if_icmp .ge 25, 3) := dk_162 0 25 (dk_at dksX9_rule_4 13 rfl rfl)
theorem dX9_rule_112 : decode cX9_rule 112 = .ok (.aload_n 0, 1) := dk_42 (dk_at dksX9_rule_4 16 rfl rfl)
theorem dX9_rule_113 : decode cX9_rule 113 = .ok (.getfield 7, 3) := dk_180 0 7 (dk_at dksX9_rule_4 17 rfl rfl)
theorem dX9_rule_116 : decode cX9_rule 116 = .ok (.iload_n 2, 1) := dk_28 (dk_at dksX9_rule_4 20 rfl rfl)
theorem dX9_rule_117 : decode cX9_rule 117 = .ok (.iconst 1, 1) := dk_4 (dk_at dksX9_rule_4 21 rfl rfl)
theorem dX9_rule_118 : decode cX9_rule 118 = .ok (.iadd, 1) := dk_96 (dk_at dksX9_rule_4 22 rfl rfl)
theorem dX9_rule_119 : decode cX9_rule 119 = .ok (.iload_n 3, 1) := dk_29 (dk_at dksX9_rule_4 23 rfl rfl)
theorem dX9_rule_120 : decode cX9_rule 120 = .ok (.iadd, 1) := dk_96 (dk_at dksX9_rule_5 0 rfl rfl)
theorem dX9_rule_121 : decode cX9_rule 121 = .ok (.aload_n 0, 1) := dk_42 (dk_at dksX9_rule_5 1 rfl rfl)
theorem dX9_rule_122 : decode cX9_rule 122 = .ok (.getfield 19, 3) := dk_180 0 19 (dk_at dksX9_rule_5 2 rfl rfl)
theorem dX9_rule_125 : decode cX9_rule 125 = .ok (.iload_n 3, 1) := dk_29 (dk_at dksX9_rule_5 5 rfl rfl)
theorem dX9_rule_126 : decode cX9_rule 126 = .ok (.iaload, 1) := dk_46 (dk_at dksX9_rule_5 6 rfl rfl)
theorem dX9_rule_127 : decode cX9_rule 127 = .ok (.iastore, 1) := dk_79 (dk_at dksX9_rule_5 7 rfl rfl)
theorem dX9_rule_128 : decode cX9_rule 128 = .ok (.iinc 3 1, 3) := dk_132 3 1 (dk_at dksX9_rule_5 8 rfl rfl)
theorem dX9_rule_131 : decode cX9_rule 131 = .ok (.goto (-24), 3) := dk_167 255 232 (dk_at dksX9_rule_5 11 rfl rfl)
theorem dX9_rule_134 : decode cX9_rule 134 = .ok (.aload_n 0, 1) := dk_42 (dk_at dksX9_rule_5 14 rfl rfl)
theorem dX9_rule_135 : decode cX9_rule 135 = .ok (.getfield 7, 3) := dk_180 0 7 (dk_at dksX9_rule_5 15 rfl rfl)
theorem dX9_rule_138 : decode cX9_rule 138 = .ok (.sipush 193, 3) := dk_17 0 193 (dk_at dksX9_rule_5 18 rfl rfl)
theorem dX9_rule_141 : decode cX9_rule 141 = .ok (.dup2, 1) := dk_92 (dk_at dksX9_rule_5 21 rfl rfl)
theorem dX9_rule_142 : decode cX9_rule 142 = .ok (.iaload, 1) := dk_46 (dk_at dksX9_rule_5 22 rfl rfl)
theorem dX9_rule_143 : decode cX9_rule 143 = .ok (.iconst 1, 1) := dk_4 (dk_at dksX9_rule_5 23 rfl rfl)
theorem dX9_rule_144 : decode cX9_rule 144 = .ok (.iadd, 1) := dk_96 (dk_at dksX9_rule_6 0 rfl rfl)
theorem dX9_rule_145 : decode cX9_rule 145 = .ok (.iastore, 1) := dk_79 (dk_at dksX9_rule_6 1 rfl rfl)
theorem dX9_rule_146 : decode cX9_rule 146 = .ok (.aload_n 0, 1) := dk_42 (dk_at dksX9_rule_6 2 rfl rfl)
theorem dX9_rule_147 : decode cX9_rule 147 = .ok (.getfield 7, 3) := dk_180 0 7 (dk_at dksX9_rule_6 3 rfl rfl)
theorem dX9_rule_150 : decode cX9_rule 150 = .ok (.sipush 193, 3) := dk_17 0 193 (dk_at dksX9_rule_6 6 rfl rfl)
theorem dX9_rule_153 : decode cX9_rule 153 = .ok (.iaload, 1) := dk_46 (dk_at dksX9_rule_6 9 rfl rfl)
theorem dX9_rule_154 : decode cX9_rule 154 = .ok (.iconst 1, 1) := dk_4 (dk_at dksX9_rule_6 10 rfl rfl)
theorem dX9_rule_155 : decode cX9_rule 155 = .ok (.isub, 1) := dk_100 (dk_at dksX9_rule_6 11 rfl rfl)
theorem dX9_rule_156 : decode cX9_rule 156 = .ok (.ireturn, 1) := dk_172 (dk_at dksX9_rule_6 12 rfl rfl)
abbrev cX9_fault : ByteArray := prog_21_method_24_code
def yX9_fault : MethodName := ⟨RX9, "fault", "()I"⟩
def dkwX9_fault_0 : List UInt8 := [42, 3, 181, 0, 67, 42, 180, 0, 22, 172]
abbrev dktX9_fault_0 : List UInt8 := dkwX9_fault_0 ++ []
theorem dksX9_fault_0 : cX9_fault.data.toList.drop 0 = dktX9_fault_0 := by decide +kernel
theorem dX9_fault_0 : decode cX9_fault 0 = .ok (.aload_n 0, 1) := dk_42 (dk_at dksX9_fault_0 0 rfl rfl)
theorem dX9_fault_1 : decode cX9_fault 1 = .ok (.iconst 0, 1) := dk_3 (dk_at dksX9_fault_0 1 rfl rfl)
theorem dX9_fault_2 : decode cX9_fault 2 = .ok (.putfield 67, 3) := dk_181 0 67 (dk_at dksX9_fault_0 2 rfl rfl)
theorem dX9_fault_5 : decode cX9_fault 5 = .ok (.aload_n 0, 1) := dk_42 (dk_at dksX9_fault_0 5 rfl rfl)
theorem dX9_fault_6 : decode cX9_fault 6 = .ok (.getfield 22, 3) := dk_180 0 22 (dk_at dksX9_fault_0 6 rfl rfl)
theorem dX9_fault_9 : decode cX9_fault 9 = .ok (.ireturn, 1) := dk_172 (dk_at dksX9_fault_0 9 rfl rfl)
abbrev cX9_look : ByteArray := prog_21_method_25_code
def yX9_look : MethodName := ⟨RX9, "look", "(III)I"⟩
def dkwX9_look_2 : List UInt8 := [3, 172, 42, 180, 0, 7, 3, 16, 12, 7, 27, 104, 28, 96, 104, 96, 29, 96, 46, 172]
abbrev dktX9_look_2 : List UInt8 := dkwX9_look_2 ++ []
def dkwX9_look_1 : List UInt8 := [3, 16, 11, 184, 0, 70, 154, 0, 7, 5, 167, 0, 4, 3, 181, 0, 67, 42, 180, 0, 67, 158, 0, 5]
abbrev dktX9_look_1 : List UInt8 := dkwX9_look_1 ++ dktX9_look_2
def dkwX9_look_0 : List UInt8 := [42, 27, 3, 6, 184, 0, 70, 153, 0, 12, 28, 3, 6, 184, 0, 70, 154, 0, 7, 4, 167, 0, 18, 29]
abbrev dktX9_look_0 : List UInt8 := dkwX9_look_0 ++ dktX9_look_1
theorem dksX9_look_0 : cX9_look.data.toList.drop 0 = dktX9_look_0 := by decide +kernel
theorem dksX9_look_1 : cX9_look.data.toList.drop 24 = dktX9_look_1 := dk_seg dksX9_look_0 24 rfl rfl
theorem dksX9_look_2 : cX9_look.data.toList.drop 48 = dktX9_look_2 := dk_seg dksX9_look_1 24 rfl rfl
theorem dX9_look_0 : decode cX9_look 0 = .ok (.aload_n 0, 1) := dk_42 (dk_at dksX9_look_0 0 rfl rfl)
theorem dX9_look_1 : decode cX9_look 1 = .ok (.iload_n 1, 1) := dk_27 (dk_at dksX9_look_0 1 rfl rfl)
theorem dX9_look_2 : decode cX9_look 2 = .ok (.iconst 0, 1) := dk_3 (dk_at dksX9_look_0 2 rfl rfl)
theorem dX9_look_3 : decode cX9_look 3 = .ok (.iconst 3, 1) := dk_6 (dk_at dksX9_look_0 3 rfl rfl)
theorem dX9_look_4 : decode cX9_look 4 = .ok (.invokestatic 70, 3) := dk_184 0 70 (dk_at dksX9_look_0 4 rfl rfl)
theorem dX9_look_7 : decode cX9_look 7 = .ok (.ifCond .eq 12, 3) := dk_153 0 12 (dk_at dksX9_look_0 7 rfl rfl)
theorem dX9_look_10 : decode cX9_look 10 = .ok (.iload_n 2, 1) := dk_28 (dk_at dksX9_look_0 10 rfl rfl)
theorem dX9_look_11 : decode cX9_look 11 = .ok (.iconst 0, 1) := dk_3 (dk_at dksX9_look_0 11 rfl rfl)
theorem dX9_look_12 : decode cX9_look 12 = .ok (.iconst 3, 1) := dk_6 (dk_at dksX9_look_0 12 rfl rfl)
theorem dX9_look_13 : decode cX9_look 13 = .ok (.invokestatic 70, 3) := dk_184 0 70 (dk_at dksX9_look_0 13 rfl rfl)
theorem dX9_look_16 : decode cX9_look 16 = .ok (.ifCond .ne 7, 3) := dk_154 0 7 (dk_at dksX9_look_0 16 rfl rfl)
theorem dX9_look_19 : decode cX9_look 19 = .ok (.iconst 1, 1) := dk_4 (dk_at dksX9_look_0 19 rfl rfl)
theorem dX9_look_20 : decode cX9_look 20 = .ok (.goto 18, 3) := dk_167 0 18 (dk_at dksX9_look_0 20 rfl rfl)
theorem dX9_look_23 : decode cX9_look 23 = .ok (.iload_n 3, 1) := dk_29 (dk_at dksX9_look_0 23 rfl rfl)
theorem dX9_look_24 : decode cX9_look 24 = .ok (.iconst 0, 1) := dk_3 (dk_at dksX9_look_1 0 rfl rfl)
theorem dX9_look_25 : decode cX9_look 25 = .ok (.bipush 11, 2) := dk_16 11 (dk_at dksX9_look_1 1 rfl rfl)
theorem dX9_look_27 : decode cX9_look 27 = .ok (.invokestatic 70, 3) := dk_184 0 70 (dk_at dksX9_look_1 3 rfl rfl)
theorem dX9_look_30 : decode cX9_look 30 = .ok (.ifCond .ne 7, 3) := dk_154 0 7 (dk_at dksX9_look_1 6 rfl rfl)
theorem dX9_look_33 : decode cX9_look 33 = .ok (.iconst 2, 1) := dk_5 (dk_at dksX9_look_1 9 rfl rfl)
theorem dX9_look_34 : decode cX9_look 34 = .ok (.goto 4, 3) := dk_167 0 4 (dk_at dksX9_look_1 10 rfl rfl)
theorem dX9_look_37 : decode cX9_look 37 = .ok (.iconst 0, 1) := dk_3 (dk_at dksX9_look_1 13 rfl rfl)
theorem dX9_look_38 : decode cX9_look 38 = .ok (.putfield 67, 3) := dk_181 0 67 (dk_at dksX9_look_1 14 rfl rfl)
theorem dX9_look_41 : decode cX9_look 41 = .ok (.aload_n 0, 1) := dk_42 (dk_at dksX9_look_1 17 rfl rfl)
theorem dX9_look_42 : decode cX9_look 42 = .ok (.getfield 67, 3) := dk_180 0 67 (dk_at dksX9_look_1 18 rfl rfl)
theorem dX9_look_45 : decode cX9_look 45 = .ok (.ifCond .le 5, 3) := dk_158 0 5 (dk_at dksX9_look_1 21 rfl rfl)
theorem dX9_look_48 : decode cX9_look 48 = .ok (.iconst 0, 1) := dk_3 (dk_at dksX9_look_2 0 rfl rfl)
theorem dX9_look_49 : decode cX9_look 49 = .ok (.ireturn, 1) := dk_172 (dk_at dksX9_look_2 1 rfl rfl)
theorem dX9_look_50 : decode cX9_look 50 = .ok (.aload_n 0, 1) := dk_42 (dk_at dksX9_look_2 2 rfl rfl)
theorem dX9_look_51 : decode cX9_look 51 = .ok (.getfield 7, 3) := dk_180 0 7 (dk_at dksX9_look_2 3 rfl rfl)
theorem dX9_look_54 : decode cX9_look 54 = .ok (.iconst 0, 1) := dk_3 (dk_at dksX9_look_2 6 rfl rfl)
theorem dX9_look_55 : decode cX9_look 55 = .ok (.bipush 12, 2) := dk_16 12 (dk_at dksX9_look_2 7 rfl rfl)
theorem dX9_look_57 : decode cX9_look 57 = .ok (.iconst 4, 1) := dk_7 (dk_at dksX9_look_2 9 rfl rfl)
theorem dX9_look_58 : decode cX9_look 58 = .ok (.iload_n 1, 1) := dk_27 (dk_at dksX9_look_2 10 rfl rfl)
theorem dX9_look_59 : decode cX9_look 59 = .ok (.imul, 1) := dk_104 (dk_at dksX9_look_2 11 rfl rfl)
theorem dX9_look_60 : decode cX9_look 60 = .ok (.iload_n 2, 1) := dk_28 (dk_at dksX9_look_2 12 rfl rfl)
theorem dX9_look_61 : decode cX9_look 61 = .ok (.iadd, 1) := dk_96 (dk_at dksX9_look_2 13 rfl rfl)
theorem dX9_look_62 : decode cX9_look 62 = .ok (.imul, 1) := dk_104 (dk_at dksX9_look_2 14 rfl rfl)
theorem dX9_look_63 : decode cX9_look 63 = .ok (.iadd, 1) := dk_96 (dk_at dksX9_look_2 15 rfl rfl)
theorem dX9_look_64 : decode cX9_look 64 = .ok (.iload_n 3, 1) := dk_29 (dk_at dksX9_look_2 16 rfl rfl)
theorem dX9_look_65 : decode cX9_look 65 = .ok (.iadd, 1) := dk_96 (dk_at dksX9_look_2 17 rfl rfl)
theorem dX9_look_66 : decode cX9_look 66 = .ok (.iaload, 1) := dk_46 (dk_at dksX9_look_2 18 rfl rfl)
theorem dX9_look_67 : decode cX9_look 67 = .ok (.ireturn, 1) := dk_172 (dk_at dksX9_look_2 19 rfl rfl)
abbrev cX9_plays : ByteArray := prog_21_method_26_code
def yX9_plays : MethodName := ⟨RX9, "plays", "(II)I"⟩
def dkwX9_plays_2 : List UInt8 := [17, 0, 199, 27, 96, 46, 62, 42, 180, 0, 7, 17, 0, 199, 27, 96, 28, 79, 29, 172]
abbrev dktX9_plays_2 : List UInt8 := dkwX9_plays_2 ++ []
def dkwX9_plays_1 : List UInt8 := [154, 0, 7, 4, 167, 0, 4, 3, 181, 0, 67, 42, 180, 0, 67, 158, 0, 5, 3, 172, 42, 180, 0, 7]
abbrev dktX9_plays_1 : List UInt8 := dkwX9_plays_1 ++ dktX9_plays_2
def dkwX9_plays_0 : List UInt8 := [42, 27, 184, 0, 197, 153, 0, 21, 28, 2, 42, 180, 0, 7, 17, 0, 193, 46, 4, 100, 184, 0, 70]
abbrev dktX9_plays_0 : List UInt8 := dkwX9_plays_0 ++ dktX9_plays_1
theorem dksX9_plays_0 : cX9_plays.data.toList.drop 0 = dktX9_plays_0 := by decide +kernel
theorem dksX9_plays_1 : cX9_plays.data.toList.drop 23 = dktX9_plays_1 := dk_seg dksX9_plays_0 23 rfl rfl
theorem dksX9_plays_2 : cX9_plays.data.toList.drop 47 = dktX9_plays_2 := dk_seg dksX9_plays_1 24 rfl rfl
theorem dX9_plays_0 : decode cX9_plays 0 = .ok (.aload_n 0, 1) := dk_42 (dk_at dksX9_plays_0 0 rfl rfl)
theorem dX9_plays_1 : decode cX9_plays 1 = .ok (.iload_n 1, 1) := dk_27 (dk_at dksX9_plays_0 1 rfl rfl)
theorem dX9_plays_2 : decode cX9_plays 2 = .ok (.invokestatic 197, 3) := dk_184 0 197 (dk_at dksX9_plays_0 2 rfl rfl)
theorem dX9_plays_5 : decode cX9_plays 5 = .ok (.ifCond .eq 21, 3) := dk_153 0 21 (dk_at dksX9_plays_0 5 rfl rfl)
theorem dX9_plays_8 : decode cX9_plays 8 = .ok (.iload_n 2, 1) := dk_28 (dk_at dksX9_plays_0 8 rfl rfl)
theorem dX9_plays_9 : decode cX9_plays 9 = .ok (.iconst (-1), 1) := dk_2 (dk_at dksX9_plays_0 9 rfl rfl)
theorem dX9_plays_10 : decode cX9_plays 10 = .ok (.aload_n 0, 1) := dk_42 (dk_at dksX9_plays_0 10 rfl rfl)
theorem dX9_plays_11 : decode cX9_plays 11 = .ok (.getfield 7, 3) := dk_180 0 7 (dk_at dksX9_plays_0 11 rfl rfl)
theorem dX9_plays_14 : decode cX9_plays 14 = .ok (.sipush 193, 3) := dk_17 0 193 (dk_at dksX9_plays_0 14 rfl rfl)
theorem dX9_plays_17 : decode cX9_plays 17 = .ok (.iaload, 1) := dk_46 (dk_at dksX9_plays_0 17 rfl rfl)
theorem dX9_plays_18 : decode cX9_plays 18 = .ok (.iconst 1, 1) := dk_4 (dk_at dksX9_plays_0 18 rfl rfl)
theorem dX9_plays_19 : decode cX9_plays 19 = .ok (.isub, 1) := dk_100 (dk_at dksX9_plays_0 19 rfl rfl)
theorem dX9_plays_20 : decode cX9_plays 20 = .ok (.invokestatic 70, 3) := dk_184 0 70 (dk_at dksX9_plays_0 20 rfl rfl)
theorem dX9_plays_23 : decode cX9_plays 23 = .ok (.ifCond .ne 7, 3) := dk_154 0 7 (dk_at dksX9_plays_1 0 rfl rfl)
theorem dX9_plays_26 : decode cX9_plays 26 = .ok (.iconst 1, 1) := dk_4 (dk_at dksX9_plays_1 3 rfl rfl)
theorem dX9_plays_27 : decode cX9_plays 27 = .ok (.goto 4, 3) := dk_167 0 4 (dk_at dksX9_plays_1 4 rfl rfl)
theorem dX9_plays_30 : decode cX9_plays 30 = .ok (.iconst 0, 1) := dk_3 (dk_at dksX9_plays_1 7 rfl rfl)
theorem dX9_plays_31 : decode cX9_plays 31 = .ok (.putfield 67, 3) := dk_181 0 67 (dk_at dksX9_plays_1 8 rfl rfl)
theorem dX9_plays_34 : decode cX9_plays 34 = .ok (.aload_n 0, 1) := dk_42 (dk_at dksX9_plays_1 11 rfl rfl)
theorem dX9_plays_35 : decode cX9_plays 35 = .ok (.getfield 67, 3) := dk_180 0 67 (dk_at dksX9_plays_1 12 rfl rfl)
theorem dX9_plays_38 : decode cX9_plays 38 = .ok (.ifCond .le 5, 3) := dk_158 0 5 (dk_at dksX9_plays_1 15 rfl rfl)
theorem dX9_plays_41 : decode cX9_plays 41 = .ok (.iconst 0, 1) := dk_3 (dk_at dksX9_plays_1 18 rfl rfl)
theorem dX9_plays_42 : decode cX9_plays 42 = .ok (.ireturn, 1) := dk_172 (dk_at dksX9_plays_1 19 rfl rfl)
theorem dX9_plays_43 : decode cX9_plays 43 = .ok (.aload_n 0, 1) := dk_42 (dk_at dksX9_plays_1 20 rfl rfl)
theorem dX9_plays_44 : decode cX9_plays 44 = .ok (.getfield 7, 3) := dk_180 0 7 (dk_at dksX9_plays_1 21 rfl rfl)
theorem dX9_plays_47 : decode cX9_plays 47 = .ok (.sipush 199, 3) := dk_17 0 199 (dk_at dksX9_plays_2 0 rfl rfl)
theorem dX9_plays_50 : decode cX9_plays 50 = .ok (.iload_n 1, 1) := dk_27 (dk_at dksX9_plays_2 3 rfl rfl)
theorem dX9_plays_51 : decode cX9_plays 51 = .ok (.iadd, 1) := dk_96 (dk_at dksX9_plays_2 4 rfl rfl)
theorem dX9_plays_52 : decode cX9_plays 52 = .ok (.iaload, 1) := dk_46 (dk_at dksX9_plays_2 5 rfl rfl)
theorem dX9_plays_53 : decode cX9_plays 53 = .ok (.istore_n 3, 1) := dk_62 (dk_at dksX9_plays_2 6 rfl rfl)
theorem dX9_plays_54 : decode cX9_plays 54 = .ok (.aload_n 0, 1) := dk_42 (dk_at dksX9_plays_2 7 rfl rfl)
theorem dX9_plays_55 : decode cX9_plays 55 = .ok (.getfield 7, 3) := dk_180 0 7 (dk_at dksX9_plays_2 8 rfl rfl)
theorem dX9_plays_58 : decode cX9_plays 58 = .ok (.sipush 199, 3) := dk_17 0 199 (dk_at dksX9_plays_2 11 rfl rfl)
theorem dX9_plays_61 : decode cX9_plays 61 = .ok (.iload_n 1, 1) := dk_27 (dk_at dksX9_plays_2 14 rfl rfl)
theorem dX9_plays_62 : decode cX9_plays 62 = .ok (.iadd, 1) := dk_96 (dk_at dksX9_plays_2 15 rfl rfl)
theorem dX9_plays_63 : decode cX9_plays 63 = .ok (.iload_n 2, 1) := dk_28 (dk_at dksX9_plays_2 16 rfl rfl)
theorem dX9_plays_64 : decode cX9_plays 64 = .ok (.iastore, 1) := dk_79 (dk_at dksX9_plays_2 17 rfl rfl)
theorem dX9_plays_65 : decode cX9_plays 65 = .ok (.iload_n 3, 1) := dk_29 (dk_at dksX9_plays_2 18 rfl rfl)
theorem dX9_plays_66 : decode cX9_plays 66 = .ok (.ireturn, 1) := dk_172 (dk_at dksX9_plays_2 19 rfl rfl)
abbrev cX9_isPlayer : ByteArray := prog_21_method_4_code
def yX9_isPlayer : MethodName := ⟨RX9, "isPlayer", "(I)Z"⟩
def dkwX9_isPlayer_0 : List UInt8 := [26, 3, 4, 184, 0, 70, 172]
abbrev dktX9_isPlayer_0 : List UInt8 := dkwX9_isPlayer_0 ++ []
theorem dksX9_isPlayer_0 : cX9_isPlayer.data.toList.drop 0 = dktX9_isPlayer_0 := by decide +kernel
theorem dX9_isPlayer_0 : decode cX9_isPlayer 0 = .ok (.iload_n 0, 1) := dk_26 (dk_at dksX9_isPlayer_0 0 rfl rfl)
theorem dX9_isPlayer_1 : decode cX9_isPlayer 1 = .ok (.iconst 0, 1) := dk_3 (dk_at dksX9_isPlayer_0 1 rfl rfl)
theorem dX9_isPlayer_2 : decode cX9_isPlayer 2 = .ok (.iconst 1, 1) := dk_4 (dk_at dksX9_isPlayer_0 2 rfl rfl)
theorem dX9_isPlayer_3 : decode cX9_isPlayer 3 = .ok (.invokestatic 70, 3) := dk_184 0 70 (dk_at dksX9_isPlayer_0 3 rfl rfl)
theorem dX9_isPlayer_6 : decode cX9_isPlayer 6 = .ok (.ireturn, 1) := dk_172 (dk_at dksX9_isPlayer_0 6 rfl rfl)
abbrev cX9_style : ByteArray := prog_21_method_30_code
def yX9_style : MethodName := ⟨RX9, "style", "(I)I"⟩
def dkwX9_style_1 : List UInt8 := [172, 42, 182, 0, 200, 42, 27, 182, 0, 203, 172]
abbrev dktX9_style_1 : List UInt8 := dkwX9_style_1 ++ []
def dkwX9_style_0 : List UInt8 := [42, 27, 184, 0, 197, 154, 0, 7, 4, 167, 0, 4, 3, 181, 0, 67, 42, 180, 0, 67, 158, 0, 5, 3]
abbrev dktX9_style_0 : List UInt8 := dkwX9_style_0 ++ dktX9_style_1
theorem dksX9_style_0 : cX9_style.data.toList.drop 0 = dktX9_style_0 := by decide +kernel
theorem dksX9_style_1 : cX9_style.data.toList.drop 24 = dktX9_style_1 := dk_seg dksX9_style_0 24 rfl rfl
theorem dX9_style_0 : decode cX9_style 0 = .ok (.aload_n 0, 1) := dk_42 (dk_at dksX9_style_0 0 rfl rfl)
theorem dX9_style_1 : decode cX9_style 1 = .ok (.iload_n 1, 1) := dk_27 (dk_at dksX9_style_0 1 rfl rfl)
theorem dX9_style_2 : decode cX9_style 2 = .ok (.invokestatic 197, 3) := dk_184 0 197 (dk_at dksX9_style_0 2 rfl rfl)
theorem dX9_style_5 : decode cX9_style 5 = .ok (.ifCond .ne 7, 3) := dk_154 0 7 (dk_at dksX9_style_0 5 rfl rfl)
theorem dX9_style_8 : decode cX9_style 8 = .ok (.iconst 1, 1) := dk_4 (dk_at dksX9_style_0 8 rfl rfl)
theorem dX9_style_9 : decode cX9_style 9 = .ok (.goto 4, 3) := dk_167 0 4 (dk_at dksX9_style_0 9 rfl rfl)
theorem dX9_style_12 : decode cX9_style 12 = .ok (.iconst 0, 1) := dk_3 (dk_at dksX9_style_0 12 rfl rfl)
theorem dX9_style_13 : decode cX9_style 13 = .ok (.putfield 67, 3) := dk_181 0 67 (dk_at dksX9_style_0 13 rfl rfl)
theorem dX9_style_16 : decode cX9_style 16 = .ok (.aload_n 0, 1) := dk_42 (dk_at dksX9_style_0 16 rfl rfl)
theorem dX9_style_17 : decode cX9_style 17 = .ok (.getfield 67, 3) := dk_180 0 67 (dk_at dksX9_style_0 17 rfl rfl)
theorem dX9_style_20 : decode cX9_style 20 = .ok (.ifCond .le 5, 3) := dk_158 0 5 (dk_at dksX9_style_0 20 rfl rfl)
theorem dX9_style_23 : decode cX9_style 23 = .ok (.iconst 0, 1) := dk_3 (dk_at dksX9_style_0 23 rfl rfl)
theorem dX9_style_24 : decode cX9_style 24 = .ok (.ireturn, 1) := dk_172 (dk_at dksX9_style_1 0 rfl rfl)
theorem dX9_style_25 : decode cX9_style 25 = .ok (.aload_n 0, 1) := dk_42 (dk_at dksX9_style_1 1 rfl rfl)
theorem dX9_style_26 : decode cX9_style 26 = .ok (.invokevirtual 200, 3) := dk_182 0 200 (dk_at dksX9_style_1 2 rfl rfl)
theorem dX9_style_29 : decode cX9_style 29 = .ok (.aload_n 0, 1) := dk_42 (dk_at dksX9_style_1 5 rfl rfl)
theorem dX9_style_30 : decode cX9_style 30 = .ok (.iload_n 1, 1) := dk_27 (dk_at dksX9_style_1 6 rfl rfl)
theorem dX9_style_31 : decode cX9_style 31 = .ok (.invokevirtual 203, 3) := dk_182 0 203 (dk_at dksX9_style_1 7 rfl rfl)
theorem dX9_style_34 : decode cX9_style 34 = .ok (.ireturn, 1) := dk_172 (dk_at dksX9_style_1 10 rfl rfl)
abbrev cX9_takes : ByteArray := prog_21_method_28_code
def yX9_takes : MethodName := ⟨RX9, "takes", "()V"⟩
def dkwX9_takes_1 : List UInt8 := [132, 1, 1, 167, 255, 231, 177]
abbrev dktX9_takes_1 : List UInt8 := dkwX9_takes_1 ++ []
def dkwX9_takes_0 : List UInt8 := [3, 60, 27, 16, 9, 162, 0, 25, 42, 180, 0, 29, 27, 42, 180, 0, 7, 17, 0, 201, 27, 96, 46, 79]
abbrev dktX9_takes_0 : List UInt8 := dkwX9_takes_0 ++ dktX9_takes_1
theorem dksX9_takes_0 : cX9_takes.data.toList.drop 0 = dktX9_takes_0 := by decide +kernel
theorem dksX9_takes_1 : cX9_takes.data.toList.drop 24 = dktX9_takes_1 := dk_seg dksX9_takes_0 24 rfl rfl
theorem dX9_takes_0 : decode cX9_takes 0 = .ok (.iconst 0, 1) := dk_3 (dk_at dksX9_takes_0 0 rfl rfl)
theorem dX9_takes_1 : decode cX9_takes 1 = .ok (.istore_n 1, 1) := dk_60 (dk_at dksX9_takes_0 1 rfl rfl)
theorem dX9_takes_2 : decode cX9_takes 2 = .ok (.iload_n 1, 1) := dk_27 (dk_at dksX9_takes_0 2 rfl rfl)
theorem dX9_takes_3 : decode cX9_takes 3 = .ok (.bipush 9, 2) := dk_16 9 (dk_at dksX9_takes_0 3 rfl rfl)
theorem dX9_takes_5 : decode cX9_takes 5 = .ok (.if_icmp .ge 25, 3) := dk_162 0 25 (dk_at dksX9_takes_0 5 rfl rfl)
theorem dX9_takes_8 : decode cX9_takes 8 = .ok (.aload_n 0, 1) := dk_42 (dk_at dksX9_takes_0 8 rfl rfl)
theorem dX9_takes_9 : decode cX9_takes 9 = .ok (.getfield 29, 3) := dk_180 0 29 (dk_at dksX9_takes_0 9 rfl rfl)
theorem dX9_takes_12 : decode cX9_takes 12 = .ok (.iload_n 1, 1) := dk_27 (dk_at dksX9_takes_0 12 rfl rfl)
theorem dX9_takes_13 : decode cX9_takes 13 = .ok (.aload_n 0, 1) := dk_42 (dk_at dksX9_takes_0 13 rfl rfl)
theorem dX9_takes_14 : decode cX9_takes 14 = .ok (.getfield 7, 3) := dk_180 0 7 (dk_at dksX9_takes_0 14 rfl rfl)
theorem dX9_takes_17 : decode cX9_takes 17 = .ok (.sipush 201, 3) := dk_17 0 201 (dk_at dksX9_takes_0 17 rfl rfl)
theorem dX9_takes_20 : decode cX9_takes 20 = .ok (.iload_n 1, 1) := dk_27 (dk_at dksX9_takes_0 20 rfl rfl)
theorem dX9_takes_21 : decode cX9_takes 21 = .ok (.iadd, 1) := dk_96 (dk_at dksX9_takes_0 21 rfl rfl)
theorem dX9_takes_22 : decode cX9_takes 22 = .ok (.iaload, 1) := dk_46 (dk_at dksX9_takes_0 22 rfl rfl)
theorem dX9_takes_23 : decode cX9_takes 23 = .ok (.iastore, 1) := dk_79 (dk_at dksX9_takes_0 23 rfl rfl)
theorem dX9_takes_24 : decode cX9_takes 24 = .ok (.iinc 1 1, 3) := dk_132 1 1 (dk_at dksX9_takes_1 0 rfl rfl)
theorem dX9_takes_27 : decode cX9_takes 27 = .ok (.goto (-25), 3) := dk_167 255 231 (dk_at dksX9_takes_1 3 rfl rfl)
theorem dX9_takes_30 : decode cX9_takes 30 = .ok (.return_, 1) := dk_177 (dk_at dksX9_takes_1 6 rfl rfl)
abbrev cX9_styleOf : ByteArray := prog_21_method_27_code
def yX9_styleOf : MethodName := ⟨RX9, "styleOf", "(I)I"⟩
def dkwX9_styleOf_9 : List UInt8 := [167, 0, 7, 42, 180, 0, 194, 172]
abbrev dktX9_styleOf_9 : List UInt8 := dkwX9_styleOf_9 ++ []
def dkwX9_styleOf_8 : List UInt8 := [42, 2, 181, 0, 194, 42, 4, 182, 0, 142, 42, 28, 181, 0, 22, 42, 180, 0, 194, 2, 160, 0, 7, 3]
abbrev dktX9_styleOf_8 : List UInt8 := dkwX9_styleOf_8 ++ dktX9_styleOf_9
def dkwX9_styleOf_7 : List UInt8 := [96, 46, 104, 96, 4, 96, 181, 0, 77, 42, 42, 180, 0, 7, 42, 180, 0, 77, 4, 100, 46, 181, 0, 83]
abbrev dktX9_styleOf_7 : List UInt8 := dkwX9_styleOf_7 ++ dktX9_styleOf_8
def dkwX9_styleOf_6 : List UInt8 := [180, 0, 22, 61, 42, 2, 181, 0, 22, 42, 17, 0, 210, 17, 1, 145, 42, 180, 0, 7, 17, 0, 199, 27]
abbrev dktX9_styleOf_6 : List UInt8 := dkwX9_styleOf_6 ++ dktX9_styleOf_7
def dkwX9_styleOf_5 : List UInt8 := [181, 0, 159, 42, 42, 180, 0, 29, 16, 6, 46, 4, 160, 0, 7, 4, 167, 0, 4, 3, 181, 0, 165, 42]
abbrev dktX9_styleOf_5 : List UInt8 := dkwX9_styleOf_5 ++ dktX9_styleOf_6
def dkwX9_styleOf_4 : List UInt8 := [16, 7, 27, 96, 46, 79, 42, 42, 180, 0, 29, 5, 46, 27, 160, 0, 7, 4, 167, 0, 4, 3]
abbrev dktX9_styleOf_4 : List UInt8 := dkwX9_styleOf_4 ++ dktX9_styleOf_5
def dkwX9_styleOf_3 : List UInt8 := [46, 79, 42, 180, 0, 26, 6, 42, 180, 0, 29, 6, 46, 79, 42, 180, 0, 26, 7, 42, 180, 0, 29]
abbrev dktX9_styleOf_3 : List UInt8 := dkwX9_styleOf_3 ++ dktX9_styleOf_4
def dkwX9_styleOf_2 : List UInt8 := [42, 180, 0, 26, 5, 42, 180, 0, 29, 6, 46, 154, 0, 8, 16, 10, 167, 0, 9, 42, 180, 0, 29, 7]
abbrev dktX9_styleOf_2 : List UInt8 := dkwX9_styleOf_2 ++ dktX9_styleOf_3
def dkwX9_styleOf_1 : List UInt8 := [180, 0, 29, 27, 46, 6, 96, 79, 42, 180, 0, 26, 4, 42, 180, 0, 29, 4, 27, 100, 46, 6, 96, 79]
abbrev dktX9_styleOf_1 : List UInt8 := dkwX9_styleOf_1 ++ dktX9_styleOf_2
def dkwX9_styleOf_0 : List UInt8 := [42, 180, 0, 7, 17, 0, 199, 27, 96, 46, 2, 160, 0, 5, 3, 172, 42, 180, 0, 26, 3, 42]
abbrev dktX9_styleOf_0 : List UInt8 := dkwX9_styleOf_0 ++ dktX9_styleOf_1
theorem dksX9_styleOf_0 : cX9_styleOf.data.toList.drop 0 = dktX9_styleOf_0 := by decide +kernel
theorem dksX9_styleOf_1 : cX9_styleOf.data.toList.drop 22 = dktX9_styleOf_1 := dk_seg dksX9_styleOf_0 22 rfl rfl
theorem dksX9_styleOf_2 : cX9_styleOf.data.toList.drop 46 = dktX9_styleOf_2 := dk_seg dksX9_styleOf_1 24 rfl rfl
theorem dksX9_styleOf_3 : cX9_styleOf.data.toList.drop 70 = dktX9_styleOf_3 := dk_seg dksX9_styleOf_2 24 rfl rfl
theorem dksX9_styleOf_4 : cX9_styleOf.data.toList.drop 93 = dktX9_styleOf_4 := dk_seg dksX9_styleOf_3 23 rfl rfl
theorem dksX9_styleOf_5 : cX9_styleOf.data.toList.drop 115 = dktX9_styleOf_5 := dk_seg dksX9_styleOf_4 22 rfl rfl
theorem dksX9_styleOf_6 : cX9_styleOf.data.toList.drop 139 = dktX9_styleOf_6 := dk_seg dksX9_styleOf_5 24 rfl rfl
theorem dksX9_styleOf_7 : cX9_styleOf.data.toList.drop 163 = dktX9_styleOf_7 := dk_seg dksX9_styleOf_6 24 rfl rfl
theorem dksX9_styleOf_8 : cX9_styleOf.data.toList.drop 187 = dktX9_styleOf_8 := dk_seg dksX9_styleOf_7 24 rfl rfl
theorem dksX9_styleOf_9 : cX9_styleOf.data.toList.drop 211 = dktX9_styleOf_9 := dk_seg dksX9_styleOf_8 24 rfl rfl
theorem dX9_styleOf_0 : decode cX9_styleOf 0 = .ok (.aload_n 0, 1) := dk_42 (dk_at dksX9_styleOf_0 0 rfl rfl)
theorem dX9_styleOf_1 : decode cX9_styleOf 1 = .ok (.getfield 7, 3) := dk_180 0 7 (dk_at dksX9_styleOf_0 1 rfl rfl)
theorem dX9_styleOf_4 : decode cX9_styleOf 4 = .ok (.sipush 199, 3) := dk_17 0 199 (dk_at dksX9_styleOf_0 4 rfl rfl)
theorem dX9_styleOf_7 : decode cX9_styleOf 7 = .ok (.iload_n 1, 1) := dk_27 (dk_at dksX9_styleOf_0 7 rfl rfl)
theorem dX9_styleOf_8 : decode cX9_styleOf 8 = .ok (.iadd, 1) := dk_96 (dk_at dksX9_styleOf_0 8 rfl rfl)
theorem dX9_styleOf_9 : decode cX9_styleOf 9 = .ok (.iaload, 1) := dk_46 (dk_at dksX9_styleOf_0 9 rfl rfl)
theorem dX9_styleOf_10 : decode cX9_styleOf 10 = .ok (.iconst (-1), 1) := dk_2 (dk_at dksX9_styleOf_0 10 rfl rfl)
theorem dX9_styleOf_11 : decode cX9_styleOf 11 = .ok (.if_icmp .ne 5, 3) := dk_160 0 5 (dk_at dksX9_styleOf_0 11 rfl rfl)
theorem dX9_styleOf_14 : decode cX9_styleOf 14 = .ok (.iconst 0, 1) := dk_3 (dk_at dksX9_styleOf_0 14 rfl rfl)
theorem dX9_styleOf_15 : decode cX9_styleOf 15 = .ok (.ireturn, 1) := dk_172 (dk_at dksX9_styleOf_0 15 rfl rfl)
theorem dX9_styleOf_16 : decode cX9_styleOf 16 = .ok (.aload_n 0, 1) := dk_42 (dk_at dksX9_styleOf_0 16 rfl rfl)
theorem dX9_styleOf_17 : decode cX9_styleOf 17 = .ok (.getfield 26, 3) := dk_180 0 26 (dk_at dksX9_styleOf_0 17 rfl rfl)
theorem dX9_styleOf_20 : decode cX9_styleOf 20 = .ok (.iconst 0, 1) := dk_3 (dk_at dksX9_styleOf_0 20 rfl rfl)
theorem dX9_styleOf_21 : decode cX9_styleOf 21 = .ok (.aload_n 0, 1) := dk_42 (dk_at dksX9_styleOf_0 21 rfl rfl)
theorem dX9_styleOf_22 : decode cX9_styleOf 22 = .ok (.getfield 29, 3) := dk_180 0 29 (dk_at dksX9_styleOf_1 0 rfl rfl)
theorem dX9_styleOf_25 : decode cX9_styleOf 25 = .ok (.iload_n 1, 1) := dk_27 (dk_at dksX9_styleOf_1 3 rfl rfl)
theorem dX9_styleOf_26 : decode cX9_styleOf 26 = .ok (.iaload, 1) := dk_46 (dk_at dksX9_styleOf_1 4 rfl rfl)
theorem dX9_styleOf_27 : decode cX9_styleOf 27 = .ok (.iconst 3, 1) := dk_6 (dk_at dksX9_styleOf_1 5 rfl rfl)
theorem dX9_styleOf_28 : decode cX9_styleOf 28 = .ok (.iadd, 1) := dk_96 (dk_at dksX9_styleOf_1 6 rfl rfl)
theorem dX9_styleOf_29 : decode cX9_styleOf 29 = .ok (.iastore, 1) := dk_79 (dk_at dksX9_styleOf_1 7 rfl rfl)
theorem dX9_styleOf_30 : decode cX9_styleOf 30 = .ok (.aload_n 0, 1) := dk_42 (dk_at dksX9_styleOf_1 8 rfl rfl)
theorem dX9_styleOf_31 : decode cX9_styleOf 31 = .ok (.getfield 26, 3) := dk_180 0 26 (dk_at dksX9_styleOf_1 9 rfl rfl)
theorem dX9_styleOf_34 : decode cX9_styleOf 34 = .ok (.iconst 1, 1) := dk_4 (dk_at dksX9_styleOf_1 12 rfl rfl)
theorem dX9_styleOf_35 : decode cX9_styleOf 35 = .ok (.aload_n 0, 1) := dk_42 (dk_at dksX9_styleOf_1 13 rfl rfl)
theorem dX9_styleOf_36 : decode cX9_styleOf 36 = .ok (.getfield 29, 3) := dk_180 0 29 (dk_at dksX9_styleOf_1 14 rfl rfl)
theorem dX9_styleOf_39 : decode cX9_styleOf 39 = .ok (.iconst 1, 1) := dk_4 (dk_at dksX9_styleOf_1 17 rfl rfl)
theorem dX9_styleOf_40 : decode cX9_styleOf 40 = .ok (.iload_n 1, 1) := dk_27 (dk_at dksX9_styleOf_1 18 rfl rfl)
theorem dX9_styleOf_41 : decode cX9_styleOf 41 = .ok (.isub, 1) := dk_100 (dk_at dksX9_styleOf_1 19 rfl rfl)
theorem dX9_styleOf_42 : decode cX9_styleOf 42 = .ok (.iaload, 1) := dk_46 (dk_at dksX9_styleOf_1 20 rfl rfl)
theorem dX9_styleOf_43 : decode cX9_styleOf 43 = .ok (.iconst 3, 1) := dk_6 (dk_at dksX9_styleOf_1 21 rfl rfl)
theorem dX9_styleOf_44 : decode cX9_styleOf 44 = .ok (.iadd, 1) := dk_96 (dk_at dksX9_styleOf_1 22 rfl rfl)
theorem dX9_styleOf_45 : decode cX9_styleOf 45 = .ok (.iastore, 1) := dk_79 (dk_at dksX9_styleOf_1 23 rfl rfl)
theorem dX9_styleOf_46 : decode cX9_styleOf 46 = .ok (.aload_n 0, 1) := dk_42 (dk_at dksX9_styleOf_2 0 rfl rfl)
theorem dX9_styleOf_47 : decode cX9_styleOf 47 = .ok (.getfield 26, 3) := dk_180 0 26 (dk_at dksX9_styleOf_2 1 rfl rfl)
theorem dX9_styleOf_50 : decode cX9_styleOf 50 = .ok (.iconst 2, 1) := dk_5 (dk_at dksX9_styleOf_2 4 rfl rfl)
theorem dX9_styleOf_51 : decode cX9_styleOf 51 = .ok (.aload_n 0, 1) := dk_42 (dk_at dksX9_styleOf_2 5 rfl rfl)
theorem dX9_styleOf_52 : decode cX9_styleOf 52 = .ok (.getfield 29, 3) := dk_180 0 29 (dk_at dksX9_styleOf_2 6 rfl rfl)
theorem dX9_styleOf_55 : decode cX9_styleOf 55 = .ok (.iconst 3, 1) := dk_6 (dk_at dksX9_styleOf_2 9 rfl rfl)
theorem dX9_styleOf_56 : decode cX9_styleOf 56 = .ok (.iaload, 1) := dk_46 (dk_at dksX9_styleOf_2 10 rfl rfl)
theorem dX9_styleOf_57 : decode cX9_styleOf 57 = .ok (.ifCond .ne 8, 3) := dk_154 0 8 (dk_at dksX9_styleOf_2 11 rfl rfl)
theorem dX9_styleOf_60 : decode cX9_styleOf 60 = .ok (.bipush 10, 2) := dk_16 10 (dk_at dksX9_styleOf_2 14 rfl rfl)
theorem dX9_styleOf_62 : decode cX9_styleOf 62 = .ok (.goto 9, 3) := dk_167 0 9 (dk_at dksX9_styleOf_2 16 rfl rfl)
theorem dX9_styleOf_65 : decode cX9_styleOf 65 = .ok (.aload_n 0, 1) := dk_42 (dk_at dksX9_styleOf_2 19 rfl rfl)
theorem dX9_styleOf_66 : decode cX9_styleOf 66 = .ok (.getfield 29, 3) := dk_180 0 29 (dk_at dksX9_styleOf_2 20 rfl rfl)
theorem dX9_styleOf_69 : decode cX9_styleOf 69 = .ok (.iconst 4, 1) := dk_7 (dk_at dksX9_styleOf_2 23 rfl rfl)
theorem dX9_styleOf_70 : decode cX9_styleOf 70 = .ok (.iaload, 1) := dk_46 (dk_at dksX9_styleOf_3 0 rfl rfl)
theorem dX9_styleOf_71 : decode cX9_styleOf 71 = .ok (.iastore, 1) := dk_79 (dk_at dksX9_styleOf_3 1 rfl rfl)
theorem dX9_styleOf_72 : decode cX9_styleOf 72 = .ok (.aload_n 0, 1) := dk_42 (dk_at dksX9_styleOf_3 2 rfl rfl)
theorem dX9_styleOf_73 : decode cX9_styleOf 73 = .ok (.getfield 26, 3) := dk_180 0 26 (dk_at dksX9_styleOf_3 3 rfl rfl)
theorem dX9_styleOf_76 : decode cX9_styleOf 76 = .ok (.iconst 3, 1) := dk_6 (dk_at dksX9_styleOf_3 6 rfl rfl)
theorem dX9_styleOf_77 : decode cX9_styleOf 77 = .ok (.aload_n 0, 1) := dk_42 (dk_at dksX9_styleOf_3 7 rfl rfl)
theorem dX9_styleOf_78 : decode cX9_styleOf 78 = .ok (.getfield 29, 3) := dk_180 0 29 (dk_at dksX9_styleOf_3 8 rfl rfl)
theorem dX9_styleOf_81 : decode cX9_styleOf 81 = .ok (.iconst 3, 1) := dk_6 (dk_at dksX9_styleOf_3 11 rfl rfl)
theorem dX9_styleOf_82 : decode cX9_styleOf 82 = .ok (.iaload, 1) := dk_46 (dk_at dksX9_styleOf_3 12 rfl rfl)
theorem dX9_styleOf_83 : decode cX9_styleOf 83 = .ok (.iastore, 1) := dk_79 (dk_at dksX9_styleOf_3 13 rfl rfl)
theorem dX9_styleOf_84 : decode cX9_styleOf 84 = .ok (.aload_n 0, 1) := dk_42 (dk_at dksX9_styleOf_3 14 rfl rfl)
theorem dX9_styleOf_85 : decode cX9_styleOf 85 = .ok (.getfield 26, 3) := dk_180 0 26 (dk_at dksX9_styleOf_3 15 rfl rfl)
theorem dX9_styleOf_88 : decode cX9_styleOf 88 = .ok (.iconst 4, 1) := dk_7 (dk_at dksX9_styleOf_3 18 rfl rfl)
theorem dX9_styleOf_89 : decode cX9_styleOf 89 = .ok (.aload_n 0, 1) := dk_42 (dk_at dksX9_styleOf_3 19 rfl rfl)
theorem dX9_styleOf_90 : decode cX9_styleOf 90 = .ok (.getfield 29, 3) := dk_180 0 29 (dk_at dksX9_styleOf_3 20 rfl rfl)
theorem dX9_styleOf_93 : decode cX9_styleOf 93 = .ok (.bipush 7, 2) := dk_16 7 (dk_at dksX9_styleOf_4 0 rfl rfl)
theorem dX9_styleOf_95 : decode cX9_styleOf 95 = .ok (.iload_n 1, 1) := dk_27 (dk_at dksX9_styleOf_4 2 rfl rfl)
theorem dX9_styleOf_96 : decode cX9_styleOf 96 = .ok (.iadd, 1) := dk_96 (dk_at dksX9_styleOf_4 3 rfl rfl)
theorem dX9_styleOf_97 : decode cX9_styleOf 97 = .ok (.iaload, 1) := dk_46 (dk_at dksX9_styleOf_4 4 rfl rfl)
theorem dX9_styleOf_98 : decode cX9_styleOf 98 = .ok (.iastore, 1) := dk_79 (dk_at dksX9_styleOf_4 5 rfl rfl)
theorem dX9_styleOf_99 : decode cX9_styleOf 99 = .ok (.aload_n 0, 1) := dk_42 (dk_at dksX9_styleOf_4 6 rfl rfl)
theorem dX9_styleOf_100 : decode cX9_styleOf 100 = .ok (.aload_n 0, 1) := dk_42 (dk_at dksX9_styleOf_4 7 rfl rfl)
theorem dX9_styleOf_101 : decode cX9_styleOf 101 = .ok (.getfield 29, 3) := dk_180 0 29 (dk_at dksX9_styleOf_4 8 rfl rfl)
theorem dX9_styleOf_104 : decode cX9_styleOf 104 = .ok (.iconst 2, 1) := dk_5 (dk_at dksX9_styleOf_4 11 rfl rfl)
theorem dX9_styleOf_105 : decode cX9_styleOf 105 = .ok (.iaload, 1) := dk_46 (dk_at dksX9_styleOf_4 12 rfl rfl)
theorem dX9_styleOf_106 : decode cX9_styleOf 106 = .ok (.iload_n 1, 1) := dk_27 (dk_at dksX9_styleOf_4 13 rfl rfl)
theorem dX9_styleOf_107 : decode cX9_styleOf 107 = .ok (.if_icmp .ne 7, 3) := dk_160 0 7 (dk_at dksX9_styleOf_4 14 rfl rfl)
theorem dX9_styleOf_110 : decode cX9_styleOf 110 = .ok (.iconst 1, 1) := dk_4 (dk_at dksX9_styleOf_4 17 rfl rfl)
theorem dX9_styleOf_111 : decode cX9_styleOf 111 = .ok (.goto 4, 3) := dk_167 0 4 (dk_at dksX9_styleOf_4 18 rfl rfl)
theorem dX9_styleOf_114 : decode cX9_styleOf 114 = .ok (.iconst 0, 1) := dk_3 (dk_at dksX9_styleOf_4 21 rfl rfl)
theorem dX9_styleOf_115 : decode cX9_styleOf 115 = .ok (.putfield 159, 3) := dk_181 0 159 (dk_at dksX9_styleOf_5 0 rfl rfl)
theorem dX9_styleOf_118 : decode cX9_styleOf 118 = .ok (.aload_n 0, 1) := dk_42 (dk_at dksX9_styleOf_5 3 rfl rfl)
theorem dX9_styleOf_119 : decode cX9_styleOf 119 = .ok (.aload_n 0, 1) := dk_42 (dk_at dksX9_styleOf_5 4 rfl rfl)
theorem dX9_styleOf_120 : decode cX9_styleOf 120 = .ok (.getfield 29, 3) := dk_180 0 29 (dk_at dksX9_styleOf_5 5 rfl rfl)
theorem dX9_styleOf_123 : decode cX9_styleOf 123 = .ok (.bipush 6, 2) := dk_16 6 (dk_at dksX9_styleOf_5 8 rfl rfl)
theorem dX9_styleOf_125 : decode cX9_styleOf 125 = .ok (.iaload, 1) := dk_46 (dk_at dksX9_styleOf_5 10 rfl rfl)
theorem dX9_styleOf_126 : decode cX9_styleOf 126 = .ok (.iconst 1, 1) := dk_4 (dk_at dksX9_styleOf_5 11 rfl rfl)
theorem dX9_styleOf_127 : decode cX9_styleOf 127 = .ok (.if_icmp .ne 7, 3) := dk_160 0 7 (dk_at dksX9_styleOf_5 12 rfl rfl)
theorem dX9_styleOf_130 : decode cX9_styleOf 130 = .ok (.iconst 1, 1) := dk_4 (dk_at dksX9_styleOf_5 15 rfl rfl)
theorem dX9_styleOf_131 : decode cX9_styleOf 131 = .ok (.goto 4, 3) := dk_167 0 4 (dk_at dksX9_styleOf_5 16 rfl rfl)
theorem dX9_styleOf_134 : decode cX9_styleOf 134 = .ok (.iconst 0, 1) := dk_3 (dk_at dksX9_styleOf_5 19 rfl rfl)
theorem dX9_styleOf_135 : decode cX9_styleOf 135 = .ok (.putfield 165, 3) := dk_181 0 165 (dk_at dksX9_styleOf_5 20 rfl rfl)
theorem dX9_styleOf_138 : decode cX9_styleOf 138 = .ok (.aload_n 0, 1) := dk_42 (dk_at dksX9_styleOf_5 23 rfl rfl)
theorem dX9_styleOf_139 : decode cX9_styleOf 139 = .ok (.getfield 22, 3) := dk_180 0 22 (dk_at dksX9_styleOf_6 0 rfl rfl)
theorem dX9_styleOf_142 : decode cX9_styleOf 142 = .ok (.istore_n 2, 1) := dk_61 (dk_at dksX9_styleOf_6 3 rfl rfl)
theorem dX9_styleOf_143 : decode cX9_styleOf 143 = .ok (.aload_n 0, 1) := dk_42 (dk_at dksX9_styleOf_6 4 rfl rfl)
theorem dX9_styleOf_144 : decode cX9_styleOf 144 = .ok (.iconst (-1), 1) := dk_2 (dk_at dksX9_styleOf_6 5 rfl rfl)
theorem dX9_styleOf_145 : decode cX9_styleOf 145 = .ok (.putfield 22, 3) := dk_181 0 22 (dk_at dksX9_styleOf_6 6 rfl rfl)
theorem dX9_styleOf_148 : decode cX9_styleOf 148 = .ok (.aload_n 0, 1) := dk_42 (dk_at dksX9_styleOf_6 9 rfl rfl)
theorem dX9_styleOf_149 : decode cX9_styleOf 149 = .ok (.sipush 210, 3) := dk_17 0 210 (dk_at dksX9_styleOf_6 10 rfl rfl)
theorem dX9_styleOf_152 : decode cX9_styleOf 152 = .ok (.sipush 401, 3) := dk_17 1 145 (dk_at dksX9_styleOf_6 13 rfl rfl)
theorem dX9_styleOf_155 : decode cX9_styleOf 155 = .ok (.aload_n 0, 1) := dk_42 (dk_at dksX9_styleOf_6 16 rfl rfl)
theorem dX9_styleOf_156 : decode cX9_styleOf 156 = .ok (.getfield 7, 3) := dk_180 0 7 (dk_at dksX9_styleOf_6 17 rfl rfl)
theorem dX9_styleOf_159 : decode cX9_styleOf 159 = .ok (.sipush 199, 3) := dk_17 0 199 (dk_at dksX9_styleOf_6 20 rfl rfl)
theorem dX9_styleOf_162 : decode cX9_styleOf 162 = .ok (.iload_n 1, 1) := dk_27 (dk_at dksX9_styleOf_6 23 rfl rfl)
theorem dX9_styleOf_163 : decode cX9_styleOf 163 = .ok (.iadd, 1) := dk_96 (dk_at dksX9_styleOf_7 0 rfl rfl)
theorem dX9_styleOf_164 : decode cX9_styleOf 164 = .ok (.iaload, 1) := dk_46 (dk_at dksX9_styleOf_7 1 rfl rfl)
theorem dX9_styleOf_165 : decode cX9_styleOf 165 = .ok (.imul, 1) := dk_104 (dk_at dksX9_styleOf_7 2 rfl rfl)
theorem dX9_styleOf_166 : decode cX9_styleOf 166 = .ok (.iadd, 1) := dk_96 (dk_at dksX9_styleOf_7 3 rfl rfl)
theorem dX9_styleOf_167 : decode cX9_styleOf 167 = .ok (.iconst 1, 1) := dk_4 (dk_at dksX9_styleOf_7 4 rfl rfl)
theorem dX9_styleOf_168 : decode cX9_styleOf 168 = .ok (.iadd, 1) := dk_96 (dk_at dksX9_styleOf_7 5 rfl rfl)
theorem dX9_styleOf_169 : decode cX9_styleOf 169 = .ok (.putfield 77, 3) := dk_181 0 77 (dk_at dksX9_styleOf_7 6 rfl rfl)
theorem dX9_styleOf_172 : decode cX9_styleOf 172 = .ok (.aload_n 0, 1) := dk_42 (dk_at dksX9_styleOf_7 9 rfl rfl)
theorem dX9_styleOf_173 : decode cX9_styleOf 173 = .ok (.aload_n 0, 1) := dk_42 (dk_at dksX9_styleOf_7 10 rfl rfl)
theorem dX9_styleOf_174 : decode cX9_styleOf 174 = .ok (.getfield 7, 3) := dk_180 0 7 (dk_at dksX9_styleOf_7 11 rfl rfl)
theorem dX9_styleOf_177 : decode cX9_styleOf 177 = .ok (.aload_n 0, 1) := dk_42 (dk_at dksX9_styleOf_7 14 rfl rfl)
theorem dX9_styleOf_178 : decode cX9_styleOf 178 = .ok (.getfield 77, 3) := dk_180 0 77 (dk_at dksX9_styleOf_7 15 rfl rfl)
theorem dX9_styleOf_181 : decode cX9_styleOf 181 = .ok (.iconst 1, 1) := dk_4 (dk_at dksX9_styleOf_7 18 rfl rfl)
theorem dX9_styleOf_182 : decode cX9_styleOf 182 = .ok (.isub, 1) := dk_100 (dk_at dksX9_styleOf_7 19 rfl rfl)
theorem dX9_styleOf_183 : decode cX9_styleOf 183 = .ok (.iaload, 1) := dk_46 (dk_at dksX9_styleOf_7 20 rfl rfl)
theorem dX9_styleOf_184 : decode cX9_styleOf 184 = .ok (.putfield 83, 3) := dk_181 0 83 (dk_at dksX9_styleOf_7 21 rfl rfl)
theorem dX9_styleOf_187 : decode cX9_styleOf 187 = .ok (.aload_n 0, 1) := dk_42 (dk_at dksX9_styleOf_8 0 rfl rfl)
theorem dX9_styleOf_188 : decode cX9_styleOf 188 = .ok (.iconst (-1), 1) := dk_2 (dk_at dksX9_styleOf_8 1 rfl rfl)
theorem dX9_styleOf_189 : decode cX9_styleOf 189 = .ok (.putfield 194, 3) := dk_181 0 194 (dk_at dksX9_styleOf_8 2 rfl rfl)
theorem dX9_styleOf_192 : decode cX9_styleOf 192 = .ok (.aload_n 0, 1) := dk_42 (dk_at dksX9_styleOf_8 5 rfl rfl)
theorem dX9_styleOf_193 : decode cX9_styleOf 193 = .ok (.iconst 1, 1) := dk_4 (dk_at dksX9_styleOf_8 6 rfl rfl)
theorem dX9_styleOf_194 : decode cX9_styleOf 194 = .ok (.invokevirtual 142, 3) := dk_182 0 142 (dk_at dksX9_styleOf_8 7 rfl rfl)
theorem dX9_styleOf_197 : decode cX9_styleOf 197 = .ok (.aload_n 0, 1) := dk_42 (dk_at dksX9_styleOf_8 10 rfl rfl)
theorem dX9_styleOf_198 : decode cX9_styleOf 198 = .ok (.iload_n 2, 1) := dk_28 (dk_at dksX9_styleOf_8 11 rfl rfl)
theorem dX9_styleOf_199 : decode cX9_styleOf 199 = .ok (.putfield 22, 3) := dk_181 0 22 (dk_at dksX9_styleOf_8 12 rfl rfl)
theorem dX9_styleOf_202 : decode cX9_styleOf 202 = .ok (.aload_n 0, 1) := dk_42 (dk_at dksX9_styleOf_8 15 rfl rfl)
theorem dX9_styleOf_203 : decode cX9_styleOf 203 = .ok (.getfield 194, 3) := dk_180 0 194 (dk_at dksX9_styleOf_8 16 rfl rfl)
theorem dX9_styleOf_206 : decode cX9_styleOf 206 = .ok (.iconst (-1), 1) := dk_2 (dk_at dksX9_styleOf_8 19 rfl rfl)
theorem dX9_styleOf_207 : decode cX9_styleOf 207 = .ok (.if_icmp .ne 7, 3) := dk_160 0 7 (dk_at dksX9_styleOf_8 20 rfl rfl)
theorem dX9_styleOf_210 : decode cX9_styleOf 210 = .ok (.iconst 0, 1) := dk_3 (dk_at dksX9_styleOf_8 23 rfl rfl)
theorem dX9_styleOf_211 : decode cX9_styleOf 211 = .ok (.goto 7, 3) := dk_167 0 7 (dk_at dksX9_styleOf_9 0 rfl rfl)
theorem dX9_styleOf_214 : decode cX9_styleOf 214 = .ok (.aload_n 0, 1) := dk_42 (dk_at dksX9_styleOf_9 3 rfl rfl)
theorem dX9_styleOf_215 : decode cX9_styleOf 215 = .ok (.getfield 194, 3) := dk_180 0 194 (dk_at dksX9_styleOf_9 4 rfl rfl)
theorem dX9_styleOf_218 : decode cX9_styleOf 218 = .ok (.ireturn, 1) := dk_172 (dk_at dksX9_styleOf_9 7 rfl rfl)
abbrev cX9_score : ByteArray := prog_21_method_31_code
def yX9_score : MethodName := ⟨RX9, "score", "(III)V"⟩
def dkwX9_score_5 : List UInt8 := [180, 0, 7, 17, 0, 207, 3, 79, 177]
abbrev dktX9_score_5 : List UInt8 := dkwX9_score_5 ++ []
def dkwX9_score_4 : List UInt8 := [17, 0, 202, 28, 79, 42, 180, 0, 7, 17, 0, 203, 29, 79, 42, 180, 0, 7, 17, 0, 204, 3, 79, 42]
abbrev dktX9_score_4 : List UInt8 := dkwX9_score_4 ++ dktX9_score_5
def dkwX9_score_3 : List UInt8 := [181, 0, 67, 42, 180, 0, 67, 158, 0, 4, 177, 42, 180, 0, 7, 17, 0, 201, 27, 79, 42, 180, 0, 7]
abbrev dktX9_score_3 : List UInt8 := dkwX9_score_3 ++ dktX9_score_4
def dkwX9_score_2 : List UInt8 := [54, 4, 42, 29, 184, 0, 197, 154, 0, 7, 4, 167, 0, 13, 21, 4, 154, 0, 7, 5, 167, 0, 4, 3]
abbrev dktX9_score_2 : List UInt8 := dkwX9_score_2 ++ dktX9_score_3
def dkwX9_score_1 : List UInt8 := [160, 0, 8, 28, 6, 159, 0, 13, 27, 6, 160, 0, 12, 28, 7, 160, 0, 7, 4, 167, 0, 4, 3]
abbrev dktX9_score_1 : List UInt8 := dkwX9_score_1 ++ dktX9_score_2
def dkwX9_score_0 : List UInt8 := [27, 16, 253, 6, 184, 0, 70, 153, 0, 13, 28, 16, 253, 6, 184, 0, 70, 154, 0, 23, 27, 7]
abbrev dktX9_score_0 : List UInt8 := dkwX9_score_0 ++ dktX9_score_1
theorem dksX9_score_0 : cX9_score.data.toList.drop 0 = dktX9_score_0 := by decide +kernel
theorem dksX9_score_1 : cX9_score.data.toList.drop 22 = dktX9_score_1 := dk_seg dksX9_score_0 22 rfl rfl
theorem dksX9_score_2 : cX9_score.data.toList.drop 45 = dktX9_score_2 := dk_seg dksX9_score_1 23 rfl rfl
theorem dksX9_score_3 : cX9_score.data.toList.drop 69 = dktX9_score_3 := dk_seg dksX9_score_2 24 rfl rfl
theorem dksX9_score_4 : cX9_score.data.toList.drop 93 = dktX9_score_4 := dk_seg dksX9_score_3 24 rfl rfl
theorem dksX9_score_5 : cX9_score.data.toList.drop 117 = dktX9_score_5 := dk_seg dksX9_score_4 24 rfl rfl
theorem dX9_score_0 : decode cX9_score 0 = .ok (.iload_n 1, 1) := dk_27 (dk_at dksX9_score_0 0 rfl rfl)
theorem dX9_score_1 : decode cX9_score 1 = .ok (.bipush (-3), 2) := dk_16 253 (dk_at dksX9_score_0 1 rfl rfl)
theorem dX9_score_3 : decode cX9_score 3 = .ok (.iconst 3, 1) := dk_6 (dk_at dksX9_score_0 3 rfl rfl)
theorem dX9_score_4 : decode cX9_score 4 = .ok (.invokestatic 70, 3) := dk_184 0 70 (dk_at dksX9_score_0 4 rfl rfl)
theorem dX9_score_7 : decode cX9_score 7 = .ok (.ifCond .eq 13, 3) := dk_153 0 13 (dk_at dksX9_score_0 7 rfl rfl)
theorem dX9_score_10 : decode cX9_score 10 = .ok (.iload_n 2, 1) := dk_28 (dk_at dksX9_score_0 10 rfl rfl)
theorem dX9_score_11 : decode cX9_score 11 = .ok (.bipush (-3), 2) := dk_16 253 (dk_at dksX9_score_0 11 rfl rfl)
theorem dX9_score_13 : decode cX9_score 13 = .ok (.iconst 3, 1) := dk_6 (dk_at dksX9_score_0 13 rfl rfl)
theorem dX9_score_14 : decode cX9_score 14 = .ok (.invokestatic 70, 3) := dk_184 0 70 (dk_at dksX9_score_0 14 rfl rfl)
theorem dX9_score_17 : decode cX9_score 17 = .ok (.ifCond .ne 23, 3) := dk_154 0 23 (dk_at dksX9_score_0 17 rfl rfl)
theorem dX9_score_20 : decode cX9_score 20 = .ok (.iload_n 1, 1) := dk_27 (dk_at dksX9_score_0 20 rfl rfl)
theorem dX9_score_21 : decode cX9_score 21 = .ok (.iconst 4, 1) := dk_7 (dk_at dksX9_score_0 21 rfl rfl)
theorem dX9_score_22 : decode cX9_score 22 = .ok (.if_icmp .ne 8, 3) := dk_160 0 8 (dk_at dksX9_score_1 0 rfl rfl)
theorem dX9_score_25 : decode cX9_score 25 = .ok (.iload_n 2, 1) := dk_28 (dk_at dksX9_score_1 3 rfl rfl)
theorem dX9_score_26 : decode cX9_score 26 = .ok (.iconst 3, 1) := dk_6 (dk_at dksX9_score_1 4 rfl rfl)
theorem dX9_score_27 : decode cX9_score 27 = .ok (.if_icmp .eq 13, 3) := dk_159 0 13 (dk_at dksX9_score_1 5 rfl rfl)
theorem dX9_score_30 : decode cX9_score 30 = .ok (.iload_n 1, 1) := dk_27 (dk_at dksX9_score_1 8 rfl rfl)
theorem dX9_score_31 : decode cX9_score 31 = .ok (.iconst 3, 1) := dk_6 (dk_at dksX9_score_1 9 rfl rfl)
theorem dX9_score_32 : decode cX9_score 32 = .ok (.if_icmp .ne 12, 3) := dk_160 0 12 (dk_at dksX9_score_1 10 rfl rfl)
theorem dX9_score_35 : decode cX9_score 35 = .ok (.iload_n 2, 1) := dk_28 (dk_at dksX9_score_1 13 rfl rfl)
theorem dX9_score_36 : decode cX9_score 36 = .ok (.iconst 4, 1) := dk_7 (dk_at dksX9_score_1 14 rfl rfl)
theorem dX9_score_37 : decode cX9_score 37 = .ok (.if_icmp .ne 7, 3) := dk_160 0 7 (dk_at dksX9_score_1 15 rfl rfl)
theorem dX9_score_40 : decode cX9_score 40 = .ok (.iconst 1, 1) := dk_4 (dk_at dksX9_score_1 18 rfl rfl)
theorem dX9_score_41 : decode cX9_score 41 = .ok (.goto 4, 3) := dk_167 0 4 (dk_at dksX9_score_1 19 rfl rfl)
theorem dX9_score_44 : decode cX9_score 44 = .ok (.iconst 0, 1) := dk_3 (dk_at dksX9_score_1 22 rfl rfl)
theorem dX9_score_45 : decode cX9_score 45 = .ok (.istore 4, 2) := dk_54 4 (dk_at dksX9_score_2 0 rfl rfl)
theorem dX9_score_47 : decode cX9_score 47 = .ok (.aload_n 0, 1) := dk_42 (dk_at dksX9_score_2 2 rfl rfl)
theorem dX9_score_48 : decode cX9_score 48 = .ok (.iload_n 3, 1) := dk_29 (dk_at dksX9_score_2 3 rfl rfl)
theorem dX9_score_49 : decode cX9_score 49 = .ok (.invokestatic 197, 3) := dk_184 0 197 (dk_at dksX9_score_2 4 rfl rfl)
theorem dX9_score_52 : decode cX9_score 52 = .ok (.ifCond .ne 7, 3) := dk_154 0 7 (dk_at dksX9_score_2 7 rfl rfl)
theorem dX9_score_55 : decode cX9_score 55 = .ok (.iconst 1, 1) := dk_4 (dk_at dksX9_score_2 10 rfl rfl)
theorem dX9_score_56 : decode cX9_score 56 = .ok (.goto 13, 3) := dk_167 0 13 (dk_at dksX9_score_2 11 rfl rfl)
theorem dX9_score_59 : decode cX9_score 59 = .ok (.iload 4, 2) := dk_21 4 (dk_at dksX9_score_2 14 rfl rfl)
theorem dX9_score_61 : decode cX9_score 61 = .ok (.ifCond .ne 7, 3) := dk_154 0 7 (dk_at dksX9_score_2 16 rfl rfl)
theorem dX9_score_64 : decode cX9_score 64 = .ok (.iconst 2, 1) := dk_5 (dk_at dksX9_score_2 19 rfl rfl)
theorem dX9_score_65 : decode cX9_score 65 = .ok (.goto 4, 3) := dk_167 0 4 (dk_at dksX9_score_2 20 rfl rfl)
theorem dX9_score_68 : decode cX9_score 68 = .ok (.iconst 0, 1) := dk_3 (dk_at dksX9_score_2 23 rfl rfl)
theorem dX9_score_69 : decode cX9_score 69 = .ok (.putfield 67, 3) := dk_181 0 67 (dk_at dksX9_score_3 0 rfl rfl)
theorem dX9_score_72 : decode cX9_score 72 = .ok (.aload_n 0, 1) := dk_42 (dk_at dksX9_score_3 3 rfl rfl)
theorem dX9_score_73 : decode cX9_score 73 = .ok (.getfield 67, 3) := dk_180 0 67 (dk_at dksX9_score_3 4 rfl rfl)
theorem dX9_score_76 : decode cX9_score 76 = .ok (.ifCond .le 4, 3) := dk_158 0 4 (dk_at dksX9_score_3 7 rfl rfl)
theorem dX9_score_79 : decode cX9_score 79 = .ok (.return_, 1) := dk_177 (dk_at dksX9_score_3 10 rfl rfl)
theorem dX9_score_80 : decode cX9_score 80 = .ok (.aload_n 0, 1) := dk_42 (dk_at dksX9_score_3 11 rfl rfl)
theorem dX9_score_81 : decode cX9_score 81 = .ok (.getfield 7, 3) := dk_180 0 7 (dk_at dksX9_score_3 12 rfl rfl)
theorem dX9_score_84 : decode cX9_score 84 = .ok (.sipush 201, 3) := dk_17 0 201 (dk_at dksX9_score_3 15 rfl rfl)
theorem dX9_score_87 : decode cX9_score 87 = .ok (.iload_n 1, 1) := dk_27 (dk_at dksX9_score_3 18 rfl rfl)
theorem dX9_score_88 : decode cX9_score 88 = .ok (.iastore, 1) := dk_79 (dk_at dksX9_score_3 19 rfl rfl)
theorem dX9_score_89 : decode cX9_score 89 = .ok (.aload_n 0, 1) := dk_42 (dk_at dksX9_score_3 20 rfl rfl)
theorem dX9_score_90 : decode cX9_score 90 = .ok (.getfield 7, 3) := dk_180 0 7 (dk_at dksX9_score_3 21 rfl rfl)
theorem dX9_score_93 : decode cX9_score 93 = .ok (.sipush 202, 3) := dk_17 0 202 (dk_at dksX9_score_4 0 rfl rfl)
theorem dX9_score_96 : decode cX9_score 96 = .ok (.iload_n 2, 1) := dk_28 (dk_at dksX9_score_4 3 rfl rfl)
theorem dX9_score_97 : decode cX9_score 97 = .ok (.iastore, 1) := dk_79 (dk_at dksX9_score_4 4 rfl rfl)
theorem dX9_score_98 : decode cX9_score 98 = .ok (.aload_n 0, 1) := dk_42 (dk_at dksX9_score_4 5 rfl rfl)
theorem dX9_score_99 : decode cX9_score 99 = .ok (.getfield 7, 3) := dk_180 0 7 (dk_at dksX9_score_4 6 rfl rfl)
theorem dX9_score_102 : decode cX9_score 102 = .ok (.sipush 203, 3) := dk_17 0 203 (dk_at dksX9_score_4 9 rfl rfl)
theorem dX9_score_105 : decode cX9_score 105 = .ok (.iload_n 3, 1) := dk_29 (dk_at dksX9_score_4 12 rfl rfl)
theorem dX9_score_106 : decode cX9_score 106 = .ok (.iastore, 1) := dk_79 (dk_at dksX9_score_4 13 rfl rfl)
theorem dX9_score_107 : decode cX9_score 107 = .ok (.aload_n 0, 1) := dk_42 (dk_at dksX9_score_4 14 rfl rfl)
theorem dX9_score_108 : decode cX9_score 108 = .ok (.getfield 7, 3) := dk_180 0 7 (dk_at dksX9_score_4 15 rfl rfl)
theorem dX9_score_111 : decode cX9_score 111 = .ok (.sipush 204, 3) := dk_17 0 204 (dk_at dksX9_score_4 18 rfl rfl)
theorem dX9_score_114 : decode cX9_score 114 = .ok (.iconst 0, 1) := dk_3 (dk_at dksX9_score_4 21 rfl rfl)
theorem dX9_score_115 : decode cX9_score 115 = .ok (.iastore, 1) := dk_79 (dk_at dksX9_score_4 22 rfl rfl)
theorem dX9_score_116 : decode cX9_score 116 = .ok (.aload_n 0, 1) := dk_42 (dk_at dksX9_score_4 23 rfl rfl)
theorem dX9_score_117 : decode cX9_score 117 = .ok (.getfield 7, 3) := dk_180 0 7 (dk_at dksX9_score_5 0 rfl rfl)
theorem dX9_score_120 : decode cX9_score 120 = .ok (.sipush 207, 3) := dk_17 0 207 (dk_at dksX9_score_5 3 rfl rfl)
theorem dX9_score_123 : decode cX9_score 123 = .ok (.iconst 0, 1) := dk_3 (dk_at dksX9_score_5 6 rfl rfl)
theorem dX9_score_124 : decode cX9_score 124 = .ok (.iastore, 1) := dk_79 (dk_at dksX9_score_5 7 rfl rfl)
theorem dX9_score_125 : decode cX9_score 125 = .ok (.return_, 1) := dk_177 (dk_at dksX9_score_5 8 rfl rfl)
abbrev cX9_games : ByteArray := prog_21_method_32_code
def yX9_games : MethodName := ⟨RX9, "games", "(II)V"⟩
def dkwX9_games_2 : List UInt8 := [42, 180, 0, 7, 17, 0, 209, 28, 79, 177]
abbrev dktX9_games_2 : List UInt8 := dkwX9_games_2 ++ []
def dkwX9_games_1 : List UInt8 := [167, 0, 4, 3, 181, 0, 67, 42, 180, 0, 67, 158, 0, 4, 177, 42, 180, 0, 7, 17, 0, 208, 27, 79]
abbrev dktX9_games_1 : List UInt8 := dkwX9_games_1 ++ dktX9_games_2
def dkwX9_games_0 : List UInt8 := [42, 27, 3, 16, 6, 184, 0, 70, 153, 0, 13, 28, 3, 16, 6, 184, 0, 70, 154, 0, 7, 4]
abbrev dktX9_games_0 : List UInt8 := dkwX9_games_0 ++ dktX9_games_1
theorem dksX9_games_0 : cX9_games.data.toList.drop 0 = dktX9_games_0 := by decide +kernel
theorem dksX9_games_1 : cX9_games.data.toList.drop 22 = dktX9_games_1 := dk_seg dksX9_games_0 22 rfl rfl
theorem dksX9_games_2 : cX9_games.data.toList.drop 46 = dktX9_games_2 := dk_seg dksX9_games_1 24 rfl rfl
theorem dX9_games_0 : decode cX9_games 0 = .ok (.aload_n 0, 1) := dk_42 (dk_at dksX9_games_0 0 rfl rfl)
theorem dX9_games_1 : decode cX9_games 1 = .ok (.iload_n 1, 1) := dk_27 (dk_at dksX9_games_0 1 rfl rfl)
theorem dX9_games_2 : decode cX9_games 2 = .ok (.iconst 0, 1) := dk_3 (dk_at dksX9_games_0 2 rfl rfl)
theorem dX9_games_3 : decode cX9_games 3 = .ok (.bipush 6, 2) := dk_16 6 (dk_at dksX9_games_0 3 rfl rfl)
theorem dX9_games_5 : decode cX9_games 5 = .ok (.invokestatic 70, 3) := dk_184 0 70 (dk_at dksX9_games_0 5 rfl rfl)
theorem dX9_games_8 : decode cX9_games 8 = .ok (.ifCond .eq 13, 3) := dk_153 0 13 (dk_at dksX9_games_0 8 rfl rfl)
theorem dX9_games_11 : decode cX9_games 11 = .ok (.iload_n 2, 1) := dk_28 (dk_at dksX9_games_0 11 rfl rfl)
theorem dX9_games_12 : decode cX9_games 12 = .ok (.iconst 0, 1) := dk_3 (dk_at dksX9_games_0 12 rfl rfl)
theorem dX9_games_13 : decode cX9_games 13 = .ok (.bipush 6, 2) := dk_16 6 (dk_at dksX9_games_0 13 rfl rfl)
theorem dX9_games_15 : decode cX9_games 15 = .ok (.invokestatic 70, 3) := dk_184 0 70 (dk_at dksX9_games_0 15 rfl rfl)
theorem dX9_games_18 : decode cX9_games 18 = .ok (.ifCond .ne 7, 3) := dk_154 0 7 (dk_at dksX9_games_0 18 rfl rfl)
theorem dX9_games_21 : decode cX9_games 21 = .ok (.iconst 1, 1) := dk_4 (dk_at dksX9_games_0 21 rfl rfl)
theorem dX9_games_22 : decode cX9_games 22 = .ok (.goto 4, 3) := dk_167 0 4 (dk_at dksX9_games_1 0 rfl rfl)
theorem dX9_games_25 : decode cX9_games 25 = .ok (.iconst 0, 1) := dk_3 (dk_at dksX9_games_1 3 rfl rfl)
theorem dX9_games_26 : decode cX9_games 26 = .ok (.putfield 67, 3) := dk_181 0 67 (dk_at dksX9_games_1 4 rfl rfl)
theorem dX9_games_29 : decode cX9_games 29 = .ok (.aload_n 0, 1) := dk_42 (dk_at dksX9_games_1 7 rfl rfl)
theorem dX9_games_30 : decode cX9_games 30 = .ok (.getfield 67, 3) := dk_180 0 67 (dk_at dksX9_games_1 8 rfl rfl)
theorem dX9_games_33 : decode cX9_games 33 = .ok (.ifCond .le 4, 3) := dk_158 0 4 (dk_at dksX9_games_1 11 rfl rfl)
theorem dX9_games_36 : decode cX9_games 36 = .ok (.return_, 1) := dk_177 (dk_at dksX9_games_1 14 rfl rfl)
theorem dX9_games_37 : decode cX9_games 37 = .ok (.aload_n 0, 1) := dk_42 (dk_at dksX9_games_1 15 rfl rfl)
theorem dX9_games_38 : decode cX9_games 38 = .ok (.getfield 7, 3) := dk_180 0 7 (dk_at dksX9_games_1 16 rfl rfl)
theorem dX9_games_41 : decode cX9_games 41 = .ok (.sipush 208, 3) := dk_17 0 208 (dk_at dksX9_games_1 19 rfl rfl)
theorem dX9_games_44 : decode cX9_games 44 = .ok (.iload_n 1, 1) := dk_27 (dk_at dksX9_games_1 22 rfl rfl)
theorem dX9_games_45 : decode cX9_games 45 = .ok (.iastore, 1) := dk_79 (dk_at dksX9_games_1 23 rfl rfl)
theorem dX9_games_46 : decode cX9_games 46 = .ok (.aload_n 0, 1) := dk_42 (dk_at dksX9_games_2 0 rfl rfl)
theorem dX9_games_47 : decode cX9_games 47 = .ok (.getfield 7, 3) := dk_180 0 7 (dk_at dksX9_games_2 1 rfl rfl)
theorem dX9_games_50 : decode cX9_games 50 = .ok (.sipush 209, 3) := dk_17 0 209 (dk_at dksX9_games_2 4 rfl rfl)
theorem dX9_games_53 : decode cX9_games 53 = .ok (.iload_n 2, 1) := dk_28 (dk_at dksX9_games_2 7 rfl rfl)
theorem dX9_games_54 : decode cX9_games 54 = .ok (.iastore, 1) := dk_79 (dk_at dksX9_games_2 8 rfl rfl)
theorem dX9_games_55 : decode cX9_games 55 = .ok (.return_, 1) := dk_177 (dk_at dksX9_games_2 9 rfl rfl)
abbrev cX9_begin : ByteArray := prog_21_method_33_code
def yX9_begin : MethodName := ⟨RX9, "begin", "(II)V"⟩
def dkwX9_begin_2 : List UInt8 := [17, 0, 198, 28, 79, 177]
abbrev dktX9_begin_2 : List UInt8 := dkwX9_begin_2 ++ []
def dkwX9_begin_1 : List UInt8 := [181, 0, 67, 42, 180, 0, 67, 158, 0, 4, 177, 42, 180, 0, 7, 17, 0, 197, 27, 79, 42, 180, 0, 7]
abbrev dktX9_begin_1 : List UInt8 := dkwX9_begin_1 ++ dktX9_begin_2
def dkwX9_begin_0 : List UInt8 := [42, 27, 3, 6, 184, 0, 70, 153, 0, 12, 28, 3, 6, 184, 0, 70, 154, 0, 7, 4, 167, 0, 4, 3]
abbrev dktX9_begin_0 : List UInt8 := dkwX9_begin_0 ++ dktX9_begin_1
theorem dksX9_begin_0 : cX9_begin.data.toList.drop 0 = dktX9_begin_0 := by decide +kernel
theorem dksX9_begin_1 : cX9_begin.data.toList.drop 24 = dktX9_begin_1 := dk_seg dksX9_begin_0 24 rfl rfl
theorem dksX9_begin_2 : cX9_begin.data.toList.drop 48 = dktX9_begin_2 := dk_seg dksX9_begin_1 24 rfl rfl
theorem dX9_begin_0 : decode cX9_begin 0 = .ok (.aload_n 0, 1) := dk_42 (dk_at dksX9_begin_0 0 rfl rfl)
theorem dX9_begin_1 : decode cX9_begin 1 = .ok (.iload_n 1, 1) := dk_27 (dk_at dksX9_begin_0 1 rfl rfl)
theorem dX9_begin_2 : decode cX9_begin 2 = .ok (.iconst 0, 1) := dk_3 (dk_at dksX9_begin_0 2 rfl rfl)
theorem dX9_begin_3 : decode cX9_begin 3 = .ok (.iconst 3, 1) := dk_6 (dk_at dksX9_begin_0 3 rfl rfl)
theorem dX9_begin_4 : decode cX9_begin 4 = .ok (.invokestatic 70, 3) := dk_184 0 70 (dk_at dksX9_begin_0 4 rfl rfl)
theorem dX9_begin_7 : decode cX9_begin 7 = .ok (.ifCond .eq 12, 3) := dk_153 0 12 (dk_at dksX9_begin_0 7 rfl rfl)
theorem dX9_begin_10 : decode cX9_begin 10 = .ok (.iload_n 2, 1) := dk_28 (dk_at dksX9_begin_0 10 rfl rfl)
theorem dX9_begin_11 : decode cX9_begin 11 = .ok (.iconst 0, 1) := dk_3 (dk_at dksX9_begin_0 11 rfl rfl)
theorem dX9_begin_12 : decode cX9_begin 12 = .ok (.iconst 3, 1) := dk_6 (dk_at dksX9_begin_0 12 rfl rfl)
theorem dX9_begin_13 : decode cX9_begin 13 = .ok (.invokestatic 70, 3) := dk_184 0 70 (dk_at dksX9_begin_0 13 rfl rfl)
theorem dX9_begin_16 : decode cX9_begin 16 = .ok (.ifCond .ne 7, 3) := dk_154 0 7 (dk_at dksX9_begin_0 16 rfl rfl)
theorem dX9_begin_19 : decode cX9_begin 19 = .ok (.iconst 1, 1) := dk_4 (dk_at dksX9_begin_0 19 rfl rfl)
theorem dX9_begin_20 : decode cX9_begin 20 = .ok (.goto 4, 3) := dk_167 0 4 (dk_at dksX9_begin_0 20 rfl rfl)
theorem dX9_begin_23 : decode cX9_begin 23 = .ok (.iconst 0, 1) := dk_3 (dk_at dksX9_begin_0 23 rfl rfl)
theorem dX9_begin_24 : decode cX9_begin 24 = .ok (.putfield 67, 3) := dk_181 0 67 (dk_at dksX9_begin_1 0 rfl rfl)
theorem dX9_begin_27 : decode cX9_begin 27 = .ok (.aload_n 0, 1) := dk_42 (dk_at dksX9_begin_1 3 rfl rfl)
theorem dX9_begin_28 : decode cX9_begin 28 = .ok (.getfield 67, 3) := dk_180 0 67 (dk_at dksX9_begin_1 4 rfl rfl)
theorem dX9_begin_31 : decode cX9_begin 31 = .ok (.ifCond .le 4, 3) := dk_158 0 4 (dk_at dksX9_begin_1 7 rfl rfl)
theorem dX9_begin_34 : decode cX9_begin 34 = .ok (.return_, 1) := dk_177 (dk_at dksX9_begin_1 10 rfl rfl)
theorem dX9_begin_35 : decode cX9_begin 35 = .ok (.aload_n 0, 1) := dk_42 (dk_at dksX9_begin_1 11 rfl rfl)
theorem dX9_begin_36 : decode cX9_begin 36 = .ok (.getfield 7, 3) := dk_180 0 7 (dk_at dksX9_begin_1 12 rfl rfl)
theorem dX9_begin_39 : decode cX9_begin 39 = .ok (.sipush 197, 3) := dk_17 0 197 (dk_at dksX9_begin_1 15 rfl rfl)
theorem dX9_begin_42 : decode cX9_begin 42 = .ok (.iload_n 1, 1) := dk_27 (dk_at dksX9_begin_1 18 rfl rfl)
theorem dX9_begin_43 : decode cX9_begin 43 = .ok (.iastore, 1) := dk_79 (dk_at dksX9_begin_1 19 rfl rfl)
theorem dX9_begin_44 : decode cX9_begin 44 = .ok (.aload_n 0, 1) := dk_42 (dk_at dksX9_begin_1 20 rfl rfl)
theorem dX9_begin_45 : decode cX9_begin 45 = .ok (.getfield 7, 3) := dk_180 0 7 (dk_at dksX9_begin_1 21 rfl rfl)
theorem dX9_begin_48 : decode cX9_begin 48 = .ok (.sipush 198, 3) := dk_17 0 198 (dk_at dksX9_begin_2 0 rfl rfl)
theorem dX9_begin_51 : decode cX9_begin 51 = .ok (.iload_n 2, 1) := dk_28 (dk_at dksX9_begin_2 3 rfl rfl)
theorem dX9_begin_52 : decode cX9_begin 52 = .ok (.iastore, 1) := dk_79 (dk_at dksX9_begin_2 4 rfl rfl)
theorem dX9_begin_53 : decode cX9_begin 53 = .ok (.return_, 1) := dk_177 (dk_at dksX9_begin_2 5 rfl rfl)
abbrev cX9_stands : ByteArray := prog_21_method_37_code
def yX9_stands : MethodName := ⟨RX9, "stands", "(I)I"⟩
def dkwX9_stands_1 : List UInt8 := [158, 0, 5, 3, 172, 42, 182, 0, 200, 42, 27, 182, 0, 209, 172]
abbrev dktX9_stands_1 : List UInt8 := dkwX9_stands_1 ++ []
def dkwX9_stands_0 : List UInt8 := [42, 27, 3, 16, 9, 184, 0, 70, 154, 0, 7, 4, 167, 0, 4, 3, 181, 0, 67, 42, 180, 0, 67]
abbrev dktX9_stands_0 : List UInt8 := dkwX9_stands_0 ++ dktX9_stands_1
theorem dksX9_stands_0 : cX9_stands.data.toList.drop 0 = dktX9_stands_0 := by decide +kernel
theorem dksX9_stands_1 : cX9_stands.data.toList.drop 23 = dktX9_stands_1 := dk_seg dksX9_stands_0 23 rfl rfl
theorem dX9_stands_0 : decode cX9_stands 0 = .ok (.aload_n 0, 1) := dk_42 (dk_at dksX9_stands_0 0 rfl rfl)
theorem dX9_stands_1 : decode cX9_stands 1 = .ok (.iload_n 1, 1) := dk_27 (dk_at dksX9_stands_0 1 rfl rfl)
theorem dX9_stands_2 : decode cX9_stands 2 = .ok (.iconst 0, 1) := dk_3 (dk_at dksX9_stands_0 2 rfl rfl)
theorem dX9_stands_3 : decode cX9_stands 3 = .ok (.bipush 9, 2) := dk_16 9 (dk_at dksX9_stands_0 3 rfl rfl)
theorem dX9_stands_5 : decode cX9_stands 5 = .ok (.invokestatic 70, 3) := dk_184 0 70 (dk_at dksX9_stands_0 5 rfl rfl)
theorem dX9_stands_8 : decode cX9_stands 8 = .ok (.ifCond .ne 7, 3) := dk_154 0 7 (dk_at dksX9_stands_0 8 rfl rfl)
theorem dX9_stands_11 : decode cX9_stands 11 = .ok (.iconst 1, 1) := dk_4 (dk_at dksX9_stands_0 11 rfl rfl)
theorem dX9_stands_12 : decode cX9_stands 12 = .ok (.goto 4, 3) := dk_167 0 4 (dk_at dksX9_stands_0 12 rfl rfl)
theorem dX9_stands_15 : decode cX9_stands 15 = .ok (.iconst 0, 1) := dk_3 (dk_at dksX9_stands_0 15 rfl rfl)
theorem dX9_stands_16 : decode cX9_stands 16 = .ok (.putfield 67, 3) := dk_181 0 67 (dk_at dksX9_stands_0 16 rfl rfl)
theorem dX9_stands_19 : decode cX9_stands 19 = .ok (.aload_n 0, 1) := dk_42 (dk_at dksX9_stands_0 19 rfl rfl)
theorem dX9_stands_20 : decode cX9_stands 20 = .ok (.getfield 67, 3) := dk_180 0 67 (dk_at dksX9_stands_0 20 rfl rfl)
theorem dX9_stands_23 : decode cX9_stands 23 = .ok (.ifCond .le 5, 3) := dk_158 0 5 (dk_at dksX9_stands_1 0 rfl rfl)
theorem dX9_stands_26 : decode cX9_stands 26 = .ok (.iconst 0, 1) := dk_3 (dk_at dksX9_stands_1 3 rfl rfl)
theorem dX9_stands_27 : decode cX9_stands 27 = .ok (.ireturn, 1) := dk_172 (dk_at dksX9_stands_1 4 rfl rfl)
theorem dX9_stands_28 : decode cX9_stands 28 = .ok (.aload_n 0, 1) := dk_42 (dk_at dksX9_stands_1 5 rfl rfl)
theorem dX9_stands_29 : decode cX9_stands 29 = .ok (.invokevirtual 200, 3) := dk_182 0 200 (dk_at dksX9_stands_1 6 rfl rfl)
theorem dX9_stands_32 : decode cX9_stands 32 = .ok (.aload_n 0, 1) := dk_42 (dk_at dksX9_stands_1 9 rfl rfl)
theorem dX9_stands_33 : decode cX9_stands 33 = .ok (.iload_n 1, 1) := dk_27 (dk_at dksX9_stands_1 10 rfl rfl)
theorem dX9_stands_34 : decode cX9_stands 34 = .ok (.invokevirtual 209, 3) := dk_182 0 209 (dk_at dksX9_stands_1 11 rfl rfl)
theorem dX9_stands_37 : decode cX9_stands 37 = .ok (.ireturn, 1) := dk_172 (dk_at dksX9_stands_1 14 rfl rfl)
abbrev cX9_told : ByteArray := prog_21_method_36_code
def yX9_told : MethodName := ⟨RX9, "told", "(I)I"⟩
def dkwX9_told_4 : List UInt8 := [180, 0, 29, 27, 46, 172]
abbrev dktX9_told_4 : List UInt8 := dkwX9_told_4 ++ []
def dkwX9_told_3 : List UInt8 := [182, 0, 206, 154, 0, 11, 42, 4, 182, 0, 206, 153, 0, 7, 4, 167, 0, 13, 3, 167, 0, 9, 42]
abbrev dktX9_told_3 : List UInt8 := dkwX9_told_3 ++ dktX9_told_4
def dkwX9_told_2 : List UInt8 := [46, 4, 164, 0, 12, 42, 180, 0, 29, 8, 46, 167, 0, 4, 2, 172, 27, 16, 9, 160, 0, 27, 42, 3]
abbrev dktX9_told_2 : List UInt8 := dkwX9_told_2 ++ dktX9_told_3
def dkwX9_told_1 : List UInt8 := [158, 0, 12, 42, 180, 0, 29, 7, 46, 167, 0, 4, 2, 172, 27, 8, 160, 0, 24, 42, 180, 0, 29, 6]
abbrev dktX9_told_1 : List UInt8 := dkwX9_told_1 ++ dktX9_told_2
def dkwX9_told_0 : List UInt8 := [27, 6, 160, 0, 10, 42, 180, 0, 29, 6, 46, 172, 27, 7, 160, 0, 23, 42, 180, 0, 29, 6, 46]
abbrev dktX9_told_0 : List UInt8 := dkwX9_told_0 ++ dktX9_told_1
theorem dksX9_told_0 : cX9_told.data.toList.drop 0 = dktX9_told_0 := by decide +kernel
theorem dksX9_told_1 : cX9_told.data.toList.drop 23 = dktX9_told_1 := dk_seg dksX9_told_0 23 rfl rfl
theorem dksX9_told_2 : cX9_told.data.toList.drop 47 = dktX9_told_2 := dk_seg dksX9_told_1 24 rfl rfl
theorem dksX9_told_3 : cX9_told.data.toList.drop 71 = dktX9_told_3 := dk_seg dksX9_told_2 24 rfl rfl
theorem dksX9_told_4 : cX9_told.data.toList.drop 94 = dktX9_told_4 := dk_seg dksX9_told_3 23 rfl rfl
theorem dX9_told_0 : decode cX9_told 0 = .ok (.iload_n 1, 1) := dk_27 (dk_at dksX9_told_0 0 rfl rfl)
theorem dX9_told_1 : decode cX9_told 1 = .ok (.iconst 3, 1) := dk_6 (dk_at dksX9_told_0 1 rfl rfl)
theorem dX9_told_2 : decode cX9_told 2 = .ok (.if_icmp .ne 10, 3) := dk_160 0 10 (dk_at dksX9_told_0 2 rfl rfl)
theorem dX9_told_5 : decode cX9_told 5 = .ok (.aload_n 0, 1) := dk_42 (dk_at dksX9_told_0 5 rfl rfl)
theorem dX9_told_6 : decode cX9_told 6 = .ok (.getfield 29, 3) := dk_180 0 29 (dk_at dksX9_told_0 6 rfl rfl)
theorem dX9_told_9 : decode cX9_told 9 = .ok (.iconst 3, 1) := dk_6 (dk_at dksX9_told_0 9 rfl rfl)
theorem dX9_told_10 : decode cX9_told 10 = .ok (.iaload, 1) := dk_46 (dk_at dksX9_told_0 10 rfl rfl)
theorem dX9_told_11 : decode cX9_told 11 = .ok (.ireturn, 1) := dk_172 (dk_at dksX9_told_0 11 rfl rfl)
theorem dX9_told_12 : decode cX9_told 12 = .ok (.iload_n 1, 1) := dk_27 (dk_at dksX9_told_0 12 rfl rfl)
theorem dX9_told_13 : decode cX9_told 13 = .ok (.iconst 4, 1) := dk_7 (dk_at dksX9_told_0 13 rfl rfl)
theorem dX9_told_14 : decode cX9_told 14 = .ok (.if_icmp .ne 23, 3) := dk_160 0 23 (dk_at dksX9_told_0 14 rfl rfl)
theorem dX9_told_17 : decode cX9_told 17 = .ok (.aload_n 0, 1) := dk_42 (dk_at dksX9_told_0 17 rfl rfl)
theorem dX9_told_18 : decode cX9_told 18 = .ok (.getfield 29, 3) := dk_180 0 29 (dk_at dksX9_told_0 18 rfl rfl)
theorem dX9_told_21 : decode cX9_told 21 = .ok (.iconst 3, 1) := dk_6 (dk_at dksX9_told_0 21 rfl rfl)
theorem dX9_told_22 : decode cX9_told 22 = .ok (.iaload, 1) := dk_46 (dk_at dksX9_told_0 22 rfl rfl)
theorem dX9_told_23 : decode cX9_told 23 = .ok (.ifCond .le 12, 3) := dk_158 0 12 (dk_at dksX9_told_1 0 rfl rfl)
theorem dX9_told_26 : decode cX9_told 26 = .ok (.aload_n 0, 1) := dk_42 (dk_at dksX9_told_1 3 rfl rfl)
theorem dX9_told_27 : decode cX9_told 27 = .ok (.getfield 29, 3) := dk_180 0 29 (dk_at dksX9_told_1 4 rfl rfl)
theorem dX9_told_30 : decode cX9_told 30 = .ok (.iconst 4, 1) := dk_7 (dk_at dksX9_told_1 7 rfl rfl)
theorem dX9_told_31 : decode cX9_told 31 = .ok (.iaload, 1) := dk_46 (dk_at dksX9_told_1 8 rfl rfl)
theorem dX9_told_32 : decode cX9_told 32 = .ok (.goto 4, 3) := dk_167 0 4 (dk_at dksX9_told_1 9 rfl rfl)
theorem dX9_told_35 : decode cX9_told 35 = .ok (.iconst (-1), 1) := dk_2 (dk_at dksX9_told_1 12 rfl rfl)
theorem dX9_told_36 : decode cX9_told 36 = .ok (.ireturn, 1) := dk_172 (dk_at dksX9_told_1 13 rfl rfl)
theorem dX9_told_37 : decode cX9_told 37 = .ok (.iload_n 1, 1) := dk_27 (dk_at dksX9_told_1 14 rfl rfl)
theorem dX9_told_38 : decode cX9_told 38 = .ok (.iconst 5, 1) := dk_8 (dk_at dksX9_told_1 15 rfl rfl)
theorem dX9_told_39 : decode cX9_told 39 = .ok (.if_icmp .ne 24, 3) := dk_160 0 24 (dk_at dksX9_told_1 16 rfl rfl)
theorem dX9_told_42 : decode cX9_told 42 = .ok (.aload_n 0, 1) := dk_42 (dk_at dksX9_told_1 19 rfl rfl)
theorem dX9_told_43 : decode cX9_told 43 = .ok (.getfield 29, 3) := dk_180 0 29 (dk_at dksX9_told_1 20 rfl rfl)
theorem dX9_told_46 : decode cX9_told 46 = .ok (.iconst 3, 1) := dk_6 (dk_at dksX9_told_1 23 rfl rfl)
theorem dX9_told_47 : decode cX9_told 47 = .ok (.iaload, 1) := dk_46 (dk_at dksX9_told_2 0 rfl rfl)
theorem dX9_told_48 : decode cX9_told 48 = .ok (.iconst 1, 1) := dk_4 (dk_at dksX9_told_2 1 rfl rfl)
theorem dX9_told_49 : decode cX9_told 49 = .ok (.if_icmp .le 12, 3) := dk_164 0 12 (dk_at dksX9_told_2 2 rfl rfl)
theorem dX9_told_52 : decode cX9_told 52 = .ok (.aload_n 0, 1) := dk_42 (dk_at dksX9_told_2 5 rfl rfl)
theorem dX9_told_53 : decode cX9_told 53 = .ok (.getfield 29, 3) := dk_180 0 29 (dk_at dksX9_told_2 6 rfl rfl)
theorem dX9_told_56 : decode cX9_told 56 = .ok (.iconst 5, 1) := dk_8 (dk_at dksX9_told_2 9 rfl rfl)
theorem dX9_told_57 : decode cX9_told 57 = .ok (.iaload, 1) := dk_46 (dk_at dksX9_told_2 10 rfl rfl)
theorem dX9_told_58 : decode cX9_told 58 = .ok (.goto 4, 3) := dk_167 0 4 (dk_at dksX9_told_2 11 rfl rfl)
theorem dX9_told_61 : decode cX9_told 61 = .ok (.iconst (-1), 1) := dk_2 (dk_at dksX9_told_2 14 rfl rfl)
theorem dX9_told_62 : decode cX9_told 62 = .ok (.ireturn, 1) := dk_172 (dk_at dksX9_told_2 15 rfl rfl)
theorem dX9_told_63 : decode cX9_told 63 = .ok (.iload_n 1, 1) := dk_27 (dk_at dksX9_told_2 16 rfl rfl)
theorem dX9_told_64 : decode cX9_told 64 = .ok (.bipush 9, 2) := dk_16 9 (dk_at dksX9_told_2 17 rfl rfl)
theorem dX9_told_66 : decode cX9_told 66 = .ok (.if_icmp .ne 27, 3) := dk_160 0 27 (dk_at dksX9_told_2 19 rfl rfl)
theorem dX9_told_69 : decode cX9_told 69 = .ok (.aload_n 0, 1) := dk_42 (dk_at dksX9_told_2 22 rfl rfl)
theorem dX9_told_70 : decode cX9_told 70 = .ok (.iconst 0, 1) := dk_3 (dk_at dksX9_told_2 23 rfl rfl)
theorem dX9_told_71 : decode cX9_told 71 = .ok (.invokevirtual 206, 3) := dk_182 0 206 (dk_at dksX9_told_3 0 rfl rfl)
theorem dX9_told_74 : decode cX9_told 74 = .ok (.ifCond .ne 11, 3) := dk_154 0 11 (dk_at dksX9_told_3 3 rfl rfl)
theorem dX9_told_77 : decode cX9_told 77 = .ok (.aload_n 0, 1) := dk_42 (dk_at dksX9_told_3 6 rfl rfl)
theorem dX9_told_78 : decode cX9_told 78 = .ok (.iconst 1, 1) := dk_4 (dk_at dksX9_told_3 7 rfl rfl)
theorem dX9_told_79 : decode cX9_told 79 = .ok (.invokevirtual 206, 3) := dk_182 0 206 (dk_at dksX9_told_3 8 rfl rfl)
theorem dX9_told_82 : decode cX9_told 82 = .ok (.ifCond .eq 7, 3) := dk_153 0 7 (dk_at dksX9_told_3 11 rfl rfl)
theorem dX9_told_85 : decode cX9_told 85 = .ok (.iconst 1, 1) := dk_4 (dk_at dksX9_told_3 14 rfl rfl)
theorem dX9_told_86 : decode cX9_told 86 = .ok (.goto 13, 3) := dk_167 0 13 (dk_at dksX9_told_3 15 rfl rfl)
theorem dX9_told_89 : decode cX9_told 89 = .ok (.iconst 0, 1) := dk_3 (dk_at dksX9_told_3 18 rfl rfl)
theorem dX9_told_90 : decode cX9_told 90 = .ok (.goto 9, 3) := dk_167 0 9 (dk_at dksX9_told_3 19 rfl rfl)
theorem dX9_told_93 : decode cX9_told 93 = .ok (.aload_n 0, 1) := dk_42 (dk_at dksX9_told_3 22 rfl rfl)
theorem dX9_told_94 : decode cX9_told 94 = .ok (.getfield 29, 3) := dk_180 0 29 (dk_at dksX9_told_4 0 rfl rfl)
theorem dX9_told_97 : decode cX9_told 97 = .ok (.iload_n 1, 1) := dk_27 (dk_at dksX9_told_4 3 rfl rfl)
theorem dX9_told_98 : decode cX9_told 98 = .ok (.iaload, 1) := dk_46 (dk_at dksX9_told_4 4 rfl rfl)
theorem dX9_told_99 : decode cX9_told 99 = .ok (.ireturn, 1) := dk_172 (dk_at dksX9_told_4 5 rfl rfl)
abbrev cX9_wouldWin : ByteArray := prog_21_method_34_code
def yX9_wouldWin : MethodName := ⟨RX9, "wouldWin", "(I)Z"⟩
def dkwX9_wouldWin_1 : List UInt8 := [4, 27, 100, 46, 100, 5, 161, 0, 7, 4, 167, 0, 4, 3, 172]
abbrev dktX9_wouldWin_1 : List UInt8 := dkwX9_wouldWin_1 ++ []
def dkwX9_wouldWin_0 : List UInt8 := [42, 180, 0, 29, 27, 46, 4, 96, 7, 161, 0, 28, 42, 180, 0, 29, 27, 46, 4, 96, 42, 180, 0, 29]
abbrev dktX9_wouldWin_0 : List UInt8 := dkwX9_wouldWin_0 ++ dktX9_wouldWin_1
theorem dksX9_wouldWin_0 : cX9_wouldWin.data.toList.drop 0 = dktX9_wouldWin_0 := by decide +kernel
theorem dksX9_wouldWin_1 : cX9_wouldWin.data.toList.drop 24 = dktX9_wouldWin_1 := dk_seg dksX9_wouldWin_0 24 rfl rfl
theorem dX9_wouldWin_0 : decode cX9_wouldWin 0 = .ok (.aload_n 0, 1) := dk_42 (dk_at dksX9_wouldWin_0 0 rfl rfl)
theorem dX9_wouldWin_1 : decode cX9_wouldWin 1 = .ok (.getfield 29, 3) := dk_180 0 29 (dk_at dksX9_wouldWin_0 1 rfl rfl)
theorem dX9_wouldWin_4 : decode cX9_wouldWin 4 = .ok (.iload_n 1, 1) := dk_27 (dk_at dksX9_wouldWin_0 4 rfl rfl)
theorem dX9_wouldWin_5 : decode cX9_wouldWin 5 = .ok (.iaload, 1) := dk_46 (dk_at dksX9_wouldWin_0 5 rfl rfl)
theorem dX9_wouldWin_6 : decode cX9_wouldWin 6 = .ok (.iconst 1, 1) := dk_4 (dk_at dksX9_wouldWin_0 6 rfl rfl)
theorem dX9_wouldWin_7 : decode cX9_wouldWin 7 = .ok (.iadd, 1) := dk_96 (dk_at dksX9_wouldWin_0 7 rfl rfl)
theorem dX9_wouldWin_8 : decode cX9_wouldWin 8 = .ok (.iconst 4, 1) := dk_7 (dk_at dksX9_wouldWin_0 8 rfl rfl)
theorem dX9_wouldWin_9 : decode cX9_wouldWin 9 = .ok (.if_icmp .lt 28, 3) := dk_161 0 28 (dk_at dksX9_wouldWin_0 9 rfl rfl)
theorem dX9_wouldWin_12 : decode cX9_wouldWin 12 = .ok (.aload_n 0, 1) := dk_42 (dk_at dksX9_wouldWin_0 12 rfl rfl)
theorem dX9_wouldWin_13 : decode cX9_wouldWin 13 = .ok (.getfield 29, 3) := dk_180 0 29 (dk_at dksX9_wouldWin_0 13 rfl rfl)
theorem dX9_wouldWin_16 : decode cX9_wouldWin 16 = .ok (.iload_n 1, 1) := dk_27 (dk_at dksX9_wouldWin_0 16 rfl rfl)
theorem dX9_wouldWin_17 : decode cX9_wouldWin 17 = .ok (.iaload, 1) := dk_46 (dk_at dksX9_wouldWin_0 17 rfl rfl)
theorem dX9_wouldWin_18 : decode cX9_wouldWin 18 = .ok (.iconst 1, 1) := dk_4 (dk_at dksX9_wouldWin_0 18 rfl rfl)
theorem dX9_wouldWin_19 : decode cX9_wouldWin 19 = .ok (.iadd, 1) := dk_96 (dk_at dksX9_wouldWin_0 19 rfl rfl)
theorem dX9_wouldWin_20 : decode cX9_wouldWin 20 = .ok (.aload_n 0, 1) := dk_42 (dk_at dksX9_wouldWin_0 20 rfl rfl)
theorem dX9_wouldWin_21 : decode cX9_wouldWin 21 = .ok (.getfield 29, 3) := dk_180 0 29 (dk_at dksX9_wouldWin_0 21 rfl rfl)
theorem dX9_wouldWin_24 : decode cX9_wouldWin 24 = .ok (.iconst 1, 1) := dk_4 (dk_at dksX9_wouldWin_1 0 rfl rfl)
theorem dX9_wouldWin_25 : decode cX9_wouldWin 25 = .ok (.iload_n 1, 1) := dk_27 (dk_at dksX9_wouldWin_1 1 rfl rfl)
theorem dX9_wouldWin_26 : decode cX9_wouldWin 26 = .ok (.isub, 1) := dk_100 (dk_at dksX9_wouldWin_1 2 rfl rfl)
theorem dX9_wouldWin_27 : decode cX9_wouldWin 27 = .ok (.iaload, 1) := dk_46 (dk_at dksX9_wouldWin_1 3 rfl rfl)
theorem dX9_wouldWin_28 : decode cX9_wouldWin 28 = .ok (.isub, 1) := dk_100 (dk_at dksX9_wouldWin_1 4 rfl rfl)
theorem dX9_wouldWin_29 : decode cX9_wouldWin 29 = .ok (.iconst 2, 1) := dk_5 (dk_at dksX9_wouldWin_1 5 rfl rfl)
theorem dX9_wouldWin_30 : decode cX9_wouldWin 30 = .ok (.if_icmp .lt 7, 3) := dk_161 0 7 (dk_at dksX9_wouldWin_1 6 rfl rfl)
theorem dX9_wouldWin_33 : decode cX9_wouldWin 33 = .ok (.iconst 1, 1) := dk_4 (dk_at dksX9_wouldWin_1 9 rfl rfl)
theorem dX9_wouldWin_34 : decode cX9_wouldWin 34 = .ok (.goto 4, 3) := dk_167 0 4 (dk_at dksX9_wouldWin_1 10 rfl rfl)
theorem dX9_wouldWin_37 : decode cX9_wouldWin 37 = .ok (.iconst 0, 1) := dk_3 (dk_at dksX9_wouldWin_1 13 rfl rfl)
theorem dX9_wouldWin_38 : decode cX9_wouldWin 38 = .ok (.ireturn, 1) := dk_172 (dk_at dksX9_wouldWin_1 14 rfl rfl)
abbrev cX9_rally : ByteArray := prog_21_method_42_code
def yX9_rally : MethodName := ⟨RX9, "rally", "(II)I"⟩
def dkwX9_rally_4 : List UInt8 := [160, 0, 7, 3, 167, 0, 16, 42, 180, 0, 212, 29, 160, 0, 7, 4, 167, 0, 4, 5, 172]
abbrev dktX9_rally_4 : List UInt8 := dkwX9_rally_4 ++ []
def dkwX9_rally_3 : List UInt8 := [160, 0, 9, 5, 28, 96, 167, 0, 4, 27, 182, 0, 230, 42, 182, 0, 233, 42, 180, 0, 212, 2]
abbrev dktX9_rally_3 : List UInt8 := dkwX9_rally_3 ++ dktX9_rally_4
def dkwX9_rally_2 : List UInt8 := [3, 181, 0, 67, 42, 180, 0, 67, 158, 0, 5, 3, 172, 42, 180, 0, 29, 5, 46, 62, 42, 27, 5]
abbrev dktX9_rally_2 : List UInt8 := dkwX9_rally_2 ++ dktX9_rally_3
def dkwX9_rally_1 : List UInt8 := [27, 3, 5, 184, 0, 70, 154, 0, 7, 5, 167, 0, 15, 42, 182, 0, 227, 153, 0, 7, 6, 167, 0, 4]
abbrev dktX9_rally_1 : List UInt8 := dkwX9_rally_1 ++ dktX9_rally_2
def dkwX9_rally_0 : List UInt8 := [42, 182, 0, 200, 42, 27, 5, 160, 0, 17, 28, 3, 16, 9, 184, 0, 70, 154, 0, 7, 4, 167, 0, 28]
abbrev dktX9_rally_0 : List UInt8 := dkwX9_rally_0 ++ dktX9_rally_1
theorem dksX9_rally_0 : cX9_rally.data.toList.drop 0 = dktX9_rally_0 := by decide +kernel
theorem dksX9_rally_1 : cX9_rally.data.toList.drop 24 = dktX9_rally_1 := dk_seg dksX9_rally_0 24 rfl rfl
theorem dksX9_rally_2 : cX9_rally.data.toList.drop 48 = dktX9_rally_2 := dk_seg dksX9_rally_1 24 rfl rfl
theorem dksX9_rally_3 : cX9_rally.data.toList.drop 71 = dktX9_rally_3 := dk_seg dksX9_rally_2 23 rfl rfl
theorem dksX9_rally_4 : cX9_rally.data.toList.drop 93 = dktX9_rally_4 := dk_seg dksX9_rally_3 22 rfl rfl
theorem dX9_rally_0 : decode cX9_rally 0 = .ok (.aload_n 0, 1) := dk_42 (dk_at dksX9_rally_0 0 rfl rfl)
theorem dX9_rally_1 : decode cX9_rally 1 = .ok (.invokevirtual 200, 3) := dk_182 0 200 (dk_at dksX9_rally_0 1 rfl rfl)
theorem dX9_rally_4 : decode cX9_rally 4 = .ok (.aload_n 0, 1) := dk_42 (dk_at dksX9_rally_0 4 rfl rfl)
theorem dX9_rally_5 : decode cX9_rally 5 = .ok (.iload_n 1, 1) := dk_27 (dk_at dksX9_rally_0 5 rfl rfl)
theorem dX9_rally_6 : decode cX9_rally 6 = .ok (.iconst 2, 1) := dk_5 (dk_at dksX9_rally_0 6 rfl rfl)
theorem dX9_rally_7 : decode cX9_rally 7 = .ok (.if_icmp .ne 17, 3) := dk_160 0 17 (dk_at dksX9_rally_0 7 rfl rfl)
theorem dX9_rally_10 : decode cX9_rally 10 = .ok (.iload_n 2, 1) := dk_28 (dk_at dksX9_rally_0 10 rfl rfl)
theorem dX9_rally_11 : decode cX9_rally 11 = .ok (.iconst 0, 1) := dk_3 (dk_at dksX9_rally_0 11 rfl rfl)
theorem dX9_rally_12 : decode cX9_rally 12 = .ok (.bipush 9, 2) := dk_16 9 (dk_at dksX9_rally_0 12 rfl rfl)
theorem dX9_rally_14 : decode cX9_rally 14 = .ok (.invokestatic 70, 3) := dk_184 0 70 (dk_at dksX9_rally_0 14 rfl rfl)
theorem dX9_rally_17 : decode cX9_rally 17 = .ok (.ifCond .ne 7, 3) := dk_154 0 7 (dk_at dksX9_rally_0 17 rfl rfl)
theorem dX9_rally_20 : decode cX9_rally 20 = .ok (.iconst 1, 1) := dk_4 (dk_at dksX9_rally_0 20 rfl rfl)
theorem dX9_rally_21 : decode cX9_rally 21 = .ok (.goto 28, 3) := dk_167 0 28 (dk_at dksX9_rally_0 21 rfl rfl)
theorem dX9_rally_24 : decode cX9_rally 24 = .ok (.iload_n 1, 1) := dk_27 (dk_at dksX9_rally_1 0 rfl rfl)
theorem dX9_rally_25 : decode cX9_rally 25 = .ok (.iconst 0, 1) := dk_3 (dk_at dksX9_rally_1 1 rfl rfl)
theorem dX9_rally_26 : decode cX9_rally 26 = .ok (.iconst 2, 1) := dk_5 (dk_at dksX9_rally_1 2 rfl rfl)
theorem dX9_rally_27 : decode cX9_rally 27 = .ok (.invokestatic 70, 3) := dk_184 0 70 (dk_at dksX9_rally_1 3 rfl rfl)
theorem dX9_rally_30 : decode cX9_rally 30 = .ok (.ifCond .ne 7, 3) := dk_154 0 7 (dk_at dksX9_rally_1 6 rfl rfl)
theorem dX9_rally_33 : decode cX9_rally 33 = .ok (.iconst 2, 1) := dk_5 (dk_at dksX9_rally_1 9 rfl rfl)
theorem dX9_rally_34 : decode cX9_rally 34 = .ok (.goto 15, 3) := dk_167 0 15 (dk_at dksX9_rally_1 10 rfl rfl)
theorem dX9_rally_37 : decode cX9_rally 37 = .ok (.aload_n 0, 1) := dk_42 (dk_at dksX9_rally_1 13 rfl rfl)
theorem dX9_rally_38 : decode cX9_rally 38 = .ok (.invokevirtual 227, 3) := dk_182 0 227 (dk_at dksX9_rally_1 14 rfl rfl)
theorem dX9_rally_41 : decode cX9_rally 41 = .ok (.ifCond .eq 7, 3) := dk_153 0 7 (dk_at dksX9_rally_1 17 rfl rfl)
theorem dX9_rally_44 : decode cX9_rally 44 = .ok (.iconst 3, 1) := dk_6 (dk_at dksX9_rally_1 20 rfl rfl)
theorem dX9_rally_45 : decode cX9_rally 45 = .ok (.goto 4, 3) := dk_167 0 4 (dk_at dksX9_rally_1 21 rfl rfl)
theorem dX9_rally_48 : decode cX9_rally 48 = .ok (.iconst 0, 1) := dk_3 (dk_at dksX9_rally_2 0 rfl rfl)
theorem dX9_rally_49 : decode cX9_rally 49 = .ok (.putfield 67, 3) := dk_181 0 67 (dk_at dksX9_rally_2 1 rfl rfl)
theorem dX9_rally_52 : decode cX9_rally 52 = .ok (.aload_n 0, 1) := dk_42 (dk_at dksX9_rally_2 4 rfl rfl)
theorem dX9_rally_53 : decode cX9_rally 53 = .ok (.getfield 67, 3) := dk_180 0 67 (dk_at dksX9_rally_2 5 rfl rfl)
theorem dX9_rally_56 : decode cX9_rally 56 = .ok (.ifCond .le 5, 3) := dk_158 0 5 (dk_at dksX9_rally_2 8 rfl rfl)
theorem dX9_rally_59 : decode cX9_rally 59 = .ok (.iconst 0, 1) := dk_3 (dk_at dksX9_rally_2 11 rfl rfl)
theorem dX9_rally_60 : decode cX9_rally 60 = .ok (.ireturn, 1) := dk_172 (dk_at dksX9_rally_2 12 rfl rfl)
theorem dX9_rally_61 : decode cX9_rally 61 = .ok (.aload_n 0, 1) := dk_42 (dk_at dksX9_rally_2 13 rfl rfl)
theorem dX9_rally_62 : decode cX9_rally 62 = .ok (.getfield 29, 3) := dk_180 0 29 (dk_at dksX9_rally_2 14 rfl rfl)
theorem dX9_rally_65 : decode cX9_rally 65 = .ok (.iconst 2, 1) := dk_5 (dk_at dksX9_rally_2 17 rfl rfl)
theorem dX9_rally_66 : decode cX9_rally 66 = .ok (.iaload, 1) := dk_46 (dk_at dksX9_rally_2 18 rfl rfl)
theorem dX9_rally_67 : decode cX9_rally 67 = .ok (.istore_n 3, 1) := dk_62 (dk_at dksX9_rally_2 19 rfl rfl)
theorem dX9_rally_68 : decode cX9_rally 68 = .ok (.aload_n 0, 1) := dk_42 (dk_at dksX9_rally_2 20 rfl rfl)
theorem dX9_rally_69 : decode cX9_rally 69 = .ok (.iload_n 1, 1) := dk_27 (dk_at dksX9_rally_2 21 rfl rfl)
theorem dX9_rally_70 : decode cX9_rally 70 = .ok (.iconst 2, 1) := dk_5 (dk_at dksX9_rally_2 22 rfl rfl)
theorem dX9_rally_71 : decode cX9_rally 71 = .ok (.if_icmp .ne 9, 3) := dk_160 0 9 (dk_at dksX9_rally_3 0 rfl rfl)
theorem dX9_rally_74 : decode cX9_rally 74 = .ok (.iconst 2, 1) := dk_5 (dk_at dksX9_rally_3 3 rfl rfl)
theorem dX9_rally_75 : decode cX9_rally 75 = .ok (.iload_n 2, 1) := dk_28 (dk_at dksX9_rally_3 4 rfl rfl)
theorem dX9_rally_76 : decode cX9_rally 76 = .ok (.iadd, 1) := dk_96 (dk_at dksX9_rally_3 5 rfl rfl)
theorem dX9_rally_77 : decode cX9_rally 77 = .ok (.goto 4, 3) := dk_167 0 4 (dk_at dksX9_rally_3 6 rfl rfl)
theorem dX9_rally_80 : decode cX9_rally 80 = .ok (.iload_n 1, 1) := dk_27 (dk_at dksX9_rally_3 9 rfl rfl)
theorem dX9_rally_81 : decode cX9_rally 81 = .ok (.invokevirtual 230, 3) := dk_182 0 230 (dk_at dksX9_rally_3 10 rfl rfl)
theorem dX9_rally_84 : decode cX9_rally 84 = .ok (.aload_n 0, 1) := dk_42 (dk_at dksX9_rally_3 13 rfl rfl)
theorem dX9_rally_85 : decode cX9_rally 85 = .ok (.invokevirtual 233, 3) := dk_182 0 233 (dk_at dksX9_rally_3 14 rfl rfl)
theorem dX9_rally_88 : decode cX9_rally 88 = .ok (.aload_n 0, 1) := dk_42 (dk_at dksX9_rally_3 17 rfl rfl)
theorem dX9_rally_89 : decode cX9_rally 89 = .ok (.getfield 212, 3) := dk_180 0 212 (dk_at dksX9_rally_3 18 rfl rfl)
theorem dX9_rally_92 : decode cX9_rally 92 = .ok (.iconst (-1), 1) := dk_2 (dk_at dksX9_rally_3 21 rfl rfl)
theorem dX9_rally_93 : decode cX9_rally 93 = .ok (.if_icmp .ne 7, 3) := dk_160 0 7 (dk_at dksX9_rally_4 0 rfl rfl)
theorem dX9_rally_96 : decode cX9_rally 96 = .ok (.iconst 0, 1) := dk_3 (dk_at dksX9_rally_4 3 rfl rfl)
theorem dX9_rally_97 : decode cX9_rally 97 = .ok (.goto 16, 3) := dk_167 0 16 (dk_at dksX9_rally_4 4 rfl rfl)
theorem dX9_rally_100 : decode cX9_rally 100 = .ok (.aload_n 0, 1) := dk_42 (dk_at dksX9_rally_4 7 rfl rfl)
theorem dX9_rally_101 : decode cX9_rally 101 = .ok (.getfield 212, 3) := dk_180 0 212 (dk_at dksX9_rally_4 8 rfl rfl)
theorem dX9_rally_104 : decode cX9_rally 104 = .ok (.iload_n 3, 1) := dk_29 (dk_at dksX9_rally_4 11 rfl rfl)
theorem dX9_rally_105 : decode cX9_rally 105 = .ok (.if_icmp .ne 7, 3) := dk_160 0 7 (dk_at dksX9_rally_4 12 rfl rfl)
theorem dX9_rally_108 : decode cX9_rally 108 = .ok (.iconst 1, 1) := dk_4 (dk_at dksX9_rally_4 15 rfl rfl)
theorem dX9_rally_109 : decode cX9_rally 109 = .ok (.goto 4, 3) := dk_167 0 4 (dk_at dksX9_rally_4 16 rfl rfl)
theorem dX9_rally_112 : decode cX9_rally 112 = .ok (.iconst 2, 1) := dk_5 (dk_at dksX9_rally_4 19 rfl rfl)
theorem dX9_rally_113 : decode cX9_rally 113 = .ok (.ireturn, 1) := dk_172 (dk_at dksX9_rally_4 20 rfl rfl)
abbrev cX9_isOver : ByteArray := prog_21_method_35_code
def yX9_isOver : MethodName := ⟨RX9, "isOver", "()Z"⟩
def dkwX9_isOver_1 : List UInt8 := [46, 42, 180, 0, 7, 17, 0, 194, 46, 161, 0, 7, 4, 167, 0, 4, 3, 172]
abbrev dktX9_isOver_1 : List UInt8 := dkwX9_isOver_1 ++ []
def dkwX9_isOver_0 : List UInt8 := [42, 180, 0, 29, 16, 7, 46, 42, 180, 0, 7, 17, 0, 194, 46, 162, 0, 21, 42, 180, 0, 29, 16, 8]
abbrev dktX9_isOver_0 : List UInt8 := dkwX9_isOver_0 ++ dktX9_isOver_1
theorem dksX9_isOver_0 : cX9_isOver.data.toList.drop 0 = dktX9_isOver_0 := by decide +kernel
theorem dksX9_isOver_1 : cX9_isOver.data.toList.drop 24 = dktX9_isOver_1 := dk_seg dksX9_isOver_0 24 rfl rfl
theorem dX9_isOver_0 : decode cX9_isOver 0 = .ok (.aload_n 0, 1) := dk_42 (dk_at dksX9_isOver_0 0 rfl rfl)
theorem dX9_isOver_1 : decode cX9_isOver 1 = .ok (.getfield 29, 3) := dk_180 0 29 (dk_at dksX9_isOver_0 1 rfl rfl)
theorem dX9_isOver_4 : decode cX9_isOver 4 = .ok (.bipush 7, 2) := dk_16 7 (dk_at dksX9_isOver_0 4 rfl rfl)
theorem dX9_isOver_6 : decode cX9_isOver 6 = .ok (.iaload, 1) := dk_46 (dk_at dksX9_isOver_0 6 rfl rfl)
theorem dX9_isOver_7 : decode cX9_isOver 7 = .ok (.aload_n 0, 1) := dk_42 (dk_at dksX9_isOver_0 7 rfl rfl)
theorem dX9_isOver_8 : decode cX9_isOver 8 = .ok (.getfield 7, 3) := dk_180 0 7 (dk_at dksX9_isOver_0 8 rfl rfl)
theorem dX9_isOver_11 : decode cX9_isOver 11 = .ok (.sipush 194, 3) := dk_17 0 194 (dk_at dksX9_isOver_0 11 rfl rfl)
theorem dX9_isOver_14 : decode cX9_isOver 14 = .ok (.iaload, 1) := dk_46 (dk_at dksX9_isOver_0 14 rfl rfl)
theorem dX9_isOver_15 : decode cX9_isOver 15 = .ok (.if_icmp .ge 21, 3) := dk_162 0 21 (dk_at dksX9_isOver_0 15 rfl rfl)
theorem dX9_isOver_18 : decode cX9_isOver 18 = .ok (.aload_n 0, 1) := dk_42 (dk_at dksX9_isOver_0 18 rfl rfl)
theorem dX9_isOver_19 : decode cX9_isOver 19 = .ok (.getfield 29, 3) := dk_180 0 29 (dk_at dksX9_isOver_0 19 rfl rfl)
theorem dX9_isOver_22 : decode cX9_isOver 22 = .ok (.bipush 8, 2) := dk_16 8 (dk_at dksX9_isOver_0 22 rfl rfl)
theorem dX9_isOver_24 : decode cX9_isOver 24 = .ok (.iaload, 1) := dk_46 (dk_at dksX9_isOver_1 0 rfl rfl)
theorem dX9_isOver_25 : decode cX9_isOver 25 = .ok (.aload_n 0, 1) := dk_42 (dk_at dksX9_isOver_1 1 rfl rfl)
theorem dX9_isOver_26 : decode cX9_isOver 26 = .ok (.getfield 7, 3) := dk_180 0 7 (dk_at dksX9_isOver_1 2 rfl rfl)
theorem dX9_isOver_29 : decode cX9_isOver 29 = .ok (.sipush 194, 3) := dk_17 0 194 (dk_at dksX9_isOver_1 5 rfl rfl)
theorem dX9_isOver_32 : decode cX9_isOver 32 = .ok (.iaload, 1) := dk_46 (dk_at dksX9_isOver_1 8 rfl rfl)
theorem dX9_isOver_33 : decode cX9_isOver 33 = .ok (.if_icmp .lt 7, 3) := dk_161 0 7 (dk_at dksX9_isOver_1 9 rfl rfl)
theorem dX9_isOver_36 : decode cX9_isOver 36 = .ok (.iconst 1, 1) := dk_4 (dk_at dksX9_isOver_1 12 rfl rfl)
theorem dX9_isOver_37 : decode cX9_isOver 37 = .ok (.goto 4, 3) := dk_167 0 4 (dk_at dksX9_isOver_1 13 rfl rfl)
theorem dX9_isOver_40 : decode cX9_isOver 40 = .ok (.iconst 0, 1) := dk_3 (dk_at dksX9_isOver_1 16 rfl rfl)
theorem dX9_isOver_41 : decode cX9_isOver 41 = .ok (.ireturn, 1) := dk_172 (dk_at dksX9_isOver_1 17 rfl rfl)
abbrev cX9_rallies : ByteArray := prog_21_method_41_code
def yX9_rallies : MethodName := ⟨RX9, "rallies", "(I)V"⟩
def dkwX9_rallies_9 : List UInt8 := [160, 0, 8, 42, 28, 182, 0, 218, 42, 182, 0, 224, 177]
abbrev dktX9_rallies_9 : List UInt8 := dkwX9_rallies_9 ++ []
def dkwX9_rallies_8 : List UInt8 := [182, 0, 218, 167, 0, 27, 21, 4, 16, 13, 159, 0, 15, 42, 180, 0, 7, 17, 0, 196, 46, 4]
abbrev dktX9_rallies_8 : List UInt8 := dkwX9_rallies_8 ++ dktX9_rallies_9
def dkwX9_rallies_7 : List UInt8 := [167, 0, 6, 4, 28, 100, 182, 0, 218, 167, 0, 44, 21, 4, 16, 12, 160, 0, 13, 42, 4, 28, 100]
abbrev dktX9_rallies_7 : List UInt8 := dkwX9_rallies_7 ++ dktX9_rallies_8
def dkwX9_rallies_6 : List UInt8 := [46, 164, 0, 8, 16, 13, 167, 0, 5, 16, 14, 54, 4, 27, 5, 162, 0, 21, 42, 27, 154, 0, 7, 28]
abbrev dktX9_rallies_6 : List UInt8 := dkwX9_rallies_6 ++ dktX9_rallies_7
def dkwX9_rallies_5 : List UInt8 := [167, 0, 35, 29, 42, 180, 0, 29, 7, 46, 162, 0, 8, 16, 12, 167, 0, 20, 29, 42, 180, 0, 29, 7]
abbrev dktX9_rallies_5 : List UInt8 := dkwX9_rallies_5 ++ dktX9_rallies_6
def dkwX9_rallies_4 : List UInt8 := [16, 6, 46, 154, 0, 7, 42, 182, 0, 221, 177, 27, 5, 100, 62, 27, 16, 12, 161, 0, 7, 27]
abbrev dktX9_rallies_4 : List UInt8 := dkwX9_rallies_4 ++ dktX9_rallies_5
def dkwX9_rallies_3 : List UInt8 := [42, 180, 0, 29, 8, 27, 5, 100, 79, 42, 180, 0, 29, 6, 92, 46, 4, 96, 79, 42, 180, 0, 29]
abbrev dktX9_rallies_3 : List UInt8 := dkwX9_rallies_3 ++ dktX9_rallies_4
def dkwX9_rallies_2 : List UInt8 := [167, 0, 43, 42, 180, 0, 29, 6, 46, 154, 0, 15, 42, 180, 0, 29, 7, 27, 5, 100, 79, 167, 0, 12]
abbrev dktX9_rallies_2 : List UInt8 := dkwX9_rallies_2 ++ dktX9_rallies_3
def dkwX9_rallies_1 : List UInt8 := [154, 0, 81, 27, 5, 162, 0, 21, 42, 27, 154, 0, 7, 28, 167, 0, 6, 4, 28, 100, 182, 0, 218]
abbrev dktX9_rallies_1 : List UInt8 := dkwX9_rallies_1 ++ dktX9_rallies_2
def dkwX9_rallies_0 : List UInt8 := [42, 2, 181, 0, 215, 42, 2, 181, 0, 212, 42, 180, 0, 29, 5, 46, 61, 42, 180, 0, 29, 16, 6, 46]
abbrev dktX9_rallies_0 : List UInt8 := dkwX9_rallies_0 ++ dktX9_rallies_1
theorem dksX9_rallies_0 : cX9_rallies.data.toList.drop 0 = dktX9_rallies_0 := by decide +kernel
theorem dksX9_rallies_1 : cX9_rallies.data.toList.drop 24 = dktX9_rallies_1 := dk_seg dksX9_rallies_0 24 rfl rfl
theorem dksX9_rallies_2 : cX9_rallies.data.toList.drop 47 = dktX9_rallies_2 := dk_seg dksX9_rallies_1 23 rfl rfl
theorem dksX9_rallies_3 : cX9_rallies.data.toList.drop 71 = dktX9_rallies_3 := dk_seg dksX9_rallies_2 24 rfl rfl
theorem dksX9_rallies_4 : cX9_rallies.data.toList.drop 94 = dktX9_rallies_4 := dk_seg dksX9_rallies_3 23 rfl rfl
theorem dksX9_rallies_5 : cX9_rallies.data.toList.drop 116 = dktX9_rallies_5 := dk_seg dksX9_rallies_4 22 rfl rfl
theorem dksX9_rallies_6 : cX9_rallies.data.toList.drop 140 = dktX9_rallies_6 := dk_seg dksX9_rallies_5 24 rfl rfl
theorem dksX9_rallies_7 : cX9_rallies.data.toList.drop 164 = dktX9_rallies_7 := dk_seg dksX9_rallies_6 24 rfl rfl
theorem dksX9_rallies_8 : cX9_rallies.data.toList.drop 187 = dktX9_rallies_8 := dk_seg dksX9_rallies_7 23 rfl rfl
theorem dksX9_rallies_9 : cX9_rallies.data.toList.drop 209 = dktX9_rallies_9 := dk_seg dksX9_rallies_8 22 rfl rfl
theorem dX9_rallies_0 : decode cX9_rallies 0 = .ok (.aload_n 0, 1) := dk_42 (dk_at dksX9_rallies_0 0 rfl rfl)
theorem dX9_rallies_1 : decode cX9_rallies 1 = .ok (.iconst (-1), 1) := dk_2 (dk_at dksX9_rallies_0 1 rfl rfl)
theorem dX9_rallies_2 : decode cX9_rallies 2 = .ok (.putfield 215, 3) := dk_181 0 215 (dk_at dksX9_rallies_0 2 rfl rfl)
theorem dX9_rallies_5 : decode cX9_rallies 5 = .ok (.aload_n 0, 1) := dk_42 (dk_at dksX9_rallies_0 5 rfl rfl)
theorem dX9_rallies_6 : decode cX9_rallies 6 = .ok (.iconst (-1), 1) := dk_2 (dk_at dksX9_rallies_0 6 rfl rfl)
theorem dX9_rallies_7 : decode cX9_rallies 7 = .ok (.putfield 212, 3) := dk_181 0 212 (dk_at dksX9_rallies_0 7 rfl rfl)
theorem dX9_rallies_10 : decode cX9_rallies 10 = .ok (.aload_n 0, 1) := dk_42 (dk_at dksX9_rallies_0 10 rfl rfl)
theorem dX9_rallies_11 : decode cX9_rallies 11 = .ok (.getfield 29, 3) := dk_180 0 29 (dk_at dksX9_rallies_0 11 rfl rfl)
theorem dX9_rallies_14 : decode cX9_rallies 14 = .ok (.iconst 2, 1) := dk_5 (dk_at dksX9_rallies_0 14 rfl rfl)
theorem dX9_rallies_15 : decode cX9_rallies 15 = .ok (.iaload, 1) := dk_46 (dk_at dksX9_rallies_0 15 rfl rfl)
theorem dX9_rallies_16 : decode cX9_rallies 16 = .ok (.istore_n 2, 1) := dk_61 (dk_at dksX9_rallies_0 16 rfl rfl)
theorem dX9_rallies_17 : decode cX9_rallies 17 = .ok (.aload_n 0, 1) := dk_42 (dk_at dksX9_rallies_0 17 rfl rfl)
theorem dX9_rallies_18 : decode cX9_rallies 18 = .ok (.getfield 29, 3) := dk_180 0 29 (dk_at dksX9_rallies_0 18 rfl rfl)
theorem dX9_rallies_21 : decode cX9_rallies 21 = .ok (.bipush 6, 2) := dk_16 6 (dk_at dksX9_rallies_0 21 rfl rfl)
theorem dX9_rallies_23 : decode cX9_rallies 23 = .ok (.iaload, 1) := dk_46 (dk_at dksX9_rallies_0 23 rfl rfl)
theorem dX9_rallies_24 : decode cX9_rallies 24 = .ok (.ifCond .ne 81, 3) := dk_154 0 81 (dk_at dksX9_rallies_1 0 rfl rfl)
theorem dX9_rallies_27 : decode cX9_rallies 27 = .ok (.iload_n 1, 1) := dk_27 (dk_at dksX9_rallies_1 3 rfl rfl)
theorem dX9_rallies_28 : decode cX9_rallies 28 = .ok (.iconst 2, 1) := dk_5 (dk_at dksX9_rallies_1 4 rfl rfl)
theorem dX9_rallies_29 : decode cX9_rallies 29 = .ok (.if_icmp .ge 21, 3) := dk_162 0 21 (dk_at dksX9_rallies_1 5 rfl rfl)
theorem dX9_rallies_32 : decode cX9_rallies 32 = .ok (.aload_n 0, 1) := dk_42 (dk_at dksX9_rallies_1 8 rfl rfl)
theorem dX9_rallies_33 : decode cX9_rallies 33 = .ok (.iload_n 1, 1) := dk_27 (dk_at dksX9_rallies_1 9 rfl rfl)
theorem dX9_rallies_34 : decode cX9_rallies 34 = .ok (.ifCond .ne 7, 3) := dk_154 0 7 (dk_at dksX9_rallies_1 10 rfl rfl)
theorem dX9_rallies_37 : decode cX9_rallies 37 = .ok (.iload_n 2, 1) := dk_28 (dk_at dksX9_rallies_1 13 rfl rfl)
theorem dX9_rallies_38 : decode cX9_rallies 38 = .ok (.goto 6, 3) := dk_167 0 6 (dk_at dksX9_rallies_1 14 rfl rfl)
theorem dX9_rallies_41 : decode cX9_rallies 41 = .ok (.iconst 1, 1) := dk_4 (dk_at dksX9_rallies_1 17 rfl rfl)
theorem dX9_rallies_42 : decode cX9_rallies 42 = .ok (.iload_n 2, 1) := dk_28 (dk_at dksX9_rallies_1 18 rfl rfl)
theorem dX9_rallies_43 : decode cX9_rallies 43 = .ok (.isub, 1) := dk_100 (dk_at dksX9_rallies_1 19 rfl rfl)
theorem dX9_rallies_44 : decode cX9_rallies 44 = .ok (.invokevirtual 218, 3) := dk_182 0 218 (dk_at dksX9_rallies_1 20 rfl rfl)
theorem dX9_rallies_47 : decode cX9_rallies 47 = .ok (.goto 43, 3) := dk_167 0 43 (dk_at dksX9_rallies_2 0 rfl rfl)
theorem dX9_rallies_50 : decode cX9_rallies 50 = .ok (.aload_n 0, 1) := dk_42 (dk_at dksX9_rallies_2 3 rfl rfl)
theorem dX9_rallies_51 : decode cX9_rallies 51 = .ok (.getfield 29, 3) := dk_180 0 29 (dk_at dksX9_rallies_2 4 rfl rfl)
theorem dX9_rallies_54 : decode cX9_rallies 54 = .ok (.iconst 3, 1) := dk_6 (dk_at dksX9_rallies_2 7 rfl rfl)
theorem dX9_rallies_55 : decode cX9_rallies 55 = .ok (.iaload, 1) := dk_46 (dk_at dksX9_rallies_2 8 rfl rfl)
theorem dX9_rallies_56 : decode cX9_rallies 56 = .ok (.ifCond .ne 15, 3) := dk_154 0 15 (dk_at dksX9_rallies_2 9 rfl rfl)
theorem dX9_rallies_59 : decode cX9_rallies 59 = .ok (.aload_n 0, 1) := dk_42 (dk_at dksX9_rallies_2 12 rfl rfl)
theorem dX9_rallies_60 : decode cX9_rallies 60 = .ok (.getfield 29, 3) := dk_180 0 29 (dk_at dksX9_rallies_2 13 rfl rfl)
theorem dX9_rallies_63 : decode cX9_rallies 63 = .ok (.iconst 4, 1) := dk_7 (dk_at dksX9_rallies_2 16 rfl rfl)
theorem dX9_rallies_64 : decode cX9_rallies 64 = .ok (.iload_n 1, 1) := dk_27 (dk_at dksX9_rallies_2 17 rfl rfl)
theorem dX9_rallies_65 : decode cX9_rallies 65 = .ok (.iconst 2, 1) := dk_5 (dk_at dksX9_rallies_2 18 rfl rfl)
theorem dX9_rallies_66 : decode cX9_rallies 66 = .ok (.isub, 1) := dk_100 (dk_at dksX9_rallies_2 19 rfl rfl)
theorem dX9_rallies_67 : decode cX9_rallies 67 = .ok (.iastore, 1) := dk_79 (dk_at dksX9_rallies_2 20 rfl rfl)
theorem dX9_rallies_68 : decode cX9_rallies 68 = .ok (.goto 12, 3) := dk_167 0 12 (dk_at dksX9_rallies_2 21 rfl rfl)
theorem dX9_rallies_71 : decode cX9_rallies 71 = .ok (.aload_n 0, 1) := dk_42 (dk_at dksX9_rallies_3 0 rfl rfl)
theorem dX9_rallies_72 : decode cX9_rallies 72 = .ok (.getfield 29, 3) := dk_180 0 29 (dk_at dksX9_rallies_3 1 rfl rfl)
theorem dX9_rallies_75 : decode cX9_rallies 75 = .ok (.iconst 5, 1) := dk_8 (dk_at dksX9_rallies_3 4 rfl rfl)
theorem dX9_rallies_76 : decode cX9_rallies 76 = .ok (.iload_n 1, 1) := dk_27 (dk_at dksX9_rallies_3 5 rfl rfl)
theorem dX9_rallies_77 : decode cX9_rallies 77 = .ok (.iconst 2, 1) := dk_5 (dk_at dksX9_rallies_3 6 rfl rfl)
theorem dX9_rallies_78 : decode cX9_rallies 78 = .ok (.isub, 1) := dk_100 (dk_at dksX9_rallies_3 7 rfl rfl)
theorem dX9_rallies_79 : decode cX9_rallies 79 = .ok (.iastore, 1) := dk_79 (dk_at dksX9_rallies_3 8 rfl rfl)
theorem dX9_rallies_80 : decode cX9_rallies 80 = .ok (.aload_n 0, 1) := dk_42 (dk_at dksX9_rallies_3 9 rfl rfl)
theorem dX9_rallies_81 : decode cX9_rallies 81 = .ok (.getfield 29, 3) := dk_180 0 29 (dk_at dksX9_rallies_3 10 rfl rfl)
theorem dX9_rallies_84 : decode cX9_rallies 84 = .ok (.iconst 3, 1) := dk_6 (dk_at dksX9_rallies_3 13 rfl rfl)
theorem dX9_rallies_85 : decode cX9_rallies 85 = .ok (.dup2, 1) := dk_92 (dk_at dksX9_rallies_3 14 rfl rfl)
theorem dX9_rallies_86 : decode cX9_rallies 86 = .ok (.iaload, 1) := dk_46 (dk_at dksX9_rallies_3 15 rfl rfl)
theorem dX9_rallies_87 : decode cX9_rallies 87 = .ok (.iconst 1, 1) := dk_4 (dk_at dksX9_rallies_3 16 rfl rfl)
theorem dX9_rallies_88 : decode cX9_rallies 88 = .ok (.iadd, 1) := dk_96 (dk_at dksX9_rallies_3 17 rfl rfl)
theorem dX9_rallies_89 : decode cX9_rallies 89 = .ok (.iastore, 1) := dk_79 (dk_at dksX9_rallies_3 18 rfl rfl)
theorem dX9_rallies_90 : decode cX9_rallies 90 = .ok (.aload_n 0, 1) := dk_42 (dk_at dksX9_rallies_3 19 rfl rfl)
theorem dX9_rallies_91 : decode cX9_rallies 91 = .ok (.getfield 29, 3) := dk_180 0 29 (dk_at dksX9_rallies_3 20 rfl rfl)
theorem dX9_rallies_94 : decode cX9_rallies 94 = .ok (.bipush 6, 2) := dk_16 6 (dk_at dksX9_rallies_4 0 rfl rfl)
theorem dX9_rallies_96 : decode cX9_rallies 96 = .ok (.iaload, 1) := dk_46 (dk_at dksX9_rallies_4 2 rfl rfl)
theorem dX9_rallies_97 : decode cX9_rallies 97 = .ok (.ifCond .ne 7, 3) := dk_154 0 7 (dk_at dksX9_rallies_4 3 rfl rfl)
theorem dX9_rallies_100 : decode cX9_rallies 100 = .ok (.aload_n 0, 1) := dk_42 (dk_at dksX9_rallies_4 6 rfl rfl)
theorem dX9_rallies_101 : decode cX9_rallies 101 = .ok (.invokevirtual 221, 3) := dk_182 0 221 (dk_at dksX9_rallies_4 7 rfl rfl)
theorem dX9_rallies_104 : decode cX9_rallies 104 = .ok (.return_, 1) := dk_177 (dk_at dksX9_rallies_4 10 rfl rfl)
theorem dX9_rallies_105 : decode cX9_rallies 105 = .ok (.iload_n 1, 1) := dk_27 (dk_at dksX9_rallies_4 11 rfl rfl)
theorem dX9_rallies_106 : decode cX9_rallies 106 = .ok (.iconst 2, 1) := dk_5 (dk_at dksX9_rallies_4 12 rfl rfl)
theorem dX9_rallies_107 : decode cX9_rallies 107 = .ok (.isub, 1) := dk_100 (dk_at dksX9_rallies_4 13 rfl rfl)
theorem dX9_rallies_108 : decode cX9_rallies 108 = .ok (.istore_n 3, 1) := dk_62 (dk_at dksX9_rallies_4 14 rfl rfl)
theorem dX9_rallies_109 : decode cX9_rallies 109 = .ok (.iload_n 1, 1) := dk_27 (dk_at dksX9_rallies_4 15 rfl rfl)
theorem dX9_rallies_110 : decode cX9_rallies 110 = .ok (.bipush 12, 2) := dk_16 12 (dk_at dksX9_rallies_4 16 rfl rfl)
theorem dX9_rallies_112 : decode cX9_rallies 112 = .ok (.if_icmp .lt 7, 3) := dk_161 0 7 (dk_at dksX9_rallies_4 18 rfl rfl)
theorem dX9_rallies_115 : decode cX9_rallies 115 = .ok (.iload_n 1, 1) := dk_27 (dk_at dksX9_rallies_4 21 rfl rfl)
theorem dX9_rallies_116 : decode cX9_rallies 116 = .ok (.goto 35, 3) := dk_167 0 35 (dk_at dksX9_rallies_5 0 rfl rfl)
theorem dX9_rallies_119 : decode cX9_rallies 119 = .ok (.iload_n 3, 1) := dk_29 (dk_at dksX9_rallies_5 3 rfl rfl)
theorem dX9_rallies_120 : decode cX9_rallies 120 = .ok (.aload_n 0, 1) := dk_42 (dk_at dksX9_rallies_5 4 rfl rfl)
theorem dX9_rallies_121 : decode cX9_rallies 121 = .ok (.getfield 29, 3) := dk_180 0 29 (dk_at dksX9_rallies_5 5 rfl rfl)
theorem dX9_rallies_124 : decode cX9_rallies 124 = .ok (.iconst 4, 1) := dk_7 (dk_at dksX9_rallies_5 8 rfl rfl)
theorem dX9_rallies_125 : decode cX9_rallies 125 = .ok (.iaload, 1) := dk_46 (dk_at dksX9_rallies_5 9 rfl rfl)
theorem dX9_rallies_126 : decode cX9_rallies 126 = .ok (.if_icmp .ge 8, 3) := dk_162 0 8 (dk_at dksX9_rallies_5 10 rfl rfl)
theorem dX9_rallies_129 : decode cX9_rallies 129 = .ok (.bipush 12, 2) := dk_16 12 (dk_at dksX9_rallies_5 13 rfl rfl)
theorem dX9_rallies_131 : decode cX9_rallies 131 = .ok (.goto 20, 3) := dk_167 0 20 (dk_at dksX9_rallies_5 15 rfl rfl)
theorem dX9_rallies_134 : decode cX9_rallies 134 = .ok (.iload_n 3, 1) := dk_29 (dk_at dksX9_rallies_5 18 rfl rfl)
theorem dX9_rallies_135 : decode cX9_rallies 135 = .ok (.aload_n 0, 1) := dk_42 (dk_at dksX9_rallies_5 19 rfl rfl)
theorem dX9_rallies_136 : decode cX9_rallies 136 = .ok (.getfield 29, 3) := dk_180 0 29 (dk_at dksX9_rallies_5 20 rfl rfl)
theorem dX9_rallies_139 : decode cX9_rallies 139 = .ok (.iconst 4, 1) := dk_7 (dk_at dksX9_rallies_5 23 rfl rfl)
theorem dX9_rallies_140 : decode cX9_rallies 140 = .ok (.iaload, 1) := dk_46 (dk_at dksX9_rallies_6 0 rfl rfl)
theorem dX9_rallies_141 : decode cX9_rallies 141 = .ok (.if_icmp .le 8, 3) := dk_164 0 8 (dk_at dksX9_rallies_6 1 rfl rfl)
theorem dX9_rallies_144 : decode cX9_rallies 144 = .ok (.bipush 13, 2) := dk_16 13 (dk_at dksX9_rallies_6 4 rfl rfl)
theorem dX9_rallies_146 : decode cX9_rallies 146 = .ok (.goto 5, 3) := dk_167 0 5 (dk_at dksX9_rallies_6 6 rfl rfl)
theorem dX9_rallies_149 : decode cX9_rallies 149 = .ok (.bipush 14, 2) := dk_16 14 (dk_at dksX9_rallies_6 9 rfl rfl)
theorem dX9_rallies_151 : decode cX9_rallies 151 = .ok (.istore 4, 2) := dk_54 4 (dk_at dksX9_rallies_6 11 rfl rfl)
theorem dX9_rallies_153 : decode cX9_rallies 153 = .ok (.iload_n 1, 1) := dk_27 (dk_at dksX9_rallies_6 13 rfl rfl)
theorem dX9_rallies_154 : decode cX9_rallies 154 = .ok (.iconst 2, 1) := dk_5 (dk_at dksX9_rallies_6 14 rfl rfl)
theorem dX9_rallies_155 : decode cX9_rallies 155 = .ok (.if_icmp .ge 21, 3) := dk_162 0 21 (dk_at dksX9_rallies_6 15 rfl rfl)
theorem dX9_rallies_158 : decode cX9_rallies 158 = .ok (.aload_n 0, 1) := dk_42 (dk_at dksX9_rallies_6 18 rfl rfl)
theorem dX9_rallies_159 : decode cX9_rallies 159 = .ok (.iload_n 1, 1) := dk_27 (dk_at dksX9_rallies_6 19 rfl rfl)
theorem dX9_rallies_160 : decode cX9_rallies 160 = .ok (.ifCond .ne 7, 3) := dk_154 0 7 (dk_at dksX9_rallies_6 20 rfl rfl)
theorem dX9_rallies_163 : decode cX9_rallies 163 = .ok (.iload_n 2, 1) := dk_28 (dk_at dksX9_rallies_6 23 rfl rfl)
theorem dX9_rallies_164 : decode cX9_rallies 164 = .ok (.goto 6, 3) := dk_167 0 6 (dk_at dksX9_rallies_7 0 rfl rfl)
theorem dX9_rallies_167 : decode cX9_rallies 167 = .ok (.iconst 1, 1) := dk_4 (dk_at dksX9_rallies_7 3 rfl rfl)
theorem dX9_rallies_168 : decode cX9_rallies 168 = .ok (.iload_n 2, 1) := dk_28 (dk_at dksX9_rallies_7 4 rfl rfl)
theorem dX9_rallies_169 : decode cX9_rallies 169 = .ok (.isub, 1) := dk_100 (dk_at dksX9_rallies_7 5 rfl rfl)
theorem dX9_rallies_170 : decode cX9_rallies 170 = .ok (.invokevirtual 218, 3) := dk_182 0 218 (dk_at dksX9_rallies_7 6 rfl rfl)
theorem dX9_rallies_173 : decode cX9_rallies 173 = .ok (.goto 44, 3) := dk_167 0 44 (dk_at dksX9_rallies_7 9 rfl rfl)
theorem dX9_rallies_176 : decode cX9_rallies 176 = .ok (.iload 4, 2) := dk_21 4 (dk_at dksX9_rallies_7 12 rfl rfl)
theorem dX9_rallies_178 : decode cX9_rallies 178 = .ok (.bipush 12, 2) := dk_16 12 (dk_at dksX9_rallies_7 14 rfl rfl)
theorem dX9_rallies_180 : decode cX9_rallies 180 = .ok (.if_icmp .ne 13, 3) := dk_160 0 13 (dk_at dksX9_rallies_7 16 rfl rfl)
theorem dX9_rallies_183 : decode cX9_rallies 183 = .ok (.aload_n 0, 1) := dk_42 (dk_at dksX9_rallies_7 19 rfl rfl)
theorem dX9_rallies_184 : decode cX9_rallies 184 = .ok (.iconst 1, 1) := dk_4 (dk_at dksX9_rallies_7 20 rfl rfl)
theorem dX9_rallies_185 : decode cX9_rallies 185 = .ok (.iload_n 2, 1) := dk_28 (dk_at dksX9_rallies_7 21 rfl rfl)
theorem dX9_rallies_186 : decode cX9_rallies 186 = .ok (.isub, 1) := dk_100 (dk_at dksX9_rallies_7 22 rfl rfl)
theorem dX9_rallies_187 : decode cX9_rallies 187 = .ok (.invokevirtual 218, 3) := dk_182 0 218 (dk_at dksX9_rallies_8 0 rfl rfl)
theorem dX9_rallies_190 : decode cX9_rallies 190 = .ok (.goto 27, 3) := dk_167 0 27 (dk_at dksX9_rallies_8 3 rfl rfl)
theorem dX9_rallies_193 : decode cX9_rallies 193 = .ok (.iload 4, 2) := dk_21 4 (dk_at dksX9_rallies_8 6 rfl rfl)
theorem dX9_rallies_195 : decode cX9_rallies 195 = .ok (.bipush 13, 2) := dk_16 13 (dk_at dksX9_rallies_8 8 rfl rfl)
theorem dX9_rallies_197 : decode cX9_rallies 197 = .ok (.if_icmp .eq 15, 3) := dk_159 0 15 (dk_at dksX9_rallies_8 10 rfl rfl)
theorem dX9_rallies_200 : decode cX9_rallies 200 = .ok (.aload_n 0, 1) := dk_42 (dk_at dksX9_rallies_8 13 rfl rfl)
theorem dX9_rallies_201 : decode cX9_rallies 201 = .ok (.getfield 7, 3) := dk_180 0 7 (dk_at dksX9_rallies_8 14 rfl rfl)
theorem dX9_rallies_204 : decode cX9_rallies 204 = .ok (.sipush 196, 3) := dk_17 0 196 (dk_at dksX9_rallies_8 17 rfl rfl)
theorem dX9_rallies_207 : decode cX9_rallies 207 = .ok (.iaload, 1) := dk_46 (dk_at dksX9_rallies_8 20 rfl rfl)
theorem dX9_rallies_208 : decode cX9_rallies 208 = .ok (.iconst 1, 1) := dk_4 (dk_at dksX9_rallies_8 21 rfl rfl)
theorem dX9_rallies_209 : decode cX9_rallies 209 = .ok (.if_icmp .ne 8, 3) := dk_160 0 8 (dk_at dksX9_rallies_9 0 rfl rfl)
theorem dX9_rallies_212 : decode cX9_rallies 212 = .ok (.aload_n 0, 1) := dk_42 (dk_at dksX9_rallies_9 3 rfl rfl)
theorem dX9_rallies_213 : decode cX9_rallies 213 = .ok (.iload_n 2, 1) := dk_28 (dk_at dksX9_rallies_9 4 rfl rfl)
theorem dX9_rallies_214 : decode cX9_rallies 214 = .ok (.invokevirtual 218, 3) := dk_182 0 218 (dk_at dksX9_rallies_9 5 rfl rfl)
theorem dX9_rallies_217 : decode cX9_rallies 217 = .ok (.aload_n 0, 1) := dk_42 (dk_at dksX9_rallies_9 8 rfl rfl)
theorem dX9_rallies_218 : decode cX9_rallies 218 = .ok (.invokevirtual 224, 3) := dk_182 0 224 (dk_at dksX9_rallies_9 9 rfl rfl)
theorem dX9_rallies_221 : decode cX9_rallies 221 = .ok (.return_, 1) := dk_177 (dk_at dksX9_rallies_9 12 rfl rfl)
abbrev cX9_point : ByteArray := prog_21_method_38_code
def yX9_point : MethodName := ⟨RX9, "point", "(I)V"⟩
def dkwX9_point_5 : List UInt8 := [180, 0, 7, 17, 0, 198, 46, 79, 42, 180, 0, 29, 6, 3, 79, 42, 180, 0, 29, 16, 6, 3, 79, 177]
abbrev dktX9_point_5 : List UInt8 := dkwX9_point_5 ++ []
def dkwX9_point_4 : List UInt8 := [4, 96, 79, 42, 180, 0, 29, 3, 42, 180, 0, 7, 17, 0, 197, 46, 116, 79, 42, 180, 0, 29, 4, 42]
abbrev dktX9_point_4 : List UInt8 := dkwX9_point_4 ++ dktX9_point_5
def dkwX9_point_3 : List UInt8 := [27, 100, 46, 100, 5, 162, 0, 4, 177, 42, 27, 181, 0, 215, 42, 180, 0, 29, 16, 7, 27, 96, 92, 46]
abbrev dktX9_point_3 : List UInt8 := dkwX9_point_3 ++ dktX9_point_4
def dkwX9_point_2 : List UInt8 := [4, 6, 79, 42, 180, 0, 29, 27, 46, 7, 161, 0, 22, 42, 180, 0, 29, 27, 46, 42, 180, 0, 29, 4]
abbrev dktX9_point_2 : List UInt8 := dkwX9_point_2 ++ dktX9_point_3
def dkwX9_point_1 : List UInt8 := [160, 0, 27, 42, 180, 0, 29, 4, 46, 7, 160, 0, 17, 42, 180, 0, 29, 3, 6, 79, 42, 180, 0, 29]
abbrev dktX9_point_1 : List UInt8 := dkwX9_point_1 ++ dktX9_point_2
def dkwX9_point_0 : List UInt8 := [42, 27, 181, 0, 212, 42, 180, 0, 29, 27, 92, 46, 4, 96, 79, 42, 180, 0, 29, 3, 46, 7]
abbrev dktX9_point_0 : List UInt8 := dkwX9_point_0 ++ dktX9_point_1
theorem dksX9_point_0 : cX9_point.data.toList.drop 0 = dktX9_point_0 := by decide +kernel
theorem dksX9_point_1 : cX9_point.data.toList.drop 22 = dktX9_point_1 := dk_seg dksX9_point_0 22 rfl rfl
theorem dksX9_point_2 : cX9_point.data.toList.drop 46 = dktX9_point_2 := dk_seg dksX9_point_1 24 rfl rfl
theorem dksX9_point_3 : cX9_point.data.toList.drop 70 = dktX9_point_3 := dk_seg dksX9_point_2 24 rfl rfl
theorem dksX9_point_4 : cX9_point.data.toList.drop 94 = dktX9_point_4 := dk_seg dksX9_point_3 24 rfl rfl
theorem dksX9_point_5 : cX9_point.data.toList.drop 118 = dktX9_point_5 := dk_seg dksX9_point_4 24 rfl rfl
theorem dX9_point_0 : decode cX9_point 0 = .ok (.aload_n 0, 1) := dk_42 (dk_at dksX9_point_0 0 rfl rfl)
theorem dX9_point_1 : decode cX9_point 1 = .ok (.iload_n 1, 1) := dk_27 (dk_at dksX9_point_0 1 rfl rfl)
theorem dX9_point_2 : decode cX9_point 2 = .ok (.putfield 212, 3) := dk_181 0 212 (dk_at dksX9_point_0 2 rfl rfl)
theorem dX9_point_5 : decode cX9_point 5 = .ok (.aload_n 0, 1) := dk_42 (dk_at dksX9_point_0 5 rfl rfl)
theorem dX9_point_6 : decode cX9_point 6 = .ok (.getfield 29, 3) := dk_180 0 29 (dk_at dksX9_point_0 6 rfl rfl)
theorem dX9_point_9 : decode cX9_point 9 = .ok (.iload_n 1, 1) := dk_27 (dk_at dksX9_point_0 9 rfl rfl)
theorem dX9_point_10 : decode cX9_point 10 = .ok (.dup2, 1) := dk_92 (dk_at dksX9_point_0 10 rfl rfl)
theorem dX9_point_11 : decode cX9_point 11 = .ok (.iaload, 1) := dk_46 (dk_at dksX9_point_0 11 rfl rfl)
theorem dX9_point_12 : decode cX9_point 12 = .ok (.iconst 1, 1) := dk_4 (dk_at dksX9_point_0 12 rfl rfl)
theorem dX9_point_13 : decode cX9_point 13 = .ok (.iadd, 1) := dk_96 (dk_at dksX9_point_0 13 rfl rfl)
theorem dX9_point_14 : decode cX9_point 14 = .ok (.iastore, 1) := dk_79 (dk_at dksX9_point_0 14 rfl rfl)
theorem dX9_point_15 : decode cX9_point 15 = .ok (.aload_n 0, 1) := dk_42 (dk_at dksX9_point_0 15 rfl rfl)
theorem dX9_point_16 : decode cX9_point 16 = .ok (.getfield 29, 3) := dk_180 0 29 (dk_at dksX9_point_0 16 rfl rfl)
theorem dX9_point_19 : decode cX9_point 19 = .ok (.iconst 0, 1) := dk_3 (dk_at dksX9_point_0 19 rfl rfl)
theorem dX9_point_20 : decode cX9_point 20 = .ok (.iaload, 1) := dk_46 (dk_at dksX9_point_0 20 rfl rfl)
theorem dX9_point_21 : decode cX9_point 21 = .ok (.iconst 4, 1) := dk_7 (dk_at dksX9_point_0 21 rfl rfl)
theorem dX9_point_22 : decode cX9_point 22 = .ok (.if_icmp .ne 27, 3) := dk_160 0 27 (dk_at dksX9_point_1 0 rfl rfl)
theorem dX9_point_25 : decode cX9_point 25 = .ok (.aload_n 0, 1) := dk_42 (dk_at dksX9_point_1 3 rfl rfl)
theorem dX9_point_26 : decode cX9_point 26 = .ok (.getfield 29, 3) := dk_180 0 29 (dk_at dksX9_point_1 4 rfl rfl)
theorem dX9_point_29 : decode cX9_point 29 = .ok (.iconst 1, 1) := dk_4 (dk_at dksX9_point_1 7 rfl rfl)
theorem dX9_point_30 : decode cX9_point 30 = .ok (.iaload, 1) := dk_46 (dk_at dksX9_point_1 8 rfl rfl)
theorem dX9_point_31 : decode cX9_point 31 = .ok (.iconst 4, 1) := dk_7 (dk_at dksX9_point_1 9 rfl rfl)
theorem dX9_point_32 : decode cX9_point 32 = .ok (.if_icmp .ne 17, 3) := dk_160 0 17 (dk_at dksX9_point_1 10 rfl rfl)
theorem dX9_point_35 : decode cX9_point 35 = .ok (.aload_n 0, 1) := dk_42 (dk_at dksX9_point_1 13 rfl rfl)
theorem dX9_point_36 : decode cX9_point 36 = .ok (.getfield 29, 3) := dk_180 0 29 (dk_at dksX9_point_1 14 rfl rfl)
theorem dX9_point_39 : decode cX9_point 39 = .ok (.iconst 0, 1) := dk_3 (dk_at dksX9_point_1 17 rfl rfl)
theorem dX9_point_40 : decode cX9_point 40 = .ok (.iconst 3, 1) := dk_6 (dk_at dksX9_point_1 18 rfl rfl)
theorem dX9_point_41 : decode cX9_point 41 = .ok (.iastore, 1) := dk_79 (dk_at dksX9_point_1 19 rfl rfl)
theorem dX9_point_42 : decode cX9_point 42 = .ok (.aload_n 0, 1) := dk_42 (dk_at dksX9_point_1 20 rfl rfl)
theorem dX9_point_43 : decode cX9_point 43 = .ok (.getfield 29, 3) := dk_180 0 29 (dk_at dksX9_point_1 21 rfl rfl)
theorem dX9_point_46 : decode cX9_point 46 = .ok (.iconst 1, 1) := dk_4 (dk_at dksX9_point_2 0 rfl rfl)
theorem dX9_point_47 : decode cX9_point 47 = .ok (.iconst 3, 1) := dk_6 (dk_at dksX9_point_2 1 rfl rfl)
theorem dX9_point_48 : decode cX9_point 48 = .ok (.iastore, 1) := dk_79 (dk_at dksX9_point_2 2 rfl rfl)
theorem dX9_point_49 : decode cX9_point 49 = .ok (.aload_n 0, 1) := dk_42 (dk_at dksX9_point_2 3 rfl rfl)
theorem dX9_point_50 : decode cX9_point 50 = .ok (.getfield 29, 3) := dk_180 0 29 (dk_at dksX9_point_2 4 rfl rfl)
theorem dX9_point_53 : decode cX9_point 53 = .ok (.iload_n 1, 1) := dk_27 (dk_at dksX9_point_2 7 rfl rfl)
theorem dX9_point_54 : decode cX9_point 54 = .ok (.iaload, 1) := dk_46 (dk_at dksX9_point_2 8 rfl rfl)
theorem dX9_point_55 : decode cX9_point 55 = .ok (.iconst 4, 1) := dk_7 (dk_at dksX9_point_2 9 rfl rfl)
theorem dX9_point_56 : decode cX9_point 56 = .ok (.if_icmp .lt 22, 3) := dk_161 0 22 (dk_at dksX9_point_2 10 rfl rfl)
theorem dX9_point_59 : decode cX9_point 59 = .ok (.aload_n 0, 1) := dk_42 (dk_at dksX9_point_2 13 rfl rfl)
theorem dX9_point_60 : decode cX9_point 60 = .ok (.getfield 29, 3) := dk_180 0 29 (dk_at dksX9_point_2 14 rfl rfl)
theorem dX9_point_63 : decode cX9_point 63 = .ok (.iload_n 1, 1) := dk_27 (dk_at dksX9_point_2 17 rfl rfl)
theorem dX9_point_64 : decode cX9_point 64 = .ok (.iaload, 1) := dk_46 (dk_at dksX9_point_2 18 rfl rfl)
theorem dX9_point_65 : decode cX9_point 65 = .ok (.aload_n 0, 1) := dk_42 (dk_at dksX9_point_2 19 rfl rfl)
theorem dX9_point_66 : decode cX9_point 66 = .ok (.getfield 29, 3) := dk_180 0 29 (dk_at dksX9_point_2 20 rfl rfl)
theorem dX9_point_69 : decode cX9_point 69 = .ok (.iconst 1, 1) := dk_4 (dk_at dksX9_point_2 23 rfl rfl)
theorem dX9_point_70 : decode cX9_point 70 = .ok (.iload_n 1, 1) := dk_27 (dk_at dksX9_point_3 0 rfl rfl)
theorem dX9_point_71 : decode cX9_point 71 = .ok (.isub, 1) := dk_100 (dk_at dksX9_point_3 1 rfl rfl)
theorem dX9_point_72 : decode cX9_point 72 = .ok (.iaload, 1) := dk_46 (dk_at dksX9_point_3 2 rfl rfl)
theorem dX9_point_73 : decode cX9_point 73 = .ok (.isub, 1) := dk_100 (dk_at dksX9_point_3 3 rfl rfl)
theorem dX9_point_74 : decode cX9_point 74 = .ok (.iconst 2, 1) := dk_5 (dk_at dksX9_point_3 4 rfl rfl)
theorem dX9_point_75 : decode cX9_point 75 = .ok (.if_icmp .ge 4, 3) := dk_162 0 4 (dk_at dksX9_point_3 5 rfl rfl)
theorem dX9_point_78 : decode cX9_point 78 = .ok (.return_, 1) := dk_177 (dk_at dksX9_point_3 8 rfl rfl)
theorem dX9_point_79 : decode cX9_point 79 = .ok (.aload_n 0, 1) := dk_42 (dk_at dksX9_point_3 9 rfl rfl)
theorem dX9_point_80 : decode cX9_point 80 = .ok (.iload_n 1, 1) := dk_27 (dk_at dksX9_point_3 10 rfl rfl)
theorem dX9_point_81 : decode cX9_point 81 = .ok (.putfield 215, 3) := dk_181 0 215 (dk_at dksX9_point_3 11 rfl rfl)
theorem dX9_point_84 : decode cX9_point 84 = .ok (.aload_n 0, 1) := dk_42 (dk_at dksX9_point_3 14 rfl rfl)
theorem dX9_point_85 : decode cX9_point 85 = .ok (.getfield 29, 3) := dk_180 0 29 (dk_at dksX9_point_3 15 rfl rfl)
theorem dX9_point_88 : decode cX9_point 88 = .ok (.bipush 7, 2) := dk_16 7 (dk_at dksX9_point_3 18 rfl rfl)
theorem dX9_point_90 : decode cX9_point 90 = .ok (.iload_n 1, 1) := dk_27 (dk_at dksX9_point_3 20 rfl rfl)
theorem dX9_point_91 : decode cX9_point 91 = .ok (.iadd, 1) := dk_96 (dk_at dksX9_point_3 21 rfl rfl)
theorem dX9_point_92 : decode cX9_point 92 = .ok (.dup2, 1) := dk_92 (dk_at dksX9_point_3 22 rfl rfl)
theorem dX9_point_93 : decode cX9_point 93 = .ok (.iaload, 1) := dk_46 (dk_at dksX9_point_3 23 rfl rfl)
theorem dX9_point_94 : decode cX9_point 94 = .ok (.iconst 1, 1) := dk_4 (dk_at dksX9_point_4 0 rfl rfl)
theorem dX9_point_95 : decode cX9_point 95 = .ok (.iadd, 1) := dk_96 (dk_at dksX9_point_4 1 rfl rfl)
theorem dX9_point_96 : decode cX9_point 96 = .ok (.iastore, 1) := dk_79 (dk_at dksX9_point_4 2 rfl rfl)
theorem dX9_point_97 : decode cX9_point 97 = .ok (.aload_n 0, 1) := dk_42 (dk_at dksX9_point_4 3 rfl rfl)
theorem dX9_point_98 : decode cX9_point 98 = .ok (.getfield 29, 3) := dk_180 0 29 (dk_at dksX9_point_4 4 rfl rfl)
theorem dX9_point_101 : decode cX9_point 101 = .ok (.iconst 0, 1) := dk_3 (dk_at dksX9_point_4 7 rfl rfl)
theorem dX9_point_102 : decode cX9_point 102 = .ok (.aload_n 0, 1) := dk_42 (dk_at dksX9_point_4 8 rfl rfl)
theorem dX9_point_103 : decode cX9_point 103 = .ok (.getfield 7, 3) := dk_180 0 7 (dk_at dksX9_point_4 9 rfl rfl)
theorem dX9_point_106 : decode cX9_point 106 = .ok (.sipush 197, 3) := dk_17 0 197 (dk_at dksX9_point_4 12 rfl rfl)
theorem dX9_point_109 : decode cX9_point 109 = .ok (.iaload, 1) := dk_46 (dk_at dksX9_point_4 15 rfl rfl)
theorem dX9_point_110 : decode cX9_point 110 = .ok (.ineg, 1) := dk_116 (dk_at dksX9_point_4 16 rfl rfl)
theorem dX9_point_111 : decode cX9_point 111 = .ok (.iastore, 1) := dk_79 (dk_at dksX9_point_4 17 rfl rfl)
theorem dX9_point_112 : decode cX9_point 112 = .ok (.aload_n 0, 1) := dk_42 (dk_at dksX9_point_4 18 rfl rfl)
theorem dX9_point_113 : decode cX9_point 113 = .ok (.getfield 29, 3) := dk_180 0 29 (dk_at dksX9_point_4 19 rfl rfl)
theorem dX9_point_116 : decode cX9_point 116 = .ok (.iconst 1, 1) := dk_4 (dk_at dksX9_point_4 22 rfl rfl)
theorem dX9_point_117 : decode cX9_point 117 = .ok (.aload_n 0, 1) := dk_42 (dk_at dksX9_point_4 23 rfl rfl)
theorem dX9_point_118 : decode cX9_point 118 = .ok (.getfield 7, 3) := dk_180 0 7 (dk_at dksX9_point_5 0 rfl rfl)
theorem dX9_point_121 : decode cX9_point 121 = .ok (.sipush 198, 3) := dk_17 0 198 (dk_at dksX9_point_5 3 rfl rfl)
theorem dX9_point_124 : decode cX9_point 124 = .ok (.iaload, 1) := dk_46 (dk_at dksX9_point_5 6 rfl rfl)
theorem dX9_point_125 : decode cX9_point 125 = .ok (.iastore, 1) := dk_79 (dk_at dksX9_point_5 7 rfl rfl)
theorem dX9_point_126 : decode cX9_point 126 = .ok (.aload_n 0, 1) := dk_42 (dk_at dksX9_point_5 8 rfl rfl)
theorem dX9_point_127 : decode cX9_point 127 = .ok (.getfield 29, 3) := dk_180 0 29 (dk_at dksX9_point_5 9 rfl rfl)
theorem dX9_point_130 : decode cX9_point 130 = .ok (.iconst 3, 1) := dk_6 (dk_at dksX9_point_5 12 rfl rfl)
theorem dX9_point_131 : decode cX9_point 131 = .ok (.iconst 0, 1) := dk_3 (dk_at dksX9_point_5 13 rfl rfl)
theorem dX9_point_132 : decode cX9_point 132 = .ok (.iastore, 1) := dk_79 (dk_at dksX9_point_5 14 rfl rfl)
theorem dX9_point_133 : decode cX9_point 133 = .ok (.aload_n 0, 1) := dk_42 (dk_at dksX9_point_5 15 rfl rfl)
theorem dX9_point_134 : decode cX9_point 134 = .ok (.getfield 29, 3) := dk_180 0 29 (dk_at dksX9_point_5 16 rfl rfl)
theorem dX9_point_137 : decode cX9_point 137 = .ok (.bipush 6, 2) := dk_16 6 (dk_at dksX9_point_5 19 rfl rfl)
theorem dX9_point_139 : decode cX9_point 139 = .ok (.iconst 0, 1) := dk_3 (dk_at dksX9_point_5 21 rfl rfl)
theorem dX9_point_140 : decode cX9_point 140 = .ok (.iastore, 1) := dk_79 (dk_at dksX9_point_5 22 rfl rfl)
theorem dX9_point_141 : decode cX9_point 141 = .ok (.return_, 1) := dk_177 (dk_at dksX9_point_5 23 rfl rfl)
abbrev cX9_changes : ByteArray := prog_21_method_39_code
def yX9_changes : MethodName := ⟨RX9, "changes", "()V"⟩
def dkwX9_changes_3 : List UInt8 := [180, 0, 29, 5, 4, 42, 180, 0, 29, 5, 46, 100, 79, 42, 180, 0, 29, 16, 6, 4, 79, 177]
abbrev dktX9_changes_3 : List UInt8 := dkwX9_changes_3 ++ []
def dkwX9_changes_2 : List UInt8 := [154, 0, 11, 42, 4, 182, 0, 206, 153, 0, 7, 4, 167, 0, 4, 3, 60, 27, 154, 0, 4, 177, 42]
abbrev dktX9_changes_2 : List UInt8 := dkwX9_changes_2 ++ dktX9_changes_3
def dkwX9_changes_1 : List UInt8 := [17, 0, 195, 46, 4, 159, 0, 30, 42, 180, 0, 7, 17, 0, 195, 46, 154, 0, 23, 42, 3, 182, 0, 206]
abbrev dktX9_changes_1 : List UInt8 := dkwX9_changes_1 ++ dktX9_changes_2
def dkwX9_changes_0 : List UInt8 := [42, 180, 0, 29, 6, 46, 154, 0, 4, 177, 42, 180, 0, 29, 6, 46, 5, 159, 0, 42, 42, 180, 0, 7]
abbrev dktX9_changes_0 : List UInt8 := dkwX9_changes_0 ++ dktX9_changes_1
theorem dksX9_changes_0 : cX9_changes.data.toList.drop 0 = dktX9_changes_0 := by decide +kernel
theorem dksX9_changes_1 : cX9_changes.data.toList.drop 24 = dktX9_changes_1 := dk_seg dksX9_changes_0 24 rfl rfl
theorem dksX9_changes_2 : cX9_changes.data.toList.drop 48 = dktX9_changes_2 := dk_seg dksX9_changes_1 24 rfl rfl
theorem dksX9_changes_3 : cX9_changes.data.toList.drop 71 = dktX9_changes_3 := dk_seg dksX9_changes_2 23 rfl rfl
theorem dX9_changes_0 : decode cX9_changes 0 = .ok (.aload_n 0, 1) := dk_42 (dk_at dksX9_changes_0 0 rfl rfl)
theorem dX9_changes_1 : decode cX9_changes 1 = .ok (.getfield 29, 3) := dk_180 0 29 (dk_at dksX9_changes_0 1 rfl rfl)
theorem dX9_changes_4 : decode cX9_changes 4 = .ok (.iconst 3, 1) := dk_6 (dk_at dksX9_changes_0 4 rfl rfl)
theorem dX9_changes_5 : decode cX9_changes 5 = .ok (.iaload, 1) := dk_46 (dk_at dksX9_changes_0 5 rfl rfl)
theorem dX9_changes_6 : decode cX9_changes 6 = .ok (.ifCond .ne 4, 3) := dk_154 0 4 (dk_at dksX9_changes_0 6 rfl rfl)
theorem dX9_changes_9 : decode cX9_changes 9 = .ok (.return_, 1) := dk_177 (dk_at dksX9_changes_0 9 rfl rfl)
theorem dX9_changes_10 : decode cX9_changes 10 = .ok (.aload_n 0, 1) := dk_42 (dk_at dksX9_changes_0 10 rfl rfl)
theorem dX9_changes_11 : decode cX9_changes 11 = .ok (.getfield 29, 3) := dk_180 0 29 (dk_at dksX9_changes_0 11 rfl rfl)
theorem dX9_changes_14 : decode cX9_changes 14 = .ok (.iconst 3, 1) := dk_6 (dk_at dksX9_changes_0 14 rfl rfl)
theorem dX9_changes_15 : decode cX9_changes 15 = .ok (.iaload, 1) := dk_46 (dk_at dksX9_changes_0 15 rfl rfl)
theorem dX9_changes_16 : decode cX9_changes 16 = .ok (.iconst 2, 1) := dk_5 (dk_at dksX9_changes_0 16 rfl rfl)
theorem dX9_changes_17 : decode cX9_changes 17 = .ok (.if_icmp .eq 42, 3) := dk_159 0 42 (dk_at dksX9_changes_0 17 rfl rfl)
theorem dX9_changes_20 : decode cX9_changes 20 = .ok (.aload_n 0, 1) := dk_42 (dk_at dksX9_changes_0 20 rfl rfl)
theorem dX9_changes_21 : decode cX9_changes 21 = .ok (.getfield 7, 3) := dk_180 0 7 (dk_at dksX9_changes_0 21 rfl rfl)
theorem dX9_changes_24 : decode cX9_changes 24 = .ok (.sipush 195, 3) := dk_17 0 195 (dk_at dksX9_changes_1 0 rfl rfl)
theorem dX9_changes_27 : decode cX9_changes 27 = .ok (.iaload, 1) := dk_46 (dk_at dksX9_changes_1 3 rfl rfl)
theorem dX9_changes_28 : decode cX9_changes 28 = .ok (.iconst 1, 1) := dk_4 (dk_at dksX9_changes_1 4 rfl rfl)
theorem dX9_changes_29 : decode cX9_changes 29 = .ok (.if_icmp .eq 30, 3) := dk_159 0 30 (dk_at dksX9_changes_1 5 rfl rfl)
theorem dX9_changes_32 : decode cX9_changes 32 = .ok (.aload_n 0, 1) := dk_42 (dk_at dksX9_changes_1 8 rfl rfl)
theorem dX9_changes_33 : decode cX9_changes 33 = .ok (.getfield 7, 3) := dk_180 0 7 (dk_at dksX9_changes_1 9 rfl rfl)
theorem dX9_changes_36 : decode cX9_changes 36 = .ok (.sipush 195, 3) := dk_17 0 195 (dk_at dksX9_changes_1 12 rfl rfl)
theorem dX9_changes_39 : decode cX9_changes 39 = .ok (.iaload, 1) := dk_46 (dk_at dksX9_changes_1 15 rfl rfl)
theorem dX9_changes_40 : decode cX9_changes 40 = .ok (.ifCond .ne 23, 3) := dk_154 0 23 (dk_at dksX9_changes_1 16 rfl rfl)
theorem dX9_changes_43 : decode cX9_changes 43 = .ok (.aload_n 0, 1) := dk_42 (dk_at dksX9_changes_1 19 rfl rfl)
theorem dX9_changes_44 : decode cX9_changes 44 = .ok (.iconst 0, 1) := dk_3 (dk_at dksX9_changes_1 20 rfl rfl)
theorem dX9_changes_45 : decode cX9_changes 45 = .ok (.invokevirtual 206, 3) := dk_182 0 206 (dk_at dksX9_changes_1 21 rfl rfl)
theorem dX9_changes_48 : decode cX9_changes 48 = .ok (.ifCond .ne 11, 3) := dk_154 0 11 (dk_at dksX9_changes_2 0 rfl rfl)
theorem dX9_changes_51 : decode cX9_changes 51 = .ok (.aload_n 0, 1) := dk_42 (dk_at dksX9_changes_2 3 rfl rfl)
theorem dX9_changes_52 : decode cX9_changes 52 = .ok (.iconst 1, 1) := dk_4 (dk_at dksX9_changes_2 4 rfl rfl)
theorem dX9_changes_53 : decode cX9_changes 53 = .ok (.invokevirtual 206, 3) := dk_182 0 206 (dk_at dksX9_changes_2 5 rfl rfl)
theorem dX9_changes_56 : decode cX9_changes 56 = .ok (.ifCond .eq 7, 3) := dk_153 0 7 (dk_at dksX9_changes_2 8 rfl rfl)
theorem dX9_changes_59 : decode cX9_changes 59 = .ok (.iconst 1, 1) := dk_4 (dk_at dksX9_changes_2 11 rfl rfl)
theorem dX9_changes_60 : decode cX9_changes 60 = .ok (.goto 4, 3) := dk_167 0 4 (dk_at dksX9_changes_2 12 rfl rfl)
theorem dX9_changes_63 : decode cX9_changes 63 = .ok (.iconst 0, 1) := dk_3 (dk_at dksX9_changes_2 15 rfl rfl)
theorem dX9_changes_64 : decode cX9_changes 64 = .ok (.istore_n 1, 1) := dk_60 (dk_at dksX9_changes_2 16 rfl rfl)
theorem dX9_changes_65 : decode cX9_changes 65 = .ok (.iload_n 1, 1) := dk_27 (dk_at dksX9_changes_2 17 rfl rfl)
theorem dX9_changes_66 : decode cX9_changes 66 = .ok (.ifCond .ne 4, 3) := dk_154 0 4 (dk_at dksX9_changes_2 18 rfl rfl)
theorem dX9_changes_69 : decode cX9_changes 69 = .ok (.return_, 1) := dk_177 (dk_at dksX9_changes_2 21 rfl rfl)
theorem dX9_changes_70 : decode cX9_changes 70 = .ok (.aload_n 0, 1) := dk_42 (dk_at dksX9_changes_2 22 rfl rfl)
theorem dX9_changes_71 : decode cX9_changes 71 = .ok (.getfield 29, 3) := dk_180 0 29 (dk_at dksX9_changes_3 0 rfl rfl)
theorem dX9_changes_74 : decode cX9_changes 74 = .ok (.iconst 2, 1) := dk_5 (dk_at dksX9_changes_3 3 rfl rfl)
theorem dX9_changes_75 : decode cX9_changes 75 = .ok (.iconst 1, 1) := dk_4 (dk_at dksX9_changes_3 4 rfl rfl)
theorem dX9_changes_76 : decode cX9_changes 76 = .ok (.aload_n 0, 1) := dk_42 (dk_at dksX9_changes_3 5 rfl rfl)
theorem dX9_changes_77 : decode cX9_changes 77 = .ok (.getfield 29, 3) := dk_180 0 29 (dk_at dksX9_changes_3 6 rfl rfl)
theorem dX9_changes_80 : decode cX9_changes 80 = .ok (.iconst 2, 1) := dk_5 (dk_at dksX9_changes_3 9 rfl rfl)
theorem dX9_changes_81 : decode cX9_changes 81 = .ok (.iaload, 1) := dk_46 (dk_at dksX9_changes_3 10 rfl rfl)
theorem dX9_changes_82 : decode cX9_changes 82 = .ok (.isub, 1) := dk_100 (dk_at dksX9_changes_3 11 rfl rfl)
theorem dX9_changes_83 : decode cX9_changes 83 = .ok (.iastore, 1) := dk_79 (dk_at dksX9_changes_3 12 rfl rfl)
theorem dX9_changes_84 : decode cX9_changes 84 = .ok (.aload_n 0, 1) := dk_42 (dk_at dksX9_changes_3 13 rfl rfl)
theorem dX9_changes_85 : decode cX9_changes 85 = .ok (.getfield 29, 3) := dk_180 0 29 (dk_at dksX9_changes_3 14 rfl rfl)
theorem dX9_changes_88 : decode cX9_changes 88 = .ok (.bipush 6, 2) := dk_16 6 (dk_at dksX9_changes_3 17 rfl rfl)
theorem dX9_changes_90 : decode cX9_changes 90 = .ok (.iconst 1, 1) := dk_4 (dk_at dksX9_changes_3 19 rfl rfl)
theorem dX9_changes_91 : decode cX9_changes 91 = .ok (.iastore, 1) := dk_79 (dk_at dksX9_changes_3 20 rfl rfl)
theorem dX9_changes_92 : decode cX9_changes 92 = .ok (.return_, 1) := dk_177 (dk_at dksX9_changes_3 21 rfl rfl)
abbrev cX9_gone : ByteArray := prog_21_method_40_code
def yX9_gone : MethodName := ⟨RX9, "gone", "()V"⟩
def dkwX9_gone_2 : List UInt8 := [158, 0, 7, 4, 167, 0, 4, 3, 79, 177]
abbrev dktX9_gone_2 : List UInt8 := dkwX9_gone_2 ++ []
def dkwX9_gone_1 : List UInt8 := [180, 0, 29, 7, 42, 180, 0, 29, 8, 46, 79, 42, 180, 0, 29, 16, 6, 42, 180, 0, 29, 6, 46]
abbrev dktX9_gone_1 : List UInt8 := dkwX9_gone_1 ++ dktX9_gone_2
def dkwX9_gone_0 : List UInt8 := [42, 180, 0, 29, 16, 6, 46, 154, 0, 4, 177, 42, 180, 0, 29, 6, 92, 46, 4, 100, 79, 42]
abbrev dktX9_gone_0 : List UInt8 := dkwX9_gone_0 ++ dktX9_gone_1
theorem dksX9_gone_0 : cX9_gone.data.toList.drop 0 = dktX9_gone_0 := by decide +kernel
theorem dksX9_gone_1 : cX9_gone.data.toList.drop 22 = dktX9_gone_1 := dk_seg dksX9_gone_0 22 rfl rfl
theorem dksX9_gone_2 : cX9_gone.data.toList.drop 45 = dktX9_gone_2 := dk_seg dksX9_gone_1 23 rfl rfl
theorem dX9_gone_0 : decode cX9_gone 0 = .ok (.aload_n 0, 1) := dk_42 (dk_at dksX9_gone_0 0 rfl rfl)
theorem dX9_gone_1 : decode cX9_gone 1 = .ok (.getfield 29, 3) := dk_180 0 29 (dk_at dksX9_gone_0 1 rfl rfl)
theorem dX9_gone_4 : decode cX9_gone 4 = .ok (.bipush 6, 2) := dk_16 6 (dk_at dksX9_gone_0 4 rfl rfl)
theorem dX9_gone_6 : decode cX9_gone 6 = .ok (.iaload, 1) := dk_46 (dk_at dksX9_gone_0 6 rfl rfl)
theorem dX9_gone_7 : decode cX9_gone 7 = .ok (.ifCond .ne 4, 3) := dk_154 0 4 (dk_at dksX9_gone_0 7 rfl rfl)
theorem dX9_gone_10 : decode cX9_gone 10 = .ok (.return_, 1) := dk_177 (dk_at dksX9_gone_0 10 rfl rfl)
theorem dX9_gone_11 : decode cX9_gone 11 = .ok (.aload_n 0, 1) := dk_42 (dk_at dksX9_gone_0 11 rfl rfl)
theorem dX9_gone_12 : decode cX9_gone 12 = .ok (.getfield 29, 3) := dk_180 0 29 (dk_at dksX9_gone_0 12 rfl rfl)
theorem dX9_gone_15 : decode cX9_gone 15 = .ok (.iconst 3, 1) := dk_6 (dk_at dksX9_gone_0 15 rfl rfl)
theorem dX9_gone_16 : decode cX9_gone 16 = .ok (.dup2, 1) := dk_92 (dk_at dksX9_gone_0 16 rfl rfl)
theorem dX9_gone_17 : decode cX9_gone 17 = .ok (.iaload, 1) := dk_46 (dk_at dksX9_gone_0 17 rfl rfl)
theorem dX9_gone_18 : decode cX9_gone 18 = .ok (.iconst 1, 1) := dk_4 (dk_at dksX9_gone_0 18 rfl rfl)
theorem dX9_gone_19 : decode cX9_gone 19 = .ok (.isub, 1) := dk_100 (dk_at dksX9_gone_0 19 rfl rfl)
theorem dX9_gone_20 : decode cX9_gone 20 = .ok (.iastore, 1) := dk_79 (dk_at dksX9_gone_0 20 rfl rfl)
theorem dX9_gone_21 : decode cX9_gone 21 = .ok (.aload_n 0, 1) := dk_42 (dk_at dksX9_gone_0 21 rfl rfl)
theorem dX9_gone_22 : decode cX9_gone 22 = .ok (.getfield 29, 3) := dk_180 0 29 (dk_at dksX9_gone_1 0 rfl rfl)
theorem dX9_gone_25 : decode cX9_gone 25 = .ok (.iconst 4, 1) := dk_7 (dk_at dksX9_gone_1 3 rfl rfl)
theorem dX9_gone_26 : decode cX9_gone 26 = .ok (.aload_n 0, 1) := dk_42 (dk_at dksX9_gone_1 4 rfl rfl)
theorem dX9_gone_27 : decode cX9_gone 27 = .ok (.getfield 29, 3) := dk_180 0 29 (dk_at dksX9_gone_1 5 rfl rfl)
theorem dX9_gone_30 : decode cX9_gone 30 = .ok (.iconst 5, 1) := dk_8 (dk_at dksX9_gone_1 8 rfl rfl)
theorem dX9_gone_31 : decode cX9_gone 31 = .ok (.iaload, 1) := dk_46 (dk_at dksX9_gone_1 9 rfl rfl)
theorem dX9_gone_32 : decode cX9_gone 32 = .ok (.iastore, 1) := dk_79 (dk_at dksX9_gone_1 10 rfl rfl)
theorem dX9_gone_33 : decode cX9_gone 33 = .ok (.aload_n 0, 1) := dk_42 (dk_at dksX9_gone_1 11 rfl rfl)
theorem dX9_gone_34 : decode cX9_gone 34 = .ok (.getfield 29, 3) := dk_180 0 29 (dk_at dksX9_gone_1 12 rfl rfl)
theorem dX9_gone_37 : decode cX9_gone 37 = .ok (.bipush 6, 2) := dk_16 6 (dk_at dksX9_gone_1 15 rfl rfl)
theorem dX9_gone_39 : decode cX9_gone 39 = .ok (.aload_n 0, 1) := dk_42 (dk_at dksX9_gone_1 17 rfl rfl)
theorem dX9_gone_40 : decode cX9_gone 40 = .ok (.getfield 29, 3) := dk_180 0 29 (dk_at dksX9_gone_1 18 rfl rfl)
theorem dX9_gone_43 : decode cX9_gone 43 = .ok (.iconst 3, 1) := dk_6 (dk_at dksX9_gone_1 21 rfl rfl)
theorem dX9_gone_44 : decode cX9_gone 44 = .ok (.iaload, 1) := dk_46 (dk_at dksX9_gone_1 22 rfl rfl)
theorem dX9_gone_45 : decode cX9_gone 45 = .ok (.ifCond .le 7, 3) := dk_158 0 7 (dk_at dksX9_gone_2 0 rfl rfl)
theorem dX9_gone_48 : decode cX9_gone 48 = .ok (.iconst 1, 1) := dk_4 (dk_at dksX9_gone_2 3 rfl rfl)
theorem dX9_gone_49 : decode cX9_gone 49 = .ok (.goto 4, 3) := dk_167 0 4 (dk_at dksX9_gone_2 4 rfl rfl)
theorem dX9_gone_52 : decode cX9_gone 52 = .ok (.iconst 0, 1) := dk_3 (dk_at dksX9_gone_2 7 rfl rfl)
theorem dX9_gone_53 : decode cX9_gone 53 = .ok (.iastore, 1) := dk_79 (dk_at dksX9_gone_2 8 rfl rfl)
theorem dX9_gone_54 : decode cX9_gone 54 = .ok (.return_, 1) := dk_177 (dk_at dksX9_gone_2 9 rfl rfl)
abbrev cX9_puts : ByteArray := prog_21_method_29_code
def yX9_puts : MethodName := ⟨RX9, "puts", "()V"⟩
def dkwX9_puts_1 : List UInt8 := [132, 1, 1, 167, 255, 231, 177]
abbrev dktX9_puts_1 : List UInt8 := dkwX9_puts_1 ++ []
def dkwX9_puts_0 : List UInt8 := [3, 60, 27, 16, 9, 162, 0, 25, 42, 180, 0, 7, 17, 0, 201, 27, 96, 42, 180, 0, 29, 27, 46, 79]
abbrev dktX9_puts_0 : List UInt8 := dkwX9_puts_0 ++ dktX9_puts_1
theorem dksX9_puts_0 : cX9_puts.data.toList.drop 0 = dktX9_puts_0 := by decide +kernel
theorem dksX9_puts_1 : cX9_puts.data.toList.drop 24 = dktX9_puts_1 := dk_seg dksX9_puts_0 24 rfl rfl
theorem dX9_puts_0 : decode cX9_puts 0 = .ok (.iconst 0, 1) := dk_3 (dk_at dksX9_puts_0 0 rfl rfl)
theorem dX9_puts_1 : decode cX9_puts 1 = .ok (.istore_n 1, 1) := dk_60 (dk_at dksX9_puts_0 1 rfl rfl)
theorem dX9_puts_2 : decode cX9_puts 2 = .ok (.iload_n 1, 1) := dk_27 (dk_at dksX9_puts_0 2 rfl rfl)
theorem dX9_puts_3 : decode cX9_puts 3 = .ok (.bipush 9, 2) := dk_16 9 (dk_at dksX9_puts_0 3 rfl rfl)
theorem dX9_puts_5 : decode cX9_puts 5 = .ok (.if_icmp .ge 25, 3) := dk_162 0 25 (dk_at dksX9_puts_0 5 rfl rfl)
theorem dX9_puts_8 : decode cX9_puts 8 = .ok (.aload_n 0, 1) := dk_42 (dk_at dksX9_puts_0 8 rfl rfl)
theorem dX9_puts_9 : decode cX9_puts 9 = .ok (.getfield 7, 3) := dk_180 0 7 (dk_at dksX9_puts_0 9 rfl rfl)
theorem dX9_puts_12 : decode cX9_puts 12 = .ok (.sipush 201, 3) := dk_17 0 201 (dk_at dksX9_puts_0 12 rfl rfl)
theorem dX9_puts_15 : decode cX9_puts 15 = .ok (.iload_n 1, 1) := dk_27 (dk_at dksX9_puts_0 15 rfl rfl)
theorem dX9_puts_16 : decode cX9_puts 16 = .ok (.iadd, 1) := dk_96 (dk_at dksX9_puts_0 16 rfl rfl)
theorem dX9_puts_17 : decode cX9_puts 17 = .ok (.aload_n 0, 1) := dk_42 (dk_at dksX9_puts_0 17 rfl rfl)
theorem dX9_puts_18 : decode cX9_puts 18 = .ok (.getfield 29, 3) := dk_180 0 29 (dk_at dksX9_puts_0 18 rfl rfl)
theorem dX9_puts_21 : decode cX9_puts 21 = .ok (.iload_n 1, 1) := dk_27 (dk_at dksX9_puts_0 21 rfl rfl)
theorem dX9_puts_22 : decode cX9_puts 22 = .ok (.iaload, 1) := dk_46 (dk_at dksX9_puts_0 22 rfl rfl)
theorem dX9_puts_23 : decode cX9_puts 23 = .ok (.iastore, 1) := dk_79 (dk_at dksX9_puts_0 23 rfl rfl)
theorem dX9_puts_24 : decode cX9_puts 24 = .ok (.iinc 1 1, 3) := dk_132 1 1 (dk_at dksX9_puts_1 0 rfl rfl)
theorem dX9_puts_27 : decode cX9_puts 27 = .ok (.goto (-25), 3) := dk_167 255 231 (dk_at dksX9_puts_1 3 rfl rfl)
theorem dX9_puts_30 : decode cX9_puts 30 = .ok (.return_, 1) := dk_177 (dk_at dksX9_puts_1 6 rfl rfl)
abbrev cX9_bisque : ByteArray := prog_21_method_44_code
def yX9_bisque : MethodName := ⟨RX9, "bisque", "(I)Z"⟩
def dkwX9_bisque_2 : List UInt8 := [182, 0, 233, 42, 180, 0, 215, 2, 159, 0, 7, 4, 167, 0, 4, 3, 172]
abbrev dktX9_bisque_2 : List UInt8 := dkwX9_bisque_2 ++ []
def dkwX9_bisque_1 : List UInt8 := [167, 0, 4, 3, 181, 0, 67, 42, 180, 0, 67, 158, 0, 5, 3, 172, 42, 27, 182, 0, 236, 42]
abbrev dktX9_bisque_1 : List UInt8 := dkwX9_bisque_1 ++ dktX9_bisque_2
def dkwX9_bisque_0 : List UInt8 := [42, 182, 0, 200, 42, 27, 184, 0, 197, 154, 0, 7, 4, 167, 0, 15, 42, 182, 0, 227, 153, 0, 7, 5]
abbrev dktX9_bisque_0 : List UInt8 := dkwX9_bisque_0 ++ dktX9_bisque_1
theorem dksX9_bisque_0 : cX9_bisque.data.toList.drop 0 = dktX9_bisque_0 := by decide +kernel
theorem dksX9_bisque_1 : cX9_bisque.data.toList.drop 24 = dktX9_bisque_1 := dk_seg dksX9_bisque_0 24 rfl rfl
theorem dksX9_bisque_2 : cX9_bisque.data.toList.drop 46 = dktX9_bisque_2 := dk_seg dksX9_bisque_1 22 rfl rfl
theorem dX9_bisque_0 : decode cX9_bisque 0 = .ok (.aload_n 0, 1) := dk_42 (dk_at dksX9_bisque_0 0 rfl rfl)
theorem dX9_bisque_1 : decode cX9_bisque 1 = .ok (.invokevirtual 200, 3) := dk_182 0 200 (dk_at dksX9_bisque_0 1 rfl rfl)
theorem dX9_bisque_4 : decode cX9_bisque 4 = .ok (.aload_n 0, 1) := dk_42 (dk_at dksX9_bisque_0 4 rfl rfl)
theorem dX9_bisque_5 : decode cX9_bisque 5 = .ok (.iload_n 1, 1) := dk_27 (dk_at dksX9_bisque_0 5 rfl rfl)
theorem dX9_bisque_6 : decode cX9_bisque 6 = .ok (.invokestatic 197, 3) := dk_184 0 197 (dk_at dksX9_bisque_0 6 rfl rfl)
theorem dX9_bisque_9 : decode cX9_bisque 9 = .ok (.ifCond .ne 7, 3) := dk_154 0 7 (dk_at dksX9_bisque_0 9 rfl rfl)
theorem dX9_bisque_12 : decode cX9_bisque 12 = .ok (.iconst 1, 1) := dk_4 (dk_at dksX9_bisque_0 12 rfl rfl)
theorem dX9_bisque_13 : decode cX9_bisque 13 = .ok (.goto 15, 3) := dk_167 0 15 (dk_at dksX9_bisque_0 13 rfl rfl)
theorem dX9_bisque_16 : decode cX9_bisque 16 = .ok (.aload_n 0, 1) := dk_42 (dk_at dksX9_bisque_0 16 rfl rfl)
theorem dX9_bisque_17 : decode cX9_bisque 17 = .ok (.invokevirtual 227, 3) := dk_182 0 227 (dk_at dksX9_bisque_0 17 rfl rfl)
theorem dX9_bisque_20 : decode cX9_bisque 20 = .ok (.ifCond .eq 7, 3) := dk_153 0 7 (dk_at dksX9_bisque_0 20 rfl rfl)
theorem dX9_bisque_23 : decode cX9_bisque 23 = .ok (.iconst 2, 1) := dk_5 (dk_at dksX9_bisque_0 23 rfl rfl)
theorem dX9_bisque_24 : decode cX9_bisque 24 = .ok (.goto 4, 3) := dk_167 0 4 (dk_at dksX9_bisque_1 0 rfl rfl)
theorem dX9_bisque_27 : decode cX9_bisque 27 = .ok (.iconst 0, 1) := dk_3 (dk_at dksX9_bisque_1 3 rfl rfl)
theorem dX9_bisque_28 : decode cX9_bisque 28 = .ok (.putfield 67, 3) := dk_181 0 67 (dk_at dksX9_bisque_1 4 rfl rfl)
theorem dX9_bisque_31 : decode cX9_bisque 31 = .ok (.aload_n 0, 1) := dk_42 (dk_at dksX9_bisque_1 7 rfl rfl)
theorem dX9_bisque_32 : decode cX9_bisque 32 = .ok (.getfield 67, 3) := dk_180 0 67 (dk_at dksX9_bisque_1 8 rfl rfl)
theorem dX9_bisque_35 : decode cX9_bisque 35 = .ok (.ifCond .le 5, 3) := dk_158 0 5 (dk_at dksX9_bisque_1 11 rfl rfl)
theorem dX9_bisque_38 : decode cX9_bisque 38 = .ok (.iconst 0, 1) := dk_3 (dk_at dksX9_bisque_1 14 rfl rfl)
theorem dX9_bisque_39 : decode cX9_bisque 39 = .ok (.ireturn, 1) := dk_172 (dk_at dksX9_bisque_1 15 rfl rfl)
theorem dX9_bisque_40 : decode cX9_bisque 40 = .ok (.aload_n 0, 1) := dk_42 (dk_at dksX9_bisque_1 16 rfl rfl)
theorem dX9_bisque_41 : decode cX9_bisque 41 = .ok (.iload_n 1, 1) := dk_27 (dk_at dksX9_bisque_1 17 rfl rfl)
theorem dX9_bisque_42 : decode cX9_bisque 42 = .ok (.invokevirtual 236, 3) := dk_182 0 236 (dk_at dksX9_bisque_1 18 rfl rfl)
theorem dX9_bisque_45 : decode cX9_bisque 45 = .ok (.aload_n 0, 1) := dk_42 (dk_at dksX9_bisque_1 21 rfl rfl)
theorem dX9_bisque_46 : decode cX9_bisque 46 = .ok (.invokevirtual 233, 3) := dk_182 0 233 (dk_at dksX9_bisque_2 0 rfl rfl)
theorem dX9_bisque_49 : decode cX9_bisque 49 = .ok (.aload_n 0, 1) := dk_42 (dk_at dksX9_bisque_2 3 rfl rfl)
theorem dX9_bisque_50 : decode cX9_bisque 50 = .ok (.getfield 215, 3) := dk_180 0 215 (dk_at dksX9_bisque_2 4 rfl rfl)
theorem dX9_bisque_53 : decode cX9_bisque 53 = .ok (.iconst (-1), 1) := dk_2 (dk_at dksX9_bisque_2 7 rfl rfl)
theorem dX9_bisque_54 : decode cX9_bisque 54 = .ok (.if_icmp .eq 7, 3) := dk_159 0 7 (dk_at dksX9_bisque_2 8 rfl rfl)
theorem dX9_bisque_57 : decode cX9_bisque 57 = .ok (.iconst 1, 1) := dk_4 (dk_at dksX9_bisque_2 11 rfl rfl)
theorem dX9_bisque_58 : decode cX9_bisque 58 = .ok (.goto 4, 3) := dk_167 0 4 (dk_at dksX9_bisque_2 12 rfl rfl)
theorem dX9_bisque_61 : decode cX9_bisque 61 = .ok (.iconst 0, 1) := dk_3 (dk_at dksX9_bisque_2 15 rfl rfl)
theorem dX9_bisque_62 : decode cX9_bisque 62 = .ok (.ireturn, 1) := dk_172 (dk_at dksX9_bisque_2 16 rfl rfl)
abbrev cX9_takesBisque : ByteArray := prog_21_method_43_code
def yX9_takesBisque : MethodName := ⟨RX9, "takesBisque", "(I)V"⟩
def dkwX9_takesBisque_1 : List UInt8 := [182, 0, 218, 28, 154, 0, 7, 42, 182, 0, 221, 177]
abbrev dktX9_takesBisque_1 : List UInt8 := dkwX9_takesBisque_1 ++ []
def dkwX9_takesBisque_0 : List UInt8 := [42, 2, 181, 0, 215, 42, 180, 0, 29, 16, 6, 46, 4, 160, 0, 7, 4, 167, 0, 4, 3, 61, 42, 27]
abbrev dktX9_takesBisque_0 : List UInt8 := dkwX9_takesBisque_0 ++ dktX9_takesBisque_1
theorem dksX9_takesBisque_0 : cX9_takesBisque.data.toList.drop 0 = dktX9_takesBisque_0 := by decide +kernel
theorem dksX9_takesBisque_1 : cX9_takesBisque.data.toList.drop 24 = dktX9_takesBisque_1 := dk_seg dksX9_takesBisque_0 24 rfl rfl
theorem dX9_takesBisque_0 : decode cX9_takesBisque 0 = .ok (.aload_n 0, 1) := dk_42 (dk_at dksX9_takesBisque_0 0 rfl rfl)
theorem dX9_takesBisque_1 : decode cX9_takesBisque 1 = .ok (.iconst (-1), 1) := dk_2 (dk_at dksX9_takesBisque_0 1 rfl rfl)
theorem dX9_takesBisque_2 : decode cX9_takesBisque 2 = .ok (.putfield 215, 3) := dk_181 0 215 (dk_at dksX9_takesBisque_0 2 rfl rfl)
theorem dX9_takesBisque_5 : decode cX9_takesBisque 5 = .ok (.aload_n 0, 1) := dk_42 (dk_at dksX9_takesBisque_0 5 rfl rfl)
theorem dX9_takesBisque_6 : decode cX9_takesBisque 6 = .ok (.getfield 29, 3) := dk_180 0 29 (dk_at dksX9_takesBisque_0 6 rfl rfl)
theorem dX9_takesBisque_9 : decode cX9_takesBisque 9 = .ok (.bipush 6, 2) := dk_16 6 (dk_at dksX9_takesBisque_0 9 rfl rfl)
theorem dX9_takesBisque_11 : decode cX9_takesBisque 11 = .ok (.iaload, 1) := dk_46 (dk_at dksX9_takesBisque_0 11 rfl rfl)
theorem dX9_takesBisque_12 : decode cX9_takesBisque 12 = .ok (.iconst 1, 1) := dk_4 (dk_at dksX9_takesBisque_0 12 rfl rfl)
theorem dX9_takesBisque_13 : decode cX9_takesBisque 13 = .ok (.if_icmp .ne 7, 3) := dk_160 0 7 (dk_at dksX9_takesBisque_0 13 rfl rfl)
theorem dX9_takesBisque_16 : decode cX9_takesBisque 16 = .ok (.iconst 1, 1) := dk_4 (dk_at dksX9_takesBisque_0 16 rfl rfl)
theorem dX9_takesBisque_17 : decode cX9_takesBisque 17 = .ok (.goto 4, 3) := dk_167 0 4 (dk_at dksX9_takesBisque_0 17 rfl rfl)
theorem dX9_takesBisque_20 : decode cX9_takesBisque 20 = .ok (.iconst 0, 1) := dk_3 (dk_at dksX9_takesBisque_0 20 rfl rfl)
theorem dX9_takesBisque_21 : decode cX9_takesBisque 21 = .ok (.istore_n 2, 1) := dk_61 (dk_at dksX9_takesBisque_0 21 rfl rfl)
theorem dX9_takesBisque_22 : decode cX9_takesBisque 22 = .ok (.aload_n 0, 1) := dk_42 (dk_at dksX9_takesBisque_0 22 rfl rfl)
theorem dX9_takesBisque_23 : decode cX9_takesBisque 23 = .ok (.iload_n 1, 1) := dk_27 (dk_at dksX9_takesBisque_0 23 rfl rfl)
theorem dX9_takesBisque_24 : decode cX9_takesBisque 24 = .ok (.invokevirtual 218, 3) := dk_182 0 218 (dk_at dksX9_takesBisque_1 0 rfl rfl)
theorem dX9_takesBisque_27 : decode cX9_takesBisque 27 = .ok (.iload_n 2, 1) := dk_28 (dk_at dksX9_takesBisque_1 3 rfl rfl)
theorem dX9_takesBisque_28 : decode cX9_takesBisque 28 = .ok (.ifCond .ne 7, 3) := dk_154 0 7 (dk_at dksX9_takesBisque_1 4 rfl rfl)
theorem dX9_takesBisque_31 : decode cX9_takesBisque 31 = .ok (.aload_n 0, 1) := dk_42 (dk_at dksX9_takesBisque_1 7 rfl rfl)
theorem dX9_takesBisque_32 : decode cX9_takesBisque 32 = .ok (.invokevirtual 221, 3) := dk_182 0 221 (dk_at dksX9_takesBisque_1 8 rfl rfl)
theorem dX9_takesBisque_35 : decode cX9_takesBisque 35 = .ok (.return_, 1) := dk_177 (dk_at dksX9_takesBisque_1 11 rfl rfl)
abbrev cX9_chance : ByteArray := prog_21_method_54_code
def yX9_chance : MethodName := ⟨RX9, "chance", "(II)I"⟩
def dkwX9_chance_1 : List UInt8 := [27, 2, 28, 42, 180, 0, 35, 42, 180, 0, 38, 182, 1, 10, 42, 180, 0, 35, 42, 182, 1, 14, 46, 172]
abbrev dktX9_chance_1 : List UInt8 := dkwX9_chance_1 ++ []
def dkwX9_chance_0 : List UInt8 := [42, 42, 27, 28, 182, 1, 4, 181, 0, 67, 42, 180, 0, 67, 158, 0, 5, 3, 172, 42, 182, 1, 7, 42]
abbrev dktX9_chance_0 : List UInt8 := dkwX9_chance_0 ++ dktX9_chance_1
theorem dksX9_chance_0 : cX9_chance.data.toList.drop 0 = dktX9_chance_0 := by decide +kernel
theorem dksX9_chance_1 : cX9_chance.data.toList.drop 24 = dktX9_chance_1 := dk_seg dksX9_chance_0 24 rfl rfl
theorem dX9_chance_0 : decode cX9_chance 0 = .ok (.aload_n 0, 1) := dk_42 (dk_at dksX9_chance_0 0 rfl rfl)
theorem dX9_chance_1 : decode cX9_chance 1 = .ok (.aload_n 0, 1) := dk_42 (dk_at dksX9_chance_0 1 rfl rfl)
theorem dX9_chance_2 : decode cX9_chance 2 = .ok (.iload_n 1, 1) := dk_27 (dk_at dksX9_chance_0 2 rfl rfl)
theorem dX9_chance_3 : decode cX9_chance 3 = .ok (.iload_n 2, 1) := dk_28 (dk_at dksX9_chance_0 3 rfl rfl)
theorem dX9_chance_4 : decode cX9_chance 4 = .ok (.invokevirtual 260, 3) := dk_182 1 4 (dk_at dksX9_chance_0 4 rfl rfl)
theorem dX9_chance_7 : decode cX9_chance 7 = .ok (.putfield 67, 3) := dk_181 0 67 (dk_at dksX9_chance_0 7 rfl rfl)
theorem dX9_chance_10 : decode cX9_chance 10 = .ok (.aload_n 0, 1) := dk_42 (dk_at dksX9_chance_0 10 rfl rfl)
theorem dX9_chance_11 : decode cX9_chance 11 = .ok (.getfield 67, 3) := dk_180 0 67 (dk_at dksX9_chance_0 11 rfl rfl)
theorem dX9_chance_14 : decode cX9_chance 14 = .ok (.ifCond .le 5, 3) := dk_158 0 5 (dk_at dksX9_chance_0 14 rfl rfl)
theorem dX9_chance_17 : decode cX9_chance 17 = .ok (.iconst 0, 1) := dk_3 (dk_at dksX9_chance_0 17 rfl rfl)
theorem dX9_chance_18 : decode cX9_chance 18 = .ok (.ireturn, 1) := dk_172 (dk_at dksX9_chance_0 18 rfl rfl)
theorem dX9_chance_19 : decode cX9_chance 19 = .ok (.aload_n 0, 1) := dk_42 (dk_at dksX9_chance_0 19 rfl rfl)
theorem dX9_chance_20 : decode cX9_chance 20 = .ok (.invokevirtual 263, 3) := dk_182 1 7 (dk_at dksX9_chance_0 20 rfl rfl)
theorem dX9_chance_23 : decode cX9_chance 23 = .ok (.aload_n 0, 1) := dk_42 (dk_at dksX9_chance_0 23 rfl rfl)
theorem dX9_chance_24 : decode cX9_chance 24 = .ok (.iload_n 1, 1) := dk_27 (dk_at dksX9_chance_1 0 rfl rfl)
theorem dX9_chance_25 : decode cX9_chance 25 = .ok (.iconst (-1), 1) := dk_2 (dk_at dksX9_chance_1 1 rfl rfl)
theorem dX9_chance_26 : decode cX9_chance 26 = .ok (.iload_n 2, 1) := dk_28 (dk_at dksX9_chance_1 2 rfl rfl)
theorem dX9_chance_27 : decode cX9_chance 27 = .ok (.aload_n 0, 1) := dk_42 (dk_at dksX9_chance_1 3 rfl rfl)
theorem dX9_chance_28 : decode cX9_chance 28 = .ok (.getfield 35, 3) := dk_180 0 35 (dk_at dksX9_chance_1 4 rfl rfl)
theorem dX9_chance_31 : decode cX9_chance 31 = .ok (.aload_n 0, 1) := dk_42 (dk_at dksX9_chance_1 7 rfl rfl)
theorem dX9_chance_32 : decode cX9_chance 32 = .ok (.getfield 38, 3) := dk_180 0 38 (dk_at dksX9_chance_1 8 rfl rfl)
theorem dX9_chance_35 : decode cX9_chance 35 = .ok (.invokevirtual 266, 3) := dk_182 1 10 (dk_at dksX9_chance_1 11 rfl rfl)
theorem dX9_chance_38 : decode cX9_chance 38 = .ok (.aload_n 0, 1) := dk_42 (dk_at dksX9_chance_1 14 rfl rfl)
theorem dX9_chance_39 : decode cX9_chance 39 = .ok (.getfield 35, 3) := dk_180 0 35 (dk_at dksX9_chance_1 15 rfl rfl)
theorem dX9_chance_42 : decode cX9_chance 42 = .ok (.aload_n 0, 1) := dk_42 (dk_at dksX9_chance_1 18 rfl rfl)
theorem dX9_chance_43 : decode cX9_chance 43 = .ok (.invokevirtual 270, 3) := dk_182 1 14 (dk_at dksX9_chance_1 19 rfl rfl)
theorem dX9_chance_46 : decode cX9_chance 46 = .ok (.iaload, 1) := dk_46 (dk_at dksX9_chance_1 22 rfl rfl)
theorem dX9_chance_47 : decode cX9_chance 47 = .ok (.ireturn, 1) := dk_172 (dk_at dksX9_chance_1 23 rfl rfl)
abbrev cX9_refuses : ByteArray := prog_21_method_53_code
def yX9_refuses : MethodName := ⟨RX9, "refuses", "(II)I"⟩
def dkwX9_refuses_1 : List UInt8 := [154, 0, 7, 5, 167, 0, 15, 42, 182, 0, 227, 153, 0, 7, 6, 167, 0, 4, 3, 172]
abbrev dktX9_refuses_1 : List UInt8 := dkwX9_refuses_1 ++ []
def dkwX9_refuses_0 : List UInt8 := [42, 182, 0, 200, 27, 184, 0, 197, 154, 0, 7, 4, 167, 0, 29, 28, 3, 16, 30, 184, 0, 70]
abbrev dktX9_refuses_0 : List UInt8 := dkwX9_refuses_0 ++ dktX9_refuses_1
theorem dksX9_refuses_0 : cX9_refuses.data.toList.drop 0 = dktX9_refuses_0 := by decide +kernel
theorem dksX9_refuses_1 : cX9_refuses.data.toList.drop 22 = dktX9_refuses_1 := dk_seg dksX9_refuses_0 22 rfl rfl
theorem dX9_refuses_0 : decode cX9_refuses 0 = .ok (.aload_n 0, 1) := dk_42 (dk_at dksX9_refuses_0 0 rfl rfl)
theorem dX9_refuses_1 : decode cX9_refuses 1 = .ok (.invokevirtual 200, 3) := dk_182 0 200 (dk_at dksX9_refuses_0 1 rfl rfl)
theorem dX9_refuses_4 : decode cX9_refuses 4 = .ok (.iload_n 1, 1) := dk_27 (dk_at dksX9_refuses_0 4 rfl rfl)
theorem dX9_refuses_5 : decode cX9_refuses 5 = .ok (.invokestatic 197, 3) := dk_184 0 197 (dk_at dksX9_refuses_0 5 rfl rfl)
theorem dX9_refuses_8 : decode cX9_refuses 8 = .ok (.ifCond .ne 7, 3) := dk_154 0 7 (dk_at dksX9_refuses_0 8 rfl rfl)
theorem dX9_refuses_11 : decode cX9_refuses 11 = .ok (.iconst 1, 1) := dk_4 (dk_at dksX9_refuses_0 11 rfl rfl)
theorem dX9_refuses_12 : decode cX9_refuses 12 = .ok (.goto 29, 3) := dk_167 0 29 (dk_at dksX9_refuses_0 12 rfl rfl)
theorem dX9_refuses_15 : decode cX9_refuses 15 = .ok (.iload_n 2, 1) := dk_28 (dk_at dksX9_refuses_0 15 rfl rfl)
theorem dX9_refuses_16 : decode cX9_refuses 16 = .ok (.iconst 0, 1) := dk_3 (dk_at dksX9_refuses_0 16 rfl rfl)
theorem dX9_refuses_17 : decode cX9_refuses 17 = .ok (.bipush 30, 2) := dk_16 30 (dk_at dksX9_refuses_0 17 rfl rfl)
theorem dX9_refuses_19 : decode cX9_refuses 19 = .ok (.invokestatic 70, 3) := dk_184 0 70 (dk_at dksX9_refuses_0 19 rfl rfl)
theorem dX9_refuses_22 : decode cX9_refuses 22 = .ok (.ifCond .ne 7, 3) := dk_154 0 7 (dk_at dksX9_refuses_1 0 rfl rfl)
theorem dX9_refuses_25 : decode cX9_refuses 25 = .ok (.iconst 2, 1) := dk_5 (dk_at dksX9_refuses_1 3 rfl rfl)
theorem dX9_refuses_26 : decode cX9_refuses 26 = .ok (.goto 15, 3) := dk_167 0 15 (dk_at dksX9_refuses_1 4 rfl rfl)
theorem dX9_refuses_29 : decode cX9_refuses 29 = .ok (.aload_n 0, 1) := dk_42 (dk_at dksX9_refuses_1 7 rfl rfl)
theorem dX9_refuses_30 : decode cX9_refuses 30 = .ok (.invokevirtual 227, 3) := dk_182 0 227 (dk_at dksX9_refuses_1 8 rfl rfl)
theorem dX9_refuses_33 : decode cX9_refuses 33 = .ok (.ifCond .eq 7, 3) := dk_153 0 7 (dk_at dksX9_refuses_1 11 rfl rfl)
theorem dX9_refuses_36 : decode cX9_refuses 36 = .ok (.iconst 3, 1) := dk_6 (dk_at dksX9_refuses_1 14 rfl rfl)
theorem dX9_refuses_37 : decode cX9_refuses 37 = .ok (.goto 4, 3) := dk_167 0 4 (dk_at dksX9_refuses_1 15 rfl rfl)
theorem dX9_refuses_40 : decode cX9_refuses 40 = .ok (.iconst 0, 1) := dk_3 (dk_at dksX9_refuses_1 18 rfl rfl)
theorem dX9_refuses_41 : decode cX9_refuses 41 = .ok (.ireturn, 1) := dk_172 (dk_at dksX9_refuses_1 19 rfl rfl)
abbrev cX9_allStyles : ByteArray := prog_21_method_47_code
def yX9_allStyles : MethodName := ⟨RX9, "allStyles", "()V"⟩
def dkwX9_allStyles_2 : List UInt8 := [167, 255, 213, 177]
abbrev dktX9_allStyles_2 : List UInt8 := dkwX9_allStyles_2 ++ []
def dkwX9_allStyles_1 : List UInt8 := [182, 0, 203, 79, 42, 180, 0, 32, 5, 27, 104, 4, 96, 42, 4, 182, 0, 203, 79, 132, 1, 1]
abbrev dktX9_allStyles_1 : List UInt8 := dkwX9_allStyles_1 ++ dktX9_allStyles_2
def dkwX9_allStyles_0 : List UInt8 := [3, 60, 27, 17, 60, 128, 162, 0, 42, 42, 27, 182, 0, 239, 42, 180, 0, 32, 5, 27, 104, 42, 3]
abbrev dktX9_allStyles_0 : List UInt8 := dkwX9_allStyles_0 ++ dktX9_allStyles_1
theorem dksX9_allStyles_0 : cX9_allStyles.data.toList.drop 0 = dktX9_allStyles_0 := by decide +kernel
theorem dksX9_allStyles_1 : cX9_allStyles.data.toList.drop 23 = dktX9_allStyles_1 := dk_seg dksX9_allStyles_0 23 rfl rfl
theorem dksX9_allStyles_2 : cX9_allStyles.data.toList.drop 45 = dktX9_allStyles_2 := dk_seg dksX9_allStyles_1 22 rfl rfl
theorem dX9_allStyles_0 : decode cX9_allStyles 0 = .ok (.iconst 0, 1) := dk_3 (dk_at dksX9_allStyles_0 0 rfl rfl)
theorem dX9_allStyles_1 : decode cX9_allStyles 1 = .ok (.istore_n 1, 1) := dk_60 (dk_at dksX9_allStyles_0 1 rfl rfl)
theorem dX9_allStyles_2 : decode cX9_allStyles 2 = .ok (.iload_n 1, 1) := dk_27 (dk_at dksX9_allStyles_0 2 rfl rfl)
theorem dX9_allStyles_3 : decode cX9_allStyles 3 = .ok (.sipush 15488, 3) := dk_17 60 128 (dk_at dksX9_allStyles_0 3 rfl rfl)
theorem dX9_allStyles_6 : decode cX9_allStyles 6 = .ok (.if_icmp .ge 42, 3) := dk_162 0 42 (dk_at dksX9_allStyles_0 6 rfl rfl)
theorem dX9_allStyles_9 : decode cX9_allStyles 9 = .ok (.aload_n 0, 1) := dk_42 (dk_at dksX9_allStyles_0 9 rfl rfl)
theorem dX9_allStyles_10 : decode cX9_allStyles 10 = .ok (.iload_n 1, 1) := dk_27 (dk_at dksX9_allStyles_0 10 rfl rfl)
theorem dX9_allStyles_11 : decode cX9_allStyles 11 = .ok (.invokevirtual 239, 3) := dk_182 0 239 (dk_at dksX9_allStyles_0 11 rfl rfl)
theorem dX9_allStyles_14 : decode cX9_allStyles 14 = .ok (.aload_n 0, 1) := dk_42 (dk_at dksX9_allStyles_0 14 rfl rfl)
theorem dX9_allStyles_15 : decode cX9_allStyles 15 = .ok (.getfield 32, 3) := dk_180 0 32 (dk_at dksX9_allStyles_0 15 rfl rfl)
theorem dX9_allStyles_18 : decode cX9_allStyles 18 = .ok (.iconst 2, 1) := dk_5 (dk_at dksX9_allStyles_0 18 rfl rfl)
theorem dX9_allStyles_19 : decode cX9_allStyles 19 = .ok (.iload_n 1, 1) := dk_27 (dk_at dksX9_allStyles_0 19 rfl rfl)
theorem dX9_allStyles_20 : decode cX9_allStyles 20 = .ok (.imul, 1) := dk_104 (dk_at dksX9_allStyles_0 20 rfl rfl)
theorem dX9_allStyles_21 : decode cX9_allStyles 21 = .ok (.aload_n 0, 1) := dk_42 (dk_at dksX9_allStyles_0 21 rfl rfl)
theorem dX9_allStyles_22 : decode cX9_allStyles 22 = .ok (.iconst 0, 1) := dk_3 (dk_at dksX9_allStyles_0 22 rfl rfl)
theorem dX9_allStyles_23 : decode cX9_allStyles 23 = .ok (.invokevirtual 203, 3) := dk_182 0 203 (dk_at dksX9_allStyles_1 0 rfl rfl)
theorem dX9_allStyles_26 : decode cX9_allStyles 26 = .ok (.iastore, 1) := dk_79 (dk_at dksX9_allStyles_1 3 rfl rfl)
theorem dX9_allStyles_27 : decode cX9_allStyles 27 = .ok (.aload_n 0, 1) := dk_42 (dk_at dksX9_allStyles_1 4 rfl rfl)
theorem dX9_allStyles_28 : decode cX9_allStyles 28 = .ok (.getfield 32, 3) := dk_180 0 32 (dk_at dksX9_allStyles_1 5 rfl rfl)
theorem dX9_allStyles_31 : decode cX9_allStyles 31 = .ok (.iconst 2, 1) := dk_5 (dk_at dksX9_allStyles_1 8 rfl rfl)
theorem dX9_allStyles_32 : decode cX9_allStyles 32 = .ok (.iload_n 1, 1) := dk_27 (dk_at dksX9_allStyles_1 9 rfl rfl)
theorem dX9_allStyles_33 : decode cX9_allStyles 33 = .ok (.imul, 1) := dk_104 (dk_at dksX9_allStyles_1 10 rfl rfl)
theorem dX9_allStyles_34 : decode cX9_allStyles 34 = .ok (.iconst 1, 1) := dk_4 (dk_at dksX9_allStyles_1 11 rfl rfl)
theorem dX9_allStyles_35 : decode cX9_allStyles 35 = .ok (.iadd, 1) := dk_96 (dk_at dksX9_allStyles_1 12 rfl rfl)
theorem dX9_allStyles_36 : decode cX9_allStyles 36 = .ok (.aload_n 0, 1) := dk_42 (dk_at dksX9_allStyles_1 13 rfl rfl)
theorem dX9_allStyles_37 : decode cX9_allStyles 37 = .ok (.iconst 1, 1) := dk_4 (dk_at dksX9_allStyles_1 14 rfl rfl)
theorem dX9_allStyles_38 : decode cX9_allStyles 38 = .ok (.invokevirtual 203, 3) := dk_182 0 203 (dk_at dksX9_allStyles_1 15 rfl rfl)
theorem dX9_allStyles_41 : decode cX9_allStyles 41 = .ok (.iastore, 1) := dk_79 (dk_at dksX9_allStyles_1 18 rfl rfl)
theorem dX9_allStyles_42 : decode cX9_allStyles 42 = .ok (.iinc 1 1, 3) := dk_132 1 1 (dk_at dksX9_allStyles_1 19 rfl rfl)
theorem dX9_allStyles_45 : decode cX9_allStyles 45 = .ok (.goto (-43), 3) := dk_167 255 213 (dk_at dksX9_allStyles_2 0 rfl rfl)
theorem dX9_allStyles_48 : decode cX9_allStyles 48 = .ok (.return_, 1) := dk_177 (dk_at dksX9_allStyles_2 3 rfl rfl)
abbrev cX9_unnumber : ByteArray := prog_21_method_46_code
def yX9_unnumber : MethodName := ⟨RX9, "unnumber", "(I)V"⟩
def dkwX9_unnumber_7 : List UInt8 := [180, 0, 7, 17, 0, 208, 46, 79, 42, 180, 0, 29, 16, 8, 42, 180, 0, 7, 17, 0, 209, 46, 79, 177]
abbrev dktX9_unnumber_7 : List UInt8 := dkwX9_unnumber_7 ++ []
def dkwX9_unnumber_6 : List UInt8 := [16, 21, 162, 0, 7, 3, 167, 0, 10, 28, 16, 21, 100, 16, 10, 112, 79, 42, 180, 0, 29, 16, 7, 42]
abbrev dktX9_unnumber_6 : List UInt8 := dkwX9_unnumber_6 ++ dktX9_unnumber_7
def dkwX9_unnumber_5 : List UInt8 := [162, 0, 10, 28, 16, 11, 100, 167, 0, 10, 28, 16, 21, 100, 16, 10, 108, 79, 42, 180, 0, 29, 8, 28]
abbrev dktX9_unnumber_5 : List UInt8 := dkwX9_unnumber_5 ++ dktX9_unnumber_6
def dkwX9_unnumber_4 : List UInt8 := [154, 0, 7, 3, 167, 0, 35, 28, 16, 11, 162, 0, 9, 28, 4, 100, 167, 0, 23, 28, 16, 21]
abbrev dktX9_unnumber_4 : List UInt8 := dkwX9_unnumber_4 ++ dktX9_unnumber_5
def dkwX9_unnumber_3 : List UInt8 := [42, 180, 0, 29, 16, 6, 28, 16, 10, 164, 0, 7, 4, 167, 0, 4, 3, 79, 42, 180, 0, 29, 7, 28]
abbrev dktX9_unnumber_3 : List UInt8 := dkwX9_unnumber_3 ++ dktX9_unnumber_4
def dkwX9_unnumber_2 : List UInt8 := [180, 0, 29, 6, 28, 154, 0, 7, 3, 167, 0, 14, 28, 16, 21, 162, 0, 7, 4, 167, 0, 4, 5, 79]
abbrev dktX9_unnumber_2 : List UInt8 := dkwX9_unnumber_2 ++ dktX9_unnumber_3
def dkwX9_unnumber_1 : List UInt8 := [17, 0, 242, 108, 16, 8, 112, 6, 100, 79, 42, 180, 0, 29, 3, 27, 17, 7, 144, 108, 6, 100, 79, 42]
abbrev dktX9_unnumber_1 : List UInt8 := dkwX9_unnumber_1 ++ dktX9_unnumber_2
def dkwX9_unnumber_0 : List UInt8 := [27, 16, 121, 112, 61, 42, 180, 0, 29, 5, 27, 16, 121, 108, 5, 112, 79, 42, 180, 0, 29, 4, 27]
abbrev dktX9_unnumber_0 : List UInt8 := dkwX9_unnumber_0 ++ dktX9_unnumber_1
theorem dksX9_unnumber_0 : cX9_unnumber.data.toList.drop 0 = dktX9_unnumber_0 := by decide +kernel
theorem dksX9_unnumber_1 : cX9_unnumber.data.toList.drop 23 = dktX9_unnumber_1 := dk_seg dksX9_unnumber_0 23 rfl rfl
theorem dksX9_unnumber_2 : cX9_unnumber.data.toList.drop 47 = dktX9_unnumber_2 := dk_seg dksX9_unnumber_1 24 rfl rfl
theorem dksX9_unnumber_3 : cX9_unnumber.data.toList.drop 71 = dktX9_unnumber_3 := dk_seg dksX9_unnumber_2 24 rfl rfl
theorem dksX9_unnumber_4 : cX9_unnumber.data.toList.drop 95 = dktX9_unnumber_4 := dk_seg dksX9_unnumber_3 24 rfl rfl
theorem dksX9_unnumber_5 : cX9_unnumber.data.toList.drop 117 = dktX9_unnumber_5 := dk_seg dksX9_unnumber_4 22 rfl rfl
theorem dksX9_unnumber_6 : cX9_unnumber.data.toList.drop 141 = dktX9_unnumber_6 := dk_seg dksX9_unnumber_5 24 rfl rfl
theorem dksX9_unnumber_7 : cX9_unnumber.data.toList.drop 165 = dktX9_unnumber_7 := dk_seg dksX9_unnumber_6 24 rfl rfl
theorem dX9_unnumber_0 : decode cX9_unnumber 0 = .ok (.iload_n 1, 1) := dk_27 (dk_at dksX9_unnumber_0 0 rfl rfl)
theorem dX9_unnumber_1 : decode cX9_unnumber 1 = .ok (.bipush 121, 2) := dk_16 121 (dk_at dksX9_unnumber_0 1 rfl rfl)
theorem dX9_unnumber_3 : decode cX9_unnumber 3 = .ok (.irem, 1) := dk_112 (dk_at dksX9_unnumber_0 3 rfl rfl)
theorem dX9_unnumber_4 : decode cX9_unnumber 4 = .ok (.istore_n 2, 1) := dk_61 (dk_at dksX9_unnumber_0 4 rfl rfl)
theorem dX9_unnumber_5 : decode cX9_unnumber 5 = .ok (.aload_n 0, 1) := dk_42 (dk_at dksX9_unnumber_0 5 rfl rfl)
theorem dX9_unnumber_6 : decode cX9_unnumber 6 = .ok (.getfield 29, 3) := dk_180 0 29 (dk_at dksX9_unnumber_0 6 rfl rfl)
theorem dX9_unnumber_9 : decode cX9_unnumber 9 = .ok (.iconst 2, 1) := dk_5 (dk_at dksX9_unnumber_0 9 rfl rfl)
theorem dX9_unnumber_10 : decode cX9_unnumber 10 = .ok (.iload_n 1, 1) := dk_27 (dk_at dksX9_unnumber_0 10 rfl rfl)
theorem dX9_unnumber_11 : decode cX9_unnumber 11 = .ok (.bipush 121, 2) := dk_16 121 (dk_at dksX9_unnumber_0 11 rfl rfl)
theorem dX9_unnumber_13 : decode cX9_unnumber 13 = .ok (.idiv, 1) := dk_108 (dk_at dksX9_unnumber_0 13 rfl rfl)
theorem dX9_unnumber_14 : decode cX9_unnumber 14 = .ok (.iconst 2, 1) := dk_5 (dk_at dksX9_unnumber_0 14 rfl rfl)
theorem dX9_unnumber_15 : decode cX9_unnumber 15 = .ok (.irem, 1) := dk_112 (dk_at dksX9_unnumber_0 15 rfl rfl)
theorem dX9_unnumber_16 : decode cX9_unnumber 16 = .ok (.iastore, 1) := dk_79 (dk_at dksX9_unnumber_0 16 rfl rfl)
theorem dX9_unnumber_17 : decode cX9_unnumber 17 = .ok (.aload_n 0, 1) := dk_42 (dk_at dksX9_unnumber_0 17 rfl rfl)
theorem dX9_unnumber_18 : decode cX9_unnumber 18 = .ok (.getfield 29, 3) := dk_180 0 29 (dk_at dksX9_unnumber_0 18 rfl rfl)
theorem dX9_unnumber_21 : decode cX9_unnumber 21 = .ok (.iconst 1, 1) := dk_4 (dk_at dksX9_unnumber_0 21 rfl rfl)
theorem dX9_unnumber_22 : decode cX9_unnumber 22 = .ok (.iload_n 1, 1) := dk_27 (dk_at dksX9_unnumber_0 22 rfl rfl)
theorem dX9_unnumber_23 : decode cX9_unnumber 23 = .ok (.sipush 242, 3) := dk_17 0 242 (dk_at dksX9_unnumber_1 0 rfl rfl)
theorem dX9_unnumber_26 : decode cX9_unnumber 26 = .ok (.idiv, 1) := dk_108 (dk_at dksX9_unnumber_1 3 rfl rfl)
theorem dX9_unnumber_27 : decode cX9_unnumber 27 = .ok (.bipush 8, 2) := dk_16 8 (dk_at dksX9_unnumber_1 4 rfl rfl)
theorem dX9_unnumber_29 : decode cX9_unnumber 29 = .ok (.irem, 1) := dk_112 (dk_at dksX9_unnumber_1 6 rfl rfl)
theorem dX9_unnumber_30 : decode cX9_unnumber 30 = .ok (.iconst 3, 1) := dk_6 (dk_at dksX9_unnumber_1 7 rfl rfl)
theorem dX9_unnumber_31 : decode cX9_unnumber 31 = .ok (.isub, 1) := dk_100 (dk_at dksX9_unnumber_1 8 rfl rfl)
theorem dX9_unnumber_32 : decode cX9_unnumber 32 = .ok (.iastore, 1) := dk_79 (dk_at dksX9_unnumber_1 9 rfl rfl)
theorem dX9_unnumber_33 : decode cX9_unnumber 33 = .ok (.aload_n 0, 1) := dk_42 (dk_at dksX9_unnumber_1 10 rfl rfl)
theorem dX9_unnumber_34 : decode cX9_unnumber 34 = .ok (.getfield 29, 3) := dk_180 0 29 (dk_at dksX9_unnumber_1 11 rfl rfl)
theorem dX9_unnumber_37 : decode cX9_unnumber 37 = .ok (.iconst 0, 1) := dk_3 (dk_at dksX9_unnumber_1 14 rfl rfl)
theorem dX9_unnumber_38 : decode cX9_unnumber 38 = .ok (.iload_n 1, 1) := dk_27 (dk_at dksX9_unnumber_1 15 rfl rfl)
theorem dX9_unnumber_39 : decode cX9_unnumber 39 = .ok (.sipush 1936, 3) := dk_17 7 144 (dk_at dksX9_unnumber_1 16 rfl rfl)
theorem dX9_unnumber_42 : decode cX9_unnumber 42 = .ok (.idiv, 1) := dk_108 (dk_at dksX9_unnumber_1 19 rfl rfl)
theorem dX9_unnumber_43 : decode cX9_unnumber 43 = .ok (.iconst 3, 1) := dk_6 (dk_at dksX9_unnumber_1 20 rfl rfl)
theorem dX9_unnumber_44 : decode cX9_unnumber 44 = .ok (.isub, 1) := dk_100 (dk_at dksX9_unnumber_1 21 rfl rfl)
theorem dX9_unnumber_45 : decode cX9_unnumber 45 = .ok (.iastore, 1) := dk_79 (dk_at dksX9_unnumber_1 22 rfl rfl)
theorem dX9_unnumber_46 : decode cX9_unnumber 46 = .ok (.aload_n 0, 1) := dk_42 (dk_at dksX9_unnumber_1 23 rfl rfl)
theorem dX9_unnumber_47 : decode cX9_unnumber 47 = .ok (.getfield 29, 3) := dk_180 0 29 (dk_at dksX9_unnumber_2 0 rfl rfl)
theorem dX9_unnumber_50 : decode cX9_unnumber 50 = .ok (.iconst 3, 1) := dk_6 (dk_at dksX9_unnumber_2 3 rfl rfl)
theorem dX9_unnumber_51 : decode cX9_unnumber 51 = .ok (.iload_n 2, 1) := dk_28 (dk_at dksX9_unnumber_2 4 rfl rfl)
theorem dX9_unnumber_52 : decode cX9_unnumber 52 = .ok (.ifCond .ne 7, 3) := dk_154 0 7 (dk_at dksX9_unnumber_2 5 rfl rfl)
theorem dX9_unnumber_55 : decode cX9_unnumber 55 = .ok (.iconst 0, 1) := dk_3 (dk_at dksX9_unnumber_2 8 rfl rfl)
theorem dX9_unnumber_56 : decode cX9_unnumber 56 = .ok (.goto 14, 3) := dk_167 0 14 (dk_at dksX9_unnumber_2 9 rfl rfl)
theorem dX9_unnumber_59 : decode cX9_unnumber 59 = .ok (.iload_n 2, 1) := dk_28 (dk_at dksX9_unnumber_2 12 rfl rfl)
theorem dX9_unnumber_60 : decode cX9_unnumber 60 = .ok (.bipush 21, 2) := dk_16 21 (dk_at dksX9_unnumber_2 13 rfl rfl)
theorem dX9_unnumber_62 : decode cX9_unnumber 62 = .ok (.if_icmp .ge 7, 3) := dk_162 0 7 (dk_at dksX9_unnumber_2 15 rfl rfl)
theorem dX9_unnumber_65 : decode cX9_unnumber 65 = .ok (.iconst 1, 1) := dk_4 (dk_at dksX9_unnumber_2 18 rfl rfl)
theorem dX9_unnumber_66 : decode cX9_unnumber 66 = .ok (.goto 4, 3) := dk_167 0 4 (dk_at dksX9_unnumber_2 19 rfl rfl)
theorem dX9_unnumber_69 : decode cX9_unnumber 69 = .ok (.iconst 2, 1) := dk_5 (dk_at dksX9_unnumber_2 22 rfl rfl)
theorem dX9_unnumber_70 : decode cX9_unnumber 70 = .ok (.iastore, 1) := dk_79 (dk_at dksX9_unnumber_2 23 rfl rfl)
theorem dX9_unnumber_71 : decode cX9_unnumber 71 = .ok (.aload_n 0, 1) := dk_42 (dk_at dksX9_unnumber_3 0 rfl rfl)
theorem dX9_unnumber_72 : decode cX9_unnumber 72 = .ok (.getfield 29, 3) := dk_180 0 29 (dk_at dksX9_unnumber_3 1 rfl rfl)
theorem dX9_unnumber_75 : decode cX9_unnumber 75 = .ok (.bipush 6, 2) := dk_16 6 (dk_at dksX9_unnumber_3 4 rfl rfl)
theorem dX9_unnumber_77 : decode cX9_unnumber 77 = .ok (.iload_n 2, 1) := dk_28 (dk_at dksX9_unnumber_3 6 rfl rfl)
theorem dX9_unnumber_78 : decode cX9_unnumber 78 = .ok (.bipush 10, 2) := dk_16 10 (dk_at dksX9_unnumber_3 7 rfl rfl)
theorem dX9_unnumber_80 : decode cX9_unnumber 80 = .ok (.if_icmp .le 7, 3) := dk_164 0 7 (dk_at dksX9_unnumber_3 9 rfl rfl)
theorem dX9_unnumber_83 : decode cX9_unnumber 83 = .ok (.iconst 1, 1) := dk_4 (dk_at dksX9_unnumber_3 12 rfl rfl)
theorem dX9_unnumber_84 : decode cX9_unnumber 84 = .ok (.goto 4, 3) := dk_167 0 4 (dk_at dksX9_unnumber_3 13 rfl rfl)
theorem dX9_unnumber_87 : decode cX9_unnumber 87 = .ok (.iconst 0, 1) := dk_3 (dk_at dksX9_unnumber_3 16 rfl rfl)
theorem dX9_unnumber_88 : decode cX9_unnumber 88 = .ok (.iastore, 1) := dk_79 (dk_at dksX9_unnumber_3 17 rfl rfl)
theorem dX9_unnumber_89 : decode cX9_unnumber 89 = .ok (.aload_n 0, 1) := dk_42 (dk_at dksX9_unnumber_3 18 rfl rfl)
theorem dX9_unnumber_90 : decode cX9_unnumber 90 = .ok (.getfield 29, 3) := dk_180 0 29 (dk_at dksX9_unnumber_3 19 rfl rfl)
theorem dX9_unnumber_93 : decode cX9_unnumber 93 = .ok (.iconst 4, 1) := dk_7 (dk_at dksX9_unnumber_3 22 rfl rfl)
theorem dX9_unnumber_94 : decode cX9_unnumber 94 = .ok (.iload_n 2, 1) := dk_28 (dk_at dksX9_unnumber_3 23 rfl rfl)
theorem dX9_unnumber_95 : decode cX9_unnumber 95 = .ok (.ifCond .ne 7, 3) := dk_154 0 7 (dk_at dksX9_unnumber_4 0 rfl rfl)
theorem dX9_unnumber_98 : decode cX9_unnumber 98 = .ok (.iconst 0, 1) := dk_3 (dk_at dksX9_unnumber_4 3 rfl rfl)
theorem dX9_unnumber_99 : decode cX9_unnumber 99 = .ok (.goto 35, 3) := dk_167 0 35 (dk_at dksX9_unnumber_4 4 rfl rfl)
theorem dX9_unnumber_102 : decode cX9_unnumber 102 = .ok (.iload_n 2, 1) := dk_28 (dk_at dksX9_unnumber_4 7 rfl rfl)
theorem dX9_unnumber_103 : decode cX9_unnumber 103 = .ok (.bipush 11, 2) := dk_16 11 (dk_at dksX9_unnumber_4 8 rfl rfl)
theorem dX9_unnumber_105 : decode cX9_unnumber 105 = .ok (.if_icmp .ge 9, 3) := dk_162 0 9 (dk_at dksX9_unnumber_4 10 rfl rfl)
theorem dX9_unnumber_108 : decode cX9_unnumber 108 = .ok (.iload_n 2, 1) := dk_28 (dk_at dksX9_unnumber_4 13 rfl rfl)
theorem dX9_unnumber_109 : decode cX9_unnumber 109 = .ok (.iconst 1, 1) := dk_4 (dk_at dksX9_unnumber_4 14 rfl rfl)
theorem dX9_unnumber_110 : decode cX9_unnumber 110 = .ok (.isub, 1) := dk_100 (dk_at dksX9_unnumber_4 15 rfl rfl)
theorem dX9_unnumber_111 : decode cX9_unnumber 111 = .ok (.goto 23, 3) := dk_167 0 23 (dk_at dksX9_unnumber_4 16 rfl rfl)
theorem dX9_unnumber_114 : decode cX9_unnumber 114 = .ok (.iload_n 2, 1) := dk_28 (dk_at dksX9_unnumber_4 19 rfl rfl)
theorem dX9_unnumber_115 : decode cX9_unnumber 115 = .ok (.bipush 21, 2) := dk_16 21 (dk_at dksX9_unnumber_4 20 rfl rfl)
theorem dX9_unnumber_117 : decode cX9_unnumber 117 = .ok (.if_icmp .ge 10, 3) := dk_162 0 10 (dk_at dksX9_unnumber_5 0 rfl rfl)
theorem dX9_unnumber_120 : decode cX9_unnumber 120 = .ok (.iload_n 2, 1) := dk_28 (dk_at dksX9_unnumber_5 3 rfl rfl)
theorem dX9_unnumber_121 : decode cX9_unnumber 121 = .ok (.bipush 11, 2) := dk_16 11 (dk_at dksX9_unnumber_5 4 rfl rfl)
theorem dX9_unnumber_123 : decode cX9_unnumber 123 = .ok (.isub, 1) := dk_100 (dk_at dksX9_unnumber_5 6 rfl rfl)
theorem dX9_unnumber_124 : decode cX9_unnumber 124 = .ok (.goto 10, 3) := dk_167 0 10 (dk_at dksX9_unnumber_5 7 rfl rfl)
theorem dX9_unnumber_127 : decode cX9_unnumber 127 = .ok (.iload_n 2, 1) := dk_28 (dk_at dksX9_unnumber_5 10 rfl rfl)
theorem dX9_unnumber_128 : decode cX9_unnumber 128 = .ok (.bipush 21, 2) := dk_16 21 (dk_at dksX9_unnumber_5 11 rfl rfl)
theorem dX9_unnumber_130 : decode cX9_unnumber 130 = .ok (.isub, 1) := dk_100 (dk_at dksX9_unnumber_5 13 rfl rfl)
theorem dX9_unnumber_131 : decode cX9_unnumber 131 = .ok (.bipush 10, 2) := dk_16 10 (dk_at dksX9_unnumber_5 14 rfl rfl)
theorem dX9_unnumber_133 : decode cX9_unnumber 133 = .ok (.idiv, 1) := dk_108 (dk_at dksX9_unnumber_5 16 rfl rfl)
theorem dX9_unnumber_134 : decode cX9_unnumber 134 = .ok (.iastore, 1) := dk_79 (dk_at dksX9_unnumber_5 17 rfl rfl)
theorem dX9_unnumber_135 : decode cX9_unnumber 135 = .ok (.aload_n 0, 1) := dk_42 (dk_at dksX9_unnumber_5 18 rfl rfl)
theorem dX9_unnumber_136 : decode cX9_unnumber 136 = .ok (.getfield 29, 3) := dk_180 0 29 (dk_at dksX9_unnumber_5 19 rfl rfl)
theorem dX9_unnumber_139 : decode cX9_unnumber 139 = .ok (.iconst 5, 1) := dk_8 (dk_at dksX9_unnumber_5 22 rfl rfl)
theorem dX9_unnumber_140 : decode cX9_unnumber 140 = .ok (.iload_n 2, 1) := dk_28 (dk_at dksX9_unnumber_5 23 rfl rfl)
theorem dX9_unnumber_141 : decode cX9_unnumber 141 = .ok (.bipush 21, 2) := dk_16 21 (dk_at dksX9_unnumber_6 0 rfl rfl)
theorem dX9_unnumber_143 : decode cX9_unnumber 143 = .ok (.if_icmp .ge 7, 3) := dk_162 0 7 (dk_at dksX9_unnumber_6 2 rfl rfl)
theorem dX9_unnumber_146 : decode cX9_unnumber 146 = .ok (.iconst 0, 1) := dk_3 (dk_at dksX9_unnumber_6 5 rfl rfl)
theorem dX9_unnumber_147 : decode cX9_unnumber 147 = .ok (.goto 10, 3) := dk_167 0 10 (dk_at dksX9_unnumber_6 6 rfl rfl)
theorem dX9_unnumber_150 : decode cX9_unnumber 150 = .ok (.iload_n 2, 1) := dk_28 (dk_at dksX9_unnumber_6 9 rfl rfl)
theorem dX9_unnumber_151 : decode cX9_unnumber 151 = .ok (.bipush 21, 2) := dk_16 21 (dk_at dksX9_unnumber_6 10 rfl rfl)
theorem dX9_unnumber_153 : decode cX9_unnumber 153 = .ok (.isub, 1) := dk_100 (dk_at dksX9_unnumber_6 12 rfl rfl)
theorem dX9_unnumber_154 : decode cX9_unnumber 154 = .ok (.bipush 10, 2) := dk_16 10 (dk_at dksX9_unnumber_6 13 rfl rfl)
theorem dX9_unnumber_156 : decode cX9_unnumber 156 = .ok (.irem, 1) := dk_112 (dk_at dksX9_unnumber_6 15 rfl rfl)
theorem dX9_unnumber_157 : decode cX9_unnumber 157 = .ok (.iastore, 1) := dk_79 (dk_at dksX9_unnumber_6 16 rfl rfl)
theorem dX9_unnumber_158 : decode cX9_unnumber 158 = .ok (.aload_n 0, 1) := dk_42 (dk_at dksX9_unnumber_6 17 rfl rfl)
theorem dX9_unnumber_159 : decode cX9_unnumber 159 = .ok (.getfield 29, 3) := dk_180 0 29 (dk_at dksX9_unnumber_6 18 rfl rfl)
theorem dX9_unnumber_162 : decode cX9_unnumber 162 = .ok (.bipush 7, 2) := dk_16 7 (dk_at dksX9_unnumber_6 21 rfl rfl)
theorem dX9_unnumber_164 : decode cX9_unnumber 164 = .ok (.aload_n 0, 1) := dk_42 (dk_at dksX9_unnumber_6 23 rfl rfl)
theorem dX9_unnumber_165 : decode cX9_unnumber 165 = .ok (.getfield 7, 3) := dk_180 0 7 (dk_at dksX9_unnumber_7 0 rfl rfl)
theorem dX9_unnumber_168 : decode cX9_unnumber 168 = .ok (.sipush 208, 3) := dk_17 0 208 (dk_at dksX9_unnumber_7 3 rfl rfl)
theorem dX9_unnumber_171 : decode cX9_unnumber 171 = .ok (.iaload, 1) := dk_46 (dk_at dksX9_unnumber_7 6 rfl rfl)
theorem dX9_unnumber_172 : decode cX9_unnumber 172 = .ok (.iastore, 1) := dk_79 (dk_at dksX9_unnumber_7 7 rfl rfl)
theorem dX9_unnumber_173 : decode cX9_unnumber 173 = .ok (.aload_n 0, 1) := dk_42 (dk_at dksX9_unnumber_7 8 rfl rfl)
theorem dX9_unnumber_174 : decode cX9_unnumber 174 = .ok (.getfield 29, 3) := dk_180 0 29 (dk_at dksX9_unnumber_7 9 rfl rfl)
theorem dX9_unnumber_177 : decode cX9_unnumber 177 = .ok (.bipush 8, 2) := dk_16 8 (dk_at dksX9_unnumber_7 12 rfl rfl)
theorem dX9_unnumber_179 : decode cX9_unnumber 179 = .ok (.aload_n 0, 1) := dk_42 (dk_at dksX9_unnumber_7 14 rfl rfl)
theorem dX9_unnumber_180 : decode cX9_unnumber 180 = .ok (.getfield 7, 3) := dk_180 0 7 (dk_at dksX9_unnumber_7 15 rfl rfl)
theorem dX9_unnumber_183 : decode cX9_unnumber 183 = .ok (.sipush 209, 3) := dk_17 0 209 (dk_at dksX9_unnumber_7 18 rfl rfl)
theorem dX9_unnumber_186 : decode cX9_unnumber 186 = .ok (.iaload, 1) := dk_46 (dk_at dksX9_unnumber_7 21 rfl rfl)
theorem dX9_unnumber_187 : decode cX9_unnumber 187 = .ok (.iastore, 1) := dk_79 (dk_at dksX9_unnumber_7 22 rfl rfl)
theorem dX9_unnumber_188 : decode cX9_unnumber 188 = .ok (.return_, 1) := dk_177 (dk_at dksX9_unnumber_7 23 rfl rfl)
abbrev cX9_plays0 : ByteArray := prog_21_method_51_code
def yX9_plays0 : MethodName := ⟨RX9, "plays0", "(III[I[I)V"⟩
def dkwX9_plays0_4 : List UInt8 := [167, 0, 4, 3, 79, 132, 7, 1, 167, 255, 218, 132, 6, 1, 167, 255, 176, 177]
abbrev dktX9_plays0_4 : List UInt8 := dkwX9_plays0_4 ++ []
def dkwX9_plays0_3 : List UInt8 := [25, 4, 21, 7, 21, 7, 184, 0, 253, 153, 0, 16, 42, 21, 7, 27, 28, 25, 5, 182, 1, 0]
abbrev dktX9_plays0_3 : List UInt8 := dkwX9_plays0_3 ++ dktX9_plays0_4
def dkwX9_plays0_2 : List UInt8 := [25, 4, 21, 7, 46, 79, 132, 7, 1, 167, 255, 235, 3, 54, 7, 21, 7, 17, 60, 128, 162, 0, 36]
abbrev dktX9_plays0_2 : List UInt8 := dkwX9_plays0_2 ++ dktX9_plays0_3
def dkwX9_plays0_1 : List UInt8 := [54, 6, 21, 6, 29, 162, 0, 80, 3, 54, 7, 21, 7, 17, 60, 128, 162, 0, 19, 25, 5, 21, 7]
abbrev dktX9_plays0_1 : List UInt8 := dkwX9_plays0_1 ++ dktX9_plays0_2
def dkwX9_plays0_0 : List UInt8 := [3, 54, 6, 21, 6, 17, 60, 128, 162, 0, 15, 25, 4, 21, 6, 3, 79, 132, 6, 1, 167, 255, 239, 3]
abbrev dktX9_plays0_0 : List UInt8 := dkwX9_plays0_0 ++ dktX9_plays0_1
theorem dksX9_plays0_0 : cX9_plays0.data.toList.drop 0 = dktX9_plays0_0 := by decide +kernel
theorem dksX9_plays0_1 : cX9_plays0.data.toList.drop 24 = dktX9_plays0_1 := dk_seg dksX9_plays0_0 24 rfl rfl
theorem dksX9_plays0_2 : cX9_plays0.data.toList.drop 47 = dktX9_plays0_2 := dk_seg dksX9_plays0_1 23 rfl rfl
theorem dksX9_plays0_3 : cX9_plays0.data.toList.drop 70 = dktX9_plays0_3 := dk_seg dksX9_plays0_2 23 rfl rfl
theorem dksX9_plays0_4 : cX9_plays0.data.toList.drop 92 = dktX9_plays0_4 := dk_seg dksX9_plays0_3 22 rfl rfl
theorem dX9_plays0_0 : decode cX9_plays0 0 = .ok (.iconst 0, 1) := dk_3 (dk_at dksX9_plays0_0 0 rfl rfl)
theorem dX9_plays0_1 : decode cX9_plays0 1 = .ok (.istore 6, 2) := dk_54 6 (dk_at dksX9_plays0_0 1 rfl rfl)
theorem dX9_plays0_3 : decode cX9_plays0 3 = .ok (.iload 6, 2) := dk_21 6 (dk_at dksX9_plays0_0 3 rfl rfl)
theorem dX9_plays0_5 : decode cX9_plays0 5 = .ok (.sipush 15488, 3) := dk_17 60 128 (dk_at dksX9_plays0_0 5 rfl rfl)
theorem dX9_plays0_8 : decode cX9_plays0 8 = .ok (.if_icmp .ge 15, 3) := dk_162 0 15 (dk_at dksX9_plays0_0 8 rfl rfl)
theorem dX9_plays0_11 : decode cX9_plays0 11 = .ok (.aload 4, 2) := dk_25 4 (dk_at dksX9_plays0_0 11 rfl rfl)
theorem dX9_plays0_13 : decode cX9_plays0 13 = .ok (.iload 6, 2) := dk_21 6 (dk_at dksX9_plays0_0 13 rfl rfl)
theorem dX9_plays0_15 : decode cX9_plays0 15 = .ok (.iconst 0, 1) := dk_3 (dk_at dksX9_plays0_0 15 rfl rfl)
theorem dX9_plays0_16 : decode cX9_plays0 16 = .ok (.iastore, 1) := dk_79 (dk_at dksX9_plays0_0 16 rfl rfl)
theorem dX9_plays0_17 : decode cX9_plays0 17 = .ok (.iinc 6 1, 3) := dk_132 6 1 (dk_at dksX9_plays0_0 17 rfl rfl)
theorem dX9_plays0_20 : decode cX9_plays0 20 = .ok (.goto (-17), 3) := dk_167 255 239 (dk_at dksX9_plays0_0 20 rfl rfl)
theorem dX9_plays0_23 : decode cX9_plays0 23 = .ok (.iconst 0, 1) := dk_3 (dk_at dksX9_plays0_0 23 rfl rfl)
theorem dX9_plays0_24 : decode cX9_plays0 24 = .ok (.istore 6, 2) := dk_54 6 (dk_at dksX9_plays0_1 0 rfl rfl)
theorem dX9_plays0_26 : decode cX9_plays0 26 = .ok (.iload 6, 2) := dk_21 6 (dk_at dksX9_plays0_1 2 rfl rfl)
theorem dX9_plays0_28 : decode cX9_plays0 28 = .ok (.iload_n 3, 1) := dk_29 (dk_at dksX9_plays0_1 4 rfl rfl)
theorem dX9_plays0_29 : decode cX9_plays0 29 = .ok (.if_icmp .ge 80, 3) := dk_162 0 80 (dk_at dksX9_plays0_1 5 rfl rfl)
theorem dX9_plays0_32 : decode cX9_plays0 32 = .ok (.iconst 0, 1) := dk_3 (dk_at dksX9_plays0_1 8 rfl rfl)
theorem dX9_plays0_33 : decode cX9_plays0 33 = .ok (.istore 7, 2) := dk_54 7 (dk_at dksX9_plays0_1 9 rfl rfl)
theorem dX9_plays0_35 : decode cX9_plays0 35 = .ok (.iload 7, 2) := dk_21 7 (dk_at dksX9_plays0_1 11 rfl rfl)
theorem dX9_plays0_37 : decode cX9_plays0 37 = .ok (.sipush 15488, 3) := dk_17 60 128 (dk_at dksX9_plays0_1 13 rfl rfl)
theorem dX9_plays0_40 : decode cX9_plays0 40 = .ok (.if_icmp .ge 19, 3) := dk_162 0 19 (dk_at dksX9_plays0_1 16 rfl rfl)
theorem dX9_plays0_43 : decode cX9_plays0 43 = .ok (.aload 5, 2) := dk_25 5 (dk_at dksX9_plays0_1 19 rfl rfl)
theorem dX9_plays0_45 : decode cX9_plays0 45 = .ok (.iload 7, 2) := dk_21 7 (dk_at dksX9_plays0_1 21 rfl rfl)
theorem dX9_plays0_47 : decode cX9_plays0 47 = .ok (.aload 4, 2) := dk_25 4 (dk_at dksX9_plays0_2 0 rfl rfl)
theorem dX9_plays0_49 : decode cX9_plays0 49 = .ok (.iload 7, 2) := dk_21 7 (dk_at dksX9_plays0_2 2 rfl rfl)
theorem dX9_plays0_51 : decode cX9_plays0 51 = .ok (.iaload, 1) := dk_46 (dk_at dksX9_plays0_2 4 rfl rfl)
theorem dX9_plays0_52 : decode cX9_plays0 52 = .ok (.iastore, 1) := dk_79 (dk_at dksX9_plays0_2 5 rfl rfl)
theorem dX9_plays0_53 : decode cX9_plays0 53 = .ok (.iinc 7 1, 3) := dk_132 7 1 (dk_at dksX9_plays0_2 6 rfl rfl)
theorem dX9_plays0_56 : decode cX9_plays0 56 = .ok (.goto (-21), 3) := dk_167 255 235 (dk_at dksX9_plays0_2 9 rfl rfl)
theorem dX9_plays0_59 : decode cX9_plays0 59 = .ok (.iconst 0, 1) := dk_3 (dk_at dksX9_plays0_2 12 rfl rfl)
theorem dX9_plays0_60 : decode cX9_plays0 60 = .ok (.istore 7, 2) := dk_54 7 (dk_at dksX9_plays0_2 13 rfl rfl)
theorem dX9_plays0_62 : decode cX9_plays0 62 = .ok (.iload 7, 2) := dk_21 7 (dk_at dksX9_plays0_2 15 rfl rfl)
theorem dX9_plays0_64 : decode cX9_plays0 64 = .ok (.sipush 15488, 3) := dk_17 60 128 (dk_at dksX9_plays0_2 17 rfl rfl)
theorem dX9_plays0_67 : decode cX9_plays0 67 = .ok (.if_icmp .ge 36, 3) := dk_162 0 36 (dk_at dksX9_plays0_2 20 rfl rfl)
theorem dX9_plays0_70 : decode cX9_plays0 70 = .ok (.aload 4, 2) := dk_25 4 (dk_at dksX9_plays0_3 0 rfl rfl)
theorem dX9_plays0_72 : decode cX9_plays0 72 = .ok (.iload 7, 2) := dk_21 7 (dk_at dksX9_plays0_3 2 rfl rfl)
theorem dX9_plays0_74 : decode cX9_plays0 74 = .ok (.iload 7, 2) := dk_21 7 (dk_at dksX9_plays0_3 4 rfl rfl)
theorem dX9_plays0_76 : decode cX9_plays0 76 = .ok (.invokestatic 253, 3) := dk_184 0 253 (dk_at dksX9_plays0_3 6 rfl rfl)
theorem dX9_plays0_79 : decode cX9_plays0 79 = .ok (.ifCond .eq 16, 3) := dk_153 0 16 (dk_at dksX9_plays0_3 9 rfl rfl)
theorem dX9_plays0_82 : decode cX9_plays0 82 = .ok (.aload_n 0, 1) := dk_42 (dk_at dksX9_plays0_3 12 rfl rfl)
theorem dX9_plays0_83 : decode cX9_plays0 83 = .ok (.iload 7, 2) := dk_21 7 (dk_at dksX9_plays0_3 13 rfl rfl)
theorem dX9_plays0_85 : decode cX9_plays0 85 = .ok (.iload_n 1, 1) := dk_27 (dk_at dksX9_plays0_3 15 rfl rfl)
theorem dX9_plays0_86 : decode cX9_plays0 86 = .ok (.iload_n 2, 1) := dk_28 (dk_at dksX9_plays0_3 16 rfl rfl)
theorem dX9_plays0_87 : decode cX9_plays0 87 = .ok (.aload 5, 2) := dk_25 5 (dk_at dksX9_plays0_3 17 rfl rfl)
theorem dX9_plays0_89 : decode cX9_plays0 89 = .ok (.invokevirtual 256, 3) := dk_182 1 0 (dk_at dksX9_plays0_3 19 rfl rfl)
theorem dX9_plays0_92 : decode cX9_plays0 92 = .ok (.goto 4, 3) := dk_167 0 4 (dk_at dksX9_plays0_4 0 rfl rfl)
theorem dX9_plays0_95 : decode cX9_plays0 95 = .ok (.iconst 0, 1) := dk_3 (dk_at dksX9_plays0_4 3 rfl rfl)
theorem dX9_plays0_96 : decode cX9_plays0 96 = .ok (.iastore, 1) := dk_79 (dk_at dksX9_plays0_4 4 rfl rfl)
theorem dX9_plays0_97 : decode cX9_plays0 97 = .ok (.iinc 7 1, 3) := dk_132 7 1 (dk_at dksX9_plays0_4 5 rfl rfl)
theorem dX9_plays0_100 : decode cX9_plays0 100 = .ok (.goto (-38), 3) := dk_167 255 218 (dk_at dksX9_plays0_4 8 rfl rfl)
theorem dX9_plays0_103 : decode cX9_plays0 103 = .ok (.iinc 6 1, 3) := dk_132 6 1 (dk_at dksX9_plays0_4 11 rfl rfl)
theorem dX9_plays0_106 : decode cX9_plays0 106 = .ok (.goto (-80), 3) := dk_167 255 176 (dk_at dksX9_plays0_4 14 rfl rfl)
theorem dX9_plays0_109 : decode cX9_plays0 109 = .ok (.return_, 1) := dk_177 (dk_at dksX9_plays0_4 17 rfl rfl)
abbrev cX9_canBe : ByteArray := prog_21_method_48_code
def yX9_canBe : MethodName := ⟨RX9, "canBe", "(I)Z"⟩
def dkwX9_canBe_1 : List UInt8 := [27, 6, 160, 0, 17, 27, 7, 161, 0, 8, 28, 6, 160, 0, 7, 4, 167, 0, 4, 3, 172]
abbrev dktX9_canBe_1 : List UInt8 := dkwX9_canBe_1 ++ []
def dkwX9_canBe_0 : List UInt8 := [26, 17, 0, 242, 108, 16, 8, 112, 6, 100, 60, 26, 17, 7, 144, 108, 6, 100, 61, 28, 7, 161, 0, 8]
abbrev dktX9_canBe_0 : List UInt8 := dkwX9_canBe_0 ++ dktX9_canBe_1
theorem dksX9_canBe_0 : cX9_canBe.data.toList.drop 0 = dktX9_canBe_0 := by decide +kernel
theorem dksX9_canBe_1 : cX9_canBe.data.toList.drop 24 = dktX9_canBe_1 := dk_seg dksX9_canBe_0 24 rfl rfl
theorem dX9_canBe_0 : decode cX9_canBe 0 = .ok (.iload_n 0, 1) := dk_26 (dk_at dksX9_canBe_0 0 rfl rfl)
theorem dX9_canBe_1 : decode cX9_canBe 1 = .ok (.sipush 242, 3) := dk_17 0 242 (dk_at dksX9_canBe_0 1 rfl rfl)
theorem dX9_canBe_4 : decode cX9_canBe 4 = .ok (.idiv, 1) := dk_108 (dk_at dksX9_canBe_0 4 rfl rfl)
theorem dX9_canBe_5 : decode cX9_canBe 5 = .ok (.bipush 8, 2) := dk_16 8 (dk_at dksX9_canBe_0 5 rfl rfl)
theorem dX9_canBe_7 : decode cX9_canBe 7 = .ok (.irem, 1) := dk_112 (dk_at dksX9_canBe_0 7 rfl rfl)
theorem dX9_canBe_8 : decode cX9_canBe 8 = .ok (.iconst 3, 1) := dk_6 (dk_at dksX9_canBe_0 8 rfl rfl)
theorem dX9_canBe_9 : decode cX9_canBe 9 = .ok (.isub, 1) := dk_100 (dk_at dksX9_canBe_0 9 rfl rfl)
theorem dX9_canBe_10 : decode cX9_canBe 10 = .ok (.istore_n 1, 1) := dk_60 (dk_at dksX9_canBe_0 10 rfl rfl)
theorem dX9_canBe_11 : decode cX9_canBe 11 = .ok (.iload_n 0, 1) := dk_26 (dk_at dksX9_canBe_0 11 rfl rfl)
theorem dX9_canBe_12 : decode cX9_canBe 12 = .ok (.sipush 1936, 3) := dk_17 7 144 (dk_at dksX9_canBe_0 12 rfl rfl)
theorem dX9_canBe_15 : decode cX9_canBe 15 = .ok (.idiv, 1) := dk_108 (dk_at dksX9_canBe_0 15 rfl rfl)
theorem dX9_canBe_16 : decode cX9_canBe 16 = .ok (.iconst 3, 1) := dk_6 (dk_at dksX9_canBe_0 16 rfl rfl)
theorem dX9_canBe_17 : decode cX9_canBe 17 = .ok (.isub, 1) := dk_100 (dk_at dksX9_canBe_0 17 rfl rfl)
theorem dX9_canBe_18 : decode cX9_canBe 18 = .ok (.istore_n 2, 1) := dk_61 (dk_at dksX9_canBe_0 18 rfl rfl)
theorem dX9_canBe_19 : decode cX9_canBe 19 = .ok (.iload_n 2, 1) := dk_28 (dk_at dksX9_canBe_0 19 rfl rfl)
theorem dX9_canBe_20 : decode cX9_canBe 20 = .ok (.iconst 4, 1) := dk_7 (dk_at dksX9_canBe_0 20 rfl rfl)
theorem dX9_canBe_21 : decode cX9_canBe 21 = .ok (.if_icmp .lt 8, 3) := dk_161 0 8 (dk_at dksX9_canBe_0 21 rfl rfl)
theorem dX9_canBe_24 : decode cX9_canBe 24 = .ok (.iload_n 1, 1) := dk_27 (dk_at dksX9_canBe_1 0 rfl rfl)
theorem dX9_canBe_25 : decode cX9_canBe 25 = .ok (.iconst 3, 1) := dk_6 (dk_at dksX9_canBe_1 1 rfl rfl)
theorem dX9_canBe_26 : decode cX9_canBe 26 = .ok (.if_icmp .ne 17, 3) := dk_160 0 17 (dk_at dksX9_canBe_1 2 rfl rfl)
theorem dX9_canBe_29 : decode cX9_canBe 29 = .ok (.iload_n 1, 1) := dk_27 (dk_at dksX9_canBe_1 5 rfl rfl)
theorem dX9_canBe_30 : decode cX9_canBe 30 = .ok (.iconst 4, 1) := dk_7 (dk_at dksX9_canBe_1 6 rfl rfl)
theorem dX9_canBe_31 : decode cX9_canBe 31 = .ok (.if_icmp .lt 8, 3) := dk_161 0 8 (dk_at dksX9_canBe_1 7 rfl rfl)
theorem dX9_canBe_34 : decode cX9_canBe 34 = .ok (.iload_n 2, 1) := dk_28 (dk_at dksX9_canBe_1 10 rfl rfl)
theorem dX9_canBe_35 : decode cX9_canBe 35 = .ok (.iconst 3, 1) := dk_6 (dk_at dksX9_canBe_1 11 rfl rfl)
theorem dX9_canBe_36 : decode cX9_canBe 36 = .ok (.if_icmp .ne 7, 3) := dk_160 0 7 (dk_at dksX9_canBe_1 12 rfl rfl)
theorem dX9_canBe_39 : decode cX9_canBe 39 = .ok (.iconst 1, 1) := dk_4 (dk_at dksX9_canBe_1 15 rfl rfl)
theorem dX9_canBe_40 : decode cX9_canBe 40 = .ok (.goto 4, 3) := dk_167 0 4 (dk_at dksX9_canBe_1 16 rfl rfl)
theorem dX9_canBe_43 : decode cX9_canBe 43 = .ok (.iconst 0, 1) := dk_3 (dk_at dksX9_canBe_1 19 rfl rfl)
theorem dX9_canBe_44 : decode cX9_canBe 44 = .ok (.ireturn, 1) := dk_172 (dk_at dksX9_canBe_1 20 rfl rfl)
abbrev cX9_byStyles : ByteArray := prog_21_method_50_code
def yX9_byStyles : MethodName := ⟨RX9, "byStyles", "(III[I)I"⟩
def dkwX9_byStyles_1 : List UInt8 := [180, 0, 32, 5, 27, 104, 4, 96, 21, 5, 100, 46, 28, 29, 25, 4, 182, 0, 249, 172]
abbrev dktX9_byStyles_1 : List UInt8 := dkwX9_byStyles_1 ++ []
def dkwX9_byStyles_0 : List UInt8 := [27, 16, 121, 108, 5, 112, 54, 5, 42, 27, 42, 180, 0, 32, 5, 27, 104, 21, 5, 96, 46, 42]
abbrev dktX9_byStyles_0 : List UInt8 := dkwX9_byStyles_0 ++ dktX9_byStyles_1
theorem dksX9_byStyles_0 : cX9_byStyles.data.toList.drop 0 = dktX9_byStyles_0 := by decide +kernel
theorem dksX9_byStyles_1 : cX9_byStyles.data.toList.drop 22 = dktX9_byStyles_1 := dk_seg dksX9_byStyles_0 22 rfl rfl
theorem dX9_byStyles_0 : decode cX9_byStyles 0 = .ok (.iload_n 1, 1) := dk_27 (dk_at dksX9_byStyles_0 0 rfl rfl)
theorem dX9_byStyles_1 : decode cX9_byStyles 1 = .ok (.bipush 121, 2) := dk_16 121 (dk_at dksX9_byStyles_0 1 rfl rfl)
theorem dX9_byStyles_3 : decode cX9_byStyles 3 = .ok (.idiv, 1) := dk_108 (dk_at dksX9_byStyles_0 3 rfl rfl)
theorem dX9_byStyles_4 : decode cX9_byStyles 4 = .ok (.iconst 2, 1) := dk_5 (dk_at dksX9_byStyles_0 4 rfl rfl)
theorem dX9_byStyles_5 : decode cX9_byStyles 5 = .ok (.irem, 1) := dk_112 (dk_at dksX9_byStyles_0 5 rfl rfl)
theorem dX9_byStyles_6 : decode cX9_byStyles 6 = .ok (.istore 5, 2) := dk_54 5 (dk_at dksX9_byStyles_0 6 rfl rfl)
theorem dX9_byStyles_8 : decode cX9_byStyles 8 = .ok (.aload_n 0, 1) := dk_42 (dk_at dksX9_byStyles_0 8 rfl rfl)
theorem dX9_byStyles_9 : decode cX9_byStyles 9 = .ok (.iload_n 1, 1) := dk_27 (dk_at dksX9_byStyles_0 9 rfl rfl)
theorem dX9_byStyles_10 : decode cX9_byStyles 10 = .ok (.aload_n 0, 1) := dk_42 (dk_at dksX9_byStyles_0 10 rfl rfl)
theorem dX9_byStyles_11 : decode cX9_byStyles 11 = .ok (.getfield 32, 3) := dk_180 0 32 (dk_at dksX9_byStyles_0 11 rfl rfl)
theorem dX9_byStyles_14 : decode cX9_byStyles 14 = .ok (.iconst 2, 1) := dk_5 (dk_at dksX9_byStyles_0 14 rfl rfl)
theorem dX9_byStyles_15 : decode cX9_byStyles 15 = .ok (.iload_n 1, 1) := dk_27 (dk_at dksX9_byStyles_0 15 rfl rfl)
theorem dX9_byStyles_16 : decode cX9_byStyles 16 = .ok (.imul, 1) := dk_104 (dk_at dksX9_byStyles_0 16 rfl rfl)
theorem dX9_byStyles_17 : decode cX9_byStyles 17 = .ok (.iload 5, 2) := dk_21 5 (dk_at dksX9_byStyles_0 17 rfl rfl)
theorem dX9_byStyles_19 : decode cX9_byStyles 19 = .ok (.iadd, 1) := dk_96 (dk_at dksX9_byStyles_0 19 rfl rfl)
theorem dX9_byStyles_20 : decode cX9_byStyles 20 = .ok (.iaload, 1) := dk_46 (dk_at dksX9_byStyles_0 20 rfl rfl)
theorem dX9_byStyles_21 : decode cX9_byStyles 21 = .ok (.aload_n 0, 1) := dk_42 (dk_at dksX9_byStyles_0 21 rfl rfl)
theorem dX9_byStyles_22 : decode cX9_byStyles 22 = .ok (.getfield 32, 3) := dk_180 0 32 (dk_at dksX9_byStyles_1 0 rfl rfl)
theorem dX9_byStyles_25 : decode cX9_byStyles 25 = .ok (.iconst 2, 1) := dk_5 (dk_at dksX9_byStyles_1 3 rfl rfl)
theorem dX9_byStyles_26 : decode cX9_byStyles 26 = .ok (.iload_n 1, 1) := dk_27 (dk_at dksX9_byStyles_1 4 rfl rfl)
theorem dX9_byStyles_27 : decode cX9_byStyles 27 = .ok (.imul, 1) := dk_104 (dk_at dksX9_byStyles_1 5 rfl rfl)
theorem dX9_byStyles_28 : decode cX9_byStyles 28 = .ok (.iconst 1, 1) := dk_4 (dk_at dksX9_byStyles_1 6 rfl rfl)
theorem dX9_byStyles_29 : decode cX9_byStyles 29 = .ok (.iadd, 1) := dk_96 (dk_at dksX9_byStyles_1 7 rfl rfl)
theorem dX9_byStyles_30 : decode cX9_byStyles 30 = .ok (.iload 5, 2) := dk_21 5 (dk_at dksX9_byStyles_1 8 rfl rfl)
theorem dX9_byStyles_32 : decode cX9_byStyles 32 = .ok (.isub, 1) := dk_100 (dk_at dksX9_byStyles_1 10 rfl rfl)
theorem dX9_byStyles_33 : decode cX9_byStyles 33 = .ok (.iaload, 1) := dk_46 (dk_at dksX9_byStyles_1 11 rfl rfl)
theorem dX9_byStyles_34 : decode cX9_byStyles 34 = .ok (.iload_n 2, 1) := dk_28 (dk_at dksX9_byStyles_1 12 rfl rfl)
theorem dX9_byStyles_35 : decode cX9_byStyles 35 = .ok (.iload_n 3, 1) := dk_29 (dk_at dksX9_byStyles_1 13 rfl rfl)
theorem dX9_byStyles_36 : decode cX9_byStyles 36 = .ok (.aload 4, 2) := dk_25 4 (dk_at dksX9_byStyles_1 14 rfl rfl)
theorem dX9_byStyles_38 : decode cX9_byStyles 38 = .ok (.invokevirtual 249, 3) := dk_182 0 249 (dk_at dksX9_byStyles_1 16 rfl rfl)
theorem dX9_byStyles_41 : decode cX9_byStyles 41 = .ok (.ireturn, 1) := dk_172 (dk_at dksX9_byStyles_1 19 rfl rfl)
abbrev cX9_had : ByteArray := prog_21_method_49_code
def yX9_had : MethodName := ⟨RX9, "had", "(IIIII[I)I"⟩
def dkwX9_had_5 : List UInt8 := [132, 9, 1, 167, 255, 141, 22, 7, 20, 0, 247, 109, 136, 172]
abbrev dktX9_had_5 : List UInt8 := dkwX9_had_5 ++ []
def dkwX9_had_4 : List UInt8 := [42, 180, 0, 29, 5, 46, 21, 5, 160, 0, 15, 22, 7, 21, 10, 133, 20, 0, 245, 105, 97, 55, 7]
abbrev dktX9_had_4 : List UInt8 := dkwX9_had_4 ++ dktX9_had_5
def dkwX9_had_3 : List UInt8 := [46, 133, 105, 97, 55, 7, 167, 0, 41, 42, 180, 0, 215, 21, 4, 160, 0, 32, 21, 5, 2, 159, 0, 14]
abbrev dktX9_had_3 : List UInt8 := dkwX9_had_3 ++ dktX9_had_4
def dkwX9_had_2 : List UInt8 := [21, 9, 182, 0, 230, 42, 180, 0, 215, 2, 160, 0, 23, 22, 7, 21, 10, 133, 25, 6, 42, 182, 0, 242]
abbrev dktX9_had_2 : List UInt8 := dkwX9_had_2 ++ dktX9_had_3
def dkwX9_had_1 : List UInt8 := [96, 104, 96, 21, 9, 96, 46, 54, 10, 21, 10, 154, 0, 6, 167, 0, 80, 42, 27, 182, 0, 239, 42]
abbrev dktX9_had_1 : List UInt8 := dkwX9_had_1 ++ dktX9_had_2
def dkwX9_had_0 : List UInt8 := [9, 55, 7, 3, 54, 9, 21, 9, 16, 12, 162, 0, 114, 42, 180, 0, 7, 3, 16, 12, 7, 28, 104, 29]
abbrev dktX9_had_0 : List UInt8 := dkwX9_had_0 ++ dktX9_had_1
theorem dksX9_had_0 : cX9_had.data.toList.drop 0 = dktX9_had_0 := by decide +kernel
theorem dksX9_had_1 : cX9_had.data.toList.drop 24 = dktX9_had_1 := dk_seg dksX9_had_0 24 rfl rfl
theorem dksX9_had_2 : cX9_had.data.toList.drop 47 = dktX9_had_2 := dk_seg dksX9_had_1 23 rfl rfl
theorem dksX9_had_3 : cX9_had.data.toList.drop 71 = dktX9_had_3 := dk_seg dksX9_had_2 24 rfl rfl
theorem dksX9_had_4 : cX9_had.data.toList.drop 95 = dktX9_had_4 := dk_seg dksX9_had_3 24 rfl rfl
theorem dksX9_had_5 : cX9_had.data.toList.drop 118 = dktX9_had_5 := dk_seg dksX9_had_4 23 rfl rfl
theorem dX9_had_0 : decode cX9_had 0 = .ok (.lconst 0, 1) := dk_9 (dk_at dksX9_had_0 0 rfl rfl)
theorem dX9_had_1 : decode cX9_had 1 = .ok (.lstore 7, 2) := dk_55 7 (dk_at dksX9_had_0 1 rfl rfl)
theorem dX9_had_3 : decode cX9_had 3 = .ok (.iconst 0, 1) := dk_3 (dk_at dksX9_had_0 3 rfl rfl)
theorem dX9_had_4 : decode cX9_had 4 = .ok (.istore 9, 2) := dk_54 9 (dk_at dksX9_had_0 4 rfl rfl)
theorem dX9_had_6 : decode cX9_had 6 = .ok (.iload 9, 2) := dk_21 9 (dk_at dksX9_had_0 6 rfl rfl)
theorem dX9_had_8 : decode cX9_had 8 = .ok (.bipush 12, 2) := dk_16 12 (dk_at dksX9_had_0 8 rfl rfl)
theorem dX9_had_10 : decode cX9_had 10 = .ok (.if_icmp .ge 114, 3) := dk_162 0 114 (dk_at dksX9_had_0 10 rfl rfl)
theorem dX9_had_13 : decode cX9_had 13 = .ok (.aload_n 0, 1) := dk_42 (dk_at dksX9_had_0 13 rfl rfl)
theorem dX9_had_14 : decode cX9_had 14 = .ok (.getfield 7, 3) := dk_180 0 7 (dk_at dksX9_had_0 14 rfl rfl)
theorem dX9_had_17 : decode cX9_had 17 = .ok (.iconst 0, 1) := dk_3 (dk_at dksX9_had_0 17 rfl rfl)
theorem dX9_had_18 : decode cX9_had 18 = .ok (.bipush 12, 2) := dk_16 12 (dk_at dksX9_had_0 18 rfl rfl)
theorem dX9_had_20 : decode cX9_had 20 = .ok (.iconst 4, 1) := dk_7 (dk_at dksX9_had_0 20 rfl rfl)
theorem dX9_had_21 : decode cX9_had 21 = .ok (.iload_n 2, 1) := dk_28 (dk_at dksX9_had_0 21 rfl rfl)
theorem dX9_had_22 : decode cX9_had 22 = .ok (.imul, 1) := dk_104 (dk_at dksX9_had_0 22 rfl rfl)
theorem dX9_had_23 : decode cX9_had 23 = .ok (.iload_n 3, 1) := dk_29 (dk_at dksX9_had_0 23 rfl rfl)
theorem dX9_had_24 : decode cX9_had 24 = .ok (.iadd, 1) := dk_96 (dk_at dksX9_had_1 0 rfl rfl)
theorem dX9_had_25 : decode cX9_had 25 = .ok (.imul, 1) := dk_104 (dk_at dksX9_had_1 1 rfl rfl)
theorem dX9_had_26 : decode cX9_had 26 = .ok (.iadd, 1) := dk_96 (dk_at dksX9_had_1 2 rfl rfl)
theorem dX9_had_27 : decode cX9_had 27 = .ok (.iload 9, 2) := dk_21 9 (dk_at dksX9_had_1 3 rfl rfl)
theorem dX9_had_29 : decode cX9_had 29 = .ok (.iadd, 1) := dk_96 (dk_at dksX9_had_1 5 rfl rfl)
theorem dX9_had_30 : decode cX9_had 30 = .ok (.iaload, 1) := dk_46 (dk_at dksX9_had_1 6 rfl rfl)
theorem dX9_had_31 : decode cX9_had 31 = .ok (.istore 10, 2) := dk_54 10 (dk_at dksX9_had_1 7 rfl rfl)
theorem dX9_had_33 : decode cX9_had 33 = .ok (.iload 10, 2) := dk_21 10 (dk_at dksX9_had_1 9 rfl rfl)
theorem dX9_had_35 : decode cX9_had 35 = .ok (.ifCond .ne 6, 3) := dk_154 0 6 (dk_at dksX9_had_1 11 rfl rfl)
theorem dX9_had_38 : decode cX9_had 38 = .ok (.goto 80, 3) := dk_167 0 80 (dk_at dksX9_had_1 14 rfl rfl)
theorem dX9_had_41 : decode cX9_had 41 = .ok (.aload_n 0, 1) := dk_42 (dk_at dksX9_had_1 17 rfl rfl)
theorem dX9_had_42 : decode cX9_had 42 = .ok (.iload_n 1, 1) := dk_27 (dk_at dksX9_had_1 18 rfl rfl)
theorem dX9_had_43 : decode cX9_had 43 = .ok (.invokevirtual 239, 3) := dk_182 0 239 (dk_at dksX9_had_1 19 rfl rfl)
theorem dX9_had_46 : decode cX9_had 46 = .ok (.aload_n 0, 1) := dk_42 (dk_at dksX9_had_1 22 rfl rfl)
theorem dX9_had_47 : decode cX9_had 47 = .ok (.iload 9, 2) := dk_21 9 (dk_at dksX9_had_2 0 rfl rfl)
theorem dX9_had_49 : decode cX9_had 49 = .ok (.invokevirtual 230, 3) := dk_182 0 230 (dk_at dksX9_had_2 2 rfl rfl)
theorem dX9_had_52 : decode cX9_had 52 = .ok (.aload_n 0, 1) := dk_42 (dk_at dksX9_had_2 5 rfl rfl)
theorem dX9_had_53 : decode cX9_had 53 = .ok (.getfield 215, 3) := dk_180 0 215 (dk_at dksX9_had_2 6 rfl rfl)
theorem dX9_had_56 : decode cX9_had 56 = .ok (.iconst (-1), 1) := dk_2 (dk_at dksX9_had_2 9 rfl rfl)
theorem dX9_had_57 : decode cX9_had 57 = .ok (.if_icmp .ne 23, 3) := dk_160 0 23 (dk_at dksX9_had_2 10 rfl rfl)
theorem dX9_had_60 : decode cX9_had 60 = .ok (.lload 7, 2) := dk_22 7 (dk_at dksX9_had_2 13 rfl rfl)
theorem dX9_had_62 : decode cX9_had 62 = .ok (.iload 10, 2) := dk_21 10 (dk_at dksX9_had_2 15 rfl rfl)
theorem dX9_had_64 : decode cX9_had 64 = .ok (.i2l, 1) := dk_133 (dk_at dksX9_had_2 17 rfl rfl)
theorem dX9_had_65 : decode cX9_had 65 = .ok (.aload 6, 2) := dk_25 6 (dk_at dksX9_had_2 18 rfl rfl)
theorem dX9_had_67 : decode cX9_had 67 = .ok (.aload_n 0, 1) := dk_42 (dk_at dksX9_had_2 20 rfl rfl)
theorem dX9_had_68 : decode cX9_had 68 = .ok (.invokevirtual 242, 3) := dk_182 0 242 (dk_at dksX9_had_2 21 rfl rfl)
theorem dX9_had_71 : decode cX9_had 71 = .ok (.iaload, 1) := dk_46 (dk_at dksX9_had_3 0 rfl rfl)
theorem dX9_had_72 : decode cX9_had 72 = .ok (.i2l, 1) := dk_133 (dk_at dksX9_had_3 1 rfl rfl)
theorem dX9_had_73 : decode cX9_had 73 = .ok (.lmul, 1) := dk_105 (dk_at dksX9_had_3 2 rfl rfl)
theorem dX9_had_74 : decode cX9_had 74 = .ok (.ladd, 1) := dk_97 (dk_at dksX9_had_3 3 rfl rfl)
theorem dX9_had_75 : decode cX9_had 75 = .ok (.lstore 7, 2) := dk_55 7 (dk_at dksX9_had_3 4 rfl rfl)
theorem dX9_had_77 : decode cX9_had 77 = .ok (.goto 41, 3) := dk_167 0 41 (dk_at dksX9_had_3 6 rfl rfl)
theorem dX9_had_80 : decode cX9_had 80 = .ok (.aload_n 0, 1) := dk_42 (dk_at dksX9_had_3 9 rfl rfl)
theorem dX9_had_81 : decode cX9_had 81 = .ok (.getfield 215, 3) := dk_180 0 215 (dk_at dksX9_had_3 10 rfl rfl)
theorem dX9_had_84 : decode cX9_had 84 = .ok (.iload 4, 2) := dk_21 4 (dk_at dksX9_had_3 13 rfl rfl)
theorem dX9_had_86 : decode cX9_had 86 = .ok (.if_icmp .ne 32, 3) := dk_160 0 32 (dk_at dksX9_had_3 15 rfl rfl)
theorem dX9_had_89 : decode cX9_had 89 = .ok (.iload 5, 2) := dk_21 5 (dk_at dksX9_had_3 18 rfl rfl)
theorem dX9_had_91 : decode cX9_had 91 = .ok (.iconst (-1), 1) := dk_2 (dk_at dksX9_had_3 20 rfl rfl)
theorem dX9_had_92 : decode cX9_had 92 = .ok (.if_icmp .eq 14, 3) := dk_159 0 14 (dk_at dksX9_had_3 21 rfl rfl)
theorem dX9_had_95 : decode cX9_had 95 = .ok (.aload_n 0, 1) := dk_42 (dk_at dksX9_had_4 0 rfl rfl)
theorem dX9_had_96 : decode cX9_had 96 = .ok (.getfield 29, 3) := dk_180 0 29 (dk_at dksX9_had_4 1 rfl rfl)
theorem dX9_had_99 : decode cX9_had 99 = .ok (.iconst 2, 1) := dk_5 (dk_at dksX9_had_4 4 rfl rfl)
theorem dX9_had_100 : decode cX9_had 100 = .ok (.iaload, 1) := dk_46 (dk_at dksX9_had_4 5 rfl rfl)
theorem dX9_had_101 : decode cX9_had 101 = .ok (.iload 5, 2) := dk_21 5 (dk_at dksX9_had_4 6 rfl rfl)
theorem dX9_had_103 : decode cX9_had 103 = .ok (.if_icmp .ne 15, 3) := dk_160 0 15 (dk_at dksX9_had_4 8 rfl rfl)
theorem dX9_had_106 : decode cX9_had 106 = .ok (.lload 7, 2) := dk_22 7 (dk_at dksX9_had_4 11 rfl rfl)
theorem dX9_had_108 : decode cX9_had 108 = .ok (.iload 10, 2) := dk_21 10 (dk_at dksX9_had_4 13 rfl rfl)
theorem dX9_had_110 : decode cX9_had 110 = .ok (.i2l, 1) := dk_133 (dk_at dksX9_had_4 15 rfl rfl)
theorem dX9_had_111 : decode cX9_had 111 = .ok (.ldc2_w 245, 3) := dk_20 0 245 (dk_at dksX9_had_4 16 rfl rfl)
theorem dX9_had_114 : decode cX9_had 114 = .ok (.lmul, 1) := dk_105 (dk_at dksX9_had_4 19 rfl rfl)
theorem dX9_had_115 : decode cX9_had 115 = .ok (.ladd, 1) := dk_97 (dk_at dksX9_had_4 20 rfl rfl)
theorem dX9_had_116 : decode cX9_had 116 = .ok (.lstore 7, 2) := dk_55 7 (dk_at dksX9_had_4 21 rfl rfl)
theorem dX9_had_118 : decode cX9_had 118 = .ok (.iinc 9 1, 3) := dk_132 9 1 (dk_at dksX9_had_5 0 rfl rfl)
theorem dX9_had_121 : decode cX9_had 121 = .ok (.goto (-115), 3) := dk_167 255 141 (dk_at dksX9_had_5 3 rfl rfl)
theorem dX9_had_124 : decode cX9_had 124 = .ok (.lload 7, 2) := dk_22 7 (dk_at dksX9_had_5 6 rfl rfl)
theorem dX9_had_126 : decode cX9_had 126 = .ok (.ldc2_w 247, 3) := dk_20 0 247 (dk_at dksX9_had_5 8 rfl rfl)
theorem dX9_had_129 : decode cX9_had 129 = .ok (.ldiv, 1) := dk_109 (dk_at dksX9_had_5 11 rfl rfl)
theorem dX9_had_130 : decode cX9_had 130 = .ok (.l2i, 1) := dk_136 (dk_at dksX9_had_5 12 rfl rfl)
theorem dX9_had_131 : decode cX9_had 131 = .ok (.ireturn, 1) := dk_172 (dk_at dksX9_had_5 13 rfl rfl)
abbrev cX9_number : ByteArray := prog_21_method_45_code
def yX9_number : MethodName := ⟨RX9, "number", "()I"⟩
def dkwX9_number_4 : List UInt8 := [96, 6, 96, 17, 0, 242, 104, 16, 121, 42, 180, 0, 29, 5, 46, 104, 96, 27, 96, 172]
abbrev dktX9_number_4 : List UInt8 := dkwX9_number_4 ++ []
def dkwX9_number_3 : List UInt8 := [180, 0, 29, 7, 46, 96, 60, 42, 180, 0, 29, 3, 46, 6, 96, 16, 8, 104, 42, 180, 0, 29, 4, 46]
abbrev dktX9_number_3 : List UInt8 := dkwX9_number_3 ++ dktX9_number_4
def dkwX9_number_2 : List UInt8 := [180, 0, 29, 16, 6, 46, 4, 160, 0, 15, 16, 11, 42, 180, 0, 29, 7, 46, 96, 167, 0, 11, 4, 42]
abbrev dktX9_number_2 : List UInt8 := dkwX9_number_2 ++ dktX9_number_3
def dkwX9_number_1 : List UInt8 := [16, 21, 16, 10, 42, 180, 0, 29, 7, 46, 104, 96, 42, 180, 0, 29, 8, 46, 96, 167, 0, 34, 42]
abbrev dktX9_number_1 : List UInt8 := dkwX9_number_1 ++ dktX9_number_2
def dkwX9_number_0 : List UInt8 := [42, 180, 0, 29, 6, 46, 154, 0, 7, 3, 167, 0, 66, 42, 180, 0, 29, 6, 46, 5, 160, 0, 25]
abbrev dktX9_number_0 : List UInt8 := dkwX9_number_0 ++ dktX9_number_1
theorem dksX9_number_0 : cX9_number.data.toList.drop 0 = dktX9_number_0 := by decide +kernel
theorem dksX9_number_1 : cX9_number.data.toList.drop 23 = dktX9_number_1 := dk_seg dksX9_number_0 23 rfl rfl
theorem dksX9_number_2 : cX9_number.data.toList.drop 46 = dktX9_number_2 := dk_seg dksX9_number_1 23 rfl rfl
theorem dksX9_number_3 : cX9_number.data.toList.drop 70 = dktX9_number_3 := dk_seg dksX9_number_2 24 rfl rfl
theorem dksX9_number_4 : cX9_number.data.toList.drop 94 = dktX9_number_4 := dk_seg dksX9_number_3 24 rfl rfl
theorem dX9_number_0 : decode cX9_number 0 = .ok (.aload_n 0, 1) := dk_42 (dk_at dksX9_number_0 0 rfl rfl)
theorem dX9_number_1 : decode cX9_number 1 = .ok (.getfield 29, 3) := dk_180 0 29 (dk_at dksX9_number_0 1 rfl rfl)
theorem dX9_number_4 : decode cX9_number 4 = .ok (.iconst 3, 1) := dk_6 (dk_at dksX9_number_0 4 rfl rfl)
theorem dX9_number_5 : decode cX9_number 5 = .ok (.iaload, 1) := dk_46 (dk_at dksX9_number_0 5 rfl rfl)
theorem dX9_number_6 : decode cX9_number 6 = .ok (.ifCond .ne 7, 3) := dk_154 0 7 (dk_at dksX9_number_0 6 rfl rfl)
theorem dX9_number_9 : decode cX9_number 9 = .ok (.iconst 0, 1) := dk_3 (dk_at dksX9_number_0 9 rfl rfl)
theorem dX9_number_10 : decode cX9_number 10 = .ok (.goto 66, 3) := dk_167 0 66 (dk_at dksX9_number_0 10 rfl rfl)
theorem dX9_number_13 : decode cX9_number 13 = .ok (.aload_n 0, 1) := dk_42 (dk_at dksX9_number_0 13 rfl rfl)
theorem dX9_number_14 : decode cX9_number 14 = .ok (.getfield 29, 3) := dk_180 0 29 (dk_at dksX9_number_0 14 rfl rfl)
theorem dX9_number_17 : decode cX9_number 17 = .ok (.iconst 3, 1) := dk_6 (dk_at dksX9_number_0 17 rfl rfl)
theorem dX9_number_18 : decode cX9_number 18 = .ok (.iaload, 1) := dk_46 (dk_at dksX9_number_0 18 rfl rfl)
theorem dX9_number_19 : decode cX9_number 19 = .ok (.iconst 2, 1) := dk_5 (dk_at dksX9_number_0 19 rfl rfl)
theorem dX9_number_20 : decode cX9_number 20 = .ok (.if_icmp .ne 25, 3) := dk_160 0 25 (dk_at dksX9_number_0 20 rfl rfl)
theorem dX9_number_23 : decode cX9_number 23 = .ok (.bipush 21, 2) := dk_16 21 (dk_at dksX9_number_1 0 rfl rfl)
theorem dX9_number_25 : decode cX9_number 25 = .ok (.bipush 10, 2) := dk_16 10 (dk_at dksX9_number_1 2 rfl rfl)
theorem dX9_number_27 : decode cX9_number 27 = .ok (.aload_n 0, 1) := dk_42 (dk_at dksX9_number_1 4 rfl rfl)
theorem dX9_number_28 : decode cX9_number 28 = .ok (.getfield 29, 3) := dk_180 0 29 (dk_at dksX9_number_1 5 rfl rfl)
theorem dX9_number_31 : decode cX9_number 31 = .ok (.iconst 4, 1) := dk_7 (dk_at dksX9_number_1 8 rfl rfl)
theorem dX9_number_32 : decode cX9_number 32 = .ok (.iaload, 1) := dk_46 (dk_at dksX9_number_1 9 rfl rfl)
theorem dX9_number_33 : decode cX9_number 33 = .ok (.imul, 1) := dk_104 (dk_at dksX9_number_1 10 rfl rfl)
theorem dX9_number_34 : decode cX9_number 34 = .ok (.iadd, 1) := dk_96 (dk_at dksX9_number_1 11 rfl rfl)
theorem dX9_number_35 : decode cX9_number 35 = .ok (.aload_n 0, 1) := dk_42 (dk_at dksX9_number_1 12 rfl rfl)
theorem dX9_number_36 : decode cX9_number 36 = .ok (.getfield 29, 3) := dk_180 0 29 (dk_at dksX9_number_1 13 rfl rfl)
theorem dX9_number_39 : decode cX9_number 39 = .ok (.iconst 5, 1) := dk_8 (dk_at dksX9_number_1 16 rfl rfl)
theorem dX9_number_40 : decode cX9_number 40 = .ok (.iaload, 1) := dk_46 (dk_at dksX9_number_1 17 rfl rfl)
theorem dX9_number_41 : decode cX9_number 41 = .ok (.iadd, 1) := dk_96 (dk_at dksX9_number_1 18 rfl rfl)
theorem dX9_number_42 : decode cX9_number 42 = .ok (.goto 34, 3) := dk_167 0 34 (dk_at dksX9_number_1 19 rfl rfl)
theorem dX9_number_45 : decode cX9_number 45 = .ok (.aload_n 0, 1) := dk_42 (dk_at dksX9_number_1 22 rfl rfl)
theorem dX9_number_46 : decode cX9_number 46 = .ok (.getfield 29, 3) := dk_180 0 29 (dk_at dksX9_number_2 0 rfl rfl)
theorem dX9_number_49 : decode cX9_number 49 = .ok (.bipush 6, 2) := dk_16 6 (dk_at dksX9_number_2 3 rfl rfl)
theorem dX9_number_51 : decode cX9_number 51 = .ok (.iaload, 1) := dk_46 (dk_at dksX9_number_2 5 rfl rfl)
theorem dX9_number_52 : decode cX9_number 52 = .ok (.iconst 1, 1) := dk_4 (dk_at dksX9_number_2 6 rfl rfl)
theorem dX9_number_53 : decode cX9_number 53 = .ok (.if_icmp .ne 15, 3) := dk_160 0 15 (dk_at dksX9_number_2 7 rfl rfl)
theorem dX9_number_56 : decode cX9_number 56 = .ok (.bipush 11, 2) := dk_16 11 (dk_at dksX9_number_2 10 rfl rfl)
theorem dX9_number_58 : decode cX9_number 58 = .ok (.aload_n 0, 1) := dk_42 (dk_at dksX9_number_2 12 rfl rfl)
theorem dX9_number_59 : decode cX9_number 59 = .ok (.getfield 29, 3) := dk_180 0 29 (dk_at dksX9_number_2 13 rfl rfl)
theorem dX9_number_62 : decode cX9_number 62 = .ok (.iconst 4, 1) := dk_7 (dk_at dksX9_number_2 16 rfl rfl)
theorem dX9_number_63 : decode cX9_number 63 = .ok (.iaload, 1) := dk_46 (dk_at dksX9_number_2 17 rfl rfl)
theorem dX9_number_64 : decode cX9_number 64 = .ok (.iadd, 1) := dk_96 (dk_at dksX9_number_2 18 rfl rfl)
theorem dX9_number_65 : decode cX9_number 65 = .ok (.goto 11, 3) := dk_167 0 11 (dk_at dksX9_number_2 19 rfl rfl)
theorem dX9_number_68 : decode cX9_number 68 = .ok (.iconst 1, 1) := dk_4 (dk_at dksX9_number_2 22 rfl rfl)
theorem dX9_number_69 : decode cX9_number 69 = .ok (.aload_n 0, 1) := dk_42 (dk_at dksX9_number_2 23 rfl rfl)
theorem dX9_number_70 : decode cX9_number 70 = .ok (.getfield 29, 3) := dk_180 0 29 (dk_at dksX9_number_3 0 rfl rfl)
theorem dX9_number_73 : decode cX9_number 73 = .ok (.iconst 4, 1) := dk_7 (dk_at dksX9_number_3 3 rfl rfl)
theorem dX9_number_74 : decode cX9_number 74 = .ok (.iaload, 1) := dk_46 (dk_at dksX9_number_3 4 rfl rfl)
theorem dX9_number_75 : decode cX9_number 75 = .ok (.iadd, 1) := dk_96 (dk_at dksX9_number_3 5 rfl rfl)
theorem dX9_number_76 : decode cX9_number 76 = .ok (.istore_n 1, 1) := dk_60 (dk_at dksX9_number_3 6 rfl rfl)
theorem dX9_number_77 : decode cX9_number 77 = .ok (.aload_n 0, 1) := dk_42 (dk_at dksX9_number_3 7 rfl rfl)
theorem dX9_number_78 : decode cX9_number 78 = .ok (.getfield 29, 3) := dk_180 0 29 (dk_at dksX9_number_3 8 rfl rfl)
theorem dX9_number_81 : decode cX9_number 81 = .ok (.iconst 0, 1) := dk_3 (dk_at dksX9_number_3 11 rfl rfl)
theorem dX9_number_82 : decode cX9_number 82 = .ok (.iaload, 1) := dk_46 (dk_at dksX9_number_3 12 rfl rfl)
theorem dX9_number_83 : decode cX9_number 83 = .ok (.iconst 3, 1) := dk_6 (dk_at dksX9_number_3 13 rfl rfl)
theorem dX9_number_84 : decode cX9_number 84 = .ok (.iadd, 1) := dk_96 (dk_at dksX9_number_3 14 rfl rfl)
theorem dX9_number_85 : decode cX9_number 85 = .ok (.bipush 8, 2) := dk_16 8 (dk_at dksX9_number_3 15 rfl rfl)
theorem dX9_number_87 : decode cX9_number 87 = .ok (.imul, 1) := dk_104 (dk_at dksX9_number_3 17 rfl rfl)
theorem dX9_number_88 : decode cX9_number 88 = .ok (.aload_n 0, 1) := dk_42 (dk_at dksX9_number_3 18 rfl rfl)
theorem dX9_number_89 : decode cX9_number 89 = .ok (.getfield 29, 3) := dk_180 0 29 (dk_at dksX9_number_3 19 rfl rfl)
theorem dX9_number_92 : decode cX9_number 92 = .ok (.iconst 1, 1) := dk_4 (dk_at dksX9_number_3 22 rfl rfl)
theorem dX9_number_93 : decode cX9_number 93 = .ok (.iaload, 1) := dk_46 (dk_at dksX9_number_3 23 rfl rfl)
theorem dX9_number_94 : decode cX9_number 94 = .ok (.iadd, 1) := dk_96 (dk_at dksX9_number_4 0 rfl rfl)
theorem dX9_number_95 : decode cX9_number 95 = .ok (.iconst 3, 1) := dk_6 (dk_at dksX9_number_4 1 rfl rfl)
theorem dX9_number_96 : decode cX9_number 96 = .ok (.iadd, 1) := dk_96 (dk_at dksX9_number_4 2 rfl rfl)
theorem dX9_number_97 : decode cX9_number 97 = .ok (.sipush 242, 3) := dk_17 0 242 (dk_at dksX9_number_4 3 rfl rfl)
theorem dX9_number_100 : decode cX9_number 100 = .ok (.imul, 1) := dk_104 (dk_at dksX9_number_4 6 rfl rfl)
theorem dX9_number_101 : decode cX9_number 101 = .ok (.bipush 121, 2) := dk_16 121 (dk_at dksX9_number_4 7 rfl rfl)
theorem dX9_number_103 : decode cX9_number 103 = .ok (.aload_n 0, 1) := dk_42 (dk_at dksX9_number_4 9 rfl rfl)
theorem dX9_number_104 : decode cX9_number 104 = .ok (.getfield 29, 3) := dk_180 0 29 (dk_at dksX9_number_4 10 rfl rfl)
theorem dX9_number_107 : decode cX9_number 107 = .ok (.iconst 2, 1) := dk_5 (dk_at dksX9_number_4 13 rfl rfl)
theorem dX9_number_108 : decode cX9_number 108 = .ok (.iaload, 1) := dk_46 (dk_at dksX9_number_4 14 rfl rfl)
theorem dX9_number_109 : decode cX9_number 109 = .ok (.imul, 1) := dk_104 (dk_at dksX9_number_4 15 rfl rfl)
theorem dX9_number_110 : decode cX9_number 110 = .ok (.iadd, 1) := dk_96 (dk_at dksX9_number_4 16 rfl rfl)
theorem dX9_number_111 : decode cX9_number 111 = .ok (.iload_n 1, 1) := dk_27 (dk_at dksX9_number_4 17 rfl rfl)
theorem dX9_number_112 : decode cX9_number 112 = .ok (.iadd, 1) := dk_96 (dk_at dksX9_number_4 18 rfl rfl)
theorem dX9_number_113 : decode cX9_number 113 = .ok (.ireturn, 1) := dk_172 (dk_at dksX9_number_4 19 rfl rfl)
abbrev cX9_atNow : ByteArray := prog_21_method_52_code
def yX9_atNow : MethodName := ⟨RX9, "atNow", "()I"⟩
def dkwX9_atNow_0 : List UInt8 := [42, 182, 0, 200, 42, 182, 0, 242, 172]
abbrev dktX9_atNow_0 : List UInt8 := dkwX9_atNow_0 ++ []
theorem dksX9_atNow_0 : cX9_atNow.data.toList.drop 0 = dktX9_atNow_0 := by decide +kernel
theorem dX9_atNow_0 : decode cX9_atNow 0 = .ok (.aload_n 0, 1) := dk_42 (dk_at dksX9_atNow_0 0 rfl rfl)
theorem dX9_atNow_1 : decode cX9_atNow 1 = .ok (.invokevirtual 200, 3) := dk_182 0 200 (dk_at dksX9_atNow_0 1 rfl rfl)
theorem dX9_atNow_4 : decode cX9_atNow 4 = .ok (.aload_n 0, 1) := dk_42 (dk_at dksX9_atNow_0 4 rfl rfl)
theorem dX9_atNow_5 : decode cX9_atNow 5 = .ok (.invokevirtual 242, 3) := dk_182 0 242 (dk_at dksX9_atNow_0 5 rfl rfl)
theorem dX9_atNow_8 : decode cX9_atNow 8 = .ok (.ireturn, 1) := dk_172 (dk_at dksX9_atNow_0 8 rfl rfl)
abbrev cX9_best : ByteArray := prog_21_method_55_code
def yX9_best : MethodName := ⟨RX9, "best", "(IIZ)I"⟩
def dkwX9_best_11 : List UInt8 := [167, 255, 57, 29, 153, 0, 8, 21, 5, 167, 0, 10, 42, 180, 0, 35, 21, 4, 46, 172]
abbrev dktX9_best_11 : List UInt8 := dkwX9_best_11 ++ []
def dkwX9_best_10 : List UInt8 := [132, 10, 1, 167, 255, 152, 42, 180, 0, 35, 21, 7, 21, 9, 79, 132, 7, 1, 167, 255, 103, 132, 6, 1]
abbrev dktX9_best_10 : List UInt8 := dkwX9_best_10 ++ dktX9_best_11
def dkwX9_best_9 : List UInt8 := [167, 0, 23, 21, 11, 54, 9, 21, 7, 21, 4, 160, 0, 8, 21, 10, 167, 0, 5, 21, 5, 54, 5]
abbrev dktX9_best_9 : List UInt8 := dkwX9_best_9 ++ dktX9_best_10
def dkwX9_best_8 : List UInt8 := [96, 27, 100, 46, 21, 10, 27, 2, 42, 180, 0, 38, 182, 0, 249, 54, 11, 21, 11, 21, 9, 163, 0, 6]
abbrev dktX9_best_8 : List UInt8 := dkwX9_best_8 ++ dktX9_best_9
def dkwX9_best_7 : List UInt8 := [27, 2, 42, 180, 0, 38, 182, 0, 249, 167, 0, 30, 42, 21, 7, 42, 180, 0, 32, 5, 21, 7, 104, 4]
abbrev dktX9_best_7 : List UInt8 := dkwX9_best_7 ++ dktX9_best_8
def dkwX9_best_6 : List UInt8 := [21, 8, 27, 160, 0, 33, 42, 21, 7, 21, 10, 42, 180, 0, 32, 5, 21, 7, 104, 4, 96, 27, 100, 46]
abbrev dktX9_best_6 : List UInt8 := dkwX9_best_6 ++ dktX9_best_7
def dkwX9_best_5 : List UInt8 := [167, 0, 134, 21, 7, 16, 121, 108, 5, 112, 54, 8, 2, 54, 9, 3, 54, 10, 21, 10, 7, 162, 0, 104]
abbrev dktX9_best_5 : List UInt8 := dkwX9_best_5 ++ dktX9_best_6
def dkwX9_best_4 : List UInt8 := [167, 255, 231, 3, 54, 7, 21, 7, 17, 60, 128, 162, 0, 151, 21, 7, 184, 0, 253, 154, 0, 6]
abbrev dktX9_best_4 : List UInt8 := dkwX9_best_4 ++ dktX9_best_5
def dkwX9_best_3 : List UInt8 := [17, 60, 128, 162, 0, 23, 42, 180, 0, 38, 21, 7, 42, 180, 0, 35, 21, 7, 46, 79, 132, 7, 1]
abbrev dktX9_best_3 : List UInt8 := dkwX9_best_3 ++ dktX9_best_4
def dkwX9_best_2 : List UInt8 := [21, 6, 3, 79, 132, 6, 1, 167, 255, 237, 3, 54, 6, 21, 6, 28, 162, 0, 199, 3, 54, 7, 21, 7]
abbrev dktX9_best_2 : List UInt8 := dkwX9_best_2 ++ dktX9_best_3
def dkwX9_best_1 : List UInt8 := [182, 1, 14, 54, 4, 2, 54, 5, 3, 54, 6, 21, 6, 17, 60, 128, 162, 0, 17, 42, 180, 0, 35]
abbrev dktX9_best_1 : List UInt8 := dkwX9_best_1 ++ dktX9_best_2
def dkwX9_best_0 : List UInt8 := [42, 42, 27, 28, 182, 1, 4, 181, 0, 67, 42, 180, 0, 67, 158, 0, 5, 3, 172, 42, 182, 1, 7, 42]
abbrev dktX9_best_0 : List UInt8 := dkwX9_best_0 ++ dktX9_best_1
theorem dksX9_best_0 : cX9_best.data.toList.drop 0 = dktX9_best_0 := by decide +kernel
theorem dksX9_best_1 : cX9_best.data.toList.drop 24 = dktX9_best_1 := dk_seg dksX9_best_0 24 rfl rfl
theorem dksX9_best_2 : cX9_best.data.toList.drop 47 = dktX9_best_2 := dk_seg dksX9_best_1 23 rfl rfl
theorem dksX9_best_3 : cX9_best.data.toList.drop 71 = dktX9_best_3 := dk_seg dksX9_best_2 24 rfl rfl
theorem dksX9_best_4 : cX9_best.data.toList.drop 94 = dktX9_best_4 := dk_seg dksX9_best_3 23 rfl rfl
theorem dksX9_best_5 : cX9_best.data.toList.drop 116 = dktX9_best_5 := dk_seg dksX9_best_4 22 rfl rfl
theorem dksX9_best_6 : cX9_best.data.toList.drop 140 = dktX9_best_6 := dk_seg dksX9_best_5 24 rfl rfl
theorem dksX9_best_7 : cX9_best.data.toList.drop 164 = dktX9_best_7 := dk_seg dksX9_best_6 24 rfl rfl
theorem dksX9_best_8 : cX9_best.data.toList.drop 188 = dktX9_best_8 := dk_seg dksX9_best_7 24 rfl rfl
theorem dksX9_best_9 : cX9_best.data.toList.drop 212 = dktX9_best_9 := dk_seg dksX9_best_8 24 rfl rfl
theorem dksX9_best_10 : cX9_best.data.toList.drop 235 = dktX9_best_10 := dk_seg dksX9_best_9 23 rfl rfl
theorem dksX9_best_11 : cX9_best.data.toList.drop 259 = dktX9_best_11 := dk_seg dksX9_best_10 24 rfl rfl
theorem dX9_best_0 : decode cX9_best 0 = .ok (.aload_n 0, 1) := dk_42 (dk_at dksX9_best_0 0 rfl rfl)
theorem dX9_best_1 : decode cX9_best 1 = .ok (.aload_n 0, 1) := dk_42 (dk_at dksX9_best_0 1 rfl rfl)
theorem dX9_best_2 : decode cX9_best 2 = .ok (.iload_n 1, 1) := dk_27 (dk_at dksX9_best_0 2 rfl rfl)
theorem dX9_best_3 : decode cX9_best 3 = .ok (.iload_n 2, 1) := dk_28 (dk_at dksX9_best_0 3 rfl rfl)
theorem dX9_best_4 : decode cX9_best 4 = .ok (.invokevirtual 260, 3) := dk_182 1 4 (dk_at dksX9_best_0 4 rfl rfl)
theorem dX9_best_7 : decode cX9_best 7 = .ok (.putfield 67, 3) := dk_181 0 67 (dk_at dksX9_best_0 7 rfl rfl)
theorem dX9_best_10 : decode cX9_best 10 = .ok (.aload_n 0, 1) := dk_42 (dk_at dksX9_best_0 10 rfl rfl)
theorem dX9_best_11 : decode cX9_best 11 = .ok (.getfield 67, 3) := dk_180 0 67 (dk_at dksX9_best_0 11 rfl rfl)
theorem dX9_best_14 : decode cX9_best 14 = .ok (.ifCond .le 5, 3) := dk_158 0 5 (dk_at dksX9_best_0 14 rfl rfl)
theorem dX9_best_17 : decode cX9_best 17 = .ok (.iconst 0, 1) := dk_3 (dk_at dksX9_best_0 17 rfl rfl)
theorem dX9_best_18 : decode cX9_best 18 = .ok (.ireturn, 1) := dk_172 (dk_at dksX9_best_0 18 rfl rfl)
theorem dX9_best_19 : decode cX9_best 19 = .ok (.aload_n 0, 1) := dk_42 (dk_at dksX9_best_0 19 rfl rfl)
theorem dX9_best_20 : decode cX9_best 20 = .ok (.invokevirtual 263, 3) := dk_182 1 7 (dk_at dksX9_best_0 20 rfl rfl)
theorem dX9_best_23 : decode cX9_best 23 = .ok (.aload_n 0, 1) := dk_42 (dk_at dksX9_best_0 23 rfl rfl)
theorem dX9_best_24 : decode cX9_best 24 = .ok (.invokevirtual 270, 3) := dk_182 1 14 (dk_at dksX9_best_1 0 rfl rfl)
theorem dX9_best_27 : decode cX9_best 27 = .ok (.istore 4, 2) := dk_54 4 (dk_at dksX9_best_1 3 rfl rfl)
theorem dX9_best_29 : decode cX9_best 29 = .ok (.iconst (-1), 1) := dk_2 (dk_at dksX9_best_1 5 rfl rfl)
theorem dX9_best_30 : decode cX9_best 30 = .ok (.istore 5, 2) := dk_54 5 (dk_at dksX9_best_1 6 rfl rfl)
theorem dX9_best_32 : decode cX9_best 32 = .ok (.iconst 0, 1) := dk_3 (dk_at dksX9_best_1 8 rfl rfl)
theorem dX9_best_33 : decode cX9_best 33 = .ok (.istore 6, 2) := dk_54 6 (dk_at dksX9_best_1 9 rfl rfl)
theorem dX9_best_35 : decode cX9_best 35 = .ok (.iload 6, 2) := dk_21 6 (dk_at dksX9_best_1 11 rfl rfl)
theorem dX9_best_37 : decode cX9_best 37 = .ok (.sipush 15488, 3) := dk_17 60 128 (dk_at dksX9_best_1 13 rfl rfl)
theorem dX9_best_40 : decode cX9_best 40 = .ok (.if_icmp .ge 17, 3) := dk_162 0 17 (dk_at dksX9_best_1 16 rfl rfl)
theorem dX9_best_43 : decode cX9_best 43 = .ok (.aload_n 0, 1) := dk_42 (dk_at dksX9_best_1 19 rfl rfl)
theorem dX9_best_44 : decode cX9_best 44 = .ok (.getfield 35, 3) := dk_180 0 35 (dk_at dksX9_best_1 20 rfl rfl)
theorem dX9_best_47 : decode cX9_best 47 = .ok (.iload 6, 2) := dk_21 6 (dk_at dksX9_best_2 0 rfl rfl)
theorem dX9_best_49 : decode cX9_best 49 = .ok (.iconst 0, 1) := dk_3 (dk_at dksX9_best_2 2 rfl rfl)
theorem dX9_best_50 : decode cX9_best 50 = .ok (.iastore, 1) := dk_79 (dk_at dksX9_best_2 3 rfl rfl)
theorem dX9_best_51 : decode cX9_best 51 = .ok (.iinc 6 1, 3) := dk_132 6 1 (dk_at dksX9_best_2 4 rfl rfl)
theorem dX9_best_54 : decode cX9_best 54 = .ok (.goto (-19), 3) := dk_167 255 237 (dk_at dksX9_best_2 7 rfl rfl)
theorem dX9_best_57 : decode cX9_best 57 = .ok (.iconst 0, 1) := dk_3 (dk_at dksX9_best_2 10 rfl rfl)
theorem dX9_best_58 : decode cX9_best 58 = .ok (.istore 6, 2) := dk_54 6 (dk_at dksX9_best_2 11 rfl rfl)
theorem dX9_best_60 : decode cX9_best 60 = .ok (.iload 6, 2) := dk_21 6 (dk_at dksX9_best_2 13 rfl rfl)
theorem dX9_best_62 : decode cX9_best 62 = .ok (.iload_n 2, 1) := dk_28 (dk_at dksX9_best_2 15 rfl rfl)
theorem dX9_best_63 : decode cX9_best 63 = .ok (.if_icmp .ge 199, 3) := dk_162 0 199 (dk_at dksX9_best_2 16 rfl rfl)
theorem dX9_best_66 : decode cX9_best 66 = .ok (.iconst 0, 1) := dk_3 (dk_at dksX9_best_2 19 rfl rfl)
theorem dX9_best_67 : decode cX9_best 67 = .ok (.istore 7, 2) := dk_54 7 (dk_at dksX9_best_2 20 rfl rfl)
theorem dX9_best_69 : decode cX9_best 69 = .ok (.iload 7, 2) := dk_21 7 (dk_at dksX9_best_2 22 rfl rfl)
theorem dX9_best_71 : decode cX9_best 71 = .ok (.sipush 15488, 3) := dk_17 60 128 (dk_at dksX9_best_3 0 rfl rfl)
theorem dX9_best_74 : decode cX9_best 74 = .ok (.if_icmp .ge 23, 3) := dk_162 0 23 (dk_at dksX9_best_3 3 rfl rfl)
theorem dX9_best_77 : decode cX9_best 77 = .ok (.aload_n 0, 1) := dk_42 (dk_at dksX9_best_3 6 rfl rfl)
theorem dX9_best_78 : decode cX9_best 78 = .ok (.getfield 38, 3) := dk_180 0 38 (dk_at dksX9_best_3 7 rfl rfl)
theorem dX9_best_81 : decode cX9_best 81 = .ok (.iload 7, 2) := dk_21 7 (dk_at dksX9_best_3 10 rfl rfl)
theorem dX9_best_83 : decode cX9_best 83 = .ok (.aload_n 0, 1) := dk_42 (dk_at dksX9_best_3 12 rfl rfl)
theorem dX9_best_84 : decode cX9_best 84 = .ok (.getfield 35, 3) := dk_180 0 35 (dk_at dksX9_best_3 13 rfl rfl)
theorem dX9_best_87 : decode cX9_best 87 = .ok (.iload 7, 2) := dk_21 7 (dk_at dksX9_best_3 16 rfl rfl)
theorem dX9_best_89 : decode cX9_best 89 = .ok (.iaload, 1) := dk_46 (dk_at dksX9_best_3 18 rfl rfl)
theorem dX9_best_90 : decode cX9_best 90 = .ok (.iastore, 1) := dk_79 (dk_at dksX9_best_3 19 rfl rfl)
theorem dX9_best_91 : decode cX9_best 91 = .ok (.iinc 7 1, 3) := dk_132 7 1 (dk_at dksX9_best_3 20 rfl rfl)
theorem dX9_best_94 : decode cX9_best 94 = .ok (.goto (-25), 3) := dk_167 255 231 (dk_at dksX9_best_4 0 rfl rfl)
theorem dX9_best_97 : decode cX9_best 97 = .ok (.iconst 0, 1) := dk_3 (dk_at dksX9_best_4 3 rfl rfl)
theorem dX9_best_98 : decode cX9_best 98 = .ok (.istore 7, 2) := dk_54 7 (dk_at dksX9_best_4 4 rfl rfl)
theorem dX9_best_100 : decode cX9_best 100 = .ok (.iload 7, 2) := dk_21 7 (dk_at dksX9_best_4 6 rfl rfl)
theorem dX9_best_102 : decode cX9_best 102 = .ok (.sipush 15488, 3) := dk_17 60 128 (dk_at dksX9_best_4 8 rfl rfl)
theorem dX9_best_105 : decode cX9_best 105 = .ok (.if_icmp .ge 151, 3) := dk_162 0 151 (dk_at dksX9_best_4 11 rfl rfl)
theorem dX9_best_108 : decode cX9_best 108 = .ok (.iload 7, 2) := dk_21 7 (dk_at dksX9_best_4 14 rfl rfl)
theorem dX9_best_110 : decode cX9_best 110 = .ok (.invokestatic 253, 3) := dk_184 0 253 (dk_at dksX9_best_4 16 rfl rfl)
theorem dX9_best_113 : decode cX9_best 113 = .ok (.ifCond .ne 6, 3) := dk_154 0 6 (dk_at dksX9_best_4 19 rfl rfl)
theorem dX9_best_116 : decode cX9_best 116 = .ok (.goto 134, 3) := dk_167 0 134 (dk_at dksX9_best_5 0 rfl rfl)
theorem dX9_best_119 : decode cX9_best 119 = .ok (.iload 7, 2) := dk_21 7 (dk_at dksX9_best_5 3 rfl rfl)
theorem dX9_best_121 : decode cX9_best 121 = .ok (.bipush 121, 2) := dk_16 121 (dk_at dksX9_best_5 5 rfl rfl)
theorem dX9_best_123 : decode cX9_best 123 = .ok (.idiv, 1) := dk_108 (dk_at dksX9_best_5 7 rfl rfl)
theorem dX9_best_124 : decode cX9_best 124 = .ok (.iconst 2, 1) := dk_5 (dk_at dksX9_best_5 8 rfl rfl)
theorem dX9_best_125 : decode cX9_best 125 = .ok (.irem, 1) := dk_112 (dk_at dksX9_best_5 9 rfl rfl)
theorem dX9_best_126 : decode cX9_best 126 = .ok (.istore 8, 2) := dk_54 8 (dk_at dksX9_best_5 10 rfl rfl)
theorem dX9_best_128 : decode cX9_best 128 = .ok (.iconst (-1), 1) := dk_2 (dk_at dksX9_best_5 12 rfl rfl)
theorem dX9_best_129 : decode cX9_best 129 = .ok (.istore 9, 2) := dk_54 9 (dk_at dksX9_best_5 13 rfl rfl)
theorem dX9_best_131 : decode cX9_best 131 = .ok (.iconst 0, 1) := dk_3 (dk_at dksX9_best_5 15 rfl rfl)
theorem dX9_best_132 : decode cX9_best 132 = .ok (.istore 10, 2) := dk_54 10 (dk_at dksX9_best_5 16 rfl rfl)
theorem dX9_best_134 : decode cX9_best 134 = .ok (.iload 10, 2) := dk_21 10 (dk_at dksX9_best_5 18 rfl rfl)
theorem dX9_best_136 : decode cX9_best 136 = .ok (.iconst 4, 1) := dk_7 (dk_at dksX9_best_5 20 rfl rfl)
theorem dX9_best_137 : decode cX9_best 137 = .ok (.if_icmp .ge 104, 3) := dk_162 0 104 (dk_at dksX9_best_5 21 rfl rfl)
theorem dX9_best_140 : decode cX9_best 140 = .ok (.iload 8, 2) := dk_21 8 (dk_at dksX9_best_6 0 rfl rfl)
theorem dX9_best_142 : decode cX9_best 142 = .ok (.iload_n 1, 1) := dk_27 (dk_at dksX9_best_6 2 rfl rfl)
theorem dX9_best_143 : decode cX9_best 143 = .ok (.if_icmp .ne 33, 3) := dk_160 0 33 (dk_at dksX9_best_6 3 rfl rfl)
theorem dX9_best_146 : decode cX9_best 146 = .ok (.aload_n 0, 1) := dk_42 (dk_at dksX9_best_6 6 rfl rfl)
theorem dX9_best_147 : decode cX9_best 147 = .ok (.iload 7, 2) := dk_21 7 (dk_at dksX9_best_6 7 rfl rfl)
theorem dX9_best_149 : decode cX9_best 149 = .ok (.iload 10, 2) := dk_21 10 (dk_at dksX9_best_6 9 rfl rfl)
theorem dX9_best_151 : decode cX9_best 151 = .ok (.aload_n 0, 1) := dk_42 (dk_at dksX9_best_6 11 rfl rfl)
theorem dX9_best_152 : decode cX9_best 152 = .ok (.getfield 32, 3) := dk_180 0 32 (dk_at dksX9_best_6 12 rfl rfl)
theorem dX9_best_155 : decode cX9_best 155 = .ok (.iconst 2, 1) := dk_5 (dk_at dksX9_best_6 15 rfl rfl)
theorem dX9_best_156 : decode cX9_best 156 = .ok (.iload 7, 2) := dk_21 7 (dk_at dksX9_best_6 16 rfl rfl)
theorem dX9_best_158 : decode cX9_best 158 = .ok (.imul, 1) := dk_104 (dk_at dksX9_best_6 18 rfl rfl)
theorem dX9_best_159 : decode cX9_best 159 = .ok (.iconst 1, 1) := dk_4 (dk_at dksX9_best_6 19 rfl rfl)
theorem dX9_best_160 : decode cX9_best 160 = .ok (.iadd, 1) := dk_96 (dk_at dksX9_best_6 20 rfl rfl)
theorem dX9_best_161 : decode cX9_best 161 = .ok (.iload_n 1, 1) := dk_27 (dk_at dksX9_best_6 21 rfl rfl)
theorem dX9_best_162 : decode cX9_best 162 = .ok (.isub, 1) := dk_100 (dk_at dksX9_best_6 22 rfl rfl)
theorem dX9_best_163 : decode cX9_best 163 = .ok (.iaload, 1) := dk_46 (dk_at dksX9_best_6 23 rfl rfl)
theorem dX9_best_164 : decode cX9_best 164 = .ok (.iload_n 1, 1) := dk_27 (dk_at dksX9_best_7 0 rfl rfl)
theorem dX9_best_165 : decode cX9_best 165 = .ok (.iconst (-1), 1) := dk_2 (dk_at dksX9_best_7 1 rfl rfl)
theorem dX9_best_166 : decode cX9_best 166 = .ok (.aload_n 0, 1) := dk_42 (dk_at dksX9_best_7 2 rfl rfl)
theorem dX9_best_167 : decode cX9_best 167 = .ok (.getfield 38, 3) := dk_180 0 38 (dk_at dksX9_best_7 3 rfl rfl)
theorem dX9_best_170 : decode cX9_best 170 = .ok (.invokevirtual 249, 3) := dk_182 0 249 (dk_at dksX9_best_7 6 rfl rfl)
theorem dX9_best_173 : decode cX9_best 173 = .ok (.goto 30, 3) := dk_167 0 30 (dk_at dksX9_best_7 9 rfl rfl)
theorem dX9_best_176 : decode cX9_best 176 = .ok (.aload_n 0, 1) := dk_42 (dk_at dksX9_best_7 12 rfl rfl)
theorem dX9_best_177 : decode cX9_best 177 = .ok (.iload 7, 2) := dk_21 7 (dk_at dksX9_best_7 13 rfl rfl)
theorem dX9_best_179 : decode cX9_best 179 = .ok (.aload_n 0, 1) := dk_42 (dk_at dksX9_best_7 15 rfl rfl)
theorem dX9_best_180 : decode cX9_best 180 = .ok (.getfield 32, 3) := dk_180 0 32 (dk_at dksX9_best_7 16 rfl rfl)
theorem dX9_best_183 : decode cX9_best 183 = .ok (.iconst 2, 1) := dk_5 (dk_at dksX9_best_7 19 rfl rfl)
theorem dX9_best_184 : decode cX9_best 184 = .ok (.iload 7, 2) := dk_21 7 (dk_at dksX9_best_7 20 rfl rfl)
theorem dX9_best_186 : decode cX9_best 186 = .ok (.imul, 1) := dk_104 (dk_at dksX9_best_7 22 rfl rfl)
theorem dX9_best_187 : decode cX9_best 187 = .ok (.iconst 1, 1) := dk_4 (dk_at dksX9_best_7 23 rfl rfl)
theorem dX9_best_188 : decode cX9_best 188 = .ok (.iadd, 1) := dk_96 (dk_at dksX9_best_8 0 rfl rfl)
theorem dX9_best_189 : decode cX9_best 189 = .ok (.iload_n 1, 1) := dk_27 (dk_at dksX9_best_8 1 rfl rfl)
theorem dX9_best_190 : decode cX9_best 190 = .ok (.isub, 1) := dk_100 (dk_at dksX9_best_8 2 rfl rfl)
theorem dX9_best_191 : decode cX9_best 191 = .ok (.iaload, 1) := dk_46 (dk_at dksX9_best_8 3 rfl rfl)
theorem dX9_best_192 : decode cX9_best 192 = .ok (.iload 10, 2) := dk_21 10 (dk_at dksX9_best_8 4 rfl rfl)
theorem dX9_best_194 : decode cX9_best 194 = .ok (.iload_n 1, 1) := dk_27 (dk_at dksX9_best_8 6 rfl rfl)
theorem dX9_best_195 : decode cX9_best 195 = .ok (.iconst (-1), 1) := dk_2 (dk_at dksX9_best_8 7 rfl rfl)
theorem dX9_best_196 : decode cX9_best 196 = .ok (.aload_n 0, 1) := dk_42 (dk_at dksX9_best_8 8 rfl rfl)
theorem dX9_best_197 : decode cX9_best 197 = .ok (.getfield 38, 3) := dk_180 0 38 (dk_at dksX9_best_8 9 rfl rfl)
theorem dX9_best_200 : decode cX9_best 200 = .ok (.invokevirtual 249, 3) := dk_182 0 249 (dk_at dksX9_best_8 12 rfl rfl)
theorem dX9_best_203 : decode cX9_best 203 = .ok (.istore 11, 2) := dk_54 11 (dk_at dksX9_best_8 15 rfl rfl)
theorem dX9_best_205 : decode cX9_best 205 = .ok (.iload 11, 2) := dk_21 11 (dk_at dksX9_best_8 17 rfl rfl)
theorem dX9_best_207 : decode cX9_best 207 = .ok (.iload 9, 2) := dk_21 9 (dk_at dksX9_best_8 19 rfl rfl)
theorem dX9_best_209 : decode cX9_best 209 = .ok (.if_icmp .gt 6, 3) := dk_163 0 6 (dk_at dksX9_best_8 21 rfl rfl)
theorem dX9_best_212 : decode cX9_best 212 = .ok (.goto 23, 3) := dk_167 0 23 (dk_at dksX9_best_9 0 rfl rfl)
theorem dX9_best_215 : decode cX9_best 215 = .ok (.iload 11, 2) := dk_21 11 (dk_at dksX9_best_9 3 rfl rfl)
theorem dX9_best_217 : decode cX9_best 217 = .ok (.istore 9, 2) := dk_54 9 (dk_at dksX9_best_9 5 rfl rfl)
theorem dX9_best_219 : decode cX9_best 219 = .ok (.iload 7, 2) := dk_21 7 (dk_at dksX9_best_9 7 rfl rfl)
theorem dX9_best_221 : decode cX9_best 221 = .ok (.iload 4, 2) := dk_21 4 (dk_at dksX9_best_9 9 rfl rfl)
theorem dX9_best_223 : decode cX9_best 223 = .ok (.if_icmp .ne 8, 3) := dk_160 0 8 (dk_at dksX9_best_9 11 rfl rfl)
theorem dX9_best_226 : decode cX9_best 226 = .ok (.iload 10, 2) := dk_21 10 (dk_at dksX9_best_9 14 rfl rfl)
theorem dX9_best_228 : decode cX9_best 228 = .ok (.goto 5, 3) := dk_167 0 5 (dk_at dksX9_best_9 16 rfl rfl)
theorem dX9_best_231 : decode cX9_best 231 = .ok (.iload 5, 2) := dk_21 5 (dk_at dksX9_best_9 19 rfl rfl)
theorem dX9_best_233 : decode cX9_best 233 = .ok (.istore 5, 2) := dk_54 5 (dk_at dksX9_best_9 21 rfl rfl)
theorem dX9_best_235 : decode cX9_best 235 = .ok (.iinc 10 1, 3) := dk_132 10 1 (dk_at dksX9_best_10 0 rfl rfl)
theorem dX9_best_238 : decode cX9_best 238 = .ok (.goto (-104), 3) := dk_167 255 152 (dk_at dksX9_best_10 3 rfl rfl)
theorem dX9_best_241 : decode cX9_best 241 = .ok (.aload_n 0, 1) := dk_42 (dk_at dksX9_best_10 6 rfl rfl)
theorem dX9_best_242 : decode cX9_best 242 = .ok (.getfield 35, 3) := dk_180 0 35 (dk_at dksX9_best_10 7 rfl rfl)
theorem dX9_best_245 : decode cX9_best 245 = .ok (.iload 7, 2) := dk_21 7 (dk_at dksX9_best_10 10 rfl rfl)
theorem dX9_best_247 : decode cX9_best 247 = .ok (.iload 9, 2) := dk_21 9 (dk_at dksX9_best_10 12 rfl rfl)
theorem dX9_best_249 : decode cX9_best 249 = .ok (.iastore, 1) := dk_79 (dk_at dksX9_best_10 14 rfl rfl)
theorem dX9_best_250 : decode cX9_best 250 = .ok (.iinc 7 1, 3) := dk_132 7 1 (dk_at dksX9_best_10 15 rfl rfl)
theorem dX9_best_253 : decode cX9_best 253 = .ok (.goto (-153), 3) := dk_167 255 103 (dk_at dksX9_best_10 18 rfl rfl)
theorem dX9_best_256 : decode cX9_best 256 = .ok (.iinc 6 1, 3) := dk_132 6 1 (dk_at dksX9_best_10 21 rfl rfl)
theorem dX9_best_259 : decode cX9_best 259 = .ok (.goto (-199), 3) := dk_167 255 57 (dk_at dksX9_best_11 0 rfl rfl)
theorem dX9_best_262 : decode cX9_best 262 = .ok (.iload_n 3, 1) := dk_29 (dk_at dksX9_best_11 3 rfl rfl)
theorem dX9_best_263 : decode cX9_best 263 = .ok (.ifCond .eq 8, 3) := dk_153 0 8 (dk_at dksX9_best_11 4 rfl rfl)
theorem dX9_best_266 : decode cX9_best 266 = .ok (.iload 5, 2) := dk_21 5 (dk_at dksX9_best_11 7 rfl rfl)
theorem dX9_best_268 : decode cX9_best 268 = .ok (.goto 10, 3) := dk_167 0 10 (dk_at dksX9_best_11 9 rfl rfl)
theorem dX9_best_271 : decode cX9_best 271 = .ok (.aload_n 0, 1) := dk_42 (dk_at dksX9_best_11 12 rfl rfl)
theorem dX9_best_272 : decode cX9_best 272 = .ok (.getfield 35, 3) := dk_180 0 35 (dk_at dksX9_best_11 13 rfl rfl)
theorem dX9_best_275 : decode cX9_best 275 = .ok (.iload 4, 2) := dk_21 4 (dk_at dksX9_best_11 16 rfl rfl)
theorem dX9_best_277 : decode cX9_best 277 = .ok (.iaload, 1) := dk_46 (dk_at dksX9_best_11 18 rfl rfl)
theorem dX9_best_278 : decode cX9_best 278 = .ok (.ireturn, 1) := dk_172 (dk_at dksX9_best_11 19 rfl rfl)
abbrev cX9_saves : ByteArray := prog_21_method_56_code
def yX9_saves : MethodName := ⟨RX9, "saves", "(III)I"⟩
def dkwX9_saves_15 : List UInt8 := [21, 4, 46, 100, 172]
abbrev dktX9_saves_15 : List UInt8 := dkwX9_saves_15 ++ []
def dkwX9_saves_14 : List UInt8 := [167, 0, 28, 29, 4, 160, 0, 8, 21, 5, 167, 0, 18, 42, 180, 0, 35, 21, 4, 46, 42, 180, 0, 41]
abbrev dktX9_saves_14 : List UInt8 := dkwX9_saves_14 ++ dktX9_saves_15
def dkwX9_saves_13 : List UInt8 := [132, 7, 1, 167, 255, 142, 132, 6, 1, 167, 255, 34, 29, 154, 0, 13, 42, 180, 0, 35, 21, 4, 46]
abbrev dktX9_saves_13 : List UInt8 := dkwX9_saves_13 ++ dktX9_saves_14
def dkwX9_saves_12 : List UInt8 := [21, 8, 79, 21, 7, 21, 4, 160, 0, 17, 21, 9, 21, 8, 164, 0, 7, 4, 167, 0, 4, 3, 54, 5]
abbrev dktX9_saves_12 : List UInt8 := dkwX9_saves_12 ++ dktX9_saves_13
def dkwX9_saves_11 : List UInt8 := [182, 0, 242, 46, 54, 9, 42, 180, 0, 35, 21, 7, 21, 9, 21, 8, 164, 0, 8, 21, 9, 167, 0, 5]
abbrev dktX9_saves_11 : List UInt8 := dkwX9_saves_11 ++ dktX9_saves_12
def dkwX9_saves_10 : List UInt8 := [27, 182, 0, 236, 42, 180, 0, 215, 27, 160, 0, 9, 19, 1, 17, 167, 0, 12, 42, 180, 0, 41, 42]
abbrev dktX9_saves_10 : List UInt8 := dkwX9_saves_10 ++ dktX9_saves_11
def dkwX9_saves_9 : List UInt8 := [167, 0, 95, 42, 21, 7, 27, 2, 42, 180, 0, 38, 182, 1, 0, 54, 8, 42, 21, 7, 182, 0, 239, 42]
abbrev dktX9_saves_9 : List UInt8 := dkwX9_saves_9 ++ dktX9_saves_10
def dkwX9_saves_8 : List UInt8 := [167, 255, 214, 3, 54, 7, 21, 7, 17, 60, 128, 162, 0, 112, 21, 7, 184, 0, 253, 154, 0, 6]
abbrev dktX9_saves_8 : List UInt8 := dkwX9_saves_8 ++ dktX9_saves_9
def dkwX9_saves_7 : List UInt8 := [153, 0, 18, 42, 21, 7, 27, 2, 42, 180, 0, 44, 182, 1, 0, 167, 0, 4, 3, 79, 132, 7, 1]
abbrev dktX9_saves_7 : List UInt8 := dkwX9_saves_7 ++ dktX9_saves_8
def dkwX9_saves_6 : List UInt8 := [3, 54, 7, 21, 7, 17, 60, 128, 162, 0, 40, 42, 180, 0, 41, 21, 7, 21, 7, 184, 0, 253]
abbrev dktX9_saves_6 : List UInt8 := dkwX9_saves_6 ++ dktX9_saves_7
def dkwX9_saves_5 : List UInt8 := [21, 7, 46, 79, 42, 180, 0, 44, 21, 7, 42, 180, 0, 41, 21, 7, 46, 79, 132, 7, 1, 167, 255, 217]
abbrev dktX9_saves_5 : List UInt8 := dkwX9_saves_5 ++ dktX9_saves_6
def dkwX9_saves_4 : List UInt8 := [162, 0, 222, 3, 54, 7, 21, 7, 17, 60, 128, 162, 0, 37, 42, 180, 0, 38, 21, 7, 42, 180, 0, 35]
abbrev dktX9_saves_4 : List UInt8 := dkwX9_saves_4 ++ dktX9_saves_5
def dkwX9_saves_3 : List UInt8 := [21, 6, 3, 79, 42, 180, 0, 41, 21, 6, 3, 79, 132, 6, 1, 167, 255, 229, 3, 54, 6, 21, 6, 28]
abbrev dktX9_saves_3 : List UInt8 := dkwX9_saves_3 ++ dktX9_saves_4
def dkwX9_saves_2 : List UInt8 := [182, 1, 14, 54, 4, 3, 54, 5, 3, 54, 6, 21, 6, 17, 60, 128, 162, 0, 25, 42, 180, 0, 35]
abbrev dktX9_saves_2 : List UInt8 := dkwX9_saves_2 ++ dktX9_saves_3
def dkwX9_saves_1 : List UInt8 := [154, 0, 8, 42, 7, 181, 0, 67, 42, 180, 0, 67, 158, 0, 5, 3, 172, 42, 182, 1, 7, 42]
abbrev dktX9_saves_1 : List UInt8 := dkwX9_saves_1 ++ dktX9_saves_2
def dkwX9_saves_0 : List UInt8 := [42, 42, 27, 28, 182, 1, 4, 181, 0, 67, 42, 180, 0, 67, 154, 0, 17, 29, 3, 5, 184, 0, 70]
abbrev dktX9_saves_0 : List UInt8 := dkwX9_saves_0 ++ dktX9_saves_1
theorem dksX9_saves_0 : cX9_saves.data.toList.drop 0 = dktX9_saves_0 := by decide +kernel
theorem dksX9_saves_1 : cX9_saves.data.toList.drop 23 = dktX9_saves_1 := dk_seg dksX9_saves_0 23 rfl rfl
theorem dksX9_saves_2 : cX9_saves.data.toList.drop 45 = dktX9_saves_2 := dk_seg dksX9_saves_1 22 rfl rfl
theorem dksX9_saves_3 : cX9_saves.data.toList.drop 68 = dktX9_saves_3 := dk_seg dksX9_saves_2 23 rfl rfl
theorem dksX9_saves_4 : cX9_saves.data.toList.drop 92 = dktX9_saves_4 := dk_seg dksX9_saves_3 24 rfl rfl
theorem dksX9_saves_5 : cX9_saves.data.toList.drop 116 = dktX9_saves_5 := dk_seg dksX9_saves_4 24 rfl rfl
theorem dksX9_saves_6 : cX9_saves.data.toList.drop 140 = dktX9_saves_6 := dk_seg dksX9_saves_5 24 rfl rfl
theorem dksX9_saves_7 : cX9_saves.data.toList.drop 162 = dktX9_saves_7 := dk_seg dksX9_saves_6 22 rfl rfl
theorem dksX9_saves_8 : cX9_saves.data.toList.drop 185 = dktX9_saves_8 := dk_seg dksX9_saves_7 23 rfl rfl
theorem dksX9_saves_9 : cX9_saves.data.toList.drop 207 = dktX9_saves_9 := dk_seg dksX9_saves_8 22 rfl rfl
theorem dksX9_saves_10 : cX9_saves.data.toList.drop 231 = dktX9_saves_10 := dk_seg dksX9_saves_9 24 rfl rfl
theorem dksX9_saves_11 : cX9_saves.data.toList.drop 254 = dktX9_saves_11 := dk_seg dksX9_saves_10 23 rfl rfl
theorem dksX9_saves_12 : cX9_saves.data.toList.drop 278 = dktX9_saves_12 := dk_seg dksX9_saves_11 24 rfl rfl
theorem dksX9_saves_13 : cX9_saves.data.toList.drop 302 = dktX9_saves_13 := dk_seg dksX9_saves_12 24 rfl rfl
theorem dksX9_saves_14 : cX9_saves.data.toList.drop 325 = dktX9_saves_14 := dk_seg dksX9_saves_13 23 rfl rfl
theorem dksX9_saves_15 : cX9_saves.data.toList.drop 349 = dktX9_saves_15 := dk_seg dksX9_saves_14 24 rfl rfl
theorem dX9_saves_0 : decode cX9_saves 0 = .ok (.aload_n 0, 1) := dk_42 (dk_at dksX9_saves_0 0 rfl rfl)
theorem dX9_saves_1 : decode cX9_saves 1 = .ok (.aload_n 0, 1) := dk_42 (dk_at dksX9_saves_0 1 rfl rfl)
theorem dX9_saves_2 : decode cX9_saves 2 = .ok (.iload_n 1, 1) := dk_27 (dk_at dksX9_saves_0 2 rfl rfl)
theorem dX9_saves_3 : decode cX9_saves 3 = .ok (.iload_n 2, 1) := dk_28 (dk_at dksX9_saves_0 3 rfl rfl)
theorem dX9_saves_4 : decode cX9_saves 4 = .ok (.invokevirtual 260, 3) := dk_182 1 4 (dk_at dksX9_saves_0 4 rfl rfl)
theorem dX9_saves_7 : decode cX9_saves 7 = .ok (.putfield 67, 3) := dk_181 0 67 (dk_at dksX9_saves_0 7 rfl rfl)
theorem dX9_saves_10 : decode cX9_saves 10 = .ok (.aload_n 0, 1) := dk_42 (dk_at dksX9_saves_0 10 rfl rfl)
theorem dX9_saves_11 : decode cX9_saves 11 = .ok (.getfield 67, 3) := dk_180 0 67 (dk_at dksX9_saves_0 11 rfl rfl)
theorem dX9_saves_14 : decode cX9_saves 14 = .ok (.ifCond .ne 17, 3) := dk_154 0 17 (dk_at dksX9_saves_0 14 rfl rfl)
theorem dX9_saves_17 : decode cX9_saves 17 = .ok (.iload_n 3, 1) := dk_29 (dk_at dksX9_saves_0 17 rfl rfl)
theorem dX9_saves_18 : decode cX9_saves 18 = .ok (.iconst 0, 1) := dk_3 (dk_at dksX9_saves_0 18 rfl rfl)
theorem dX9_saves_19 : decode cX9_saves 19 = .ok (.iconst 2, 1) := dk_5 (dk_at dksX9_saves_0 19 rfl rfl)
theorem dX9_saves_20 : decode cX9_saves 20 = .ok (.invokestatic 70, 3) := dk_184 0 70 (dk_at dksX9_saves_0 20 rfl rfl)
theorem dX9_saves_23 : decode cX9_saves 23 = .ok (.ifCond .ne 8, 3) := dk_154 0 8 (dk_at dksX9_saves_1 0 rfl rfl)
theorem dX9_saves_26 : decode cX9_saves 26 = .ok (.aload_n 0, 1) := dk_42 (dk_at dksX9_saves_1 3 rfl rfl)
theorem dX9_saves_27 : decode cX9_saves 27 = .ok (.iconst 4, 1) := dk_7 (dk_at dksX9_saves_1 4 rfl rfl)
theorem dX9_saves_28 : decode cX9_saves 28 = .ok (.putfield 67, 3) := dk_181 0 67 (dk_at dksX9_saves_1 5 rfl rfl)
theorem dX9_saves_31 : decode cX9_saves 31 = .ok (.aload_n 0, 1) := dk_42 (dk_at dksX9_saves_1 8 rfl rfl)
theorem dX9_saves_32 : decode cX9_saves 32 = .ok (.getfield 67, 3) := dk_180 0 67 (dk_at dksX9_saves_1 9 rfl rfl)
theorem dX9_saves_35 : decode cX9_saves 35 = .ok (.ifCond .le 5, 3) := dk_158 0 5 (dk_at dksX9_saves_1 12 rfl rfl)
theorem dX9_saves_38 : decode cX9_saves 38 = .ok (.iconst 0, 1) := dk_3 (dk_at dksX9_saves_1 15 rfl rfl)
theorem dX9_saves_39 : decode cX9_saves 39 = .ok (.ireturn, 1) := dk_172 (dk_at dksX9_saves_1 16 rfl rfl)
theorem dX9_saves_40 : decode cX9_saves 40 = .ok (.aload_n 0, 1) := dk_42 (dk_at dksX9_saves_1 17 rfl rfl)
theorem dX9_saves_41 : decode cX9_saves 41 = .ok (.invokevirtual 263, 3) := dk_182 1 7 (dk_at dksX9_saves_1 18 rfl rfl)
theorem dX9_saves_44 : decode cX9_saves 44 = .ok (.aload_n 0, 1) := dk_42 (dk_at dksX9_saves_1 21 rfl rfl)
theorem dX9_saves_45 : decode cX9_saves 45 = .ok (.invokevirtual 270, 3) := dk_182 1 14 (dk_at dksX9_saves_2 0 rfl rfl)
theorem dX9_saves_48 : decode cX9_saves 48 = .ok (.istore 4, 2) := dk_54 4 (dk_at dksX9_saves_2 3 rfl rfl)
theorem dX9_saves_50 : decode cX9_saves 50 = .ok (.iconst 0, 1) := dk_3 (dk_at dksX9_saves_2 5 rfl rfl)
theorem dX9_saves_51 : decode cX9_saves 51 = .ok (.istore 5, 2) := dk_54 5 (dk_at dksX9_saves_2 6 rfl rfl)
theorem dX9_saves_53 : decode cX9_saves 53 = .ok (.iconst 0, 1) := dk_3 (dk_at dksX9_saves_2 8 rfl rfl)
theorem dX9_saves_54 : decode cX9_saves 54 = .ok (.istore 6, 2) := dk_54 6 (dk_at dksX9_saves_2 9 rfl rfl)
theorem dX9_saves_56 : decode cX9_saves 56 = .ok (.iload 6, 2) := dk_21 6 (dk_at dksX9_saves_2 11 rfl rfl)
theorem dX9_saves_58 : decode cX9_saves 58 = .ok (.sipush 15488, 3) := dk_17 60 128 (dk_at dksX9_saves_2 13 rfl rfl)
theorem dX9_saves_61 : decode cX9_saves 61 = .ok (.if_icmp .ge 25, 3) := dk_162 0 25 (dk_at dksX9_saves_2 16 rfl rfl)
theorem dX9_saves_64 : decode cX9_saves 64 = .ok (.aload_n 0, 1) := dk_42 (dk_at dksX9_saves_2 19 rfl rfl)
theorem dX9_saves_65 : decode cX9_saves 65 = .ok (.getfield 35, 3) := dk_180 0 35 (dk_at dksX9_saves_2 20 rfl rfl)
theorem dX9_saves_68 : decode cX9_saves 68 = .ok (.iload 6, 2) := dk_21 6 (dk_at dksX9_saves_3 0 rfl rfl)
theorem dX9_saves_70 : decode cX9_saves 70 = .ok (.iconst 0, 1) := dk_3 (dk_at dksX9_saves_3 2 rfl rfl)
theorem dX9_saves_71 : decode cX9_saves 71 = .ok (.iastore, 1) := dk_79 (dk_at dksX9_saves_3 3 rfl rfl)
theorem dX9_saves_72 : decode cX9_saves 72 = .ok (.aload_n 0, 1) := dk_42 (dk_at dksX9_saves_3 4 rfl rfl)
theorem dX9_saves_73 : decode cX9_saves 73 = .ok (.getfield 41, 3) := dk_180 0 41 (dk_at dksX9_saves_3 5 rfl rfl)
theorem dX9_saves_76 : decode cX9_saves 76 = .ok (.iload 6, 2) := dk_21 6 (dk_at dksX9_saves_3 8 rfl rfl)
theorem dX9_saves_78 : decode cX9_saves 78 = .ok (.iconst 0, 1) := dk_3 (dk_at dksX9_saves_3 10 rfl rfl)
theorem dX9_saves_79 : decode cX9_saves 79 = .ok (.iastore, 1) := dk_79 (dk_at dksX9_saves_3 11 rfl rfl)
theorem dX9_saves_80 : decode cX9_saves 80 = .ok (.iinc 6 1, 3) := dk_132 6 1 (dk_at dksX9_saves_3 12 rfl rfl)
theorem dX9_saves_83 : decode cX9_saves 83 = .ok (.goto (-27), 3) := dk_167 255 229 (dk_at dksX9_saves_3 15 rfl rfl)
theorem dX9_saves_86 : decode cX9_saves 86 = .ok (.iconst 0, 1) := dk_3 (dk_at dksX9_saves_3 18 rfl rfl)
theorem dX9_saves_87 : decode cX9_saves 87 = .ok (.istore 6, 2) := dk_54 6 (dk_at dksX9_saves_3 19 rfl rfl)
theorem dX9_saves_89 : decode cX9_saves 89 = .ok (.iload 6, 2) := dk_21 6 (dk_at dksX9_saves_3 21 rfl rfl)
theorem dX9_saves_91 : decode cX9_saves 91 = .ok (.iload_n 2, 1) := dk_28 (dk_at dksX9_saves_3 23 rfl rfl)
theorem dX9_saves_92 : decode cX9_saves 92 = .ok (.if_icmp .ge 222, 3) := dk_162 0 222 (dk_at dksX9_saves_4 0 rfl rfl)
theorem dX9_saves_95 : decode cX9_saves 95 = .ok (.iconst 0, 1) := dk_3 (dk_at dksX9_saves_4 3 rfl rfl)
theorem dX9_saves_96 : decode cX9_saves 96 = .ok (.istore 7, 2) := dk_54 7 (dk_at dksX9_saves_4 4 rfl rfl)
theorem dX9_saves_98 : decode cX9_saves 98 = .ok (.iload 7, 2) := dk_21 7 (dk_at dksX9_saves_4 6 rfl rfl)
theorem dX9_saves_100 : decode cX9_saves 100 = .ok (.sipush 15488, 3) := dk_17 60 128 (dk_at dksX9_saves_4 8 rfl rfl)
theorem dX9_saves_103 : decode cX9_saves 103 = .ok (.if_icmp .ge 37, 3) := dk_162 0 37 (dk_at dksX9_saves_4 11 rfl rfl)
theorem dX9_saves_106 : decode cX9_saves 106 = .ok (.aload_n 0, 1) := dk_42 (dk_at dksX9_saves_4 14 rfl rfl)
theorem dX9_saves_107 : decode cX9_saves 107 = .ok (.getfield 38, 3) := dk_180 0 38 (dk_at dksX9_saves_4 15 rfl rfl)
theorem dX9_saves_110 : decode cX9_saves 110 = .ok (.iload 7, 2) := dk_21 7 (dk_at dksX9_saves_4 18 rfl rfl)
theorem dX9_saves_112 : decode cX9_saves 112 = .ok (.aload_n 0, 1) := dk_42 (dk_at dksX9_saves_4 20 rfl rfl)
theorem dX9_saves_113 : decode cX9_saves 113 = .ok (.getfield 35, 3) := dk_180 0 35 (dk_at dksX9_saves_4 21 rfl rfl)
theorem dX9_saves_116 : decode cX9_saves 116 = .ok (.iload 7, 2) := dk_21 7 (dk_at dksX9_saves_5 0 rfl rfl)
theorem dX9_saves_118 : decode cX9_saves 118 = .ok (.iaload, 1) := dk_46 (dk_at dksX9_saves_5 2 rfl rfl)
theorem dX9_saves_119 : decode cX9_saves 119 = .ok (.iastore, 1) := dk_79 (dk_at dksX9_saves_5 3 rfl rfl)
theorem dX9_saves_120 : decode cX9_saves 120 = .ok (.aload_n 0, 1) := dk_42 (dk_at dksX9_saves_5 4 rfl rfl)
theorem dX9_saves_121 : decode cX9_saves 121 = .ok (.getfield 44, 3) := dk_180 0 44 (dk_at dksX9_saves_5 5 rfl rfl)
theorem dX9_saves_124 : decode cX9_saves 124 = .ok (.iload 7, 2) := dk_21 7 (dk_at dksX9_saves_5 8 rfl rfl)
theorem dX9_saves_126 : decode cX9_saves 126 = .ok (.aload_n 0, 1) := dk_42 (dk_at dksX9_saves_5 10 rfl rfl)
theorem dX9_saves_127 : decode cX9_saves 127 = .ok (.getfield 41, 3) := dk_180 0 41 (dk_at dksX9_saves_5 11 rfl rfl)
theorem dX9_saves_130 : decode cX9_saves 130 = .ok (.iload 7, 2) := dk_21 7 (dk_at dksX9_saves_5 14 rfl rfl)
theorem dX9_saves_132 : decode cX9_saves 132 = .ok (.iaload, 1) := dk_46 (dk_at dksX9_saves_5 16 rfl rfl)
theorem dX9_saves_133 : decode cX9_saves 133 = .ok (.iastore, 1) := dk_79 (dk_at dksX9_saves_5 17 rfl rfl)
theorem dX9_saves_134 : decode cX9_saves 134 = .ok (.iinc 7 1, 3) := dk_132 7 1 (dk_at dksX9_saves_5 18 rfl rfl)
theorem dX9_saves_137 : decode cX9_saves 137 = .ok (.goto (-39), 3) := dk_167 255 217 (dk_at dksX9_saves_5 21 rfl rfl)
theorem dX9_saves_140 : decode cX9_saves 140 = .ok (.iconst 0, 1) := dk_3 (dk_at dksX9_saves_6 0 rfl rfl)
theorem dX9_saves_141 : decode cX9_saves 141 = .ok (.istore 7, 2) := dk_54 7 (dk_at dksX9_saves_6 1 rfl rfl)
theorem dX9_saves_143 : decode cX9_saves 143 = .ok (.iload 7, 2) := dk_21 7 (dk_at dksX9_saves_6 3 rfl rfl)
theorem dX9_saves_145 : decode cX9_saves 145 = .ok (.sipush 15488, 3) := dk_17 60 128 (dk_at dksX9_saves_6 5 rfl rfl)
theorem dX9_saves_148 : decode cX9_saves 148 = .ok (.if_icmp .ge 40, 3) := dk_162 0 40 (dk_at dksX9_saves_6 8 rfl rfl)
theorem dX9_saves_151 : decode cX9_saves 151 = .ok (.aload_n 0, 1) := dk_42 (dk_at dksX9_saves_6 11 rfl rfl)
theorem dX9_saves_152 : decode cX9_saves 152 = .ok (.getfield 41, 3) := dk_180 0 41 (dk_at dksX9_saves_6 12 rfl rfl)
theorem dX9_saves_155 : decode cX9_saves 155 = .ok (.iload 7, 2) := dk_21 7 (dk_at dksX9_saves_6 15 rfl rfl)
theorem dX9_saves_157 : decode cX9_saves 157 = .ok (.iload 7, 2) := dk_21 7 (dk_at dksX9_saves_6 17 rfl rfl)
theorem dX9_saves_159 : decode cX9_saves 159 = .ok (.invokestatic 253, 3) := dk_184 0 253 (dk_at dksX9_saves_6 19 rfl rfl)
theorem dX9_saves_162 : decode cX9_saves 162 = .ok (.ifCond .eq 18, 3) := dk_153 0 18 (dk_at dksX9_saves_7 0 rfl rfl)
theorem dX9_saves_165 : decode cX9_saves 165 = .ok (.aload_n 0, 1) := dk_42 (dk_at dksX9_saves_7 3 rfl rfl)
theorem dX9_saves_166 : decode cX9_saves 166 = .ok (.iload 7, 2) := dk_21 7 (dk_at dksX9_saves_7 4 rfl rfl)
theorem dX9_saves_168 : decode cX9_saves 168 = .ok (.iload_n 1, 1) := dk_27 (dk_at dksX9_saves_7 6 rfl rfl)
theorem dX9_saves_169 : decode cX9_saves 169 = .ok (.iconst (-1), 1) := dk_2 (dk_at dksX9_saves_7 7 rfl rfl)
theorem dX9_saves_170 : decode cX9_saves 170 = .ok (.aload_n 0, 1) := dk_42 (dk_at dksX9_saves_7 8 rfl rfl)
theorem dX9_saves_171 : decode cX9_saves 171 = .ok (.getfield 44, 3) := dk_180 0 44 (dk_at dksX9_saves_7 9 rfl rfl)
theorem dX9_saves_174 : decode cX9_saves 174 = .ok (.invokevirtual 256, 3) := dk_182 1 0 (dk_at dksX9_saves_7 12 rfl rfl)
theorem dX9_saves_177 : decode cX9_saves 177 = .ok (.goto 4, 3) := dk_167 0 4 (dk_at dksX9_saves_7 15 rfl rfl)
theorem dX9_saves_180 : decode cX9_saves 180 = .ok (.iconst 0, 1) := dk_3 (dk_at dksX9_saves_7 18 rfl rfl)
theorem dX9_saves_181 : decode cX9_saves 181 = .ok (.iastore, 1) := dk_79 (dk_at dksX9_saves_7 19 rfl rfl)
theorem dX9_saves_182 : decode cX9_saves 182 = .ok (.iinc 7 1, 3) := dk_132 7 1 (dk_at dksX9_saves_7 20 rfl rfl)
theorem dX9_saves_185 : decode cX9_saves 185 = .ok (.goto (-42), 3) := dk_167 255 214 (dk_at dksX9_saves_8 0 rfl rfl)
theorem dX9_saves_188 : decode cX9_saves 188 = .ok (.iconst 0, 1) := dk_3 (dk_at dksX9_saves_8 3 rfl rfl)
theorem dX9_saves_189 : decode cX9_saves 189 = .ok (.istore 7, 2) := dk_54 7 (dk_at dksX9_saves_8 4 rfl rfl)
theorem dX9_saves_191 : decode cX9_saves 191 = .ok (.iload 7, 2) := dk_21 7 (dk_at dksX9_saves_8 6 rfl rfl)
theorem dX9_saves_193 : decode cX9_saves 193 = .ok (.sipush 15488, 3) := dk_17 60 128 (dk_at dksX9_saves_8 8 rfl rfl)
theorem dX9_saves_196 : decode cX9_saves 196 = .ok (.if_icmp .ge 112, 3) := dk_162 0 112 (dk_at dksX9_saves_8 11 rfl rfl)
theorem dX9_saves_199 : decode cX9_saves 199 = .ok (.iload 7, 2) := dk_21 7 (dk_at dksX9_saves_8 14 rfl rfl)
theorem dX9_saves_201 : decode cX9_saves 201 = .ok (.invokestatic 253, 3) := dk_184 0 253 (dk_at dksX9_saves_8 16 rfl rfl)
theorem dX9_saves_204 : decode cX9_saves 204 = .ok (.ifCond .ne 6, 3) := dk_154 0 6 (dk_at dksX9_saves_8 19 rfl rfl)
theorem dX9_saves_207 : decode cX9_saves 207 = .ok (.goto 95, 3) := dk_167 0 95 (dk_at dksX9_saves_9 0 rfl rfl)
theorem dX9_saves_210 : decode cX9_saves 210 = .ok (.aload_n 0, 1) := dk_42 (dk_at dksX9_saves_9 3 rfl rfl)
theorem dX9_saves_211 : decode cX9_saves 211 = .ok (.iload 7, 2) := dk_21 7 (dk_at dksX9_saves_9 4 rfl rfl)
theorem dX9_saves_213 : decode cX9_saves 213 = .ok (.iload_n 1, 1) := dk_27 (dk_at dksX9_saves_9 6 rfl rfl)
theorem dX9_saves_214 : decode cX9_saves 214 = .ok (.iconst (-1), 1) := dk_2 (dk_at dksX9_saves_9 7 rfl rfl)
theorem dX9_saves_215 : decode cX9_saves 215 = .ok (.aload_n 0, 1) := dk_42 (dk_at dksX9_saves_9 8 rfl rfl)
theorem dX9_saves_216 : decode cX9_saves 216 = .ok (.getfield 38, 3) := dk_180 0 38 (dk_at dksX9_saves_9 9 rfl rfl)
theorem dX9_saves_219 : decode cX9_saves 219 = .ok (.invokevirtual 256, 3) := dk_182 1 0 (dk_at dksX9_saves_9 12 rfl rfl)
theorem dX9_saves_222 : decode cX9_saves 222 = .ok (.istore 8, 2) := dk_54 8 (dk_at dksX9_saves_9 15 rfl rfl)
theorem dX9_saves_224 : decode cX9_saves 224 = .ok (.aload_n 0, 1) := dk_42 (dk_at dksX9_saves_9 17 rfl rfl)
theorem dX9_saves_225 : decode cX9_saves 225 = .ok (.iload 7, 2) := dk_21 7 (dk_at dksX9_saves_9 18 rfl rfl)
theorem dX9_saves_227 : decode cX9_saves 227 = .ok (.invokevirtual 239, 3) := dk_182 0 239 (dk_at dksX9_saves_9 20 rfl rfl)
theorem dX9_saves_230 : decode cX9_saves 230 = .ok (.aload_n 0, 1) := dk_42 (dk_at dksX9_saves_9 23 rfl rfl)
theorem dX9_saves_231 : decode cX9_saves 231 = .ok (.iload_n 1, 1) := dk_27 (dk_at dksX9_saves_10 0 rfl rfl)
theorem dX9_saves_232 : decode cX9_saves 232 = .ok (.invokevirtual 236, 3) := dk_182 0 236 (dk_at dksX9_saves_10 1 rfl rfl)
theorem dX9_saves_235 : decode cX9_saves 235 = .ok (.aload_n 0, 1) := dk_42 (dk_at dksX9_saves_10 4 rfl rfl)
theorem dX9_saves_236 : decode cX9_saves 236 = .ok (.getfield 215, 3) := dk_180 0 215 (dk_at dksX9_saves_10 5 rfl rfl)
theorem dX9_saves_239 : decode cX9_saves 239 = .ok (.iload_n 1, 1) := dk_27 (dk_at dksX9_saves_10 8 rfl rfl)
theorem dX9_saves_240 : decode cX9_saves 240 = .ok (.if_icmp .ne 9, 3) := dk_160 0 9 (dk_at dksX9_saves_10 9 rfl rfl)
theorem dX9_saves_243 : decode cX9_saves 243 = .ok (.ldc_w 273, 3) := dk_19 1 17 (dk_at dksX9_saves_10 12 rfl rfl)
theorem dX9_saves_246 : decode cX9_saves 246 = .ok (.goto 12, 3) := dk_167 0 12 (dk_at dksX9_saves_10 15 rfl rfl)
theorem dX9_saves_249 : decode cX9_saves 249 = .ok (.aload_n 0, 1) := dk_42 (dk_at dksX9_saves_10 18 rfl rfl)
theorem dX9_saves_250 : decode cX9_saves 250 = .ok (.getfield 41, 3) := dk_180 0 41 (dk_at dksX9_saves_10 19 rfl rfl)
theorem dX9_saves_253 : decode cX9_saves 253 = .ok (.aload_n 0, 1) := dk_42 (dk_at dksX9_saves_10 22 rfl rfl)
theorem dX9_saves_254 : decode cX9_saves 254 = .ok (.invokevirtual 242, 3) := dk_182 0 242 (dk_at dksX9_saves_11 0 rfl rfl)
theorem dX9_saves_257 : decode cX9_saves 257 = .ok (.iaload, 1) := dk_46 (dk_at dksX9_saves_11 3 rfl rfl)
theorem dX9_saves_258 : decode cX9_saves 258 = .ok (.istore 9, 2) := dk_54 9 (dk_at dksX9_saves_11 4 rfl rfl)
theorem dX9_saves_260 : decode cX9_saves 260 = .ok (.aload_n 0, 1) := dk_42 (dk_at dksX9_saves_11 6 rfl rfl)
theorem dX9_saves_261 : decode cX9_saves 261 = .ok (.getfield 35, 3) := dk_180 0 35 (dk_at dksX9_saves_11 7 rfl rfl)
theorem dX9_saves_264 : decode cX9_saves 264 = .ok (.iload 7, 2) := dk_21 7 (dk_at dksX9_saves_11 10 rfl rfl)
theorem dX9_saves_266 : decode cX9_saves 266 = .ok (.iload 9, 2) := dk_21 9 (dk_at dksX9_saves_11 12 rfl rfl)
theorem dX9_saves_268 : decode cX9_saves 268 = .ok (.iload 8, 2) := dk_21 8 (dk_at dksX9_saves_11 14 rfl rfl)
theorem dX9_saves_270 : decode cX9_saves 270 = .ok (.if_icmp .le 8, 3) := dk_164 0 8 (dk_at dksX9_saves_11 16 rfl rfl)
theorem dX9_saves_273 : decode cX9_saves 273 = .ok (.iload 9, 2) := dk_21 9 (dk_at dksX9_saves_11 19 rfl rfl)
theorem dX9_saves_275 : decode cX9_saves 275 = .ok (.goto 5, 3) := dk_167 0 5 (dk_at dksX9_saves_11 21 rfl rfl)
theorem dX9_saves_278 : decode cX9_saves 278 = .ok (.iload 8, 2) := dk_21 8 (dk_at dksX9_saves_12 0 rfl rfl)
theorem dX9_saves_280 : decode cX9_saves 280 = .ok (.iastore, 1) := dk_79 (dk_at dksX9_saves_12 2 rfl rfl)
theorem dX9_saves_281 : decode cX9_saves 281 = .ok (.iload 7, 2) := dk_21 7 (dk_at dksX9_saves_12 3 rfl rfl)
theorem dX9_saves_283 : decode cX9_saves 283 = .ok (.iload 4, 2) := dk_21 4 (dk_at dksX9_saves_12 5 rfl rfl)
theorem dX9_saves_285 : decode cX9_saves 285 = .ok (.if_icmp .ne 17, 3) := dk_160 0 17 (dk_at dksX9_saves_12 7 rfl rfl)
theorem dX9_saves_288 : decode cX9_saves 288 = .ok (.iload 9, 2) := dk_21 9 (dk_at dksX9_saves_12 10 rfl rfl)
theorem dX9_saves_290 : decode cX9_saves 290 = .ok (.iload 8, 2) := dk_21 8 (dk_at dksX9_saves_12 12 rfl rfl)
theorem dX9_saves_292 : decode cX9_saves 292 = .ok (.if_icmp .le 7, 3) := dk_164 0 7 (dk_at dksX9_saves_12 14 rfl rfl)
theorem dX9_saves_295 : decode cX9_saves 295 = .ok (.iconst 1, 1) := dk_4 (dk_at dksX9_saves_12 17 rfl rfl)
theorem dX9_saves_296 : decode cX9_saves 296 = .ok (.goto 4, 3) := dk_167 0 4 (dk_at dksX9_saves_12 18 rfl rfl)
theorem dX9_saves_299 : decode cX9_saves 299 = .ok (.iconst 0, 1) := dk_3 (dk_at dksX9_saves_12 21 rfl rfl)
theorem dX9_saves_300 : decode cX9_saves 300 = .ok (.istore 5, 2) := dk_54 5 (dk_at dksX9_saves_12 22 rfl rfl)
theorem dX9_saves_302 : decode cX9_saves 302 = .ok (.iinc 7 1, 3) := dk_132 7 1 (dk_at dksX9_saves_13 0 rfl rfl)
theorem dX9_saves_305 : decode cX9_saves 305 = .ok (.goto (-114), 3) := dk_167 255 142 (dk_at dksX9_saves_13 3 rfl rfl)
theorem dX9_saves_308 : decode cX9_saves 308 = .ok (.iinc 6 1, 3) := dk_132 6 1 (dk_at dksX9_saves_13 6 rfl rfl)
theorem dX9_saves_311 : decode cX9_saves 311 = .ok (.goto (-222), 3) := dk_167 255 34 (dk_at dksX9_saves_13 9 rfl rfl)
theorem dX9_saves_314 : decode cX9_saves 314 = .ok (.iload_n 3, 1) := dk_29 (dk_at dksX9_saves_13 12 rfl rfl)
theorem dX9_saves_315 : decode cX9_saves 315 = .ok (.ifCond .ne 13, 3) := dk_154 0 13 (dk_at dksX9_saves_13 13 rfl rfl)
theorem dX9_saves_318 : decode cX9_saves 318 = .ok (.aload_n 0, 1) := dk_42 (dk_at dksX9_saves_13 16 rfl rfl)
theorem dX9_saves_319 : decode cX9_saves 319 = .ok (.getfield 35, 3) := dk_180 0 35 (dk_at dksX9_saves_13 17 rfl rfl)
theorem dX9_saves_322 : decode cX9_saves 322 = .ok (.iload 4, 2) := dk_21 4 (dk_at dksX9_saves_13 20 rfl rfl)
theorem dX9_saves_324 : decode cX9_saves 324 = .ok (.iaload, 1) := dk_46 (dk_at dksX9_saves_13 22 rfl rfl)
theorem dX9_saves_325 : decode cX9_saves 325 = .ok (.goto 28, 3) := dk_167 0 28 (dk_at dksX9_saves_14 0 rfl rfl)
theorem dX9_saves_328 : decode cX9_saves 328 = .ok (.iload_n 3, 1) := dk_29 (dk_at dksX9_saves_14 3 rfl rfl)
theorem dX9_saves_329 : decode cX9_saves 329 = .ok (.iconst 1, 1) := dk_4 (dk_at dksX9_saves_14 4 rfl rfl)
theorem dX9_saves_330 : decode cX9_saves 330 = .ok (.if_icmp .ne 8, 3) := dk_160 0 8 (dk_at dksX9_saves_14 5 rfl rfl)
theorem dX9_saves_333 : decode cX9_saves 333 = .ok (.iload 5, 2) := dk_21 5 (dk_at dksX9_saves_14 8 rfl rfl)
theorem dX9_saves_335 : decode cX9_saves 335 = .ok (.goto 18, 3) := dk_167 0 18 (dk_at dksX9_saves_14 10 rfl rfl)
theorem dX9_saves_338 : decode cX9_saves 338 = .ok (.aload_n 0, 1) := dk_42 (dk_at dksX9_saves_14 13 rfl rfl)
theorem dX9_saves_339 : decode cX9_saves 339 = .ok (.getfield 35, 3) := dk_180 0 35 (dk_at dksX9_saves_14 14 rfl rfl)
theorem dX9_saves_342 : decode cX9_saves 342 = .ok (.iload 4, 2) := dk_21 4 (dk_at dksX9_saves_14 17 rfl rfl)
theorem dX9_saves_344 : decode cX9_saves 344 = .ok (.iaload, 1) := dk_46 (dk_at dksX9_saves_14 19 rfl rfl)
theorem dX9_saves_345 : decode cX9_saves 345 = .ok (.aload_n 0, 1) := dk_42 (dk_at dksX9_saves_14 20 rfl rfl)
theorem dX9_saves_346 : decode cX9_saves 346 = .ok (.getfield 41, 3) := dk_180 0 41 (dk_at dksX9_saves_14 21 rfl rfl)
theorem dX9_saves_349 : decode cX9_saves 349 = .ok (.iload 4, 2) := dk_21 4 (dk_at dksX9_saves_15 0 rfl rfl)
theorem dX9_saves_351 : decode cX9_saves 351 = .ok (.iaload, 1) := dk_46 (dk_at dksX9_saves_15 2 rfl rfl)
theorem dX9_saves_352 : decode cX9_saves 352 = .ok (.isub, 1) := dk_100 (dk_at dksX9_saves_15 3 rfl rfl)
theorem dX9_saves_353 : decode cX9_saves 353 = .ok (.ireturn, 1) := dk_172 (dk_at dksX9_saves_15 4 rfl rfl)
abbrev cX9_worth : ByteArray := prog_21_method_57_code
def yX9_worth : MethodName := ⟨RX9, "worth", "(III)I"⟩
def dkwX9_worth_4 : List UInt8 := [96, 182, 0, 230, 42, 180, 0, 35, 42, 182, 0, 242, 46, 21, 4, 100, 172]
abbrev dktX9_worth_4 : List UInt8 := dkwX9_worth_4 ++ []
def dkwX9_worth_3 : List UInt8 := [180, 0, 38, 182, 1, 10, 42, 180, 0, 35, 42, 182, 1, 14, 46, 54, 4, 42, 182, 0, 200, 42, 5, 28]
abbrev dktX9_worth_3 : List UInt8 := dkwX9_worth_3 ++ dktX9_worth_4
def dkwX9_worth_2 : List UInt8 := [16, 6, 46, 4, 160, 0, 7, 19, 1, 18, 172, 42, 182, 1, 7, 42, 27, 2, 29, 42, 180, 0, 35, 42]
abbrev dktX9_worth_2 : List UInt8 := dkwX9_worth_2 ++ dktX9_worth_3
def dkwX9_worth_1 : List UInt8 := [29, 182, 1, 4, 181, 0, 67, 42, 180, 0, 67, 158, 0, 5, 3, 172, 42, 182, 0, 200, 42, 180, 0, 29]
abbrev dktX9_worth_1 : List UInt8 := dkwX9_worth_1 ++ dktX9_worth_2
def dkwX9_worth_0 : List UInt8 := [42, 27, 184, 0, 197, 153, 0, 13, 28, 3, 16, 9, 184, 0, 70, 154, 0, 7, 4, 167, 0, 9, 42, 27]
abbrev dktX9_worth_0 : List UInt8 := dkwX9_worth_0 ++ dktX9_worth_1
theorem dksX9_worth_0 : cX9_worth.data.toList.drop 0 = dktX9_worth_0 := by decide +kernel
theorem dksX9_worth_1 : cX9_worth.data.toList.drop 24 = dktX9_worth_1 := dk_seg dksX9_worth_0 24 rfl rfl
theorem dksX9_worth_2 : cX9_worth.data.toList.drop 48 = dktX9_worth_2 := dk_seg dksX9_worth_1 24 rfl rfl
theorem dksX9_worth_3 : cX9_worth.data.toList.drop 72 = dktX9_worth_3 := dk_seg dksX9_worth_2 24 rfl rfl
theorem dksX9_worth_4 : cX9_worth.data.toList.drop 96 = dktX9_worth_4 := dk_seg dksX9_worth_3 24 rfl rfl
theorem dX9_worth_0 : decode cX9_worth 0 = .ok (.aload_n 0, 1) := dk_42 (dk_at dksX9_worth_0 0 rfl rfl)
theorem dX9_worth_1 : decode cX9_worth 1 = .ok (.iload_n 1, 1) := dk_27 (dk_at dksX9_worth_0 1 rfl rfl)
theorem dX9_worth_2 : decode cX9_worth 2 = .ok (.invokestatic 197, 3) := dk_184 0 197 (dk_at dksX9_worth_0 2 rfl rfl)
theorem dX9_worth_5 : decode cX9_worth 5 = .ok (.ifCond .eq 13, 3) := dk_153 0 13 (dk_at dksX9_worth_0 5 rfl rfl)
theorem dX9_worth_8 : decode cX9_worth 8 = .ok (.iload_n 2, 1) := dk_28 (dk_at dksX9_worth_0 8 rfl rfl)
theorem dX9_worth_9 : decode cX9_worth 9 = .ok (.iconst 0, 1) := dk_3 (dk_at dksX9_worth_0 9 rfl rfl)
theorem dX9_worth_10 : decode cX9_worth 10 = .ok (.bipush 9, 2) := dk_16 9 (dk_at dksX9_worth_0 10 rfl rfl)
theorem dX9_worth_12 : decode cX9_worth 12 = .ok (.invokestatic 70, 3) := dk_184 0 70 (dk_at dksX9_worth_0 12 rfl rfl)
theorem dX9_worth_15 : decode cX9_worth 15 = .ok (.ifCond .ne 7, 3) := dk_154 0 7 (dk_at dksX9_worth_0 15 rfl rfl)
theorem dX9_worth_18 : decode cX9_worth 18 = .ok (.iconst 1, 1) := dk_4 (dk_at dksX9_worth_0 18 rfl rfl)
theorem dX9_worth_19 : decode cX9_worth 19 = .ok (.goto 9, 3) := dk_167 0 9 (dk_at dksX9_worth_0 19 rfl rfl)
theorem dX9_worth_22 : decode cX9_worth 22 = .ok (.aload_n 0, 1) := dk_42 (dk_at dksX9_worth_0 22 rfl rfl)
theorem dX9_worth_23 : decode cX9_worth 23 = .ok (.iload_n 1, 1) := dk_27 (dk_at dksX9_worth_0 23 rfl rfl)
theorem dX9_worth_24 : decode cX9_worth 24 = .ok (.iload_n 3, 1) := dk_29 (dk_at dksX9_worth_1 0 rfl rfl)
theorem dX9_worth_25 : decode cX9_worth 25 = .ok (.invokevirtual 260, 3) := dk_182 1 4 (dk_at dksX9_worth_1 1 rfl rfl)
theorem dX9_worth_28 : decode cX9_worth 28 = .ok (.putfield 67, 3) := dk_181 0 67 (dk_at dksX9_worth_1 4 rfl rfl)
theorem dX9_worth_31 : decode cX9_worth 31 = .ok (.aload_n 0, 1) := dk_42 (dk_at dksX9_worth_1 7 rfl rfl)
theorem dX9_worth_32 : decode cX9_worth 32 = .ok (.getfield 67, 3) := dk_180 0 67 (dk_at dksX9_worth_1 8 rfl rfl)
theorem dX9_worth_35 : decode cX9_worth 35 = .ok (.ifCond .le 5, 3) := dk_158 0 5 (dk_at dksX9_worth_1 11 rfl rfl)
theorem dX9_worth_38 : decode cX9_worth 38 = .ok (.iconst 0, 1) := dk_3 (dk_at dksX9_worth_1 14 rfl rfl)
theorem dX9_worth_39 : decode cX9_worth 39 = .ok (.ireturn, 1) := dk_172 (dk_at dksX9_worth_1 15 rfl rfl)
theorem dX9_worth_40 : decode cX9_worth 40 = .ok (.aload_n 0, 1) := dk_42 (dk_at dksX9_worth_1 16 rfl rfl)
theorem dX9_worth_41 : decode cX9_worth 41 = .ok (.invokevirtual 200, 3) := dk_182 0 200 (dk_at dksX9_worth_1 17 rfl rfl)
theorem dX9_worth_44 : decode cX9_worth 44 = .ok (.aload_n 0, 1) := dk_42 (dk_at dksX9_worth_1 20 rfl rfl)
theorem dX9_worth_45 : decode cX9_worth 45 = .ok (.getfield 29, 3) := dk_180 0 29 (dk_at dksX9_worth_1 21 rfl rfl)
theorem dX9_worth_48 : decode cX9_worth 48 = .ok (.bipush 6, 2) := dk_16 6 (dk_at dksX9_worth_2 0 rfl rfl)
theorem dX9_worth_50 : decode cX9_worth 50 = .ok (.iaload, 1) := dk_46 (dk_at dksX9_worth_2 2 rfl rfl)
theorem dX9_worth_51 : decode cX9_worth 51 = .ok (.iconst 1, 1) := dk_4 (dk_at dksX9_worth_2 3 rfl rfl)
theorem dX9_worth_52 : decode cX9_worth 52 = .ok (.if_icmp .ne 7, 3) := dk_160 0 7 (dk_at dksX9_worth_2 4 rfl rfl)
theorem dX9_worth_55 : decode cX9_worth 55 = .ok (.ldc_w 274, 3) := dk_19 1 18 (dk_at dksX9_worth_2 7 rfl rfl)
theorem dX9_worth_58 : decode cX9_worth 58 = .ok (.ireturn, 1) := dk_172 (dk_at dksX9_worth_2 10 rfl rfl)
theorem dX9_worth_59 : decode cX9_worth 59 = .ok (.aload_n 0, 1) := dk_42 (dk_at dksX9_worth_2 11 rfl rfl)
theorem dX9_worth_60 : decode cX9_worth 60 = .ok (.invokevirtual 263, 3) := dk_182 1 7 (dk_at dksX9_worth_2 12 rfl rfl)
theorem dX9_worth_63 : decode cX9_worth 63 = .ok (.aload_n 0, 1) := dk_42 (dk_at dksX9_worth_2 15 rfl rfl)
theorem dX9_worth_64 : decode cX9_worth 64 = .ok (.iload_n 1, 1) := dk_27 (dk_at dksX9_worth_2 16 rfl rfl)
theorem dX9_worth_65 : decode cX9_worth 65 = .ok (.iconst (-1), 1) := dk_2 (dk_at dksX9_worth_2 17 rfl rfl)
theorem dX9_worth_66 : decode cX9_worth 66 = .ok (.iload_n 3, 1) := dk_29 (dk_at dksX9_worth_2 18 rfl rfl)
theorem dX9_worth_67 : decode cX9_worth 67 = .ok (.aload_n 0, 1) := dk_42 (dk_at dksX9_worth_2 19 rfl rfl)
theorem dX9_worth_68 : decode cX9_worth 68 = .ok (.getfield 35, 3) := dk_180 0 35 (dk_at dksX9_worth_2 20 rfl rfl)
theorem dX9_worth_71 : decode cX9_worth 71 = .ok (.aload_n 0, 1) := dk_42 (dk_at dksX9_worth_2 23 rfl rfl)
theorem dX9_worth_72 : decode cX9_worth 72 = .ok (.getfield 38, 3) := dk_180 0 38 (dk_at dksX9_worth_3 0 rfl rfl)
theorem dX9_worth_75 : decode cX9_worth 75 = .ok (.invokevirtual 266, 3) := dk_182 1 10 (dk_at dksX9_worth_3 3 rfl rfl)
theorem dX9_worth_78 : decode cX9_worth 78 = .ok (.aload_n 0, 1) := dk_42 (dk_at dksX9_worth_3 6 rfl rfl)
theorem dX9_worth_79 : decode cX9_worth 79 = .ok (.getfield 35, 3) := dk_180 0 35 (dk_at dksX9_worth_3 7 rfl rfl)
theorem dX9_worth_82 : decode cX9_worth 82 = .ok (.aload_n 0, 1) := dk_42 (dk_at dksX9_worth_3 10 rfl rfl)
theorem dX9_worth_83 : decode cX9_worth 83 = .ok (.invokevirtual 270, 3) := dk_182 1 14 (dk_at dksX9_worth_3 11 rfl rfl)
theorem dX9_worth_86 : decode cX9_worth 86 = .ok (.iaload, 1) := dk_46 (dk_at dksX9_worth_3 14 rfl rfl)
theorem dX9_worth_87 : decode cX9_worth 87 = .ok (.istore 4, 2) := dk_54 4 (dk_at dksX9_worth_3 15 rfl rfl)
theorem dX9_worth_89 : decode cX9_worth 89 = .ok (.aload_n 0, 1) := dk_42 (dk_at dksX9_worth_3 17 rfl rfl)
theorem dX9_worth_90 : decode cX9_worth 90 = .ok (.invokevirtual 200, 3) := dk_182 0 200 (dk_at dksX9_worth_3 18 rfl rfl)
theorem dX9_worth_93 : decode cX9_worth 93 = .ok (.aload_n 0, 1) := dk_42 (dk_at dksX9_worth_3 21 rfl rfl)
theorem dX9_worth_94 : decode cX9_worth 94 = .ok (.iconst 2, 1) := dk_5 (dk_at dksX9_worth_3 22 rfl rfl)
theorem dX9_worth_95 : decode cX9_worth 95 = .ok (.iload_n 2, 1) := dk_28 (dk_at dksX9_worth_3 23 rfl rfl)
theorem dX9_worth_96 : decode cX9_worth 96 = .ok (.iadd, 1) := dk_96 (dk_at dksX9_worth_4 0 rfl rfl)
theorem dX9_worth_97 : decode cX9_worth 97 = .ok (.invokevirtual 230, 3) := dk_182 0 230 (dk_at dksX9_worth_4 1 rfl rfl)
theorem dX9_worth_100 : decode cX9_worth 100 = .ok (.aload_n 0, 1) := dk_42 (dk_at dksX9_worth_4 4 rfl rfl)
theorem dX9_worth_101 : decode cX9_worth 101 = .ok (.getfield 35, 3) := dk_180 0 35 (dk_at dksX9_worth_4 5 rfl rfl)
theorem dX9_worth_104 : decode cX9_worth 104 = .ok (.aload_n 0, 1) := dk_42 (dk_at dksX9_worth_4 8 rfl rfl)
theorem dX9_worth_105 : decode cX9_worth 105 = .ok (.invokevirtual 242, 3) := dk_182 0 242 (dk_at dksX9_worth_4 9 rfl rfl)
theorem dX9_worth_108 : decode cX9_worth 108 = .ok (.iaload, 1) := dk_46 (dk_at dksX9_worth_4 12 rfl rfl)
theorem dX9_worth_109 : decode cX9_worth 109 = .ok (.iload 4, 2) := dk_21 4 (dk_at dksX9_worth_4 13 rfl rfl)
theorem dX9_worth_111 : decode cX9_worth 111 = .ok (.isub, 1) := dk_100 (dk_at dksX9_worth_4 15 rfl rfl)
theorem dX9_worth_112 : decode cX9_worth 112 = .ok (.ireturn, 1) := dk_172 (dk_at dksX9_worth_4 16 rfl rfl)
abbrev cX9_set : ByteArray := prog_21_method_60_code
def yX9_set : MethodName := ⟨RX9, "set", "(II)I"⟩
def dkwX9_set_10 : List UInt8 := [132, 7, 1, 167, 255, 176, 22, 5, 136, 172]
abbrev dktX9_set_10 : List UInt8 := dkwX9_set_10 ++ []
def dkwX9_set_9 : List UInt8 := [167, 0, 5, 21, 4, 21, 8, 182, 1, 19, 105, 20, 0, 245, 109, 97, 55, 5, 132, 8, 1, 167, 255, 191]
abbrev dktX9_set_9 : List UInt8 := dkwX9_set_9 ++ dktX9_set_10
def dkwX9_set_8 : List UInt8 := [21, 7, 154, 0, 9, 29, 4, 96, 167, 0, 4, 29, 21, 7, 4, 160, 0, 10, 21, 4, 4, 96]
abbrev dktX9_set_8 : List UInt8 := dkwX9_set_8 ++ dktX9_set_9
def dkwX9_set_7 : List UInt8 := [54, 8, 21, 8, 5, 162, 0, 65, 22, 5, 42, 180, 0, 51, 5, 21, 7, 104, 21, 8, 96, 47, 42, 27]
abbrev dktX9_set_7 : List UInt8 := dkwX9_set_7 ++ dktX9_set_8
def dkwX9_set_6 : List UInt8 := [42, 180, 0, 7, 17, 0, 209, 46, 54, 4, 9, 55, 5, 3, 54, 7, 21, 7, 5, 162, 0, 80, 3]
abbrev dktX9_set_6 : List UInt8 := dkwX9_set_6 ++ dktX9_set_7
def dkwX9_set_5 : List UInt8 := [167, 255, 219, 132, 4, 1, 167, 255, 167, 132, 3, 1, 167, 255, 153, 42, 180, 0, 7, 17, 0, 208, 46, 62]
abbrev dktX9_set_5 : List UInt8 := dkwX9_set_5 ++ dktX9_set_6
def dkwX9_set_4 : List UInt8 := [29, 104, 96, 21, 4, 96, 42, 180, 0, 35, 42, 21, 5, 182, 1, 23, 46, 133, 80, 132, 5, 1]
abbrev dktX9_set_4 : List UInt8 := dkwX9_set_4 ++ dktX9_set_5
def dkwX9_set_3 : List UInt8 := [182, 1, 14, 46, 133, 80, 3, 54, 5, 21, 5, 5, 162, 0, 37, 42, 180, 0, 47, 7, 21, 5, 104, 5]
abbrev dktX9_set_3 : List UInt8 := dkwX9_set_3 ++ dktX9_set_4
def dkwX9_set_2 : List UInt8 := [42, 180, 0, 38, 182, 1, 10, 42, 180, 0, 51, 5, 29, 104, 21, 4, 96, 42, 180, 0, 35, 42]
abbrev dktX9_set_2 : List UInt8 := dkwX9_set_2 ++ dktX9_set_3
def dkwX9_set_1 : List UInt8 := [62, 29, 5, 162, 0, 104, 3, 54, 4, 21, 4, 5, 162, 0, 89, 42, 29, 21, 4, 28, 42, 180, 0, 35]
abbrev dktX9_set_1 : List UInt8 := dkwX9_set_1 ++ dktX9_set_2
def dkwX9_set_0 : List UInt8 := [42, 42, 27, 28, 182, 1, 4, 181, 0, 67, 42, 180, 0, 67, 158, 0, 5, 3, 172, 42, 182, 1, 7, 3]
abbrev dktX9_set_0 : List UInt8 := dkwX9_set_0 ++ dktX9_set_1
theorem dksX9_set_0 : cX9_set.data.toList.drop 0 = dktX9_set_0 := by decide +kernel
theorem dksX9_set_1 : cX9_set.data.toList.drop 24 = dktX9_set_1 := dk_seg dksX9_set_0 24 rfl rfl
theorem dksX9_set_2 : cX9_set.data.toList.drop 48 = dktX9_set_2 := dk_seg dksX9_set_1 24 rfl rfl
theorem dksX9_set_3 : cX9_set.data.toList.drop 70 = dktX9_set_3 := dk_seg dksX9_set_2 22 rfl rfl
theorem dksX9_set_4 : cX9_set.data.toList.drop 94 = dktX9_set_4 := dk_seg dksX9_set_3 24 rfl rfl
theorem dksX9_set_5 : cX9_set.data.toList.drop 116 = dktX9_set_5 := dk_seg dksX9_set_4 22 rfl rfl
theorem dksX9_set_6 : cX9_set.data.toList.drop 140 = dktX9_set_6 := dk_seg dksX9_set_5 24 rfl rfl
theorem dksX9_set_7 : cX9_set.data.toList.drop 163 = dktX9_set_7 := dk_seg dksX9_set_6 23 rfl rfl
theorem dksX9_set_8 : cX9_set.data.toList.drop 187 = dktX9_set_8 := dk_seg dksX9_set_7 24 rfl rfl
theorem dksX9_set_9 : cX9_set.data.toList.drop 209 = dktX9_set_9 := dk_seg dksX9_set_8 22 rfl rfl
theorem dksX9_set_10 : cX9_set.data.toList.drop 233 = dktX9_set_10 := dk_seg dksX9_set_9 24 rfl rfl
theorem dX9_set_0 : decode cX9_set 0 = .ok (.aload_n 0, 1) := dk_42 (dk_at dksX9_set_0 0 rfl rfl)
theorem dX9_set_1 : decode cX9_set 1 = .ok (.aload_n 0, 1) := dk_42 (dk_at dksX9_set_0 1 rfl rfl)
theorem dX9_set_2 : decode cX9_set 2 = .ok (.iload_n 1, 1) := dk_27 (dk_at dksX9_set_0 2 rfl rfl)
theorem dX9_set_3 : decode cX9_set 3 = .ok (.iload_n 2, 1) := dk_28 (dk_at dksX9_set_0 3 rfl rfl)
theorem dX9_set_4 : decode cX9_set 4 = .ok (.invokevirtual 260, 3) := dk_182 1 4 (dk_at dksX9_set_0 4 rfl rfl)
theorem dX9_set_7 : decode cX9_set 7 = .ok (.putfield 67, 3) := dk_181 0 67 (dk_at dksX9_set_0 7 rfl rfl)
theorem dX9_set_10 : decode cX9_set 10 = .ok (.aload_n 0, 1) := dk_42 (dk_at dksX9_set_0 10 rfl rfl)
theorem dX9_set_11 : decode cX9_set 11 = .ok (.getfield 67, 3) := dk_180 0 67 (dk_at dksX9_set_0 11 rfl rfl)
theorem dX9_set_14 : decode cX9_set 14 = .ok (.ifCond .le 5, 3) := dk_158 0 5 (dk_at dksX9_set_0 14 rfl rfl)
theorem dX9_set_17 : decode cX9_set 17 = .ok (.iconst 0, 1) := dk_3 (dk_at dksX9_set_0 17 rfl rfl)
theorem dX9_set_18 : decode cX9_set 18 = .ok (.ireturn, 1) := dk_172 (dk_at dksX9_set_0 18 rfl rfl)
theorem dX9_set_19 : decode cX9_set 19 = .ok (.aload_n 0, 1) := dk_42 (dk_at dksX9_set_0 19 rfl rfl)
theorem dX9_set_20 : decode cX9_set 20 = .ok (.invokevirtual 263, 3) := dk_182 1 7 (dk_at dksX9_set_0 20 rfl rfl)
theorem dX9_set_23 : decode cX9_set 23 = .ok (.iconst 0, 1) := dk_3 (dk_at dksX9_set_0 23 rfl rfl)
theorem dX9_set_24 : decode cX9_set 24 = .ok (.istore_n 3, 1) := dk_62 (dk_at dksX9_set_1 0 rfl rfl)
theorem dX9_set_25 : decode cX9_set 25 = .ok (.iload_n 3, 1) := dk_29 (dk_at dksX9_set_1 1 rfl rfl)
theorem dX9_set_26 : decode cX9_set 26 = .ok (.iconst 2, 1) := dk_5 (dk_at dksX9_set_1 2 rfl rfl)
theorem dX9_set_27 : decode cX9_set 27 = .ok (.if_icmp .ge 104, 3) := dk_162 0 104 (dk_at dksX9_set_1 3 rfl rfl)
theorem dX9_set_30 : decode cX9_set 30 = .ok (.iconst 0, 1) := dk_3 (dk_at dksX9_set_1 6 rfl rfl)
theorem dX9_set_31 : decode cX9_set 31 = .ok (.istore 4, 2) := dk_54 4 (dk_at dksX9_set_1 7 rfl rfl)
theorem dX9_set_33 : decode cX9_set 33 = .ok (.iload 4, 2) := dk_21 4 (dk_at dksX9_set_1 9 rfl rfl)
theorem dX9_set_35 : decode cX9_set 35 = .ok (.iconst 2, 1) := dk_5 (dk_at dksX9_set_1 11 rfl rfl)
theorem dX9_set_36 : decode cX9_set 36 = .ok (.if_icmp .ge 89, 3) := dk_162 0 89 (dk_at dksX9_set_1 12 rfl rfl)
theorem dX9_set_39 : decode cX9_set 39 = .ok (.aload_n 0, 1) := dk_42 (dk_at dksX9_set_1 15 rfl rfl)
theorem dX9_set_40 : decode cX9_set 40 = .ok (.iload_n 3, 1) := dk_29 (dk_at dksX9_set_1 16 rfl rfl)
theorem dX9_set_41 : decode cX9_set 41 = .ok (.iload 4, 2) := dk_21 4 (dk_at dksX9_set_1 17 rfl rfl)
theorem dX9_set_43 : decode cX9_set 43 = .ok (.iload_n 2, 1) := dk_28 (dk_at dksX9_set_1 19 rfl rfl)
theorem dX9_set_44 : decode cX9_set 44 = .ok (.aload_n 0, 1) := dk_42 (dk_at dksX9_set_1 20 rfl rfl)
theorem dX9_set_45 : decode cX9_set 45 = .ok (.getfield 35, 3) := dk_180 0 35 (dk_at dksX9_set_1 21 rfl rfl)
theorem dX9_set_48 : decode cX9_set 48 = .ok (.aload_n 0, 1) := dk_42 (dk_at dksX9_set_2 0 rfl rfl)
theorem dX9_set_49 : decode cX9_set 49 = .ok (.getfield 38, 3) := dk_180 0 38 (dk_at dksX9_set_2 1 rfl rfl)
theorem dX9_set_52 : decode cX9_set 52 = .ok (.invokevirtual 266, 3) := dk_182 1 10 (dk_at dksX9_set_2 4 rfl rfl)
theorem dX9_set_55 : decode cX9_set 55 = .ok (.aload_n 0, 1) := dk_42 (dk_at dksX9_set_2 7 rfl rfl)
theorem dX9_set_56 : decode cX9_set 56 = .ok (.getfield 51, 3) := dk_180 0 51 (dk_at dksX9_set_2 8 rfl rfl)
theorem dX9_set_59 : decode cX9_set 59 = .ok (.iconst 2, 1) := dk_5 (dk_at dksX9_set_2 11 rfl rfl)
theorem dX9_set_60 : decode cX9_set 60 = .ok (.iload_n 3, 1) := dk_29 (dk_at dksX9_set_2 12 rfl rfl)
theorem dX9_set_61 : decode cX9_set 61 = .ok (.imul, 1) := dk_104 (dk_at dksX9_set_2 13 rfl rfl)
theorem dX9_set_62 : decode cX9_set 62 = .ok (.iload 4, 2) := dk_21 4 (dk_at dksX9_set_2 14 rfl rfl)
theorem dX9_set_64 : decode cX9_set 64 = .ok (.iadd, 1) := dk_96 (dk_at dksX9_set_2 16 rfl rfl)
theorem dX9_set_65 : decode cX9_set 65 = .ok (.aload_n 0, 1) := dk_42 (dk_at dksX9_set_2 17 rfl rfl)
theorem dX9_set_66 : decode cX9_set 66 = .ok (.getfield 35, 3) := dk_180 0 35 (dk_at dksX9_set_2 18 rfl rfl)
theorem dX9_set_69 : decode cX9_set 69 = .ok (.aload_n 0, 1) := dk_42 (dk_at dksX9_set_2 21 rfl rfl)
theorem dX9_set_70 : decode cX9_set 70 = .ok (.invokevirtual 270, 3) := dk_182 1 14 (dk_at dksX9_set_3 0 rfl rfl)
theorem dX9_set_73 : decode cX9_set 73 = .ok (.iaload, 1) := dk_46 (dk_at dksX9_set_3 3 rfl rfl)
theorem dX9_set_74 : decode cX9_set 74 = .ok (.i2l, 1) := dk_133 (dk_at dksX9_set_3 4 rfl rfl)
theorem dX9_set_75 : decode cX9_set 75 = .ok (.lastore, 1) := dk_80 (dk_at dksX9_set_3 5 rfl rfl)
theorem dX9_set_76 : decode cX9_set 76 = .ok (.iconst 0, 1) := dk_3 (dk_at dksX9_set_3 6 rfl rfl)
theorem dX9_set_77 : decode cX9_set 77 = .ok (.istore 5, 2) := dk_54 5 (dk_at dksX9_set_3 7 rfl rfl)
theorem dX9_set_79 : decode cX9_set 79 = .ok (.iload 5, 2) := dk_21 5 (dk_at dksX9_set_3 9 rfl rfl)
theorem dX9_set_81 : decode cX9_set 81 = .ok (.iconst 2, 1) := dk_5 (dk_at dksX9_set_3 11 rfl rfl)
theorem dX9_set_82 : decode cX9_set 82 = .ok (.if_icmp .ge 37, 3) := dk_162 0 37 (dk_at dksX9_set_3 12 rfl rfl)
theorem dX9_set_85 : decode cX9_set 85 = .ok (.aload_n 0, 1) := dk_42 (dk_at dksX9_set_3 15 rfl rfl)
theorem dX9_set_86 : decode cX9_set 86 = .ok (.getfield 47, 3) := dk_180 0 47 (dk_at dksX9_set_3 16 rfl rfl)
theorem dX9_set_89 : decode cX9_set 89 = .ok (.iconst 4, 1) := dk_7 (dk_at dksX9_set_3 19 rfl rfl)
theorem dX9_set_90 : decode cX9_set 90 = .ok (.iload 5, 2) := dk_21 5 (dk_at dksX9_set_3 20 rfl rfl)
theorem dX9_set_92 : decode cX9_set 92 = .ok (.imul, 1) := dk_104 (dk_at dksX9_set_3 22 rfl rfl)
theorem dX9_set_93 : decode cX9_set 93 = .ok (.iconst 2, 1) := dk_5 (dk_at dksX9_set_3 23 rfl rfl)
theorem dX9_set_94 : decode cX9_set 94 = .ok (.iload_n 3, 1) := dk_29 (dk_at dksX9_set_4 0 rfl rfl)
theorem dX9_set_95 : decode cX9_set 95 = .ok (.imul, 1) := dk_104 (dk_at dksX9_set_4 1 rfl rfl)
theorem dX9_set_96 : decode cX9_set 96 = .ok (.iadd, 1) := dk_96 (dk_at dksX9_set_4 2 rfl rfl)
theorem dX9_set_97 : decode cX9_set 97 = .ok (.iload 4, 2) := dk_21 4 (dk_at dksX9_set_4 3 rfl rfl)
theorem dX9_set_99 : decode cX9_set 99 = .ok (.iadd, 1) := dk_96 (dk_at dksX9_set_4 5 rfl rfl)
theorem dX9_set_100 : decode cX9_set 100 = .ok (.aload_n 0, 1) := dk_42 (dk_at dksX9_set_4 6 rfl rfl)
theorem dX9_set_101 : decode cX9_set 101 = .ok (.getfield 35, 3) := dk_180 0 35 (dk_at dksX9_set_4 7 rfl rfl)
theorem dX9_set_104 : decode cX9_set 104 = .ok (.aload_n 0, 1) := dk_42 (dk_at dksX9_set_4 10 rfl rfl)
theorem dX9_set_105 : decode cX9_set 105 = .ok (.iload 5, 2) := dk_21 5 (dk_at dksX9_set_4 11 rfl rfl)
theorem dX9_set_107 : decode cX9_set 107 = .ok (.invokevirtual 279, 3) := dk_182 1 23 (dk_at dksX9_set_4 13 rfl rfl)
theorem dX9_set_110 : decode cX9_set 110 = .ok (.iaload, 1) := dk_46 (dk_at dksX9_set_4 16 rfl rfl)
theorem dX9_set_111 : decode cX9_set 111 = .ok (.i2l, 1) := dk_133 (dk_at dksX9_set_4 17 rfl rfl)
theorem dX9_set_112 : decode cX9_set 112 = .ok (.lastore, 1) := dk_80 (dk_at dksX9_set_4 18 rfl rfl)
theorem dX9_set_113 : decode cX9_set 113 = .ok (.iinc 5 1, 3) := dk_132 5 1 (dk_at dksX9_set_4 19 rfl rfl)
theorem dX9_set_116 : decode cX9_set 116 = .ok (.goto (-37), 3) := dk_167 255 219 (dk_at dksX9_set_5 0 rfl rfl)
theorem dX9_set_119 : decode cX9_set 119 = .ok (.iinc 4 1, 3) := dk_132 4 1 (dk_at dksX9_set_5 3 rfl rfl)
theorem dX9_set_122 : decode cX9_set 122 = .ok (.goto (-89), 3) := dk_167 255 167 (dk_at dksX9_set_5 6 rfl rfl)
theorem dX9_set_125 : decode cX9_set 125 = .ok (.iinc 3 1, 3) := dk_132 3 1 (dk_at dksX9_set_5 9 rfl rfl)
theorem dX9_set_128 : decode cX9_set 128 = .ok (.goto (-103), 3) := dk_167 255 153 (dk_at dksX9_set_5 12 rfl rfl)
theorem dX9_set_131 : decode cX9_set 131 = .ok (.aload_n 0, 1) := dk_42 (dk_at dksX9_set_5 15 rfl rfl)
theorem dX9_set_132 : decode cX9_set 132 = .ok (.getfield 7, 3) := dk_180 0 7 (dk_at dksX9_set_5 16 rfl rfl)
theorem dX9_set_135 : decode cX9_set 135 = .ok (.sipush 208, 3) := dk_17 0 208 (dk_at dksX9_set_5 19 rfl rfl)
theorem dX9_set_138 : decode cX9_set 138 = .ok (.iaload, 1) := dk_46 (dk_at dksX9_set_5 22 rfl rfl)
theorem dX9_set_139 : decode cX9_set 139 = .ok (.istore_n 3, 1) := dk_62 (dk_at dksX9_set_5 23 rfl rfl)
theorem dX9_set_140 : decode cX9_set 140 = .ok (.aload_n 0, 1) := dk_42 (dk_at dksX9_set_6 0 rfl rfl)
theorem dX9_set_141 : decode cX9_set 141 = .ok (.getfield 7, 3) := dk_180 0 7 (dk_at dksX9_set_6 1 rfl rfl)
theorem dX9_set_144 : decode cX9_set 144 = .ok (.sipush 209, 3) := dk_17 0 209 (dk_at dksX9_set_6 4 rfl rfl)
theorem dX9_set_147 : decode cX9_set 147 = .ok (.iaload, 1) := dk_46 (dk_at dksX9_set_6 7 rfl rfl)
theorem dX9_set_148 : decode cX9_set 148 = .ok (.istore 4, 2) := dk_54 4 (dk_at dksX9_set_6 8 rfl rfl)
theorem dX9_set_150 : decode cX9_set 150 = .ok (.lconst 0, 1) := dk_9 (dk_at dksX9_set_6 10 rfl rfl)
theorem dX9_set_151 : decode cX9_set 151 = .ok (.lstore 5, 2) := dk_55 5 (dk_at dksX9_set_6 11 rfl rfl)
theorem dX9_set_153 : decode cX9_set 153 = .ok (.iconst 0, 1) := dk_3 (dk_at dksX9_set_6 13 rfl rfl)
theorem dX9_set_154 : decode cX9_set 154 = .ok (.istore 7, 2) := dk_54 7 (dk_at dksX9_set_6 14 rfl rfl)
theorem dX9_set_156 : decode cX9_set 156 = .ok (.iload 7, 2) := dk_21 7 (dk_at dksX9_set_6 16 rfl rfl)
theorem dX9_set_158 : decode cX9_set 158 = .ok (.iconst 2, 1) := dk_5 (dk_at dksX9_set_6 18 rfl rfl)
theorem dX9_set_159 : decode cX9_set 159 = .ok (.if_icmp .ge 80, 3) := dk_162 0 80 (dk_at dksX9_set_6 19 rfl rfl)
theorem dX9_set_162 : decode cX9_set 162 = .ok (.iconst 0, 1) := dk_3 (dk_at dksX9_set_6 22 rfl rfl)
theorem dX9_set_163 : decode cX9_set 163 = .ok (.istore 8, 2) := dk_54 8 (dk_at dksX9_set_7 0 rfl rfl)
theorem dX9_set_165 : decode cX9_set 165 = .ok (.iload 8, 2) := dk_21 8 (dk_at dksX9_set_7 2 rfl rfl)
theorem dX9_set_167 : decode cX9_set 167 = .ok (.iconst 2, 1) := dk_5 (dk_at dksX9_set_7 4 rfl rfl)
theorem dX9_set_168 : decode cX9_set 168 = .ok (.if_icmp .ge 65, 3) := dk_162 0 65 (dk_at dksX9_set_7 5 rfl rfl)
theorem dX9_set_171 : decode cX9_set 171 = .ok (.lload 5, 2) := dk_22 5 (dk_at dksX9_set_7 8 rfl rfl)
theorem dX9_set_173 : decode cX9_set 173 = .ok (.aload_n 0, 1) := dk_42 (dk_at dksX9_set_7 10 rfl rfl)
theorem dX9_set_174 : decode cX9_set 174 = .ok (.getfield 51, 3) := dk_180 0 51 (dk_at dksX9_set_7 11 rfl rfl)
theorem dX9_set_177 : decode cX9_set 177 = .ok (.iconst 2, 1) := dk_5 (dk_at dksX9_set_7 14 rfl rfl)
theorem dX9_set_178 : decode cX9_set 178 = .ok (.iload 7, 2) := dk_21 7 (dk_at dksX9_set_7 15 rfl rfl)
theorem dX9_set_180 : decode cX9_set 180 = .ok (.imul, 1) := dk_104 (dk_at dksX9_set_7 17 rfl rfl)
theorem dX9_set_181 : decode cX9_set 181 = .ok (.iload 8, 2) := dk_21 8 (dk_at dksX9_set_7 18 rfl rfl)
theorem dX9_set_183 : decode cX9_set 183 = .ok (.iadd, 1) := dk_96 (dk_at dksX9_set_7 20 rfl rfl)
theorem dX9_set_184 : decode cX9_set 184 = .ok (.laload, 1) := dk_47 (dk_at dksX9_set_7 21 rfl rfl)
theorem dX9_set_185 : decode cX9_set 185 = .ok (.aload_n 0, 1) := dk_42 (dk_at dksX9_set_7 22 rfl rfl)
theorem dX9_set_186 : decode cX9_set 186 = .ok (.iload_n 1, 1) := dk_27 (dk_at dksX9_set_7 23 rfl rfl)
theorem dX9_set_187 : decode cX9_set 187 = .ok (.iload 7, 2) := dk_21 7 (dk_at dksX9_set_8 0 rfl rfl)
theorem dX9_set_189 : decode cX9_set 189 = .ok (.ifCond .ne 9, 3) := dk_154 0 9 (dk_at dksX9_set_8 2 rfl rfl)
theorem dX9_set_192 : decode cX9_set 192 = .ok (.iload_n 3, 1) := dk_29 (dk_at dksX9_set_8 5 rfl rfl)
theorem dX9_set_193 : decode cX9_set 193 = .ok (.iconst 1, 1) := dk_4 (dk_at dksX9_set_8 6 rfl rfl)
theorem dX9_set_194 : decode cX9_set 194 = .ok (.iadd, 1) := dk_96 (dk_at dksX9_set_8 7 rfl rfl)
theorem dX9_set_195 : decode cX9_set 195 = .ok (.goto 4, 3) := dk_167 0 4 (dk_at dksX9_set_8 8 rfl rfl)
theorem dX9_set_198 : decode cX9_set 198 = .ok (.iload_n 3, 1) := dk_29 (dk_at dksX9_set_8 11 rfl rfl)
theorem dX9_set_199 : decode cX9_set 199 = .ok (.iload 7, 2) := dk_21 7 (dk_at dksX9_set_8 12 rfl rfl)
theorem dX9_set_201 : decode cX9_set 201 = .ok (.iconst 1, 1) := dk_4 (dk_at dksX9_set_8 14 rfl rfl)
theorem dX9_set_202 : decode cX9_set 202 = .ok (.if_icmp .ne 10, 3) := dk_160 0 10 (dk_at dksX9_set_8 15 rfl rfl)
theorem dX9_set_205 : decode cX9_set 205 = .ok (.iload 4, 2) := dk_21 4 (dk_at dksX9_set_8 18 rfl rfl)
theorem dX9_set_207 : decode cX9_set 207 = .ok (.iconst 1, 1) := dk_4 (dk_at dksX9_set_8 20 rfl rfl)
theorem dX9_set_208 : decode cX9_set 208 = .ok (.iadd, 1) := dk_96 (dk_at dksX9_set_8 21 rfl rfl)
theorem dX9_set_209 : decode cX9_set 209 = .ok (.goto 5, 3) := dk_167 0 5 (dk_at dksX9_set_9 0 rfl rfl)
theorem dX9_set_212 : decode cX9_set 212 = .ok (.iload 4, 2) := dk_21 4 (dk_at dksX9_set_9 3 rfl rfl)
theorem dX9_set_214 : decode cX9_set 214 = .ok (.iload 8, 2) := dk_21 8 (dk_at dksX9_set_9 5 rfl rfl)
theorem dX9_set_216 : decode cX9_set 216 = .ok (.invokevirtual 275, 3) := dk_182 1 19 (dk_at dksX9_set_9 7 rfl rfl)
theorem dX9_set_219 : decode cX9_set 219 = .ok (.lmul, 1) := dk_105 (dk_at dksX9_set_9 10 rfl rfl)
theorem dX9_set_220 : decode cX9_set 220 = .ok (.ldc2_w 245, 3) := dk_20 0 245 (dk_at dksX9_set_9 11 rfl rfl)
theorem dX9_set_223 : decode cX9_set 223 = .ok (.ldiv, 1) := dk_109 (dk_at dksX9_set_9 14 rfl rfl)
theorem dX9_set_224 : decode cX9_set 224 = .ok (.ladd, 1) := dk_97 (dk_at dksX9_set_9 15 rfl rfl)
theorem dX9_set_225 : decode cX9_set 225 = .ok (.lstore 5, 2) := dk_55 5 (dk_at dksX9_set_9 16 rfl rfl)
theorem dX9_set_227 : decode cX9_set 227 = .ok (.iinc 8 1, 3) := dk_132 8 1 (dk_at dksX9_set_9 18 rfl rfl)
theorem dX9_set_230 : decode cX9_set 230 = .ok (.goto (-65), 3) := dk_167 255 191 (dk_at dksX9_set_9 21 rfl rfl)
theorem dX9_set_233 : decode cX9_set 233 = .ok (.iinc 7 1, 3) := dk_132 7 1 (dk_at dksX9_set_10 0 rfl rfl)
theorem dX9_set_236 : decode cX9_set 236 = .ok (.goto (-80), 3) := dk_167 255 176 (dk_at dksX9_set_10 3 rfl rfl)
theorem dX9_set_239 : decode cX9_set 239 = .ok (.lload 5, 2) := dk_22 5 (dk_at dksX9_set_10 6 rfl rfl)
theorem dX9_set_241 : decode cX9_set 241 = .ok (.l2i, 1) := dk_136 (dk_at dksX9_set_10 8 rfl rfl)
theorem dX9_set_242 : decode cX9_set 242 = .ok (.ireturn, 1) := dk_172 (dk_at dksX9_set_10 9 rfl rfl)
abbrev cX9_beginNumber : ByteArray := prog_21_method_58_code
def yX9_beginNumber : MethodName := ⟨RX9, "beginNumber", "(I)I"⟩
def dkwX9_beginNumber_2 : List UInt8 := [17, 0, 198, 46, 79, 42, 180, 0, 29, 5, 27, 79, 42, 182, 0, 242, 172]
abbrev dktX9_beginNumber_2 : List UInt8 := dkwX9_beginNumber_2 ++ []
def dkwX9_beginNumber_1 : List UInt8 := [180, 0, 29, 3, 42, 180, 0, 7, 17, 0, 197, 46, 116, 79, 42, 180, 0, 29, 4, 42, 180, 0, 7]
abbrev dktX9_beginNumber_1 : List UInt8 := dkwX9_beginNumber_1 ++ dktX9_beginNumber_2
def dkwX9_beginNumber_0 : List UInt8 := [3, 61, 28, 16, 9, 162, 0, 16, 42, 180, 0, 29, 28, 3, 79, 132, 2, 1, 167, 255, 240, 42]
abbrev dktX9_beginNumber_0 : List UInt8 := dkwX9_beginNumber_0 ++ dktX9_beginNumber_1
theorem dksX9_beginNumber_0 : cX9_beginNumber.data.toList.drop 0 = dktX9_beginNumber_0 := by decide +kernel
theorem dksX9_beginNumber_1 : cX9_beginNumber.data.toList.drop 22 = dktX9_beginNumber_1 := dk_seg dksX9_beginNumber_0 22 rfl rfl
theorem dksX9_beginNumber_2 : cX9_beginNumber.data.toList.drop 45 = dktX9_beginNumber_2 := dk_seg dksX9_beginNumber_1 23 rfl rfl
theorem dX9_beginNumber_0 : decode cX9_beginNumber 0 = .ok (.iconst 0, 1) := dk_3 (dk_at dksX9_beginNumber_0 0 rfl rfl)
theorem dX9_beginNumber_1 : decode cX9_beginNumber 1 = .ok (.istore_n 2, 1) := dk_61 (dk_at dksX9_beginNumber_0 1 rfl rfl)
theorem dX9_beginNumber_2 : decode cX9_beginNumber 2 = .ok (.iload_n 2, 1) := dk_28 (dk_at dksX9_beginNumber_0 2 rfl rfl)
theorem dX9_beginNumber_3 : decode cX9_beginNumber 3 = .ok (.bipush 9, 2) := dk_16 9 (dk_at dksX9_beginNumber_0 3 rfl rfl)
theorem dX9_beginNumber_5 : decode cX9_beginNumber 5 = .ok (.if_icmp .ge 16, 3) := dk_162 0 16 (dk_at dksX9_beginNumber_0 5 rfl rfl)
theorem dX9_beginNumber_8 : decode cX9_beginNumber 8 = .ok (.aload_n 0, 1) := dk_42 (dk_at dksX9_beginNumber_0 8 rfl rfl)
theorem dX9_beginNumber_9 : decode cX9_beginNumber 9 = .ok (.getfield 29, 3) := dk_180 0 29 (dk_at dksX9_beginNumber_0 9 rfl rfl)
theorem dX9_beginNumber_12 : decode cX9_beginNumber 12 = .ok (.iload_n 2, 1) := dk_28 (dk_at dksX9_beginNumber_0 12 rfl rfl)
theorem dX9_beginNumber_13 : decode cX9_beginNumber 13 = .ok (.iconst 0, 1) := dk_3 (dk_at dksX9_beginNumber_0 13 rfl rfl)
theorem dX9_beginNumber_14 : decode cX9_beginNumber 14 = .ok (.iastore, 1) := dk_79 (dk_at dksX9_beginNumber_0 14 rfl rfl)
theorem dX9_beginNumber_15 : decode cX9_beginNumber 15 = .ok (.iinc 2 1, 3) := dk_132 2 1 (dk_at dksX9_beginNumber_0 15 rfl rfl)
theorem dX9_beginNumber_18 : decode cX9_beginNumber 18 = .ok (.goto (-16), 3) := dk_167 255 240 (dk_at dksX9_beginNumber_0 18 rfl rfl)
theorem dX9_beginNumber_21 : decode cX9_beginNumber 21 = .ok (.aload_n 0, 1) := dk_42 (dk_at dksX9_beginNumber_0 21 rfl rfl)
theorem dX9_beginNumber_22 : decode cX9_beginNumber 22 = .ok (.getfield 29, 3) := dk_180 0 29 (dk_at dksX9_beginNumber_1 0 rfl rfl)
theorem dX9_beginNumber_25 : decode cX9_beginNumber 25 = .ok (.iconst 0, 1) := dk_3 (dk_at dksX9_beginNumber_1 3 rfl rfl)
theorem dX9_beginNumber_26 : decode cX9_beginNumber 26 = .ok (.aload_n 0, 1) := dk_42 (dk_at dksX9_beginNumber_1 4 rfl rfl)
theorem dX9_beginNumber_27 : decode cX9_beginNumber 27 = .ok (.getfield 7, 3) := dk_180 0 7 (dk_at dksX9_beginNumber_1 5 rfl rfl)
theorem dX9_beginNumber_30 : decode cX9_beginNumber 30 = .ok (.sipush 197, 3) := dk_17 0 197 (dk_at dksX9_beginNumber_1 8 rfl rfl)
theorem dX9_beginNumber_33 : decode cX9_beginNumber 33 = .ok (.iaload, 1) := dk_46 (dk_at dksX9_beginNumber_1 11 rfl rfl)
theorem dX9_beginNumber_34 : decode cX9_beginNumber 34 = .ok (.ineg, 1) := dk_116 (dk_at dksX9_beginNumber_1 12 rfl rfl)
theorem dX9_beginNumber_35 : decode cX9_beginNumber 35 = .ok (.iastore, 1) := dk_79 (dk_at dksX9_beginNumber_1 13 rfl rfl)
theorem dX9_beginNumber_36 : decode cX9_beginNumber 36 = .ok (.aload_n 0, 1) := dk_42 (dk_at dksX9_beginNumber_1 14 rfl rfl)
theorem dX9_beginNumber_37 : decode cX9_beginNumber 37 = .ok (.getfield 29, 3) := dk_180 0 29 (dk_at dksX9_beginNumber_1 15 rfl rfl)
theorem dX9_beginNumber_40 : decode cX9_beginNumber 40 = .ok (.iconst 1, 1) := dk_4 (dk_at dksX9_beginNumber_1 18 rfl rfl)
theorem dX9_beginNumber_41 : decode cX9_beginNumber 41 = .ok (.aload_n 0, 1) := dk_42 (dk_at dksX9_beginNumber_1 19 rfl rfl)
theorem dX9_beginNumber_42 : decode cX9_beginNumber 42 = .ok (.getfield 7, 3) := dk_180 0 7 (dk_at dksX9_beginNumber_1 20 rfl rfl)
theorem dX9_beginNumber_45 : decode cX9_beginNumber 45 = .ok (.sipush 198, 3) := dk_17 0 198 (dk_at dksX9_beginNumber_2 0 rfl rfl)
theorem dX9_beginNumber_48 : decode cX9_beginNumber 48 = .ok (.iaload, 1) := dk_46 (dk_at dksX9_beginNumber_2 3 rfl rfl)
theorem dX9_beginNumber_49 : decode cX9_beginNumber 49 = .ok (.iastore, 1) := dk_79 (dk_at dksX9_beginNumber_2 4 rfl rfl)
theorem dX9_beginNumber_50 : decode cX9_beginNumber 50 = .ok (.aload_n 0, 1) := dk_42 (dk_at dksX9_beginNumber_2 5 rfl rfl)
theorem dX9_beginNumber_51 : decode cX9_beginNumber 51 = .ok (.getfield 29, 3) := dk_180 0 29 (dk_at dksX9_beginNumber_2 6 rfl rfl)
theorem dX9_beginNumber_54 : decode cX9_beginNumber 54 = .ok (.iconst 2, 1) := dk_5 (dk_at dksX9_beginNumber_2 9 rfl rfl)
theorem dX9_beginNumber_55 : decode cX9_beginNumber 55 = .ok (.iload_n 1, 1) := dk_27 (dk_at dksX9_beginNumber_2 10 rfl rfl)
theorem dX9_beginNumber_56 : decode cX9_beginNumber 56 = .ok (.iastore, 1) := dk_79 (dk_at dksX9_beginNumber_2 11 rfl rfl)
theorem dX9_beginNumber_57 : decode cX9_beginNumber 57 = .ok (.aload_n 0, 1) := dk_42 (dk_at dksX9_beginNumber_2 12 rfl rfl)
theorem dX9_beginNumber_58 : decode cX9_beginNumber 58 = .ok (.invokevirtual 242, 3) := dk_182 0 242 (dk_at dksX9_beginNumber_2 13 rfl rfl)
theorem dX9_beginNumber_61 : decode cX9_beginNumber 61 = .ok (.ireturn, 1) := dk_172 (dk_at dksX9_beginNumber_2 16 rfl rfl)
abbrev cX9_setOf : ByteArray := prog_21_method_59_code
def yX9_setOf : MethodName := ⟨RX9, "setOf", "(IIII)J"⟩
def dkwX9_setOf_6 : List UInt8 := [167, 255, 173, 22, 5, 173]
abbrev dktX9_setOf_6 : List UInt8 := dkwX9_setOf_6 ++ []
def dkwX9_setOf_5 : List UInt8 := [29, 21, 8, 182, 1, 19, 105, 20, 0, 245, 109, 97, 55, 5, 132, 8, 1, 167, 255, 188, 132, 7, 1]
abbrev dktX9_setOf_5 : List UInt8 := dkwX9_setOf_5 ++ dktX9_setOf_6
def dkwX9_setOf_4 : List UInt8 := [21, 7, 154, 0, 9, 28, 4, 96, 167, 0, 4, 28, 21, 7, 4, 160, 0, 9, 29, 4, 96, 167, 0, 4]
abbrev dktX9_setOf_4 : List UInt8 := dkwX9_setOf_4 ++ dktX9_setOf_5
def dkwX9_setOf_3 : List UInt8 := [162, 0, 68, 22, 5, 42, 180, 0, 47, 7, 21, 4, 104, 5, 21, 7, 104, 96, 21, 8, 96, 47, 42, 27]
abbrev dktX9_setOf_3 : List UInt8 := dkwX9_setOf_3 ++ dktX9_setOf_4
def dkwX9_setOf_2 : List UInt8 := [167, 0, 4, 9, 173, 9, 55, 5, 3, 54, 7, 21, 7, 5, 162, 0, 83, 3, 54, 8, 21, 8, 5]
abbrev dktX9_setOf_2 : List UInt8 := dkwX9_setOf_2 ++ dktX9_setOf_3
def dkwX9_setOf_1 : List UInt8 := [27, 154, 0, 7, 28, 167, 0, 4, 29, 42, 180, 0, 7, 17, 0, 194, 46, 161, 0, 9, 20, 0, 245]
abbrev dktX9_setOf_1 : List UInt8 := dkwX9_setOf_1 ++ dktX9_setOf_2
def dkwX9_setOf_0 : List UInt8 := [28, 42, 180, 0, 7, 17, 0, 194, 46, 162, 0, 15, 29, 42, 180, 0, 7, 17, 0, 194, 46, 161, 0, 31]
abbrev dktX9_setOf_0 : List UInt8 := dkwX9_setOf_0 ++ dktX9_setOf_1
theorem dksX9_setOf_0 : cX9_setOf.data.toList.drop 0 = dktX9_setOf_0 := by decide +kernel
theorem dksX9_setOf_1 : cX9_setOf.data.toList.drop 24 = dktX9_setOf_1 := dk_seg dksX9_setOf_0 24 rfl rfl
theorem dksX9_setOf_2 : cX9_setOf.data.toList.drop 47 = dktX9_setOf_2 := dk_seg dksX9_setOf_1 23 rfl rfl
theorem dksX9_setOf_3 : cX9_setOf.data.toList.drop 70 = dktX9_setOf_3 := dk_seg dksX9_setOf_2 23 rfl rfl
theorem dksX9_setOf_4 : cX9_setOf.data.toList.drop 94 = dktX9_setOf_4 := dk_seg dksX9_setOf_3 24 rfl rfl
theorem dksX9_setOf_5 : cX9_setOf.data.toList.drop 118 = dktX9_setOf_5 := dk_seg dksX9_setOf_4 24 rfl rfl
theorem dksX9_setOf_6 : cX9_setOf.data.toList.drop 141 = dktX9_setOf_6 := dk_seg dksX9_setOf_5 23 rfl rfl
theorem dX9_setOf_0 : decode cX9_setOf 0 = .ok (.iload_n 2, 1) := dk_28 (dk_at dksX9_setOf_0 0 rfl rfl)
theorem dX9_setOf_1 : decode cX9_setOf 1 = .ok (.aload_n 0, 1) := dk_42 (dk_at dksX9_setOf_0 1 rfl rfl)
theorem dX9_setOf_2 : decode cX9_setOf 2 = .ok (.getfield 7, 3) := dk_180 0 7 (dk_at dksX9_setOf_0 2 rfl rfl)
theorem dX9_setOf_5 : decode cX9_setOf 5 = .ok (.sipush 194, 3) := dk_17 0 194 (dk_at dksX9_setOf_0 5 rfl rfl)
theorem dX9_setOf_8 : decode cX9_setOf 8 = .ok (.iaload, 1) := dk_46 (dk_at dksX9_setOf_0 8 rfl rfl)
theorem dX9_setOf_9 : decode cX9_setOf 9 = .ok (.if_icmp .ge 15, 3) := dk_162 0 15 (dk_at dksX9_setOf_0 9 rfl rfl)
theorem dX9_setOf_12 : decode cX9_setOf 12 = .ok (.iload_n 3, 1) := dk_29 (dk_at dksX9_setOf_0 12 rfl rfl)
theorem dX9_setOf_13 : decode cX9_setOf 13 = .ok (.aload_n 0, 1) := dk_42 (dk_at dksX9_setOf_0 13 rfl rfl)
theorem dX9_setOf_14 : decode cX9_setOf 14 = .ok (.getfield 7, 3) := dk_180 0 7 (dk_at dksX9_setOf_0 14 rfl rfl)
theorem dX9_setOf_17 : decode cX9_setOf 17 = .ok (.sipush 194, 3) := dk_17 0 194 (dk_at dksX9_setOf_0 17 rfl rfl)
theorem dX9_setOf_20 : decode cX9_setOf 20 = .ok (.iaload, 1) := dk_46 (dk_at dksX9_setOf_0 20 rfl rfl)
theorem dX9_setOf_21 : decode cX9_setOf 21 = .ok (.if_icmp .lt 31, 3) := dk_161 0 31 (dk_at dksX9_setOf_0 21 rfl rfl)
theorem dX9_setOf_24 : decode cX9_setOf 24 = .ok (.iload_n 1, 1) := dk_27 (dk_at dksX9_setOf_1 0 rfl rfl)
theorem dX9_setOf_25 : decode cX9_setOf 25 = .ok (.ifCond .ne 7, 3) := dk_154 0 7 (dk_at dksX9_setOf_1 1 rfl rfl)
theorem dX9_setOf_28 : decode cX9_setOf 28 = .ok (.iload_n 2, 1) := dk_28 (dk_at dksX9_setOf_1 4 rfl rfl)
theorem dX9_setOf_29 : decode cX9_setOf 29 = .ok (.goto 4, 3) := dk_167 0 4 (dk_at dksX9_setOf_1 5 rfl rfl)
theorem dX9_setOf_32 : decode cX9_setOf 32 = .ok (.iload_n 3, 1) := dk_29 (dk_at dksX9_setOf_1 8 rfl rfl)
theorem dX9_setOf_33 : decode cX9_setOf 33 = .ok (.aload_n 0, 1) := dk_42 (dk_at dksX9_setOf_1 9 rfl rfl)
theorem dX9_setOf_34 : decode cX9_setOf 34 = .ok (.getfield 7, 3) := dk_180 0 7 (dk_at dksX9_setOf_1 10 rfl rfl)
theorem dX9_setOf_37 : decode cX9_setOf 37 = .ok (.sipush 194, 3) := dk_17 0 194 (dk_at dksX9_setOf_1 13 rfl rfl)
theorem dX9_setOf_40 : decode cX9_setOf 40 = .ok (.iaload, 1) := dk_46 (dk_at dksX9_setOf_1 16 rfl rfl)
theorem dX9_setOf_41 : decode cX9_setOf 41 = .ok (.if_icmp .lt 9, 3) := dk_161 0 9 (dk_at dksX9_setOf_1 17 rfl rfl)
theorem dX9_setOf_44 : decode cX9_setOf 44 = .ok (.ldc2_w 245, 3) := dk_20 0 245 (dk_at dksX9_setOf_1 20 rfl rfl)
theorem dX9_setOf_47 : decode cX9_setOf 47 = .ok (.goto 4, 3) := dk_167 0 4 (dk_at dksX9_setOf_2 0 rfl rfl)
theorem dX9_setOf_50 : decode cX9_setOf 50 = .ok (.lconst 0, 1) := dk_9 (dk_at dksX9_setOf_2 3 rfl rfl)
theorem dX9_setOf_51 : decode cX9_setOf 51 = .ok (.lreturn, 1) := dk_173 (dk_at dksX9_setOf_2 4 rfl rfl)
theorem dX9_setOf_52 : decode cX9_setOf 52 = .ok (.lconst 0, 1) := dk_9 (dk_at dksX9_setOf_2 5 rfl rfl)
theorem dX9_setOf_53 : decode cX9_setOf 53 = .ok (.lstore 5, 2) := dk_55 5 (dk_at dksX9_setOf_2 6 rfl rfl)
theorem dX9_setOf_55 : decode cX9_setOf 55 = .ok (.iconst 0, 1) := dk_3 (dk_at dksX9_setOf_2 8 rfl rfl)
theorem dX9_setOf_56 : decode cX9_setOf 56 = .ok (.istore 7, 2) := dk_54 7 (dk_at dksX9_setOf_2 9 rfl rfl)
theorem dX9_setOf_58 : decode cX9_setOf 58 = .ok (.iload 7, 2) := dk_21 7 (dk_at dksX9_setOf_2 11 rfl rfl)
theorem dX9_setOf_60 : decode cX9_setOf 60 = .ok (.iconst 2, 1) := dk_5 (dk_at dksX9_setOf_2 13 rfl rfl)
theorem dX9_setOf_61 : decode cX9_setOf 61 = .ok (.if_icmp .ge 83, 3) := dk_162 0 83 (dk_at dksX9_setOf_2 14 rfl rfl)
theorem dX9_setOf_64 : decode cX9_setOf 64 = .ok (.iconst 0, 1) := dk_3 (dk_at dksX9_setOf_2 17 rfl rfl)
theorem dX9_setOf_65 : decode cX9_setOf 65 = .ok (.istore 8, 2) := dk_54 8 (dk_at dksX9_setOf_2 18 rfl rfl)
theorem dX9_setOf_67 : decode cX9_setOf 67 = .ok (.iload 8, 2) := dk_21 8 (dk_at dksX9_setOf_2 20 rfl rfl)
theorem dX9_setOf_69 : decode cX9_setOf 69 = .ok (.iconst 2, 1) := dk_5 (dk_at dksX9_setOf_2 22 rfl rfl)
theorem dX9_setOf_70 : decode cX9_setOf 70 = .ok (.if_icmp .ge 68, 3) := dk_162 0 68 (dk_at dksX9_setOf_3 0 rfl rfl)
theorem dX9_setOf_73 : decode cX9_setOf 73 = .ok (.lload 5, 2) := dk_22 5 (dk_at dksX9_setOf_3 3 rfl rfl)
theorem dX9_setOf_75 : decode cX9_setOf 75 = .ok (.aload_n 0, 1) := dk_42 (dk_at dksX9_setOf_3 5 rfl rfl)
theorem dX9_setOf_76 : decode cX9_setOf 76 = .ok (.getfield 47, 3) := dk_180 0 47 (dk_at dksX9_setOf_3 6 rfl rfl)
theorem dX9_setOf_79 : decode cX9_setOf 79 = .ok (.iconst 4, 1) := dk_7 (dk_at dksX9_setOf_3 9 rfl rfl)
theorem dX9_setOf_80 : decode cX9_setOf 80 = .ok (.iload 4, 2) := dk_21 4 (dk_at dksX9_setOf_3 10 rfl rfl)
theorem dX9_setOf_82 : decode cX9_setOf 82 = .ok (.imul, 1) := dk_104 (dk_at dksX9_setOf_3 12 rfl rfl)
theorem dX9_setOf_83 : decode cX9_setOf 83 = .ok (.iconst 2, 1) := dk_5 (dk_at dksX9_setOf_3 13 rfl rfl)
theorem dX9_setOf_84 : decode cX9_setOf 84 = .ok (.iload 7, 2) := dk_21 7 (dk_at dksX9_setOf_3 14 rfl rfl)
theorem dX9_setOf_86 : decode cX9_setOf 86 = .ok (.imul, 1) := dk_104 (dk_at dksX9_setOf_3 16 rfl rfl)
theorem dX9_setOf_87 : decode cX9_setOf 87 = .ok (.iadd, 1) := dk_96 (dk_at dksX9_setOf_3 17 rfl rfl)
theorem dX9_setOf_88 : decode cX9_setOf 88 = .ok (.iload 8, 2) := dk_21 8 (dk_at dksX9_setOf_3 18 rfl rfl)
theorem dX9_setOf_90 : decode cX9_setOf 90 = .ok (.iadd, 1) := dk_96 (dk_at dksX9_setOf_3 20 rfl rfl)
theorem dX9_setOf_91 : decode cX9_setOf 91 = .ok (.laload, 1) := dk_47 (dk_at dksX9_setOf_3 21 rfl rfl)
theorem dX9_setOf_92 : decode cX9_setOf 92 = .ok (.aload_n 0, 1) := dk_42 (dk_at dksX9_setOf_3 22 rfl rfl)
theorem dX9_setOf_93 : decode cX9_setOf 93 = .ok (.iload_n 1, 1) := dk_27 (dk_at dksX9_setOf_3 23 rfl rfl)
theorem dX9_setOf_94 : decode cX9_setOf 94 = .ok (.iload 7, 2) := dk_21 7 (dk_at dksX9_setOf_4 0 rfl rfl)
theorem dX9_setOf_96 : decode cX9_setOf 96 = .ok (.ifCond .ne 9, 3) := dk_154 0 9 (dk_at dksX9_setOf_4 2 rfl rfl)
theorem dX9_setOf_99 : decode cX9_setOf 99 = .ok (.iload_n 2, 1) := dk_28 (dk_at dksX9_setOf_4 5 rfl rfl)
theorem dX9_setOf_100 : decode cX9_setOf 100 = .ok (.iconst 1, 1) := dk_4 (dk_at dksX9_setOf_4 6 rfl rfl)
theorem dX9_setOf_101 : decode cX9_setOf 101 = .ok (.iadd, 1) := dk_96 (dk_at dksX9_setOf_4 7 rfl rfl)
theorem dX9_setOf_102 : decode cX9_setOf 102 = .ok (.goto 4, 3) := dk_167 0 4 (dk_at dksX9_setOf_4 8 rfl rfl)
theorem dX9_setOf_105 : decode cX9_setOf 105 = .ok (.iload_n 2, 1) := dk_28 (dk_at dksX9_setOf_4 11 rfl rfl)
theorem dX9_setOf_106 : decode cX9_setOf 106 = .ok (.iload 7, 2) := dk_21 7 (dk_at dksX9_setOf_4 12 rfl rfl)
theorem dX9_setOf_108 : decode cX9_setOf 108 = .ok (.iconst 1, 1) := dk_4 (dk_at dksX9_setOf_4 14 rfl rfl)
theorem dX9_setOf_109 : decode cX9_setOf 109 = .ok (.if_icmp .ne 9, 3) := dk_160 0 9 (dk_at dksX9_setOf_4 15 rfl rfl)
theorem dX9_setOf_112 : decode cX9_setOf 112 = .ok (.iload_n 3, 1) := dk_29 (dk_at dksX9_setOf_4 18 rfl rfl)
theorem dX9_setOf_113 : decode cX9_setOf 113 = .ok (.iconst 1, 1) := dk_4 (dk_at dksX9_setOf_4 19 rfl rfl)
theorem dX9_setOf_114 : decode cX9_setOf 114 = .ok (.iadd, 1) := dk_96 (dk_at dksX9_setOf_4 20 rfl rfl)
theorem dX9_setOf_115 : decode cX9_setOf 115 = .ok (.goto 4, 3) := dk_167 0 4 (dk_at dksX9_setOf_4 21 rfl rfl)
theorem dX9_setOf_118 : decode cX9_setOf 118 = .ok (.iload_n 3, 1) := dk_29 (dk_at dksX9_setOf_5 0 rfl rfl)
theorem dX9_setOf_119 : decode cX9_setOf 119 = .ok (.iload 8, 2) := dk_21 8 (dk_at dksX9_setOf_5 1 rfl rfl)
theorem dX9_setOf_121 : decode cX9_setOf 121 = .ok (.invokevirtual 275, 3) := dk_182 1 19 (dk_at dksX9_setOf_5 3 rfl rfl)
theorem dX9_setOf_124 : decode cX9_setOf 124 = .ok (.lmul, 1) := dk_105 (dk_at dksX9_setOf_5 6 rfl rfl)
theorem dX9_setOf_125 : decode cX9_setOf 125 = .ok (.ldc2_w 245, 3) := dk_20 0 245 (dk_at dksX9_setOf_5 7 rfl rfl)
theorem dX9_setOf_128 : decode cX9_setOf 128 = .ok (.ldiv, 1) := dk_109 (dk_at dksX9_setOf_5 10 rfl rfl)
theorem dX9_setOf_129 : decode cX9_setOf 129 = .ok (.ladd, 1) := dk_97 (dk_at dksX9_setOf_5 11 rfl rfl)
theorem dX9_setOf_130 : decode cX9_setOf 130 = .ok (.lstore 5, 2) := dk_55 5 (dk_at dksX9_setOf_5 12 rfl rfl)
theorem dX9_setOf_132 : decode cX9_setOf 132 = .ok (.iinc 8 1, 3) := dk_132 8 1 (dk_at dksX9_setOf_5 14 rfl rfl)
theorem dX9_setOf_135 : decode cX9_setOf 135 = .ok (.goto (-68), 3) := dk_167 255 188 (dk_at dksX9_setOf_5 17 rfl rfl)
theorem dX9_setOf_138 : decode cX9_setOf 138 = .ok (.iinc 7 1, 3) := dk_132 7 1 (dk_at dksX9_setOf_5 20 rfl rfl)
theorem dX9_setOf_141 : decode cX9_setOf 141 = .ok (.goto (-83), 3) := dk_167 255 173 (dk_at dksX9_setOf_6 0 rfl rfl)
theorem dX9_setOf_144 : decode cX9_setOf 144 = .ok (.lload 5, 2) := dk_22 5 (dk_at dksX9_setOf_6 3 rfl rfl)
theorem dX9_setOf_146 : decode cX9_setOf 146 = .ok (.lreturn, 1) := dk_173 (dk_at dksX9_setOf_6 5 rfl rfl)
abbrev cX9_ways : ByteArray := prog_21_method_61_code
def yX9_ways : MethodName := ⟨RX9, "ways", "(IIII)I"⟩
def dkwX9_ways_3 : List UInt8 := [180, 0, 38, 182, 1, 10, 42, 180, 0, 35, 42, 27, 182, 1, 23, 46, 172]
abbrev dktX9_ways_3 : List UInt8 := dkwX9_ways_3 ++ []
def dkwX9_ways_2 : List UInt8 := [180, 0, 67, 158, 0, 5, 3, 172, 42, 182, 1, 7, 42, 28, 29, 21, 4, 42, 180, 0, 35, 42]
abbrev dktX9_ways_2 : List UInt8 := dkwX9_ways_2 ++ dktX9_ways_3
def dkwX9_ways_1 : List UInt8 := [167, 0, 19, 21, 4, 3, 16, 30, 184, 0, 70, 154, 0, 7, 5, 167, 0, 4, 3, 181, 0, 67, 42]
abbrev dktX9_ways_1 : List UInt8 := dkwX9_ways_1 ++ dktX9_ways_2
def dkwX9_ways_0 : List UInt8 := [42, 27, 184, 0, 197, 153, 0, 17, 28, 184, 0, 197, 153, 0, 10, 29, 184, 0, 197, 154, 0, 7, 4]
abbrev dktX9_ways_0 : List UInt8 := dkwX9_ways_0 ++ dktX9_ways_1
theorem dksX9_ways_0 : cX9_ways.data.toList.drop 0 = dktX9_ways_0 := by decide +kernel
theorem dksX9_ways_1 : cX9_ways.data.toList.drop 23 = dktX9_ways_1 := dk_seg dksX9_ways_0 23 rfl rfl
theorem dksX9_ways_2 : cX9_ways.data.toList.drop 46 = dktX9_ways_2 := dk_seg dksX9_ways_1 23 rfl rfl
theorem dksX9_ways_3 : cX9_ways.data.toList.drop 68 = dktX9_ways_3 := dk_seg dksX9_ways_2 22 rfl rfl
theorem dX9_ways_0 : decode cX9_ways 0 = .ok (.aload_n 0, 1) := dk_42 (dk_at dksX9_ways_0 0 rfl rfl)
theorem dX9_ways_1 : decode cX9_ways 1 = .ok (.iload_n 1, 1) := dk_27 (dk_at dksX9_ways_0 1 rfl rfl)
theorem dX9_ways_2 : decode cX9_ways 2 = .ok (.invokestatic 197, 3) := dk_184 0 197 (dk_at dksX9_ways_0 2 rfl rfl)
theorem dX9_ways_5 : decode cX9_ways 5 = .ok (.ifCond .eq 17, 3) := dk_153 0 17 (dk_at dksX9_ways_0 5 rfl rfl)
theorem dX9_ways_8 : decode cX9_ways 8 = .ok (.iload_n 2, 1) := dk_28 (dk_at dksX9_ways_0 8 rfl rfl)
theorem dX9_ways_9 : decode cX9_ways 9 = .ok (.invokestatic 197, 3) := dk_184 0 197 (dk_at dksX9_ways_0 9 rfl rfl)
theorem dX9_ways_12 : decode cX9_ways 12 = .ok (.ifCond .eq 10, 3) := dk_153 0 10 (dk_at dksX9_ways_0 12 rfl rfl)
theorem dX9_ways_15 : decode cX9_ways 15 = .ok (.iload_n 3, 1) := dk_29 (dk_at dksX9_ways_0 15 rfl rfl)
theorem dX9_ways_16 : decode cX9_ways 16 = .ok (.invokestatic 197, 3) := dk_184 0 197 (dk_at dksX9_ways_0 16 rfl rfl)
theorem dX9_ways_19 : decode cX9_ways 19 = .ok (.ifCond .ne 7, 3) := dk_154 0 7 (dk_at dksX9_ways_0 19 rfl rfl)
theorem dX9_ways_22 : decode cX9_ways 22 = .ok (.iconst 1, 1) := dk_4 (dk_at dksX9_ways_0 22 rfl rfl)
theorem dX9_ways_23 : decode cX9_ways 23 = .ok (.goto 19, 3) := dk_167 0 19 (dk_at dksX9_ways_1 0 rfl rfl)
theorem dX9_ways_26 : decode cX9_ways 26 = .ok (.iload 4, 2) := dk_21 4 (dk_at dksX9_ways_1 3 rfl rfl)
theorem dX9_ways_28 : decode cX9_ways 28 = .ok (.iconst 0, 1) := dk_3 (dk_at dksX9_ways_1 5 rfl rfl)
theorem dX9_ways_29 : decode cX9_ways 29 = .ok (.bipush 30, 2) := dk_16 30 (dk_at dksX9_ways_1 6 rfl rfl)
theorem dX9_ways_31 : decode cX9_ways 31 = .ok (.invokestatic 70, 3) := dk_184 0 70 (dk_at dksX9_ways_1 8 rfl rfl)
theorem dX9_ways_34 : decode cX9_ways 34 = .ok (.ifCond .ne 7, 3) := dk_154 0 7 (dk_at dksX9_ways_1 11 rfl rfl)
theorem dX9_ways_37 : decode cX9_ways 37 = .ok (.iconst 2, 1) := dk_5 (dk_at dksX9_ways_1 14 rfl rfl)
theorem dX9_ways_38 : decode cX9_ways 38 = .ok (.goto 4, 3) := dk_167 0 4 (dk_at dksX9_ways_1 15 rfl rfl)
theorem dX9_ways_41 : decode cX9_ways 41 = .ok (.iconst 0, 1) := dk_3 (dk_at dksX9_ways_1 18 rfl rfl)
theorem dX9_ways_42 : decode cX9_ways 42 = .ok (.putfield 67, 3) := dk_181 0 67 (dk_at dksX9_ways_1 19 rfl rfl)
theorem dX9_ways_45 : decode cX9_ways 45 = .ok (.aload_n 0, 1) := dk_42 (dk_at dksX9_ways_1 22 rfl rfl)
theorem dX9_ways_46 : decode cX9_ways 46 = .ok (.getfield 67, 3) := dk_180 0 67 (dk_at dksX9_ways_2 0 rfl rfl)
theorem dX9_ways_49 : decode cX9_ways 49 = .ok (.ifCond .le 5, 3) := dk_158 0 5 (dk_at dksX9_ways_2 3 rfl rfl)
theorem dX9_ways_52 : decode cX9_ways 52 = .ok (.iconst 0, 1) := dk_3 (dk_at dksX9_ways_2 6 rfl rfl)
theorem dX9_ways_53 : decode cX9_ways 53 = .ok (.ireturn, 1) := dk_172 (dk_at dksX9_ways_2 7 rfl rfl)
theorem dX9_ways_54 : decode cX9_ways 54 = .ok (.aload_n 0, 1) := dk_42 (dk_at dksX9_ways_2 8 rfl rfl)
theorem dX9_ways_55 : decode cX9_ways 55 = .ok (.invokevirtual 263, 3) := dk_182 1 7 (dk_at dksX9_ways_2 9 rfl rfl)
theorem dX9_ways_58 : decode cX9_ways 58 = .ok (.aload_n 0, 1) := dk_42 (dk_at dksX9_ways_2 12 rfl rfl)
theorem dX9_ways_59 : decode cX9_ways 59 = .ok (.iload_n 2, 1) := dk_28 (dk_at dksX9_ways_2 13 rfl rfl)
theorem dX9_ways_60 : decode cX9_ways 60 = .ok (.iload_n 3, 1) := dk_29 (dk_at dksX9_ways_2 14 rfl rfl)
theorem dX9_ways_61 : decode cX9_ways 61 = .ok (.iload 4, 2) := dk_21 4 (dk_at dksX9_ways_2 15 rfl rfl)
theorem dX9_ways_63 : decode cX9_ways 63 = .ok (.aload_n 0, 1) := dk_42 (dk_at dksX9_ways_2 17 rfl rfl)
theorem dX9_ways_64 : decode cX9_ways 64 = .ok (.getfield 35, 3) := dk_180 0 35 (dk_at dksX9_ways_2 18 rfl rfl)
theorem dX9_ways_67 : decode cX9_ways 67 = .ok (.aload_n 0, 1) := dk_42 (dk_at dksX9_ways_2 21 rfl rfl)
theorem dX9_ways_68 : decode cX9_ways 68 = .ok (.getfield 38, 3) := dk_180 0 38 (dk_at dksX9_ways_3 0 rfl rfl)
theorem dX9_ways_71 : decode cX9_ways 71 = .ok (.invokevirtual 266, 3) := dk_182 1 10 (dk_at dksX9_ways_3 3 rfl rfl)
theorem dX9_ways_74 : decode cX9_ways 74 = .ok (.aload_n 0, 1) := dk_42 (dk_at dksX9_ways_3 6 rfl rfl)
theorem dX9_ways_75 : decode cX9_ways 75 = .ok (.getfield 35, 3) := dk_180 0 35 (dk_at dksX9_ways_3 7 rfl rfl)
theorem dX9_ways_78 : decode cX9_ways 78 = .ok (.aload_n 0, 1) := dk_42 (dk_at dksX9_ways_3 10 rfl rfl)
theorem dX9_ways_79 : decode cX9_ways 79 = .ok (.iload_n 1, 1) := dk_27 (dk_at dksX9_ways_3 11 rfl rfl)
theorem dX9_ways_80 : decode cX9_ways 80 = .ok (.invokevirtual 279, 3) := dk_182 1 23 (dk_at dksX9_ways_3 12 rfl rfl)
theorem dX9_ways_83 : decode cX9_ways 83 = .ok (.iaload, 1) := dk_46 (dk_at dksX9_ways_3 15 rfl rfl)
theorem dX9_ways_84 : decode cX9_ways 84 = .ok (.ireturn, 1) := dk_172 (dk_at dksX9_ways_3 16 rfl rfl)
abbrev cX9_even : ByteArray := prog_21_method_62_code
def yX9_even : MethodName := ⟨RX9, "even", "(II)I"⟩
def dkwX9_even_7 : List UInt8 := [16, 10, 21, 5, 104, 21, 4, 96, 172, 132, 4, 1, 167, 255, 147, 132, 3, 1, 167, 255, 132, 2, 172]
abbrev dktX9_even_7 : List UInt8 := dkwX9_even_7 ++ []
def dkwX9_even_6 : List UInt8 := [54, 6, 21, 6, 156, 0, 9, 21, 6, 116, 167, 0, 5, 21, 6, 17, 3, 232, 28, 104, 163, 0, 12]
abbrev dktX9_even_6 : List UInt8 := dkwX9_even_6 ++ dktX9_even_7
def dkwX9_even_5 : List UInt8 := [6, 3, 79, 42, 180, 0, 29, 16, 6, 3, 79, 42, 180, 0, 35, 42, 182, 0, 242, 46, 19, 1, 27, 100]
abbrev dktX9_even_5 : List UInt8 := dkwX9_even_5 ++ dktX9_even_6
def dkwX9_even_4 : List UInt8 := [182, 0, 200, 42, 180, 0, 29, 3, 21, 5, 116, 79, 42, 180, 0, 29, 4, 21, 4, 79, 42, 180, 0, 29]
abbrev dktX9_even_4 : List UInt8 := dkwX9_even_4 ++ dktX9_even_5
def dkwX9_even_3 : List UInt8 := [6, 163, 0, 109, 29, 21, 4, 100, 54, 5, 21, 5, 3, 6, 184, 0, 70, 154, 0, 6, 167, 0, 84, 42]
abbrev dktX9_even_3 : List UInt8 := dkwX9_even_3 ++ dktX9_even_4
def dkwX9_even_2 : List UInt8 := [42, 180, 0, 35, 42, 180, 0, 38, 182, 1, 10, 3, 62, 29, 16, 6, 163, 0, 124, 3, 54, 4, 21, 4]
abbrev dktX9_even_2 : List UInt8 := dkwX9_even_2 ++ dktX9_even_3
def dkwX9_even_1 : List UInt8 := [167, 0, 4, 3, 181, 0, 67, 42, 180, 0, 67, 158, 0, 5, 3, 172, 42, 182, 1, 7, 42, 3, 2, 27]
abbrev dktX9_even_1 : List UInt8 := dkwX9_even_1 ++ dktX9_even_2
def dkwX9_even_0 : List UInt8 := [42, 27, 3, 16, 30, 184, 0, 70, 153, 0, 14, 28, 3, 19, 1, 26, 184, 0, 70, 154, 0, 7, 4]
abbrev dktX9_even_0 : List UInt8 := dkwX9_even_0 ++ dktX9_even_1
theorem dksX9_even_0 : cX9_even.data.toList.drop 0 = dktX9_even_0 := by decide +kernel
theorem dksX9_even_1 : cX9_even.data.toList.drop 23 = dktX9_even_1 := dk_seg dksX9_even_0 23 rfl rfl
theorem dksX9_even_2 : cX9_even.data.toList.drop 47 = dktX9_even_2 := dk_seg dksX9_even_1 24 rfl rfl
theorem dksX9_even_3 : cX9_even.data.toList.drop 71 = dktX9_even_3 := dk_seg dksX9_even_2 24 rfl rfl
theorem dksX9_even_4 : cX9_even.data.toList.drop 95 = dktX9_even_4 := dk_seg dksX9_even_3 24 rfl rfl
theorem dksX9_even_5 : cX9_even.data.toList.drop 119 = dktX9_even_5 := dk_seg dksX9_even_4 24 rfl rfl
theorem dksX9_even_6 : cX9_even.data.toList.drop 143 = dktX9_even_6 := dk_seg dksX9_even_5 24 rfl rfl
theorem dksX9_even_7 : cX9_even.data.toList.drop 166 = dktX9_even_7 := dk_seg dksX9_even_6 23 rfl rfl
theorem dX9_even_0 : decode cX9_even 0 = .ok (.aload_n 0, 1) := dk_42 (dk_at dksX9_even_0 0 rfl rfl)
theorem dX9_even_1 : decode cX9_even 1 = .ok (.iload_n 1, 1) := dk_27 (dk_at dksX9_even_0 1 rfl rfl)
theorem dX9_even_2 : decode cX9_even 2 = .ok (.iconst 0, 1) := dk_3 (dk_at dksX9_even_0 2 rfl rfl)
theorem dX9_even_3 : decode cX9_even 3 = .ok (.bipush 30, 2) := dk_16 30 (dk_at dksX9_even_0 3 rfl rfl)
theorem dX9_even_5 : decode cX9_even 5 = .ok (.invokestatic 70, 3) := dk_184 0 70 (dk_at dksX9_even_0 5 rfl rfl)
theorem dX9_even_8 : decode cX9_even 8 = .ok (.ifCond .eq 14, 3) := dk_153 0 14 (dk_at dksX9_even_0 8 rfl rfl)
theorem dX9_even_11 : decode cX9_even 11 = .ok (.iload_n 2, 1) := dk_28 (dk_at dksX9_even_0 11 rfl rfl)
theorem dX9_even_12 : decode cX9_even 12 = .ok (.iconst 0, 1) := dk_3 (dk_at dksX9_even_0 12 rfl rfl)
theorem dX9_even_13 : decode cX9_even 13 = .ok (.ldc_w 282, 3) := dk_19 1 26 (dk_at dksX9_even_0 13 rfl rfl)
theorem dX9_even_16 : decode cX9_even 16 = .ok (.invokestatic 70, 3) := dk_184 0 70 (dk_at dksX9_even_0 16 rfl rfl)
theorem dX9_even_19 : decode cX9_even 19 = .ok (.ifCond .ne 7, 3) := dk_154 0 7 (dk_at dksX9_even_0 19 rfl rfl)
theorem dX9_even_22 : decode cX9_even 22 = .ok (.iconst 1, 1) := dk_4 (dk_at dksX9_even_0 22 rfl rfl)
theorem dX9_even_23 : decode cX9_even 23 = .ok (.goto 4, 3) := dk_167 0 4 (dk_at dksX9_even_1 0 rfl rfl)
theorem dX9_even_26 : decode cX9_even 26 = .ok (.iconst 0, 1) := dk_3 (dk_at dksX9_even_1 3 rfl rfl)
theorem dX9_even_27 : decode cX9_even 27 = .ok (.putfield 67, 3) := dk_181 0 67 (dk_at dksX9_even_1 4 rfl rfl)
theorem dX9_even_30 : decode cX9_even 30 = .ok (.aload_n 0, 1) := dk_42 (dk_at dksX9_even_1 7 rfl rfl)
theorem dX9_even_31 : decode cX9_even 31 = .ok (.getfield 67, 3) := dk_180 0 67 (dk_at dksX9_even_1 8 rfl rfl)
theorem dX9_even_34 : decode cX9_even 34 = .ok (.ifCond .le 5, 3) := dk_158 0 5 (dk_at dksX9_even_1 11 rfl rfl)
theorem dX9_even_37 : decode cX9_even 37 = .ok (.iconst 0, 1) := dk_3 (dk_at dksX9_even_1 14 rfl rfl)
theorem dX9_even_38 : decode cX9_even 38 = .ok (.ireturn, 1) := dk_172 (dk_at dksX9_even_1 15 rfl rfl)
theorem dX9_even_39 : decode cX9_even 39 = .ok (.aload_n 0, 1) := dk_42 (dk_at dksX9_even_1 16 rfl rfl)
theorem dX9_even_40 : decode cX9_even 40 = .ok (.invokevirtual 263, 3) := dk_182 1 7 (dk_at dksX9_even_1 17 rfl rfl)
theorem dX9_even_43 : decode cX9_even 43 = .ok (.aload_n 0, 1) := dk_42 (dk_at dksX9_even_1 20 rfl rfl)
theorem dX9_even_44 : decode cX9_even 44 = .ok (.iconst 0, 1) := dk_3 (dk_at dksX9_even_1 21 rfl rfl)
theorem dX9_even_45 : decode cX9_even 45 = .ok (.iconst (-1), 1) := dk_2 (dk_at dksX9_even_1 22 rfl rfl)
theorem dX9_even_46 : decode cX9_even 46 = .ok (.iload_n 1, 1) := dk_27 (dk_at dksX9_even_1 23 rfl rfl)
theorem dX9_even_47 : decode cX9_even 47 = .ok (.aload_n 0, 1) := dk_42 (dk_at dksX9_even_2 0 rfl rfl)
theorem dX9_even_48 : decode cX9_even 48 = .ok (.getfield 35, 3) := dk_180 0 35 (dk_at dksX9_even_2 1 rfl rfl)
theorem dX9_even_51 : decode cX9_even 51 = .ok (.aload_n 0, 1) := dk_42 (dk_at dksX9_even_2 4 rfl rfl)
theorem dX9_even_52 : decode cX9_even 52 = .ok (.getfield 38, 3) := dk_180 0 38 (dk_at dksX9_even_2 5 rfl rfl)
theorem dX9_even_55 : decode cX9_even 55 = .ok (.invokevirtual 266, 3) := dk_182 1 10 (dk_at dksX9_even_2 8 rfl rfl)
theorem dX9_even_58 : decode cX9_even 58 = .ok (.iconst 0, 1) := dk_3 (dk_at dksX9_even_2 11 rfl rfl)
theorem dX9_even_59 : decode cX9_even 59 = .ok (.istore_n 3, 1) := dk_62 (dk_at dksX9_even_2 12 rfl rfl)
theorem dX9_even_60 : decode cX9_even 60 = .ok (.iload_n 3, 1) := dk_29 (dk_at dksX9_even_2 13 rfl rfl)
theorem dX9_even_61 : decode cX9_even 61 = .ok (.bipush 6, 2) := dk_16 6 (dk_at dksX9_even_2 14 rfl rfl)
theorem dX9_even_63 : decode cX9_even 63 = .ok (.if_icmp .gt 124, 3) := dk_163 0 124 (dk_at dksX9_even_2 16 rfl rfl)
theorem dX9_even_66 : decode cX9_even 66 = .ok (.iconst 0, 1) := dk_3 (dk_at dksX9_even_2 19 rfl rfl)
theorem dX9_even_67 : decode cX9_even 67 = .ok (.istore 4, 2) := dk_54 4 (dk_at dksX9_even_2 20 rfl rfl)
theorem dX9_even_69 : decode cX9_even 69 = .ok (.iload 4, 2) := dk_21 4 (dk_at dksX9_even_2 22 rfl rfl)
theorem dX9_even_71 : decode cX9_even 71 = .ok (.iconst 3, 1) := dk_6 (dk_at dksX9_even_3 0 rfl rfl)
theorem dX9_even_72 : decode cX9_even 72 = .ok (.if_icmp .gt 109, 3) := dk_163 0 109 (dk_at dksX9_even_3 1 rfl rfl)
theorem dX9_even_75 : decode cX9_even 75 = .ok (.iload_n 3, 1) := dk_29 (dk_at dksX9_even_3 4 rfl rfl)
theorem dX9_even_76 : decode cX9_even 76 = .ok (.iload 4, 2) := dk_21 4 (dk_at dksX9_even_3 5 rfl rfl)
theorem dX9_even_78 : decode cX9_even 78 = .ok (.isub, 1) := dk_100 (dk_at dksX9_even_3 7 rfl rfl)
theorem dX9_even_79 : decode cX9_even 79 = .ok (.istore 5, 2) := dk_54 5 (dk_at dksX9_even_3 8 rfl rfl)
theorem dX9_even_81 : decode cX9_even 81 = .ok (.iload 5, 2) := dk_21 5 (dk_at dksX9_even_3 10 rfl rfl)
theorem dX9_even_83 : decode cX9_even 83 = .ok (.iconst 0, 1) := dk_3 (dk_at dksX9_even_3 12 rfl rfl)
theorem dX9_even_84 : decode cX9_even 84 = .ok (.iconst 3, 1) := dk_6 (dk_at dksX9_even_3 13 rfl rfl)
theorem dX9_even_85 : decode cX9_even 85 = .ok (.invokestatic 70, 3) := dk_184 0 70 (dk_at dksX9_even_3 14 rfl rfl)
theorem dX9_even_88 : decode cX9_even 88 = .ok (.ifCond .ne 6, 3) := dk_154 0 6 (dk_at dksX9_even_3 17 rfl rfl)
theorem dX9_even_91 : decode cX9_even 91 = .ok (.goto 84, 3) := dk_167 0 84 (dk_at dksX9_even_3 20 rfl rfl)
theorem dX9_even_94 : decode cX9_even 94 = .ok (.aload_n 0, 1) := dk_42 (dk_at dksX9_even_3 23 rfl rfl)
theorem dX9_even_95 : decode cX9_even 95 = .ok (.invokevirtual 200, 3) := dk_182 0 200 (dk_at dksX9_even_4 0 rfl rfl)
theorem dX9_even_98 : decode cX9_even 98 = .ok (.aload_n 0, 1) := dk_42 (dk_at dksX9_even_4 3 rfl rfl)
theorem dX9_even_99 : decode cX9_even 99 = .ok (.getfield 29, 3) := dk_180 0 29 (dk_at dksX9_even_4 4 rfl rfl)
theorem dX9_even_102 : decode cX9_even 102 = .ok (.iconst 0, 1) := dk_3 (dk_at dksX9_even_4 7 rfl rfl)
theorem dX9_even_103 : decode cX9_even 103 = .ok (.iload 5, 2) := dk_21 5 (dk_at dksX9_even_4 8 rfl rfl)
theorem dX9_even_105 : decode cX9_even 105 = .ok (.ineg, 1) := dk_116 (dk_at dksX9_even_4 10 rfl rfl)
theorem dX9_even_106 : decode cX9_even 106 = .ok (.iastore, 1) := dk_79 (dk_at dksX9_even_4 11 rfl rfl)
theorem dX9_even_107 : decode cX9_even 107 = .ok (.aload_n 0, 1) := dk_42 (dk_at dksX9_even_4 12 rfl rfl)
theorem dX9_even_108 : decode cX9_even 108 = .ok (.getfield 29, 3) := dk_180 0 29 (dk_at dksX9_even_4 13 rfl rfl)
theorem dX9_even_111 : decode cX9_even 111 = .ok (.iconst 1, 1) := dk_4 (dk_at dksX9_even_4 16 rfl rfl)
theorem dX9_even_112 : decode cX9_even 112 = .ok (.iload 4, 2) := dk_21 4 (dk_at dksX9_even_4 17 rfl rfl)
theorem dX9_even_114 : decode cX9_even 114 = .ok (.iastore, 1) := dk_79 (dk_at dksX9_even_4 19 rfl rfl)
theorem dX9_even_115 : decode cX9_even 115 = .ok (.aload_n 0, 1) := dk_42 (dk_at dksX9_even_4 20 rfl rfl)
theorem dX9_even_116 : decode cX9_even 116 = .ok (.getfield 29, 3) := dk_180 0 29 (dk_at dksX9_even_4 21 rfl rfl)
theorem dX9_even_119 : decode cX9_even 119 = .ok (.iconst 3, 1) := dk_6 (dk_at dksX9_even_5 0 rfl rfl)
theorem dX9_even_120 : decode cX9_even 120 = .ok (.iconst 0, 1) := dk_3 (dk_at dksX9_even_5 1 rfl rfl)
theorem dX9_even_121 : decode cX9_even 121 = .ok (.iastore, 1) := dk_79 (dk_at dksX9_even_5 2 rfl rfl)
theorem dX9_even_122 : decode cX9_even 122 = .ok (.aload_n 0, 1) := dk_42 (dk_at dksX9_even_5 3 rfl rfl)
theorem dX9_even_123 : decode cX9_even 123 = .ok (.getfield 29, 3) := dk_180 0 29 (dk_at dksX9_even_5 4 rfl rfl)
theorem dX9_even_126 : decode cX9_even 126 = .ok (.bipush 6, 2) := dk_16 6 (dk_at dksX9_even_5 7 rfl rfl)
theorem dX9_even_128 : decode cX9_even 128 = .ok (.iconst 0, 1) := dk_3 (dk_at dksX9_even_5 9 rfl rfl)
theorem dX9_even_129 : decode cX9_even 129 = .ok (.iastore, 1) := dk_79 (dk_at dksX9_even_5 10 rfl rfl)
theorem dX9_even_130 : decode cX9_even 130 = .ok (.aload_n 0, 1) := dk_42 (dk_at dksX9_even_5 11 rfl rfl)
theorem dX9_even_131 : decode cX9_even 131 = .ok (.getfield 35, 3) := dk_180 0 35 (dk_at dksX9_even_5 12 rfl rfl)
theorem dX9_even_134 : decode cX9_even 134 = .ok (.aload_n 0, 1) := dk_42 (dk_at dksX9_even_5 15 rfl rfl)
theorem dX9_even_135 : decode cX9_even 135 = .ok (.invokevirtual 242, 3) := dk_182 0 242 (dk_at dksX9_even_5 16 rfl rfl)
theorem dX9_even_138 : decode cX9_even 138 = .ok (.iaload, 1) := dk_46 (dk_at dksX9_even_5 19 rfl rfl)
theorem dX9_even_139 : decode cX9_even 139 = .ok (.ldc_w 283, 3) := dk_19 1 27 (dk_at dksX9_even_5 20 rfl rfl)
theorem dX9_even_142 : decode cX9_even 142 = .ok (.isub, 1) := dk_100 (dk_at dksX9_even_5 23 rfl rfl)
theorem dX9_even_143 : decode cX9_even 143 = .ok (.istore 6, 2) := dk_54 6 (dk_at dksX9_even_6 0 rfl rfl)
theorem dX9_even_145 : decode cX9_even 145 = .ok (.iload 6, 2) := dk_21 6 (dk_at dksX9_even_6 2 rfl rfl)
theorem dX9_even_147 : decode cX9_even 147 = .ok (.ifCond .ge 9, 3) := dk_156 0 9 (dk_at dksX9_even_6 4 rfl rfl)
theorem dX9_even_150 : decode cX9_even 150 = .ok (.iload 6, 2) := dk_21 6 (dk_at dksX9_even_6 7 rfl rfl)
theorem dX9_even_152 : decode cX9_even 152 = .ok (.ineg, 1) := dk_116 (dk_at dksX9_even_6 9 rfl rfl)
theorem dX9_even_153 : decode cX9_even 153 = .ok (.goto 5, 3) := dk_167 0 5 (dk_at dksX9_even_6 10 rfl rfl)
theorem dX9_even_156 : decode cX9_even 156 = .ok (.iload 6, 2) := dk_21 6 (dk_at dksX9_even_6 13 rfl rfl)
theorem dX9_even_158 : decode cX9_even 158 = .ok (.sipush 1000, 3) := dk_17 3 232 (dk_at dksX9_even_6 15 rfl rfl)
theorem dX9_even_161 : decode cX9_even 161 = .ok (.iload_n 2, 1) := dk_28 (dk_at dksX9_even_6 18 rfl rfl)
theorem dX9_even_162 : decode cX9_even 162 = .ok (.imul, 1) := dk_104 (dk_at dksX9_even_6 19 rfl rfl)
theorem dX9_even_163 : decode cX9_even 163 = .ok (.if_icmp .gt 12, 3) := dk_163 0 12 (dk_at dksX9_even_6 20 rfl rfl)
theorem dX9_even_166 : decode cX9_even 166 = .ok (.bipush 10, 2) := dk_16 10 (dk_at dksX9_even_7 0 rfl rfl)
theorem dX9_even_168 : decode cX9_even 168 = .ok (.iload 5, 2) := dk_21 5 (dk_at dksX9_even_7 2 rfl rfl)
theorem dX9_even_170 : decode cX9_even 170 = .ok (.imul, 1) := dk_104 (dk_at dksX9_even_7 4 rfl rfl)
theorem dX9_even_171 : decode cX9_even 171 = .ok (.iload 4, 2) := dk_21 4 (dk_at dksX9_even_7 5 rfl rfl)
theorem dX9_even_173 : decode cX9_even 173 = .ok (.iadd, 1) := dk_96 (dk_at dksX9_even_7 7 rfl rfl)
theorem dX9_even_174 : decode cX9_even 174 = .ok (.ireturn, 1) := dk_172 (dk_at dksX9_even_7 8 rfl rfl)
theorem dX9_even_175 : decode cX9_even 175 = .ok (.iinc 4 1, 3) := dk_132 4 1 (dk_at dksX9_even_7 9 rfl rfl)
theorem dX9_even_178 : decode cX9_even 178 = .ok (.goto (-109), 3) := dk_167 255 147 (dk_at dksX9_even_7 12 rfl rfl)
theorem dX9_even_181 : decode cX9_even 181 = .ok (.iinc 3 1, 3) := dk_132 3 1 (dk_at dksX9_even_7 15 rfl rfl)
theorem dX9_even_184 : decode cX9_even 184 = .ok (.goto (-124), 3) := dk_167 255 132 (dk_at dksX9_even_7 18 rfl rfl)
theorem dX9_even_187 : decode cX9_even 187 = .ok (.iconst (-1), 1) := dk_2 (dk_at dksX9_even_7 21 rfl rfl)
theorem dX9_even_188 : decode cX9_even 188 = .ok (.ireturn, 1) := dk_172 (dk_at dksX9_even_7 22 rfl rfl)
abbrev cX9_log : ByteArray := prog_21_method_65_code
def yX9_log : MethodName := ⟨RX9, "log", "(I)I"⟩
def dkwX9_log_5 : List UInt8 := [182, 0, 209, 172]
abbrev dktX9_log_5 : List UInt8 := dkwX9_log_5 ++ []
def dkwX9_log_4 : List UInt8 := [184, 0, 70, 154, 0, 8, 42, 6, 181, 0, 67, 42, 180, 0, 67, 158, 0, 7, 3, 167, 0, 8, 42, 27]
abbrev dktX9_log_4 : List UInt8 := dkwX9_log_4 ++ dktX9_log_5
def dkwX9_log_3 : List UInt8 := [182, 1, 31, 182, 0, 230, 132, 3, 2, 167, 255, 217, 42, 180, 0, 67, 154, 0, 18, 27, 3, 16, 9]
abbrev dktX9_log_3 : List UInt8 := dkwX9_log_3 ++ dktX9_log_4
def dkwX9_log_2 : List UInt8 := [180, 0, 67, 154, 0, 33, 42, 182, 0, 227, 153, 0, 11, 42, 5, 181, 0, 67, 167, 0, 12, 42, 42, 29]
abbrev dktX9_log_2 : List UInt8 := dkwX9_log_2 ++ dktX9_log_3
def dkwX9_log_1 : List UInt8 := [181, 0, 67, 42, 180, 0, 67, 158, 0, 5, 3, 172, 42, 182, 0, 200, 3, 62, 29, 28, 162, 0, 40, 42]
abbrev dktX9_log_1 : List UInt8 := dkwX9_log_1 ++ dktX9_log_2
def dkwX9_log_0 : List UInt8 := [42, 180, 0, 74, 61, 42, 3, 181, 0, 74, 42, 42, 28, 182, 1, 28, 154, 0, 7, 4, 167, 0, 4, 3]
abbrev dktX9_log_0 : List UInt8 := dkwX9_log_0 ++ dktX9_log_1
theorem dksX9_log_0 : cX9_log.data.toList.drop 0 = dktX9_log_0 := by decide +kernel
theorem dksX9_log_1 : cX9_log.data.toList.drop 24 = dktX9_log_1 := dk_seg dksX9_log_0 24 rfl rfl
theorem dksX9_log_2 : cX9_log.data.toList.drop 48 = dktX9_log_2 := dk_seg dksX9_log_1 24 rfl rfl
theorem dksX9_log_3 : cX9_log.data.toList.drop 72 = dktX9_log_3 := dk_seg dksX9_log_2 24 rfl rfl
theorem dksX9_log_4 : cX9_log.data.toList.drop 95 = dktX9_log_4 := dk_seg dksX9_log_3 23 rfl rfl
theorem dksX9_log_5 : cX9_log.data.toList.drop 119 = dktX9_log_5 := dk_seg dksX9_log_4 24 rfl rfl
theorem dX9_log_0 : decode cX9_log 0 = .ok (.aload_n 0, 1) := dk_42 (dk_at dksX9_log_0 0 rfl rfl)
theorem dX9_log_1 : decode cX9_log 1 = .ok (.getfield 74, 3) := dk_180 0 74 (dk_at dksX9_log_0 1 rfl rfl)
theorem dX9_log_4 : decode cX9_log 4 = .ok (.istore_n 2, 1) := dk_61 (dk_at dksX9_log_0 4 rfl rfl)
theorem dX9_log_5 : decode cX9_log 5 = .ok (.aload_n 0, 1) := dk_42 (dk_at dksX9_log_0 5 rfl rfl)
theorem dX9_log_6 : decode cX9_log 6 = .ok (.iconst 0, 1) := dk_3 (dk_at dksX9_log_0 6 rfl rfl)
theorem dX9_log_7 : decode cX9_log 7 = .ok (.putfield 74, 3) := dk_181 0 74 (dk_at dksX9_log_0 7 rfl rfl)
theorem dX9_log_10 : decode cX9_log 10 = .ok (.aload_n 0, 1) := dk_42 (dk_at dksX9_log_0 10 rfl rfl)
theorem dX9_log_11 : decode cX9_log 11 = .ok (.aload_n 0, 1) := dk_42 (dk_at dksX9_log_0 11 rfl rfl)
theorem dX9_log_12 : decode cX9_log 12 = .ok (.iload_n 2, 1) := dk_28 (dk_at dksX9_log_0 12 rfl rfl)
theorem dX9_log_13 : decode cX9_log 13 = .ok (.invokevirtual 284, 3) := dk_182 1 28 (dk_at dksX9_log_0 13 rfl rfl)
theorem dX9_log_16 : decode cX9_log 16 = .ok (.ifCond .ne 7, 3) := dk_154 0 7 (dk_at dksX9_log_0 16 rfl rfl)
theorem dX9_log_19 : decode cX9_log 19 = .ok (.iconst 1, 1) := dk_4 (dk_at dksX9_log_0 19 rfl rfl)
theorem dX9_log_20 : decode cX9_log 20 = .ok (.goto 4, 3) := dk_167 0 4 (dk_at dksX9_log_0 20 rfl rfl)
theorem dX9_log_23 : decode cX9_log 23 = .ok (.iconst 0, 1) := dk_3 (dk_at dksX9_log_0 23 rfl rfl)
theorem dX9_log_24 : decode cX9_log 24 = .ok (.putfield 67, 3) := dk_181 0 67 (dk_at dksX9_log_1 0 rfl rfl)
theorem dX9_log_27 : decode cX9_log 27 = .ok (.aload_n 0, 1) := dk_42 (dk_at dksX9_log_1 3 rfl rfl)
theorem dX9_log_28 : decode cX9_log 28 = .ok (.getfield 67, 3) := dk_180 0 67 (dk_at dksX9_log_1 4 rfl rfl)
theorem dX9_log_31 : decode cX9_log 31 = .ok (.ifCond .le 5, 3) := dk_158 0 5 (dk_at dksX9_log_1 7 rfl rfl)
theorem dX9_log_34 : decode cX9_log 34 = .ok (.iconst 0, 1) := dk_3 (dk_at dksX9_log_1 10 rfl rfl)
theorem dX9_log_35 : decode cX9_log 35 = .ok (.ireturn, 1) := dk_172 (dk_at dksX9_log_1 11 rfl rfl)
theorem dX9_log_36 : decode cX9_log 36 = .ok (.aload_n 0, 1) := dk_42 (dk_at dksX9_log_1 12 rfl rfl)
theorem dX9_log_37 : decode cX9_log 37 = .ok (.invokevirtual 200, 3) := dk_182 0 200 (dk_at dksX9_log_1 13 rfl rfl)
theorem dX9_log_40 : decode cX9_log 40 = .ok (.iconst 0, 1) := dk_3 (dk_at dksX9_log_1 16 rfl rfl)
theorem dX9_log_41 : decode cX9_log 41 = .ok (.istore_n 3, 1) := dk_62 (dk_at dksX9_log_1 17 rfl rfl)
theorem dX9_log_42 : decode cX9_log 42 = .ok (.iload_n 3, 1) := dk_29 (dk_at dksX9_log_1 18 rfl rfl)
theorem dX9_log_43 : decode cX9_log 43 = .ok (.iload_n 2, 1) := dk_28 (dk_at dksX9_log_1 19 rfl rfl)
theorem dX9_log_44 : decode cX9_log 44 = .ok (.if_icmp .ge 40, 3) := dk_162 0 40 (dk_at dksX9_log_1 20 rfl rfl)
theorem dX9_log_47 : decode cX9_log 47 = .ok (.aload_n 0, 1) := dk_42 (dk_at dksX9_log_1 23 rfl rfl)
theorem dX9_log_48 : decode cX9_log 48 = .ok (.getfield 67, 3) := dk_180 0 67 (dk_at dksX9_log_2 0 rfl rfl)
theorem dX9_log_51 : decode cX9_log 51 = .ok (.ifCond .ne 33, 3) := dk_154 0 33 (dk_at dksX9_log_2 3 rfl rfl)
theorem dX9_log_54 : decode cX9_log 54 = .ok (.aload_n 0, 1) := dk_42 (dk_at dksX9_log_2 6 rfl rfl)
theorem dX9_log_55 : decode cX9_log 55 = .ok (.invokevirtual 227, 3) := dk_182 0 227 (dk_at dksX9_log_2 7 rfl rfl)
theorem dX9_log_58 : decode cX9_log 58 = .ok (.ifCond .eq 11, 3) := dk_153 0 11 (dk_at dksX9_log_2 10 rfl rfl)
theorem dX9_log_61 : decode cX9_log 61 = .ok (.aload_n 0, 1) := dk_42 (dk_at dksX9_log_2 13 rfl rfl)
theorem dX9_log_62 : decode cX9_log 62 = .ok (.iconst 2, 1) := dk_5 (dk_at dksX9_log_2 14 rfl rfl)
theorem dX9_log_63 : decode cX9_log 63 = .ok (.putfield 67, 3) := dk_181 0 67 (dk_at dksX9_log_2 15 rfl rfl)
theorem dX9_log_66 : decode cX9_log 66 = .ok (.goto 12, 3) := dk_167 0 12 (dk_at dksX9_log_2 18 rfl rfl)
theorem dX9_log_69 : decode cX9_log 69 = .ok (.aload_n 0, 1) := dk_42 (dk_at dksX9_log_2 21 rfl rfl)
theorem dX9_log_70 : decode cX9_log 70 = .ok (.aload_n 0, 1) := dk_42 (dk_at dksX9_log_2 22 rfl rfl)
theorem dX9_log_71 : decode cX9_log 71 = .ok (.iload_n 3, 1) := dk_29 (dk_at dksX9_log_2 23 rfl rfl)
theorem dX9_log_72 : decode cX9_log 72 = .ok (.invokevirtual 287, 3) := dk_182 1 31 (dk_at dksX9_log_3 0 rfl rfl)
theorem dX9_log_75 : decode cX9_log 75 = .ok (.invokevirtual 230, 3) := dk_182 0 230 (dk_at dksX9_log_3 3 rfl rfl)
theorem dX9_log_78 : decode cX9_log 78 = .ok (.iinc 3 2, 3) := dk_132 3 2 (dk_at dksX9_log_3 6 rfl rfl)
theorem dX9_log_81 : decode cX9_log 81 = .ok (.goto (-39), 3) := dk_167 255 217 (dk_at dksX9_log_3 9 rfl rfl)
theorem dX9_log_84 : decode cX9_log 84 = .ok (.aload_n 0, 1) := dk_42 (dk_at dksX9_log_3 12 rfl rfl)
theorem dX9_log_85 : decode cX9_log 85 = .ok (.getfield 67, 3) := dk_180 0 67 (dk_at dksX9_log_3 13 rfl rfl)
theorem dX9_log_88 : decode cX9_log 88 = .ok (.ifCond .ne 18, 3) := dk_154 0 18 (dk_at dksX9_log_3 16 rfl rfl)
theorem dX9_log_91 : decode cX9_log 91 = .ok (.iload_n 1, 1) := dk_27 (dk_at dksX9_log_3 19 rfl rfl)
theorem dX9_log_92 : decode cX9_log 92 = .ok (.iconst 0, 1) := dk_3 (dk_at dksX9_log_3 20 rfl rfl)
theorem dX9_log_93 : decode cX9_log 93 = .ok (.bipush 9, 2) := dk_16 9 (dk_at dksX9_log_3 21 rfl rfl)
theorem dX9_log_95 : decode cX9_log 95 = .ok (.invokestatic 70, 3) := dk_184 0 70 (dk_at dksX9_log_4 0 rfl rfl)
theorem dX9_log_98 : decode cX9_log 98 = .ok (.ifCond .ne 8, 3) := dk_154 0 8 (dk_at dksX9_log_4 3 rfl rfl)
theorem dX9_log_101 : decode cX9_log 101 = .ok (.aload_n 0, 1) := dk_42 (dk_at dksX9_log_4 6 rfl rfl)
theorem dX9_log_102 : decode cX9_log 102 = .ok (.iconst 3, 1) := dk_6 (dk_at dksX9_log_4 7 rfl rfl)
theorem dX9_log_103 : decode cX9_log 103 = .ok (.putfield 67, 3) := dk_181 0 67 (dk_at dksX9_log_4 8 rfl rfl)
theorem dX9_log_106 : decode cX9_log 106 = .ok (.aload_n 0, 1) := dk_42 (dk_at dksX9_log_4 11 rfl rfl)
theorem dX9_log_107 : decode cX9_log 107 = .ok (.getfield 67, 3) := dk_180 0 67 (dk_at dksX9_log_4 12 rfl rfl)
theorem dX9_log_110 : decode cX9_log 110 = .ok (.ifCond .le 7, 3) := dk_158 0 7 (dk_at dksX9_log_4 15 rfl rfl)
theorem dX9_log_113 : decode cX9_log 113 = .ok (.iconst 0, 1) := dk_3 (dk_at dksX9_log_4 18 rfl rfl)
theorem dX9_log_114 : decode cX9_log 114 = .ok (.goto 8, 3) := dk_167 0 8 (dk_at dksX9_log_4 19 rfl rfl)
theorem dX9_log_117 : decode cX9_log 117 = .ok (.aload_n 0, 1) := dk_42 (dk_at dksX9_log_4 22 rfl rfl)
theorem dX9_log_118 : decode cX9_log 118 = .ok (.iload_n 1, 1) := dk_27 (dk_at dksX9_log_4 23 rfl rfl)
theorem dX9_log_119 : decode cX9_log 119 = .ok (.invokevirtual 209, 3) := dk_182 0 209 (dk_at dksX9_log_5 0 rfl rfl)
theorem dX9_log_122 : decode cX9_log 122 = .ok (.ireturn, 1) := dk_172 (dk_at dksX9_log_5 3 rfl rfl)
abbrev cX9_isLog : ByteArray := prog_21_method_63_code
def yX9_isLog : MethodName := ⟨RX9, "isLog", "(I)Z"⟩
def dkwX9_isLog_4 : List UInt8 := [172, 132, 2, 2, 167, 255, 174, 4, 172]
abbrev dktX9_isLog_4 : List UInt8 := dkwX9_isLog_4 ++ []
def dkwX9_isLog_3 : List UInt8 := [28, 4, 96, 46, 16, 48, 29, 153, 0, 8, 16, 57, 167, 0, 5, 16, 48, 184, 0, 70, 154, 0, 5, 3]
abbrev dktX9_isLog_3 : List UInt8 := dkwX9_isLog_3 ++ dktX9_isLog_4
def dkwX9_isLog_2 : List UInt8 := [28, 46, 16, 119, 159, 0, 16, 42, 180, 0, 19, 28, 46, 16, 108, 159, 0, 5, 3, 172, 42, 180, 0, 19]
abbrev dktX9_isLog_2 : List UInt8 := dkwX9_isLog_2 ++ dktX9_isLog_3
def dkwX9_isLog_1 : List UInt8 := [180, 0, 19, 28, 46, 16, 100, 160, 0, 7, 4, 167, 0, 4, 3, 62, 29, 154, 0, 27, 42, 180, 0, 19]
abbrev dktX9_isLog_1 : List UInt8 := dkwX9_isLog_1 ++ dktX9_isLog_2
def dkwX9_isLog_0 : List UInt8 := [27, 5, 112, 4, 159, 0, 9, 27, 16, 60, 164, 0, 5, 3, 172, 3, 61, 28, 27, 162, 0, 83, 42]
abbrev dktX9_isLog_0 : List UInt8 := dkwX9_isLog_0 ++ dktX9_isLog_1
theorem dksX9_isLog_0 : cX9_isLog.data.toList.drop 0 = dktX9_isLog_0 := by decide +kernel
theorem dksX9_isLog_1 : cX9_isLog.data.toList.drop 23 = dktX9_isLog_1 := dk_seg dksX9_isLog_0 23 rfl rfl
theorem dksX9_isLog_2 : cX9_isLog.data.toList.drop 47 = dktX9_isLog_2 := dk_seg dksX9_isLog_1 24 rfl rfl
theorem dksX9_isLog_3 : cX9_isLog.data.toList.drop 71 = dktX9_isLog_3 := dk_seg dksX9_isLog_2 24 rfl rfl
theorem dksX9_isLog_4 : cX9_isLog.data.toList.drop 95 = dktX9_isLog_4 := dk_seg dksX9_isLog_3 24 rfl rfl
theorem dX9_isLog_0 : decode cX9_isLog 0 = .ok (.iload_n 1, 1) := dk_27 (dk_at dksX9_isLog_0 0 rfl rfl)
theorem dX9_isLog_1 : decode cX9_isLog 1 = .ok (.iconst 2, 1) := dk_5 (dk_at dksX9_isLog_0 1 rfl rfl)
theorem dX9_isLog_2 : decode cX9_isLog 2 = .ok (.irem, 1) := dk_112 (dk_at dksX9_isLog_0 2 rfl rfl)
theorem dX9_isLog_3 : decode cX9_isLog 3 = .ok (.iconst 1, 1) := dk_4 (dk_at dksX9_isLog_0 3 rfl rfl)
theorem dX9_isLog_4 : decode cX9_isLog 4 = .ok (.if_icmp .eq 9, 3) := dk_159 0 9 (dk_at dksX9_isLog_0 4 rfl rfl)
theorem dX9_isLog_7 : decode cX9_isLog 7 = .ok (.iload_n 1, 1) := dk_27 (dk_at dksX9_isLog_0 7 rfl rfl)
theorem dX9_isLog_8 : decode cX9_isLog 8 = .ok (.bipush 60, 2) := dk_16 60 (dk_at dksX9_isLog_0 8 rfl rfl)
theorem dX9_isLog_10 : decode cX9_isLog 10 = .ok (.if_icmp .le 5, 3) := dk_164 0 5 (dk_at dksX9_isLog_0 10 rfl rfl)
theorem dX9_isLog_13 : decode cX9_isLog 13 = .ok (.iconst 0, 1) := dk_3 (dk_at dksX9_isLog_0 13 rfl rfl)
theorem dX9_isLog_14 : decode cX9_isLog 14 = .ok (.ireturn, 1) := dk_172 (dk_at dksX9_isLog_0 14 rfl rfl)
theorem dX9_isLog_15 : decode cX9_isLog 15 = .ok (.iconst 0, 1) := dk_3 (dk_at dksX9_isLog_0 15 rfl rfl)
theorem dX9_isLog_16 : decode cX9_isLog 16 = .ok (.istore_n 2, 1) := dk_61 (dk_at dksX9_isLog_0 16 rfl rfl)
theorem dX9_isLog_17 : decode cX9_isLog 17 = .ok (.iload_n 2, 1) := dk_28 (dk_at dksX9_isLog_0 17 rfl rfl)
theorem dX9_isLog_18 : decode cX9_isLog 18 = .ok (.iload_n 1, 1) := dk_27 (dk_at dksX9_isLog_0 18 rfl rfl)
theorem dX9_isLog_19 : decode cX9_isLog 19 = .ok (.if_icmp .ge 83, 3) := dk_162 0 83 (dk_at dksX9_isLog_0 19 rfl rfl)
theorem dX9_isLog_22 : decode cX9_isLog 22 = .ok (.aload_n 0, 1) := dk_42 (dk_at dksX9_isLog_0 22 rfl rfl)
theorem dX9_isLog_23 : decode cX9_isLog 23 = .ok (.getfield 19, 3) := dk_180 0 19 (dk_at dksX9_isLog_1 0 rfl rfl)
theorem dX9_isLog_26 : decode cX9_isLog 26 = .ok (.iload_n 2, 1) := dk_28 (dk_at dksX9_isLog_1 3 rfl rfl)
theorem dX9_isLog_27 : decode cX9_isLog 27 = .ok (.iaload, 1) := dk_46 (dk_at dksX9_isLog_1 4 rfl rfl)
theorem dX9_isLog_28 : decode cX9_isLog 28 = .ok (.bipush 100, 2) := dk_16 100 (dk_at dksX9_isLog_1 5 rfl rfl)
theorem dX9_isLog_30 : decode cX9_isLog 30 = .ok (.if_icmp .ne 7, 3) := dk_160 0 7 (dk_at dksX9_isLog_1 7 rfl rfl)
theorem dX9_isLog_33 : decode cX9_isLog 33 = .ok (.iconst 1, 1) := dk_4 (dk_at dksX9_isLog_1 10 rfl rfl)
theorem dX9_isLog_34 : decode cX9_isLog 34 = .ok (.goto 4, 3) := dk_167 0 4 (dk_at dksX9_isLog_1 11 rfl rfl)
theorem dX9_isLog_37 : decode cX9_isLog 37 = .ok (.iconst 0, 1) := dk_3 (dk_at dksX9_isLog_1 14 rfl rfl)
theorem dX9_isLog_38 : decode cX9_isLog 38 = .ok (.istore_n 3, 1) := dk_62 (dk_at dksX9_isLog_1 15 rfl rfl)
theorem dX9_isLog_39 : decode cX9_isLog 39 = .ok (.iload_n 3, 1) := dk_29 (dk_at dksX9_isLog_1 16 rfl rfl)
theorem dX9_isLog_40 : decode cX9_isLog 40 = .ok (.ifCond .ne 27, 3) := dk_154 0 27 (dk_at dksX9_isLog_1 17 rfl rfl)
theorem dX9_isLog_43 : decode cX9_isLog 43 = .ok (.aload_n 0, 1) := dk_42 (dk_at dksX9_isLog_1 20 rfl rfl)
theorem dX9_isLog_44 : decode cX9_isLog 44 = .ok (.getfield 19, 3) := dk_180 0 19 (dk_at dksX9_isLog_1 21 rfl rfl)
theorem dX9_isLog_47 : decode cX9_isLog 47 = .ok (.iload_n 2, 1) := dk_28 (dk_at dksX9_isLog_2 0 rfl rfl)
theorem dX9_isLog_48 : decode cX9_isLog 48 = .ok (.iaload, 1) := dk_46 (dk_at dksX9_isLog_2 1 rfl rfl)
theorem dX9_isLog_49 : decode cX9_isLog 49 = .ok (.bipush 119, 2) := dk_16 119 (dk_at dksX9_isLog_2 2 rfl rfl)
theorem dX9_isLog_51 : decode cX9_isLog 51 = .ok (.if_icmp .eq 16, 3) := dk_159 0 16 (dk_at dksX9_isLog_2 4 rfl rfl)
theorem dX9_isLog_54 : decode cX9_isLog 54 = .ok (.aload_n 0, 1) := dk_42 (dk_at dksX9_isLog_2 7 rfl rfl)
theorem dX9_isLog_55 : decode cX9_isLog 55 = .ok (.getfield 19, 3) := dk_180 0 19 (dk_at dksX9_isLog_2 8 rfl rfl)
theorem dX9_isLog_58 : decode cX9_isLog 58 = .ok (.iload_n 2, 1) := dk_28 (dk_at dksX9_isLog_2 11 rfl rfl)
theorem dX9_isLog_59 : decode cX9_isLog 59 = .ok (.iaload, 1) := dk_46 (dk_at dksX9_isLog_2 12 rfl rfl)
theorem dX9_isLog_60 : decode cX9_isLog 60 = .ok (.bipush 108, 2) := dk_16 108 (dk_at dksX9_isLog_2 13 rfl rfl)
theorem dX9_isLog_62 : decode cX9_isLog 62 = .ok (.if_icmp .eq 5, 3) := dk_159 0 5 (dk_at dksX9_isLog_2 15 rfl rfl)
theorem dX9_isLog_65 : decode cX9_isLog 65 = .ok (.iconst 0, 1) := dk_3 (dk_at dksX9_isLog_2 18 rfl rfl)
theorem dX9_isLog_66 : decode cX9_isLog 66 = .ok (.ireturn, 1) := dk_172 (dk_at dksX9_isLog_2 19 rfl rfl)
theorem dX9_isLog_67 : decode cX9_isLog 67 = .ok (.aload_n 0, 1) := dk_42 (dk_at dksX9_isLog_2 20 rfl rfl)
theorem dX9_isLog_68 : decode cX9_isLog 68 = .ok (.getfield 19, 3) := dk_180 0 19 (dk_at dksX9_isLog_2 21 rfl rfl)
theorem dX9_isLog_71 : decode cX9_isLog 71 = .ok (.iload_n 2, 1) := dk_28 (dk_at dksX9_isLog_3 0 rfl rfl)
theorem dX9_isLog_72 : decode cX9_isLog 72 = .ok (.iconst 1, 1) := dk_4 (dk_at dksX9_isLog_3 1 rfl rfl)
theorem dX9_isLog_73 : decode cX9_isLog 73 = .ok (.iadd, 1) := dk_96 (dk_at dksX9_isLog_3 2 rfl rfl)
theorem dX9_isLog_74 : decode cX9_isLog 74 = .ok (.iaload, 1) := dk_46 (dk_at dksX9_isLog_3 3 rfl rfl)
theorem dX9_isLog_75 : decode cX9_isLog 75 = .ok (.bipush 48, 2) := dk_16 48 (dk_at dksX9_isLog_3 4 rfl rfl)
theorem dX9_isLog_77 : decode cX9_isLog 77 = .ok (.iload_n 3, 1) := dk_29 (dk_at dksX9_isLog_3 6 rfl rfl)
theorem dX9_isLog_78 : decode cX9_isLog 78 = .ok (.ifCond .eq 8, 3) := dk_153 0 8 (dk_at dksX9_isLog_3 7 rfl rfl)
theorem dX9_isLog_81 : decode cX9_isLog 81 = .ok (.bipush 57, 2) := dk_16 57 (dk_at dksX9_isLog_3 10 rfl rfl)
theorem dX9_isLog_83 : decode cX9_isLog 83 = .ok (.goto 5, 3) := dk_167 0 5 (dk_at dksX9_isLog_3 12 rfl rfl)
theorem dX9_isLog_86 : decode cX9_isLog 86 = .ok (.bipush 48, 2) := dk_16 48 (dk_at dksX9_isLog_3 15 rfl rfl)
theorem dX9_isLog_88 : decode cX9_isLog 88 = .ok (.invokestatic 70, 3) := dk_184 0 70 (dk_at dksX9_isLog_3 17 rfl rfl)
theorem dX9_isLog_91 : decode cX9_isLog 91 = .ok (.ifCond .ne 5, 3) := dk_154 0 5 (dk_at dksX9_isLog_3 20 rfl rfl)
theorem dX9_isLog_94 : decode cX9_isLog 94 = .ok (.iconst 0, 1) := dk_3 (dk_at dksX9_isLog_3 23 rfl rfl)
theorem dX9_isLog_95 : decode cX9_isLog 95 = .ok (.ireturn, 1) := dk_172 (dk_at dksX9_isLog_4 0 rfl rfl)
theorem dX9_isLog_96 : decode cX9_isLog 96 = .ok (.iinc 2 2, 3) := dk_132 2 2 (dk_at dksX9_isLog_4 1 rfl rfl)
theorem dX9_isLog_99 : decode cX9_isLog 99 = .ok (.goto (-82), 3) := dk_167 255 174 (dk_at dksX9_isLog_4 4 rfl rfl)
theorem dX9_isLog_102 : decode cX9_isLog 102 = .ok (.iconst 1, 1) := dk_4 (dk_at dksX9_isLog_4 7 rfl rfl)
theorem dX9_isLog_103 : decode cX9_isLog 103 = .ok (.ireturn, 1) := dk_172 (dk_at dksX9_isLog_4 8 rfl rfl)
abbrev cX9_howOf : ByteArray := prog_21_method_64_code
def yX9_howOf : MethodName := ⟨RX9, "howOf", "(I)I"⟩
def dkwX9_howOf_1 : List UInt8 := [160, 0, 7, 4, 167, 0, 16, 5, 42, 180, 0, 19, 27, 4, 96, 46, 96, 16, 48, 100, 172]
abbrev dktX9_howOf_1 : List UInt8 := dkwX9_howOf_1 ++ []
def dkwX9_howOf_0 : List UInt8 := [42, 180, 0, 19, 27, 46, 16, 119, 160, 0, 7, 3, 167, 0, 31, 42, 180, 0, 19, 27, 46, 16, 108]
abbrev dktX9_howOf_0 : List UInt8 := dkwX9_howOf_0 ++ dktX9_howOf_1
theorem dksX9_howOf_0 : cX9_howOf.data.toList.drop 0 = dktX9_howOf_0 := by decide +kernel
theorem dksX9_howOf_1 : cX9_howOf.data.toList.drop 23 = dktX9_howOf_1 := dk_seg dksX9_howOf_0 23 rfl rfl
theorem dX9_howOf_0 : decode cX9_howOf 0 = .ok (.aload_n 0, 1) := dk_42 (dk_at dksX9_howOf_0 0 rfl rfl)
theorem dX9_howOf_1 : decode cX9_howOf 1 = .ok (.getfield 19, 3) := dk_180 0 19 (dk_at dksX9_howOf_0 1 rfl rfl)
theorem dX9_howOf_4 : decode cX9_howOf 4 = .ok (.iload_n 1, 1) := dk_27 (dk_at dksX9_howOf_0 4 rfl rfl)
theorem dX9_howOf_5 : decode cX9_howOf 5 = .ok (.iaload, 1) := dk_46 (dk_at dksX9_howOf_0 5 rfl rfl)
theorem dX9_howOf_6 : decode cX9_howOf 6 = .ok (.bipush 119, 2) := dk_16 119 (dk_at dksX9_howOf_0 6 rfl rfl)
theorem dX9_howOf_8 : decode cX9_howOf 8 = .ok (.if_icmp .ne 7, 3) := dk_160 0 7 (dk_at dksX9_howOf_0 8 rfl rfl)
theorem dX9_howOf_11 : decode cX9_howOf 11 = .ok (.iconst 0, 1) := dk_3 (dk_at dksX9_howOf_0 11 rfl rfl)
theorem dX9_howOf_12 : decode cX9_howOf 12 = .ok (.goto 31, 3) := dk_167 0 31 (dk_at dksX9_howOf_0 12 rfl rfl)
theorem dX9_howOf_15 : decode cX9_howOf 15 = .ok (.aload_n 0, 1) := dk_42 (dk_at dksX9_howOf_0 15 rfl rfl)
theorem dX9_howOf_16 : decode cX9_howOf 16 = .ok (.getfield 19, 3) := dk_180 0 19 (dk_at dksX9_howOf_0 16 rfl rfl)
theorem dX9_howOf_19 : decode cX9_howOf 19 = .ok (.iload_n 1, 1) := dk_27 (dk_at dksX9_howOf_0 19 rfl rfl)
theorem dX9_howOf_20 : decode cX9_howOf 20 = .ok (.iaload, 1) := dk_46 (dk_at dksX9_howOf_0 20 rfl rfl)
theorem dX9_howOf_21 : decode cX9_howOf 21 = .ok (.bipush 108, 2) := dk_16 108 (dk_at dksX9_howOf_0 21 rfl rfl)
theorem dX9_howOf_23 : decode cX9_howOf 23 = .ok (.if_icmp .ne 7, 3) := dk_160 0 7 (dk_at dksX9_howOf_1 0 rfl rfl)
theorem dX9_howOf_26 : decode cX9_howOf 26 = .ok (.iconst 1, 1) := dk_4 (dk_at dksX9_howOf_1 3 rfl rfl)
theorem dX9_howOf_27 : decode cX9_howOf 27 = .ok (.goto 16, 3) := dk_167 0 16 (dk_at dksX9_howOf_1 4 rfl rfl)
theorem dX9_howOf_30 : decode cX9_howOf 30 = .ok (.iconst 2, 1) := dk_5 (dk_at dksX9_howOf_1 7 rfl rfl)
theorem dX9_howOf_31 : decode cX9_howOf 31 = .ok (.aload_n 0, 1) := dk_42 (dk_at dksX9_howOf_1 8 rfl rfl)
theorem dX9_howOf_32 : decode cX9_howOf 32 = .ok (.getfield 19, 3) := dk_180 0 19 (dk_at dksX9_howOf_1 9 rfl rfl)
theorem dX9_howOf_35 : decode cX9_howOf 35 = .ok (.iload_n 1, 1) := dk_27 (dk_at dksX9_howOf_1 12 rfl rfl)
theorem dX9_howOf_36 : decode cX9_howOf 36 = .ok (.iconst 1, 1) := dk_4 (dk_at dksX9_howOf_1 13 rfl rfl)
theorem dX9_howOf_37 : decode cX9_howOf 37 = .ok (.iadd, 1) := dk_96 (dk_at dksX9_howOf_1 14 rfl rfl)
theorem dX9_howOf_38 : decode cX9_howOf 38 = .ok (.iaload, 1) := dk_46 (dk_at dksX9_howOf_1 15 rfl rfl)
theorem dX9_howOf_39 : decode cX9_howOf 39 = .ok (.iadd, 1) := dk_96 (dk_at dksX9_howOf_1 16 rfl rfl)
theorem dX9_howOf_40 : decode cX9_howOf 40 = .ok (.bipush 48, 2) := dk_16 48 (dk_at dksX9_howOf_1 17 rfl rfl)
theorem dX9_howOf_42 : decode cX9_howOf 42 = .ok (.isub, 1) := dk_100 (dk_at dksX9_howOf_1 19 rfl rfl)
theorem dX9_howOf_43 : decode cX9_howOf 43 = .ok (.ireturn, 1) := dk_172 (dk_at dksX9_howOf_1 20 rfl rfl)
abbrev cX9_mends : ByteArray := prog_21_method_69_code
def yX9_mends : MethodName := ⟨RX9, "mends", "(IIIIZ)J"⟩
def dkwX9_mends_22 : List UInt8 := [21, 5, 153, 0, 7, 9, 167, 0, 6, 20, 1, 50, 173]
abbrev dktX9_mends_22 : List UInt8 := dkwX9_mends_22 ++ []
def dkwX9_mends_21 : List UInt8 := [148, 158, 0, 17, 21, 5, 153, 0, 8, 22, 8, 167, 0, 6, 21, 7, 133, 173, 132, 7, 1, 167, 255, 132]
abbrev dktX9_mends_21 : List UInt8 := dkwX9_mends_21 ++ dktX9_mends_22
def dkwX9_mends_20 : List UInt8 := [180, 0, 61, 16, 31, 21, 10, 104, 21, 7, 96, 47, 97, 55, 8, 132, 10, 1, 167, 255, 172, 22, 8, 9]
abbrev dktX9_mends_20 : List UInt8 := dkwX9_mends_20 ++ dktX9_mends_21
def dkwX9_mends_19 : List UInt8 := [16, 7, 46, 29, 160, 0, 33, 42, 180, 0, 29, 16, 8, 46, 21, 4, 160, 0, 21, 22, 8, 42]
abbrev dktX9_mends_19 : List UInt8 := dkwX9_mends_19 ++ dktX9_mends_20
def dkwX9_mends_18 : List UInt8 := [180, 0, 29, 3, 46, 27, 160, 0, 54, 42, 180, 0, 29, 4, 46, 28, 160, 0, 44, 42, 180, 0, 29]
abbrev dktX9_mends_18 : List UInt8 := dkwX9_mends_18 ++ dktX9_mends_19
def dkwX9_mends_17 : List UInt8 := [54, 10, 21, 10, 42, 180, 1, 40, 162, 0, 81, 42, 42, 180, 0, 54, 21, 10, 46, 182, 1, 43, 42]
abbrev dktX9_mends_17 : List UInt8 := dkwX9_mends_17 ++ dktX9_mends_18
def dkwX9_mends_16 : List UInt8 := [167, 255, 188, 132, 7, 2, 167, 254, 235, 3, 54, 7, 21, 7, 16, 31, 162, 0, 123, 9, 55, 8, 3]
abbrev dktX9_mends_16 : List UInt8 := dkwX9_mends_16 ++ dktX9_mends_17
def dkwX9_mends_15 : List UInt8 := [180, 0, 64, 16, 31, 21, 9, 104, 21, 10, 96, 47, 80, 132, 10, 1, 167, 255, 220, 132, 9, 1]
abbrev dktX9_mends_15 : List UInt8 := dkwX9_mends_15 ++ dktX9_mends_16
def dkwX9_mends_14 : List UInt8 := [54, 10, 21, 10, 16, 31, 162, 0, 35, 42, 180, 0, 61, 16, 31, 21, 9, 104, 21, 10, 96, 42]
abbrev dktX9_mends_14 : List UInt8 := dkwX9_mends_14 ++ dktX9_mends_15
def dkwX9_mends_13 : List UInt8 := [21, 9, 42, 180, 1, 40, 162, 0, 65, 42, 180, 0, 54, 21, 9, 42, 180, 0, 57, 21, 9, 46, 79, 3]
abbrev dktX9_mends_13 : List UInt8 := dkwX9_mends_13 ++ dktX9_mends_14
def dkwX9_mends_12 : List UInt8 := [132, 12, 1, 167, 255, 207, 132, 9, 1, 167, 255, 90, 42, 42, 180, 1, 37, 181, 1, 40, 3, 54, 9]
abbrev dktX9_mends_12 : List UInt8 := dkwX9_mends_12 ++ dktX9_mends_13
def dkwX9_mends_11 : List UInt8 := [180, 0, 54, 21, 9, 46, 182, 1, 43, 42, 21, 12, 182, 0, 230, 42, 21, 9, 4, 182, 1, 46]
abbrev dktX9_mends_11 : List UInt8 := dkwX9_mends_11 ++ dktX9_mends_12
def dkwX9_mends_10 : List UInt8 := [16, 15, 162, 0, 48, 21, 10, 153, 0, 43, 21, 12, 21, 11, 160, 0, 6, 167, 0, 27, 42, 42]
abbrev dktX9_mends_10 : List UInt8 := dkwX9_mends_10 ++ dktX9_mends_11
def dkwX9_mends_9 : List UInt8 := [16, 14, 54, 11, 42, 21, 8, 182, 0, 230, 42, 21, 9, 3, 182, 1, 46, 16, 12, 54, 12, 21, 12]
abbrev dktX9_mends_9 : List UInt8 := dkwX9_mends_9 ++ dktX9_mends_10
def dkwX9_mends_8 : List UInt8 := [16, 12, 167, 0, 23, 21, 8, 5, 100, 42, 180, 0, 29, 7, 46, 164, 0, 8, 16, 13, 167, 0, 5]
abbrev dktX9_mends_8 : List UInt8 := dkwX9_mends_8 ++ dktX9_mends_9
def dkwX9_mends_7 : List UInt8 := [160, 0, 7, 4, 167, 0, 4, 3, 54, 10, 21, 8, 5, 100, 42, 180, 0, 29, 7, 46, 162, 0, 8]
abbrev dktX9_mends_7 : List UInt8 := dkwX9_mends_7 ++ dktX9_mends_8
def dkwX9_mends_6 : List UInt8 := [182, 0, 227, 153, 0, 6, 167, 0, 136, 21, 8, 5, 161, 0, 18, 42, 180, 0, 29, 16, 6, 46, 4]
abbrev dktX9_mends_6 : List UInt8 := dkwX9_mends_6 ++ dktX9_mends_7
def dkwX9_mends_5 : List UInt8 := [54, 9, 21, 9, 42, 180, 1, 40, 162, 0, 163, 42, 42, 180, 0, 54, 21, 9, 46, 182, 1, 43, 42]
abbrev dktX9_mends_5 : List UInt8 := dkwX9_mends_5 ++ dktX9_mends_6
def dkwX9_mends_4 : List UInt8 := [54, 7, 21, 7, 21, 6, 162, 1, 20, 42, 21, 7, 182, 1, 31, 54, 8, 42, 3, 181, 1, 37, 3]
abbrev dktX9_mends_4 : List UInt8 := dkwX9_mends_4 ++ dktX9_mends_5
def dkwX9_mends_3 : List UInt8 := [180, 0, 61, 21, 7, 21, 7, 154, 0, 7, 10, 167, 0, 4, 9, 80, 132, 7, 1, 167, 255, 229, 3]
abbrev dktX9_mends_3 : List UInt8 := dkwX9_mends_3 ++ dktX9_mends_4
def dkwX9_mends_2 : List UInt8 := [3, 42, 182, 1, 34, 79, 42, 4, 181, 1, 40, 3, 54, 7, 21, 7, 16, 31, 162, 0, 26, 42]
abbrev dktX9_mends_2 : List UInt8 := dkwX9_mends_2 ++ dktX9_mends_3
def dkwX9_mends_1 : List UInt8 := [167, 0, 4, 3, 181, 0, 67, 42, 180, 0, 67, 158, 0, 5, 9, 173, 42, 182, 0, 200, 42, 180, 0, 54]
abbrev dktX9_mends_1 : List UInt8 := dkwX9_mends_1 ++ dktX9_mends_2
def dkwX9_mends_0 : List UInt8 := [42, 180, 0, 74, 54, 6, 42, 3, 181, 0, 74, 42, 42, 21, 6, 182, 1, 28, 154, 0, 7, 4]
abbrev dktX9_mends_0 : List UInt8 := dkwX9_mends_0 ++ dktX9_mends_1
theorem dksX9_mends_0 : cX9_mends.data.toList.drop 0 = dktX9_mends_0 := by decide +kernel
theorem dksX9_mends_1 : cX9_mends.data.toList.drop 22 = dktX9_mends_1 := dk_seg dksX9_mends_0 22 rfl rfl
theorem dksX9_mends_2 : cX9_mends.data.toList.drop 46 = dktX9_mends_2 := dk_seg dksX9_mends_1 24 rfl rfl
theorem dksX9_mends_3 : cX9_mends.data.toList.drop 68 = dktX9_mends_3 := dk_seg dksX9_mends_2 22 rfl rfl
theorem dksX9_mends_4 : cX9_mends.data.toList.drop 91 = dktX9_mends_4 := dk_seg dksX9_mends_3 23 rfl rfl
theorem dksX9_mends_5 : cX9_mends.data.toList.drop 114 = dktX9_mends_5 := dk_seg dksX9_mends_4 23 rfl rfl
theorem dksX9_mends_6 : cX9_mends.data.toList.drop 137 = dktX9_mends_6 := dk_seg dksX9_mends_5 23 rfl rfl
theorem dksX9_mends_7 : cX9_mends.data.toList.drop 160 = dktX9_mends_7 := dk_seg dksX9_mends_6 23 rfl rfl
theorem dksX9_mends_8 : cX9_mends.data.toList.drop 183 = dktX9_mends_8 := dk_seg dksX9_mends_7 23 rfl rfl
theorem dksX9_mends_9 : cX9_mends.data.toList.drop 206 = dktX9_mends_9 := dk_seg dksX9_mends_8 23 rfl rfl
theorem dksX9_mends_10 : cX9_mends.data.toList.drop 229 = dktX9_mends_10 := dk_seg dksX9_mends_9 23 rfl rfl
theorem dksX9_mends_11 : cX9_mends.data.toList.drop 251 = dktX9_mends_11 := dk_seg dksX9_mends_10 22 rfl rfl
theorem dksX9_mends_12 : cX9_mends.data.toList.drop 273 = dktX9_mends_12 := dk_seg dksX9_mends_11 22 rfl rfl
theorem dksX9_mends_13 : cX9_mends.data.toList.drop 296 = dktX9_mends_13 := dk_seg dksX9_mends_12 23 rfl rfl
theorem dksX9_mends_14 : cX9_mends.data.toList.drop 320 = dktX9_mends_14 := dk_seg dksX9_mends_13 24 rfl rfl
theorem dksX9_mends_15 : cX9_mends.data.toList.drop 342 = dktX9_mends_15 := dk_seg dksX9_mends_14 22 rfl rfl
theorem dksX9_mends_16 : cX9_mends.data.toList.drop 364 = dktX9_mends_16 := dk_seg dksX9_mends_15 22 rfl rfl
theorem dksX9_mends_17 : cX9_mends.data.toList.drop 387 = dktX9_mends_17 := dk_seg dksX9_mends_16 23 rfl rfl
theorem dksX9_mends_18 : cX9_mends.data.toList.drop 410 = dktX9_mends_18 := dk_seg dksX9_mends_17 23 rfl rfl
theorem dksX9_mends_19 : cX9_mends.data.toList.drop 433 = dktX9_mends_19 := dk_seg dksX9_mends_18 23 rfl rfl
theorem dksX9_mends_20 : cX9_mends.data.toList.drop 455 = dktX9_mends_20 := dk_seg dksX9_mends_19 22 rfl rfl
theorem dksX9_mends_21 : cX9_mends.data.toList.drop 479 = dktX9_mends_21 := dk_seg dksX9_mends_20 24 rfl rfl
theorem dksX9_mends_22 : cX9_mends.data.toList.drop 503 = dktX9_mends_22 := dk_seg dksX9_mends_21 24 rfl rfl
theorem dX9_mends_0 : decode cX9_mends 0 = .ok (.aload_n 0, 1) := dk_42 (dk_at dksX9_mends_0 0 rfl rfl)
theorem dX9_mends_1 : decode cX9_mends 1 = .ok (.getfield 74, 3) := dk_180 0 74 (dk_at dksX9_mends_0 1 rfl rfl)
theorem dX9_mends_4 : decode cX9_mends 4 = .ok (.istore 6, 2) := dk_54 6 (dk_at dksX9_mends_0 4 rfl rfl)
theorem dX9_mends_6 : decode cX9_mends 6 = .ok (.aload_n 0, 1) := dk_42 (dk_at dksX9_mends_0 6 rfl rfl)
theorem dX9_mends_7 : decode cX9_mends 7 = .ok (.iconst 0, 1) := dk_3 (dk_at dksX9_mends_0 7 rfl rfl)
theorem dX9_mends_8 : decode cX9_mends 8 = .ok (.putfield 74, 3) := dk_181 0 74 (dk_at dksX9_mends_0 8 rfl rfl)
theorem dX9_mends_11 : decode cX9_mends 11 = .ok (.aload_n 0, 1) := dk_42 (dk_at dksX9_mends_0 11 rfl rfl)
theorem dX9_mends_12 : decode cX9_mends 12 = .ok (.aload_n 0, 1) := dk_42 (dk_at dksX9_mends_0 12 rfl rfl)
theorem dX9_mends_13 : decode cX9_mends 13 = .ok (.iload 6, 2) := dk_21 6 (dk_at dksX9_mends_0 13 rfl rfl)
theorem dX9_mends_15 : decode cX9_mends 15 = .ok (.invokevirtual 284, 3) := dk_182 1 28 (dk_at dksX9_mends_0 15 rfl rfl)
theorem dX9_mends_18 : decode cX9_mends 18 = .ok (.ifCond .ne 7, 3) := dk_154 0 7 (dk_at dksX9_mends_0 18 rfl rfl)
theorem dX9_mends_21 : decode cX9_mends 21 = .ok (.iconst 1, 1) := dk_4 (dk_at dksX9_mends_0 21 rfl rfl)
theorem dX9_mends_22 : decode cX9_mends 22 = .ok (.goto 4, 3) := dk_167 0 4 (dk_at dksX9_mends_1 0 rfl rfl)
theorem dX9_mends_25 : decode cX9_mends 25 = .ok (.iconst 0, 1) := dk_3 (dk_at dksX9_mends_1 3 rfl rfl)
theorem dX9_mends_26 : decode cX9_mends 26 = .ok (.putfield 67, 3) := dk_181 0 67 (dk_at dksX9_mends_1 4 rfl rfl)
theorem dX9_mends_29 : decode cX9_mends 29 = .ok (.aload_n 0, 1) := dk_42 (dk_at dksX9_mends_1 7 rfl rfl)
theorem dX9_mends_30 : decode cX9_mends 30 = .ok (.getfield 67, 3) := dk_180 0 67 (dk_at dksX9_mends_1 8 rfl rfl)
theorem dX9_mends_33 : decode cX9_mends 33 = .ok (.ifCond .le 5, 3) := dk_158 0 5 (dk_at dksX9_mends_1 11 rfl rfl)
theorem dX9_mends_36 : decode cX9_mends 36 = .ok (.lconst 0, 1) := dk_9 (dk_at dksX9_mends_1 14 rfl rfl)
theorem dX9_mends_37 : decode cX9_mends 37 = .ok (.lreturn, 1) := dk_173 (dk_at dksX9_mends_1 15 rfl rfl)
theorem dX9_mends_38 : decode cX9_mends 38 = .ok (.aload_n 0, 1) := dk_42 (dk_at dksX9_mends_1 16 rfl rfl)
theorem dX9_mends_39 : decode cX9_mends 39 = .ok (.invokevirtual 200, 3) := dk_182 0 200 (dk_at dksX9_mends_1 17 rfl rfl)
theorem dX9_mends_42 : decode cX9_mends 42 = .ok (.aload_n 0, 1) := dk_42 (dk_at dksX9_mends_1 20 rfl rfl)
theorem dX9_mends_43 : decode cX9_mends 43 = .ok (.getfield 54, 3) := dk_180 0 54 (dk_at dksX9_mends_1 21 rfl rfl)
theorem dX9_mends_46 : decode cX9_mends 46 = .ok (.iconst 0, 1) := dk_3 (dk_at dksX9_mends_2 0 rfl rfl)
theorem dX9_mends_47 : decode cX9_mends 47 = .ok (.aload_n 0, 1) := dk_42 (dk_at dksX9_mends_2 1 rfl rfl)
theorem dX9_mends_48 : decode cX9_mends 48 = .ok (.invokevirtual 290, 3) := dk_182 1 34 (dk_at dksX9_mends_2 2 rfl rfl)
theorem dX9_mends_51 : decode cX9_mends 51 = .ok (.iastore, 1) := dk_79 (dk_at dksX9_mends_2 5 rfl rfl)
theorem dX9_mends_52 : decode cX9_mends 52 = .ok (.aload_n 0, 1) := dk_42 (dk_at dksX9_mends_2 6 rfl rfl)
theorem dX9_mends_53 : decode cX9_mends 53 = .ok (.iconst 1, 1) := dk_4 (dk_at dksX9_mends_2 7 rfl rfl)
theorem dX9_mends_54 : decode cX9_mends 54 = .ok (.putfield 296, 3) := dk_181 1 40 (dk_at dksX9_mends_2 8 rfl rfl)
theorem dX9_mends_57 : decode cX9_mends 57 = .ok (.iconst 0, 1) := dk_3 (dk_at dksX9_mends_2 11 rfl rfl)
theorem dX9_mends_58 : decode cX9_mends 58 = .ok (.istore 7, 2) := dk_54 7 (dk_at dksX9_mends_2 12 rfl rfl)
theorem dX9_mends_60 : decode cX9_mends 60 = .ok (.iload 7, 2) := dk_21 7 (dk_at dksX9_mends_2 14 rfl rfl)
theorem dX9_mends_62 : decode cX9_mends 62 = .ok (.bipush 31, 2) := dk_16 31 (dk_at dksX9_mends_2 16 rfl rfl)
theorem dX9_mends_64 : decode cX9_mends 64 = .ok (.if_icmp .ge 26, 3) := dk_162 0 26 (dk_at dksX9_mends_2 18 rfl rfl)
theorem dX9_mends_67 : decode cX9_mends 67 = .ok (.aload_n 0, 1) := dk_42 (dk_at dksX9_mends_2 21 rfl rfl)
theorem dX9_mends_68 : decode cX9_mends 68 = .ok (.getfield 61, 3) := dk_180 0 61 (dk_at dksX9_mends_3 0 rfl rfl)
theorem dX9_mends_71 : decode cX9_mends 71 = .ok (.iload 7, 2) := dk_21 7 (dk_at dksX9_mends_3 3 rfl rfl)
theorem dX9_mends_73 : decode cX9_mends 73 = .ok (.iload 7, 2) := dk_21 7 (dk_at dksX9_mends_3 5 rfl rfl)
theorem dX9_mends_75 : decode cX9_mends 75 = .ok (.ifCond .ne 7, 3) := dk_154 0 7 (dk_at dksX9_mends_3 7 rfl rfl)
theorem dX9_mends_78 : decode cX9_mends 78 = .ok (.lconst 1, 1) := dk_10 (dk_at dksX9_mends_3 10 rfl rfl)
theorem dX9_mends_79 : decode cX9_mends 79 = .ok (.goto 4, 3) := dk_167 0 4 (dk_at dksX9_mends_3 11 rfl rfl)
theorem dX9_mends_82 : decode cX9_mends 82 = .ok (.lconst 0, 1) := dk_9 (dk_at dksX9_mends_3 14 rfl rfl)
theorem dX9_mends_83 : decode cX9_mends 83 = .ok (.lastore, 1) := dk_80 (dk_at dksX9_mends_3 15 rfl rfl)
theorem dX9_mends_84 : decode cX9_mends 84 = .ok (.iinc 7 1, 3) := dk_132 7 1 (dk_at dksX9_mends_3 16 rfl rfl)
theorem dX9_mends_87 : decode cX9_mends 87 = .ok (.goto (-27), 3) := dk_167 255 229 (dk_at dksX9_mends_3 19 rfl rfl)
theorem dX9_mends_90 : decode cX9_mends 90 = .ok (.iconst 0, 1) := dk_3 (dk_at dksX9_mends_3 22 rfl rfl)
theorem dX9_mends_91 : decode cX9_mends 91 = .ok (.istore 7, 2) := dk_54 7 (dk_at dksX9_mends_4 0 rfl rfl)
theorem dX9_mends_93 : decode cX9_mends 93 = .ok (.iload 7, 2) := dk_21 7 (dk_at dksX9_mends_4 2 rfl rfl)
theorem dX9_mends_95 : decode cX9_mends 95 = .ok (.iload 6, 2) := dk_21 6 (dk_at dksX9_mends_4 4 rfl rfl)
theorem dX9_mends_97 : decode cX9_mends 97 = .ok (.if_icmp .ge 276, 3) := dk_162 1 20 (dk_at dksX9_mends_4 6 rfl rfl)
theorem dX9_mends_100 : decode cX9_mends 100 = .ok (.aload_n 0, 1) := dk_42 (dk_at dksX9_mends_4 9 rfl rfl)
theorem dX9_mends_101 : decode cX9_mends 101 = .ok (.iload 7, 2) := dk_21 7 (dk_at dksX9_mends_4 10 rfl rfl)
theorem dX9_mends_103 : decode cX9_mends 103 = .ok (.invokevirtual 287, 3) := dk_182 1 31 (dk_at dksX9_mends_4 12 rfl rfl)
theorem dX9_mends_106 : decode cX9_mends 106 = .ok (.istore 8, 2) := dk_54 8 (dk_at dksX9_mends_4 15 rfl rfl)
theorem dX9_mends_108 : decode cX9_mends 108 = .ok (.aload_n 0, 1) := dk_42 (dk_at dksX9_mends_4 17 rfl rfl)
theorem dX9_mends_109 : decode cX9_mends 109 = .ok (.iconst 0, 1) := dk_3 (dk_at dksX9_mends_4 18 rfl rfl)
theorem dX9_mends_110 : decode cX9_mends 110 = .ok (.putfield 293, 3) := dk_181 1 37 (dk_at dksX9_mends_4 19 rfl rfl)
theorem dX9_mends_113 : decode cX9_mends 113 = .ok (.iconst 0, 1) := dk_3 (dk_at dksX9_mends_4 22 rfl rfl)
theorem dX9_mends_114 : decode cX9_mends 114 = .ok (.istore 9, 2) := dk_54 9 (dk_at dksX9_mends_5 0 rfl rfl)
theorem dX9_mends_116 : decode cX9_mends 116 = .ok (.iload 9, 2) := dk_21 9 (dk_at dksX9_mends_5 2 rfl rfl)
theorem dX9_mends_118 : decode cX9_mends 118 = .ok (.aload_n 0, 1) := dk_42 (dk_at dksX9_mends_5 4 rfl rfl)
theorem dX9_mends_119 : decode cX9_mends 119 = .ok (.getfield 296, 3) := dk_180 1 40 (dk_at dksX9_mends_5 5 rfl rfl)
theorem dX9_mends_122 : decode cX9_mends 122 = .ok (.if_icmp .ge 163, 3) := dk_162 0 163 (dk_at dksX9_mends_5 8 rfl rfl)
theorem dX9_mends_125 : decode cX9_mends 125 = .ok (.aload_n 0, 1) := dk_42 (dk_at dksX9_mends_5 11 rfl rfl)
theorem dX9_mends_126 : decode cX9_mends 126 = .ok (.aload_n 0, 1) := dk_42 (dk_at dksX9_mends_5 12 rfl rfl)
theorem dX9_mends_127 : decode cX9_mends 127 = .ok (.getfield 54, 3) := dk_180 0 54 (dk_at dksX9_mends_5 13 rfl rfl)
theorem dX9_mends_130 : decode cX9_mends 130 = .ok (.iload 9, 2) := dk_21 9 (dk_at dksX9_mends_5 16 rfl rfl)
theorem dX9_mends_132 : decode cX9_mends 132 = .ok (.iaload, 1) := dk_46 (dk_at dksX9_mends_5 18 rfl rfl)
theorem dX9_mends_133 : decode cX9_mends 133 = .ok (.invokevirtual 299, 3) := dk_182 1 43 (dk_at dksX9_mends_5 19 rfl rfl)
theorem dX9_mends_136 : decode cX9_mends 136 = .ok (.aload_n 0, 1) := dk_42 (dk_at dksX9_mends_5 22 rfl rfl)
theorem dX9_mends_137 : decode cX9_mends 137 = .ok (.invokevirtual 227, 3) := dk_182 0 227 (dk_at dksX9_mends_6 0 rfl rfl)
theorem dX9_mends_140 : decode cX9_mends 140 = .ok (.ifCond .eq 6, 3) := dk_153 0 6 (dk_at dksX9_mends_6 3 rfl rfl)
theorem dX9_mends_143 : decode cX9_mends 143 = .ok (.goto 136, 3) := dk_167 0 136 (dk_at dksX9_mends_6 6 rfl rfl)
theorem dX9_mends_146 : decode cX9_mends 146 = .ok (.iload 8, 2) := dk_21 8 (dk_at dksX9_mends_6 9 rfl rfl)
theorem dX9_mends_148 : decode cX9_mends 148 = .ok (.iconst 2, 1) := dk_5 (dk_at dksX9_mends_6 11 rfl rfl)
theorem dX9_mends_149 : decode cX9_mends 149 = .ok (.if_icmp .lt 18, 3) := dk_161 0 18 (dk_at dksX9_mends_6 12 rfl rfl)
theorem dX9_mends_152 : decode cX9_mends 152 = .ok (.aload_n 0, 1) := dk_42 (dk_at dksX9_mends_6 15 rfl rfl)
theorem dX9_mends_153 : decode cX9_mends 153 = .ok (.getfield 29, 3) := dk_180 0 29 (dk_at dksX9_mends_6 16 rfl rfl)
theorem dX9_mends_156 : decode cX9_mends 156 = .ok (.bipush 6, 2) := dk_16 6 (dk_at dksX9_mends_6 19 rfl rfl)
theorem dX9_mends_158 : decode cX9_mends 158 = .ok (.iaload, 1) := dk_46 (dk_at dksX9_mends_6 21 rfl rfl)
theorem dX9_mends_159 : decode cX9_mends 159 = .ok (.iconst 1, 1) := dk_4 (dk_at dksX9_mends_6 22 rfl rfl)
theorem dX9_mends_160 : decode cX9_mends 160 = .ok (.if_icmp .ne 7, 3) := dk_160 0 7 (dk_at dksX9_mends_7 0 rfl rfl)
theorem dX9_mends_163 : decode cX9_mends 163 = .ok (.iconst 1, 1) := dk_4 (dk_at dksX9_mends_7 3 rfl rfl)
theorem dX9_mends_164 : decode cX9_mends 164 = .ok (.goto 4, 3) := dk_167 0 4 (dk_at dksX9_mends_7 4 rfl rfl)
theorem dX9_mends_167 : decode cX9_mends 167 = .ok (.iconst 0, 1) := dk_3 (dk_at dksX9_mends_7 7 rfl rfl)
theorem dX9_mends_168 : decode cX9_mends 168 = .ok (.istore 10, 2) := dk_54 10 (dk_at dksX9_mends_7 8 rfl rfl)
theorem dX9_mends_170 : decode cX9_mends 170 = .ok (.iload 8, 2) := dk_21 8 (dk_at dksX9_mends_7 10 rfl rfl)
theorem dX9_mends_172 : decode cX9_mends 172 = .ok (.iconst 2, 1) := dk_5 (dk_at dksX9_mends_7 12 rfl rfl)
theorem dX9_mends_173 : decode cX9_mends 173 = .ok (.isub, 1) := dk_100 (dk_at dksX9_mends_7 13 rfl rfl)
theorem dX9_mends_174 : decode cX9_mends 174 = .ok (.aload_n 0, 1) := dk_42 (dk_at dksX9_mends_7 14 rfl rfl)
theorem dX9_mends_175 : decode cX9_mends 175 = .ok (.getfield 29, 3) := dk_180 0 29 (dk_at dksX9_mends_7 15 rfl rfl)
theorem dX9_mends_178 : decode cX9_mends 178 = .ok (.iconst 4, 1) := dk_7 (dk_at dksX9_mends_7 18 rfl rfl)
theorem dX9_mends_179 : decode cX9_mends 179 = .ok (.iaload, 1) := dk_46 (dk_at dksX9_mends_7 19 rfl rfl)
theorem dX9_mends_180 : decode cX9_mends 180 = .ok (.if_icmp .ge 8, 3) := dk_162 0 8 (dk_at dksX9_mends_7 20 rfl rfl)
theorem dX9_mends_183 : decode cX9_mends 183 = .ok (.bipush 12, 2) := dk_16 12 (dk_at dksX9_mends_8 0 rfl rfl)
theorem dX9_mends_185 : decode cX9_mends 185 = .ok (.goto 23, 3) := dk_167 0 23 (dk_at dksX9_mends_8 2 rfl rfl)
theorem dX9_mends_188 : decode cX9_mends 188 = .ok (.iload 8, 2) := dk_21 8 (dk_at dksX9_mends_8 5 rfl rfl)
theorem dX9_mends_190 : decode cX9_mends 190 = .ok (.iconst 2, 1) := dk_5 (dk_at dksX9_mends_8 7 rfl rfl)
theorem dX9_mends_191 : decode cX9_mends 191 = .ok (.isub, 1) := dk_100 (dk_at dksX9_mends_8 8 rfl rfl)
theorem dX9_mends_192 : decode cX9_mends 192 = .ok (.aload_n 0, 1) := dk_42 (dk_at dksX9_mends_8 9 rfl rfl)
theorem dX9_mends_193 : decode cX9_mends 193 = .ok (.getfield 29, 3) := dk_180 0 29 (dk_at dksX9_mends_8 10 rfl rfl)
theorem dX9_mends_196 : decode cX9_mends 196 = .ok (.iconst 4, 1) := dk_7 (dk_at dksX9_mends_8 13 rfl rfl)
theorem dX9_mends_197 : decode cX9_mends 197 = .ok (.iaload, 1) := dk_46 (dk_at dksX9_mends_8 14 rfl rfl)
theorem dX9_mends_198 : decode cX9_mends 198 = .ok (.if_icmp .le 8, 3) := dk_164 0 8 (dk_at dksX9_mends_8 15 rfl rfl)
theorem dX9_mends_201 : decode cX9_mends 201 = .ok (.bipush 13, 2) := dk_16 13 (dk_at dksX9_mends_8 18 rfl rfl)
theorem dX9_mends_203 : decode cX9_mends 203 = .ok (.goto 5, 3) := dk_167 0 5 (dk_at dksX9_mends_8 20 rfl rfl)
theorem dX9_mends_206 : decode cX9_mends 206 = .ok (.bipush 14, 2) := dk_16 14 (dk_at dksX9_mends_9 0 rfl rfl)
theorem dX9_mends_208 : decode cX9_mends 208 = .ok (.istore 11, 2) := dk_54 11 (dk_at dksX9_mends_9 2 rfl rfl)
theorem dX9_mends_210 : decode cX9_mends 210 = .ok (.aload_n 0, 1) := dk_42 (dk_at dksX9_mends_9 4 rfl rfl)
theorem dX9_mends_211 : decode cX9_mends 211 = .ok (.iload 8, 2) := dk_21 8 (dk_at dksX9_mends_9 5 rfl rfl)
theorem dX9_mends_213 : decode cX9_mends 213 = .ok (.invokevirtual 230, 3) := dk_182 0 230 (dk_at dksX9_mends_9 7 rfl rfl)
theorem dX9_mends_216 : decode cX9_mends 216 = .ok (.aload_n 0, 1) := dk_42 (dk_at dksX9_mends_9 10 rfl rfl)
theorem dX9_mends_217 : decode cX9_mends 217 = .ok (.iload 9, 2) := dk_21 9 (dk_at dksX9_mends_9 11 rfl rfl)
theorem dX9_mends_219 : decode cX9_mends 219 = .ok (.iconst 0, 1) := dk_3 (dk_at dksX9_mends_9 13 rfl rfl)
theorem dX9_mends_220 : decode cX9_mends 220 = .ok (.invokevirtual 302, 3) := dk_182 1 46 (dk_at dksX9_mends_9 14 rfl rfl)
theorem dX9_mends_223 : decode cX9_mends 223 = .ok (.bipush 12, 2) := dk_16 12 (dk_at dksX9_mends_9 17 rfl rfl)
theorem dX9_mends_225 : decode cX9_mends 225 = .ok (.istore 12, 2) := dk_54 12 (dk_at dksX9_mends_9 19 rfl rfl)
theorem dX9_mends_227 : decode cX9_mends 227 = .ok (.iload 12, 2) := dk_21 12 (dk_at dksX9_mends_9 21 rfl rfl)
theorem dX9_mends_229 : decode cX9_mends 229 = .ok (.bipush 15, 2) := dk_16 15 (dk_at dksX9_mends_10 0 rfl rfl)
theorem dX9_mends_231 : decode cX9_mends 231 = .ok (.if_icmp .ge 48, 3) := dk_162 0 48 (dk_at dksX9_mends_10 2 rfl rfl)
theorem dX9_mends_234 : decode cX9_mends 234 = .ok (.iload 10, 2) := dk_21 10 (dk_at dksX9_mends_10 5 rfl rfl)
theorem dX9_mends_236 : decode cX9_mends 236 = .ok (.ifCond .eq 43, 3) := dk_153 0 43 (dk_at dksX9_mends_10 7 rfl rfl)
theorem dX9_mends_239 : decode cX9_mends 239 = .ok (.iload 12, 2) := dk_21 12 (dk_at dksX9_mends_10 10 rfl rfl)
theorem dX9_mends_241 : decode cX9_mends 241 = .ok (.iload 11, 2) := dk_21 11 (dk_at dksX9_mends_10 12 rfl rfl)
theorem dX9_mends_243 : decode cX9_mends 243 = .ok (.if_icmp .ne 6, 3) := dk_160 0 6 (dk_at dksX9_mends_10 14 rfl rfl)
theorem dX9_mends_246 : decode cX9_mends 246 = .ok (.goto 27, 3) := dk_167 0 27 (dk_at dksX9_mends_10 17 rfl rfl)
theorem dX9_mends_249 : decode cX9_mends 249 = .ok (.aload_n 0, 1) := dk_42 (dk_at dksX9_mends_10 20 rfl rfl)
theorem dX9_mends_250 : decode cX9_mends 250 = .ok (.aload_n 0, 1) := dk_42 (dk_at dksX9_mends_10 21 rfl rfl)
theorem dX9_mends_251 : decode cX9_mends 251 = .ok (.getfield 54, 3) := dk_180 0 54 (dk_at dksX9_mends_11 0 rfl rfl)
theorem dX9_mends_254 : decode cX9_mends 254 = .ok (.iload 9, 2) := dk_21 9 (dk_at dksX9_mends_11 3 rfl rfl)
theorem dX9_mends_256 : decode cX9_mends 256 = .ok (.iaload, 1) := dk_46 (dk_at dksX9_mends_11 5 rfl rfl)
theorem dX9_mends_257 : decode cX9_mends 257 = .ok (.invokevirtual 299, 3) := dk_182 1 43 (dk_at dksX9_mends_11 6 rfl rfl)
theorem dX9_mends_260 : decode cX9_mends 260 = .ok (.aload_n 0, 1) := dk_42 (dk_at dksX9_mends_11 9 rfl rfl)
theorem dX9_mends_261 : decode cX9_mends 261 = .ok (.iload 12, 2) := dk_21 12 (dk_at dksX9_mends_11 10 rfl rfl)
theorem dX9_mends_263 : decode cX9_mends 263 = .ok (.invokevirtual 230, 3) := dk_182 0 230 (dk_at dksX9_mends_11 12 rfl rfl)
theorem dX9_mends_266 : decode cX9_mends 266 = .ok (.aload_n 0, 1) := dk_42 (dk_at dksX9_mends_11 15 rfl rfl)
theorem dX9_mends_267 : decode cX9_mends 267 = .ok (.iload 9, 2) := dk_21 9 (dk_at dksX9_mends_11 16 rfl rfl)
theorem dX9_mends_269 : decode cX9_mends 269 = .ok (.iconst 1, 1) := dk_4 (dk_at dksX9_mends_11 18 rfl rfl)
theorem dX9_mends_270 : decode cX9_mends 270 = .ok (.invokevirtual 302, 3) := dk_182 1 46 (dk_at dksX9_mends_11 19 rfl rfl)
theorem dX9_mends_273 : decode cX9_mends 273 = .ok (.iinc 12 1, 3) := dk_132 12 1 (dk_at dksX9_mends_12 0 rfl rfl)
theorem dX9_mends_276 : decode cX9_mends 276 = .ok (.goto (-49), 3) := dk_167 255 207 (dk_at dksX9_mends_12 3 rfl rfl)
theorem dX9_mends_279 : decode cX9_mends 279 = .ok (.iinc 9 1, 3) := dk_132 9 1 (dk_at dksX9_mends_12 6 rfl rfl)
theorem dX9_mends_282 : decode cX9_mends 282 = .ok (.goto (-166), 3) := dk_167 255 90 (dk_at dksX9_mends_12 9 rfl rfl)
theorem dX9_mends_285 : decode cX9_mends 285 = .ok (.aload_n 0, 1) := dk_42 (dk_at dksX9_mends_12 12 rfl rfl)
theorem dX9_mends_286 : decode cX9_mends 286 = .ok (.aload_n 0, 1) := dk_42 (dk_at dksX9_mends_12 13 rfl rfl)
theorem dX9_mends_287 : decode cX9_mends 287 = .ok (.getfield 293, 3) := dk_180 1 37 (dk_at dksX9_mends_12 14 rfl rfl)
theorem dX9_mends_290 : decode cX9_mends 290 = .ok (.putfield 296, 3) := dk_181 1 40 (dk_at dksX9_mends_12 17 rfl rfl)
theorem dX9_mends_293 : decode cX9_mends 293 = .ok (.iconst 0, 1) := dk_3 (dk_at dksX9_mends_12 20 rfl rfl)
theorem dX9_mends_294 : decode cX9_mends 294 = .ok (.istore 9, 2) := dk_54 9 (dk_at dksX9_mends_12 21 rfl rfl)
theorem dX9_mends_296 : decode cX9_mends 296 = .ok (.iload 9, 2) := dk_21 9 (dk_at dksX9_mends_13 0 rfl rfl)
theorem dX9_mends_298 : decode cX9_mends 298 = .ok (.aload_n 0, 1) := dk_42 (dk_at dksX9_mends_13 2 rfl rfl)
theorem dX9_mends_299 : decode cX9_mends 299 = .ok (.getfield 296, 3) := dk_180 1 40 (dk_at dksX9_mends_13 3 rfl rfl)
theorem dX9_mends_302 : decode cX9_mends 302 = .ok (.if_icmp .ge 65, 3) := dk_162 0 65 (dk_at dksX9_mends_13 6 rfl rfl)
theorem dX9_mends_305 : decode cX9_mends 305 = .ok (.aload_n 0, 1) := dk_42 (dk_at dksX9_mends_13 9 rfl rfl)
theorem dX9_mends_306 : decode cX9_mends 306 = .ok (.getfield 54, 3) := dk_180 0 54 (dk_at dksX9_mends_13 10 rfl rfl)
theorem dX9_mends_309 : decode cX9_mends 309 = .ok (.iload 9, 2) := dk_21 9 (dk_at dksX9_mends_13 13 rfl rfl)
theorem dX9_mends_311 : decode cX9_mends 311 = .ok (.aload_n 0, 1) := dk_42 (dk_at dksX9_mends_13 15 rfl rfl)
theorem dX9_mends_312 : decode cX9_mends 312 = .ok (.getfield 57, 3) := dk_180 0 57 (dk_at dksX9_mends_13 16 rfl rfl)
theorem dX9_mends_315 : decode cX9_mends 315 = .ok (.iload 9, 2) := dk_21 9 (dk_at dksX9_mends_13 19 rfl rfl)
theorem dX9_mends_317 : decode cX9_mends 317 = .ok (.iaload, 1) := dk_46 (dk_at dksX9_mends_13 21 rfl rfl)
theorem dX9_mends_318 : decode cX9_mends 318 = .ok (.iastore, 1) := dk_79 (dk_at dksX9_mends_13 22 rfl rfl)
theorem dX9_mends_319 : decode cX9_mends 319 = .ok (.iconst 0, 1) := dk_3 (dk_at dksX9_mends_13 23 rfl rfl)
theorem dX9_mends_320 : decode cX9_mends 320 = .ok (.istore 10, 2) := dk_54 10 (dk_at dksX9_mends_14 0 rfl rfl)
theorem dX9_mends_322 : decode cX9_mends 322 = .ok (.iload 10, 2) := dk_21 10 (dk_at dksX9_mends_14 2 rfl rfl)
theorem dX9_mends_324 : decode cX9_mends 324 = .ok (.bipush 31, 2) := dk_16 31 (dk_at dksX9_mends_14 4 rfl rfl)
theorem dX9_mends_326 : decode cX9_mends 326 = .ok (.if_icmp .ge 35, 3) := dk_162 0 35 (dk_at dksX9_mends_14 6 rfl rfl)
theorem dX9_mends_329 : decode cX9_mends 329 = .ok (.aload_n 0, 1) := dk_42 (dk_at dksX9_mends_14 9 rfl rfl)
theorem dX9_mends_330 : decode cX9_mends 330 = .ok (.getfield 61, 3) := dk_180 0 61 (dk_at dksX9_mends_14 10 rfl rfl)
theorem dX9_mends_333 : decode cX9_mends 333 = .ok (.bipush 31, 2) := dk_16 31 (dk_at dksX9_mends_14 13 rfl rfl)
theorem dX9_mends_335 : decode cX9_mends 335 = .ok (.iload 9, 2) := dk_21 9 (dk_at dksX9_mends_14 15 rfl rfl)
theorem dX9_mends_337 : decode cX9_mends 337 = .ok (.imul, 1) := dk_104 (dk_at dksX9_mends_14 17 rfl rfl)
theorem dX9_mends_338 : decode cX9_mends 338 = .ok (.iload 10, 2) := dk_21 10 (dk_at dksX9_mends_14 18 rfl rfl)
theorem dX9_mends_340 : decode cX9_mends 340 = .ok (.iadd, 1) := dk_96 (dk_at dksX9_mends_14 20 rfl rfl)
theorem dX9_mends_341 : decode cX9_mends 341 = .ok (.aload_n 0, 1) := dk_42 (dk_at dksX9_mends_14 21 rfl rfl)
theorem dX9_mends_342 : decode cX9_mends 342 = .ok (.getfield 64, 3) := dk_180 0 64 (dk_at dksX9_mends_15 0 rfl rfl)
theorem dX9_mends_345 : decode cX9_mends 345 = .ok (.bipush 31, 2) := dk_16 31 (dk_at dksX9_mends_15 3 rfl rfl)
theorem dX9_mends_347 : decode cX9_mends 347 = .ok (.iload 9, 2) := dk_21 9 (dk_at dksX9_mends_15 5 rfl rfl)
theorem dX9_mends_349 : decode cX9_mends 349 = .ok (.imul, 1) := dk_104 (dk_at dksX9_mends_15 7 rfl rfl)
theorem dX9_mends_350 : decode cX9_mends 350 = .ok (.iload 10, 2) := dk_21 10 (dk_at dksX9_mends_15 8 rfl rfl)
theorem dX9_mends_352 : decode cX9_mends 352 = .ok (.iadd, 1) := dk_96 (dk_at dksX9_mends_15 10 rfl rfl)
theorem dX9_mends_353 : decode cX9_mends 353 = .ok (.laload, 1) := dk_47 (dk_at dksX9_mends_15 11 rfl rfl)
theorem dX9_mends_354 : decode cX9_mends 354 = .ok (.lastore, 1) := dk_80 (dk_at dksX9_mends_15 12 rfl rfl)
theorem dX9_mends_355 : decode cX9_mends 355 = .ok (.iinc 10 1, 3) := dk_132 10 1 (dk_at dksX9_mends_15 13 rfl rfl)
theorem dX9_mends_358 : decode cX9_mends 358 = .ok (.goto (-36), 3) := dk_167 255 220 (dk_at dksX9_mends_15 16 rfl rfl)
theorem dX9_mends_361 : decode cX9_mends 361 = .ok (.iinc 9 1, 3) := dk_132 9 1 (dk_at dksX9_mends_15 19 rfl rfl)
theorem dX9_mends_364 : decode cX9_mends 364 = .ok (.goto (-68), 3) := dk_167 255 188 (dk_at dksX9_mends_16 0 rfl rfl)
theorem dX9_mends_367 : decode cX9_mends 367 = .ok (.iinc 7 2, 3) := dk_132 7 2 (dk_at dksX9_mends_16 3 rfl rfl)
theorem dX9_mends_370 : decode cX9_mends 370 = .ok (.goto (-277), 3) := dk_167 254 235 (dk_at dksX9_mends_16 6 rfl rfl)
theorem dX9_mends_373 : decode cX9_mends 373 = .ok (.iconst 0, 1) := dk_3 (dk_at dksX9_mends_16 9 rfl rfl)
theorem dX9_mends_374 : decode cX9_mends 374 = .ok (.istore 7, 2) := dk_54 7 (dk_at dksX9_mends_16 10 rfl rfl)
theorem dX9_mends_376 : decode cX9_mends 376 = .ok (.iload 7, 2) := dk_21 7 (dk_at dksX9_mends_16 12 rfl rfl)
theorem dX9_mends_378 : decode cX9_mends 378 = .ok (.bipush 31, 2) := dk_16 31 (dk_at dksX9_mends_16 14 rfl rfl)
theorem dX9_mends_380 : decode cX9_mends 380 = .ok (.if_icmp .ge 123, 3) := dk_162 0 123 (dk_at dksX9_mends_16 16 rfl rfl)
theorem dX9_mends_383 : decode cX9_mends 383 = .ok (.lconst 0, 1) := dk_9 (dk_at dksX9_mends_16 19 rfl rfl)
theorem dX9_mends_384 : decode cX9_mends 384 = .ok (.lstore 8, 2) := dk_55 8 (dk_at dksX9_mends_16 20 rfl rfl)
theorem dX9_mends_386 : decode cX9_mends 386 = .ok (.iconst 0, 1) := dk_3 (dk_at dksX9_mends_16 22 rfl rfl)
theorem dX9_mends_387 : decode cX9_mends 387 = .ok (.istore 10, 2) := dk_54 10 (dk_at dksX9_mends_17 0 rfl rfl)
theorem dX9_mends_389 : decode cX9_mends 389 = .ok (.iload 10, 2) := dk_21 10 (dk_at dksX9_mends_17 2 rfl rfl)
theorem dX9_mends_391 : decode cX9_mends 391 = .ok (.aload_n 0, 1) := dk_42 (dk_at dksX9_mends_17 4 rfl rfl)
theorem dX9_mends_392 : decode cX9_mends 392 = .ok (.getfield 296, 3) := dk_180 1 40 (dk_at dksX9_mends_17 5 rfl rfl)
theorem dX9_mends_395 : decode cX9_mends 395 = .ok (.if_icmp .ge 81, 3) := dk_162 0 81 (dk_at dksX9_mends_17 8 rfl rfl)
theorem dX9_mends_398 : decode cX9_mends 398 = .ok (.aload_n 0, 1) := dk_42 (dk_at dksX9_mends_17 11 rfl rfl)
theorem dX9_mends_399 : decode cX9_mends 399 = .ok (.aload_n 0, 1) := dk_42 (dk_at dksX9_mends_17 12 rfl rfl)
theorem dX9_mends_400 : decode cX9_mends 400 = .ok (.getfield 54, 3) := dk_180 0 54 (dk_at dksX9_mends_17 13 rfl rfl)
theorem dX9_mends_403 : decode cX9_mends 403 = .ok (.iload 10, 2) := dk_21 10 (dk_at dksX9_mends_17 16 rfl rfl)
theorem dX9_mends_405 : decode cX9_mends 405 = .ok (.iaload, 1) := dk_46 (dk_at dksX9_mends_17 18 rfl rfl)
theorem dX9_mends_406 : decode cX9_mends 406 = .ok (.invokevirtual 299, 3) := dk_182 1 43 (dk_at dksX9_mends_17 19 rfl rfl)
theorem dX9_mends_409 : decode cX9_mends 409 = .ok (.aload_n 0, 1) := dk_42 (dk_at dksX9_mends_17 22 rfl rfl)
theorem dX9_mends_410 : decode cX9_mends 410 = .ok (.getfield 29, 3) := dk_180 0 29 (dk_at dksX9_mends_18 0 rfl rfl)
theorem dX9_mends_413 : decode cX9_mends 413 = .ok (.iconst 0, 1) := dk_3 (dk_at dksX9_mends_18 3 rfl rfl)
theorem dX9_mends_414 : decode cX9_mends 414 = .ok (.iaload, 1) := dk_46 (dk_at dksX9_mends_18 4 rfl rfl)
theorem dX9_mends_415 : decode cX9_mends 415 = .ok (.iload_n 1, 1) := dk_27 (dk_at dksX9_mends_18 5 rfl rfl)
theorem dX9_mends_416 : decode cX9_mends 416 = .ok (.if_icmp .ne 54, 3) := dk_160 0 54 (dk_at dksX9_mends_18 6 rfl rfl)
theorem dX9_mends_419 : decode cX9_mends 419 = .ok (.aload_n 0, 1) := dk_42 (dk_at dksX9_mends_18 9 rfl rfl)
theorem dX9_mends_420 : decode cX9_mends 420 = .ok (.getfield 29, 3) := dk_180 0 29 (dk_at dksX9_mends_18 10 rfl rfl)
theorem dX9_mends_423 : decode cX9_mends 423 = .ok (.iconst 1, 1) := dk_4 (dk_at dksX9_mends_18 13 rfl rfl)
theorem dX9_mends_424 : decode cX9_mends 424 = .ok (.iaload, 1) := dk_46 (dk_at dksX9_mends_18 14 rfl rfl)
theorem dX9_mends_425 : decode cX9_mends 425 = .ok (.iload_n 2, 1) := dk_28 (dk_at dksX9_mends_18 15 rfl rfl)
theorem dX9_mends_426 : decode cX9_mends 426 = .ok (.if_icmp .ne 44, 3) := dk_160 0 44 (dk_at dksX9_mends_18 16 rfl rfl)
theorem dX9_mends_429 : decode cX9_mends 429 = .ok (.aload_n 0, 1) := dk_42 (dk_at dksX9_mends_18 19 rfl rfl)
theorem dX9_mends_430 : decode cX9_mends 430 = .ok (.getfield 29, 3) := dk_180 0 29 (dk_at dksX9_mends_18 20 rfl rfl)
theorem dX9_mends_433 : decode cX9_mends 433 = .ok (.bipush 7, 2) := dk_16 7 (dk_at dksX9_mends_19 0 rfl rfl)
theorem dX9_mends_435 : decode cX9_mends 435 = .ok (.iaload, 1) := dk_46 (dk_at dksX9_mends_19 2 rfl rfl)
theorem dX9_mends_436 : decode cX9_mends 436 = .ok (.iload_n 3, 1) := dk_29 (dk_at dksX9_mends_19 3 rfl rfl)
theorem dX9_mends_437 : decode cX9_mends 437 = .ok (.if_icmp .ne 33, 3) := dk_160 0 33 (dk_at dksX9_mends_19 4 rfl rfl)
theorem dX9_mends_440 : decode cX9_mends 440 = .ok (.aload_n 0, 1) := dk_42 (dk_at dksX9_mends_19 7 rfl rfl)
theorem dX9_mends_441 : decode cX9_mends 441 = .ok (.getfield 29, 3) := dk_180 0 29 (dk_at dksX9_mends_19 8 rfl rfl)
theorem dX9_mends_444 : decode cX9_mends 444 = .ok (.bipush 8, 2) := dk_16 8 (dk_at dksX9_mends_19 11 rfl rfl)
theorem dX9_mends_446 : decode cX9_mends 446 = .ok (.iaload, 1) := dk_46 (dk_at dksX9_mends_19 13 rfl rfl)
theorem dX9_mends_447 : decode cX9_mends 447 = .ok (.iload 4, 2) := dk_21 4 (dk_at dksX9_mends_19 14 rfl rfl)
theorem dX9_mends_449 : decode cX9_mends 449 = .ok (.if_icmp .ne 21, 3) := dk_160 0 21 (dk_at dksX9_mends_19 16 rfl rfl)
theorem dX9_mends_452 : decode cX9_mends 452 = .ok (.lload 8, 2) := dk_22 8 (dk_at dksX9_mends_19 19 rfl rfl)
theorem dX9_mends_454 : decode cX9_mends 454 = .ok (.aload_n 0, 1) := dk_42 (dk_at dksX9_mends_19 21 rfl rfl)
theorem dX9_mends_455 : decode cX9_mends 455 = .ok (.getfield 61, 3) := dk_180 0 61 (dk_at dksX9_mends_20 0 rfl rfl)
theorem dX9_mends_458 : decode cX9_mends 458 = .ok (.bipush 31, 2) := dk_16 31 (dk_at dksX9_mends_20 3 rfl rfl)
theorem dX9_mends_460 : decode cX9_mends 460 = .ok (.iload 10, 2) := dk_21 10 (dk_at dksX9_mends_20 5 rfl rfl)
theorem dX9_mends_462 : decode cX9_mends 462 = .ok (.imul, 1) := dk_104 (dk_at dksX9_mends_20 7 rfl rfl)
theorem dX9_mends_463 : decode cX9_mends 463 = .ok (.iload 7, 2) := dk_21 7 (dk_at dksX9_mends_20 8 rfl rfl)
theorem dX9_mends_465 : decode cX9_mends 465 = .ok (.iadd, 1) := dk_96 (dk_at dksX9_mends_20 10 rfl rfl)
theorem dX9_mends_466 : decode cX9_mends 466 = .ok (.laload, 1) := dk_47 (dk_at dksX9_mends_20 11 rfl rfl)
theorem dX9_mends_467 : decode cX9_mends 467 = .ok (.ladd, 1) := dk_97 (dk_at dksX9_mends_20 12 rfl rfl)
theorem dX9_mends_468 : decode cX9_mends 468 = .ok (.lstore 8, 2) := dk_55 8 (dk_at dksX9_mends_20 13 rfl rfl)
theorem dX9_mends_470 : decode cX9_mends 470 = .ok (.iinc 10 1, 3) := dk_132 10 1 (dk_at dksX9_mends_20 15 rfl rfl)
theorem dX9_mends_473 : decode cX9_mends 473 = .ok (.goto (-84), 3) := dk_167 255 172 (dk_at dksX9_mends_20 18 rfl rfl)
theorem dX9_mends_476 : decode cX9_mends 476 = .ok (.lload 8, 2) := dk_22 8 (dk_at dksX9_mends_20 21 rfl rfl)
theorem dX9_mends_478 : decode cX9_mends 478 = .ok (.lconst 0, 1) := dk_9 (dk_at dksX9_mends_20 23 rfl rfl)
theorem dX9_mends_479 : decode cX9_mends 479 = .ok (.lcmp, 1) := dk_148 (dk_at dksX9_mends_21 0 rfl rfl)
theorem dX9_mends_480 : decode cX9_mends 480 = .ok (.ifCond .le 17, 3) := dk_158 0 17 (dk_at dksX9_mends_21 1 rfl rfl)
theorem dX9_mends_483 : decode cX9_mends 483 = .ok (.iload 5, 2) := dk_21 5 (dk_at dksX9_mends_21 4 rfl rfl)
theorem dX9_mends_485 : decode cX9_mends 485 = .ok (.ifCond .eq 8, 3) := dk_153 0 8 (dk_at dksX9_mends_21 6 rfl rfl)
theorem dX9_mends_488 : decode cX9_mends 488 = .ok (.lload 8, 2) := dk_22 8 (dk_at dksX9_mends_21 9 rfl rfl)
theorem dX9_mends_490 : decode cX9_mends 490 = .ok (.goto 6, 3) := dk_167 0 6 (dk_at dksX9_mends_21 11 rfl rfl)
theorem dX9_mends_493 : decode cX9_mends 493 = .ok (.iload 7, 2) := dk_21 7 (dk_at dksX9_mends_21 14 rfl rfl)
theorem dX9_mends_495 : decode cX9_mends 495 = .ok (.i2l, 1) := dk_133 (dk_at dksX9_mends_21 16 rfl rfl)
theorem dX9_mends_496 : decode cX9_mends 496 = .ok (.lreturn, 1) := dk_173 (dk_at dksX9_mends_21 17 rfl rfl)
theorem dX9_mends_497 : decode cX9_mends 497 = .ok (.iinc 7 1, 3) := dk_132 7 1 (dk_at dksX9_mends_21 18 rfl rfl)
theorem dX9_mends_500 : decode cX9_mends 500 = .ok (.goto (-124), 3) := dk_167 255 132 (dk_at dksX9_mends_21 21 rfl rfl)
theorem dX9_mends_503 : decode cX9_mends 503 = .ok (.iload 5, 2) := dk_21 5 (dk_at dksX9_mends_22 0 rfl rfl)
theorem dX9_mends_505 : decode cX9_mends 505 = .ok (.ifCond .eq 7, 3) := dk_153 0 7 (dk_at dksX9_mends_22 2 rfl rfl)
theorem dX9_mends_508 : decode cX9_mends 508 = .ok (.lconst 0, 1) := dk_9 (dk_at dksX9_mends_22 5 rfl rfl)
theorem dX9_mends_509 : decode cX9_mends 509 = .ok (.goto 6, 3) := dk_167 0 6 (dk_at dksX9_mends_22 6 rfl rfl)
theorem dX9_mends_512 : decode cX9_mends 512 = .ok (.ldc2_w 306, 3) := dk_20 1 50 (dk_at dksX9_mends_22 9 rfl rfl)
theorem dX9_mends_515 : decode cX9_mends 515 = .ok (.lreturn, 1) := dk_173 (dk_at dksX9_mends_22 12 rfl rfl)
abbrev cX9_whole : ByteArray := prog_21_method_66_code
def yX9_whole : MethodName := ⟨RX9, "whole", "()I"⟩
def dkwX9_whole_1 : List UInt8 := [46, 96, 172]
abbrev dktX9_whole_1 : List UInt8 := dkwX9_whole_1 ++ []
def dkwX9_whole_0 : List UInt8 := [42, 182, 0, 242, 16, 8, 104, 42, 180, 0, 29, 16, 7, 46, 96, 16, 8, 104, 42, 180, 0, 29, 16, 8]
abbrev dktX9_whole_0 : List UInt8 := dkwX9_whole_0 ++ dktX9_whole_1
theorem dksX9_whole_0 : cX9_whole.data.toList.drop 0 = dktX9_whole_0 := by decide +kernel
theorem dksX9_whole_1 : cX9_whole.data.toList.drop 24 = dktX9_whole_1 := dk_seg dksX9_whole_0 24 rfl rfl
theorem dX9_whole_0 : decode cX9_whole 0 = .ok (.aload_n 0, 1) := dk_42 (dk_at dksX9_whole_0 0 rfl rfl)
theorem dX9_whole_1 : decode cX9_whole 1 = .ok (.invokevirtual 242, 3) := dk_182 0 242 (dk_at dksX9_whole_0 1 rfl rfl)
theorem dX9_whole_4 : decode cX9_whole 4 = .ok (.bipush 8, 2) := dk_16 8 (dk_at dksX9_whole_0 4 rfl rfl)
theorem dX9_whole_6 : decode cX9_whole 6 = .ok (.imul, 1) := dk_104 (dk_at dksX9_whole_0 6 rfl rfl)
theorem dX9_whole_7 : decode cX9_whole 7 = .ok (.aload_n 0, 1) := dk_42 (dk_at dksX9_whole_0 7 rfl rfl)
theorem dX9_whole_8 : decode cX9_whole 8 = .ok (.getfield 29, 3) := dk_180 0 29 (dk_at dksX9_whole_0 8 rfl rfl)
theorem dX9_whole_11 : decode cX9_whole 11 = .ok (.bipush 7, 2) := dk_16 7 (dk_at dksX9_whole_0 11 rfl rfl)
theorem dX9_whole_13 : decode cX9_whole 13 = .ok (.iaload, 1) := dk_46 (dk_at dksX9_whole_0 13 rfl rfl)
theorem dX9_whole_14 : decode cX9_whole 14 = .ok (.iadd, 1) := dk_96 (dk_at dksX9_whole_0 14 rfl rfl)
theorem dX9_whole_15 : decode cX9_whole 15 = .ok (.bipush 8, 2) := dk_16 8 (dk_at dksX9_whole_0 15 rfl rfl)
theorem dX9_whole_17 : decode cX9_whole 17 = .ok (.imul, 1) := dk_104 (dk_at dksX9_whole_0 17 rfl rfl)
theorem dX9_whole_18 : decode cX9_whole 18 = .ok (.aload_n 0, 1) := dk_42 (dk_at dksX9_whole_0 18 rfl rfl)
theorem dX9_whole_19 : decode cX9_whole 19 = .ok (.getfield 29, 3) := dk_180 0 29 (dk_at dksX9_whole_0 19 rfl rfl)
theorem dX9_whole_22 : decode cX9_whole 22 = .ok (.bipush 8, 2) := dk_16 8 (dk_at dksX9_whole_0 22 rfl rfl)
theorem dX9_whole_24 : decode cX9_whole 24 = .ok (.iaload, 1) := dk_46 (dk_at dksX9_whole_1 0 rfl rfl)
theorem dX9_whole_25 : decode cX9_whole 25 = .ok (.iadd, 1) := dk_96 (dk_at dksX9_whole_1 1 rfl rfl)
theorem dX9_whole_26 : decode cX9_whole 26 = .ok (.ireturn, 1) := dk_172 (dk_at dksX9_whole_1 2 rfl rfl)
abbrev cX9_unwhole : ByteArray := prog_21_method_67_code
def yX9_unwhole : MethodName := ⟨RX9, "unwhole", "(I)V"⟩
def dkwX9_unwhole_1 : List UInt8 := [180, 0, 29, 16, 8, 27, 16, 8, 112, 79, 177]
abbrev dktX9_unwhole_1 : List UInt8 := dkwX9_unwhole_1 ++ []
def dkwX9_unwhole_0 : List UInt8 := [42, 27, 16, 64, 108, 182, 0, 239, 42, 180, 0, 29, 16, 7, 27, 16, 8, 108, 16, 8, 112, 79, 42]
abbrev dktX9_unwhole_0 : List UInt8 := dkwX9_unwhole_0 ++ dktX9_unwhole_1
theorem dksX9_unwhole_0 : cX9_unwhole.data.toList.drop 0 = dktX9_unwhole_0 := by decide +kernel
theorem dksX9_unwhole_1 : cX9_unwhole.data.toList.drop 23 = dktX9_unwhole_1 := dk_seg dksX9_unwhole_0 23 rfl rfl
theorem dX9_unwhole_0 : decode cX9_unwhole 0 = .ok (.aload_n 0, 1) := dk_42 (dk_at dksX9_unwhole_0 0 rfl rfl)
theorem dX9_unwhole_1 : decode cX9_unwhole 1 = .ok (.iload_n 1, 1) := dk_27 (dk_at dksX9_unwhole_0 1 rfl rfl)
theorem dX9_unwhole_2 : decode cX9_unwhole 2 = .ok (.bipush 64, 2) := dk_16 64 (dk_at dksX9_unwhole_0 2 rfl rfl)
theorem dX9_unwhole_4 : decode cX9_unwhole 4 = .ok (.idiv, 1) := dk_108 (dk_at dksX9_unwhole_0 4 rfl rfl)
theorem dX9_unwhole_5 : decode cX9_unwhole 5 = .ok (.invokevirtual 239, 3) := dk_182 0 239 (dk_at dksX9_unwhole_0 5 rfl rfl)
theorem dX9_unwhole_8 : decode cX9_unwhole 8 = .ok (.aload_n 0, 1) := dk_42 (dk_at dksX9_unwhole_0 8 rfl rfl)
theorem dX9_unwhole_9 : decode cX9_unwhole 9 = .ok (.getfield 29, 3) := dk_180 0 29 (dk_at dksX9_unwhole_0 9 rfl rfl)
theorem dX9_unwhole_12 : decode cX9_unwhole 12 = .ok (.bipush 7, 2) := dk_16 7 (dk_at dksX9_unwhole_0 12 rfl rfl)
theorem dX9_unwhole_14 : decode cX9_unwhole 14 = .ok (.iload_n 1, 1) := dk_27 (dk_at dksX9_unwhole_0 14 rfl rfl)
theorem dX9_unwhole_15 : decode cX9_unwhole 15 = .ok (.bipush 8, 2) := dk_16 8 (dk_at dksX9_unwhole_0 15 rfl rfl)
theorem dX9_unwhole_17 : decode cX9_unwhole 17 = .ok (.idiv, 1) := dk_108 (dk_at dksX9_unwhole_0 17 rfl rfl)
theorem dX9_unwhole_18 : decode cX9_unwhole 18 = .ok (.bipush 8, 2) := dk_16 8 (dk_at dksX9_unwhole_0 18 rfl rfl)
theorem dX9_unwhole_20 : decode cX9_unwhole 20 = .ok (.irem, 1) := dk_112 (dk_at dksX9_unwhole_0 20 rfl rfl)
theorem dX9_unwhole_21 : decode cX9_unwhole 21 = .ok (.iastore, 1) := dk_79 (dk_at dksX9_unwhole_0 21 rfl rfl)
theorem dX9_unwhole_22 : decode cX9_unwhole 22 = .ok (.aload_n 0, 1) := dk_42 (dk_at dksX9_unwhole_0 22 rfl rfl)
theorem dX9_unwhole_23 : decode cX9_unwhole 23 = .ok (.getfield 29, 3) := dk_180 0 29 (dk_at dksX9_unwhole_1 0 rfl rfl)
theorem dX9_unwhole_26 : decode cX9_unwhole 26 = .ok (.bipush 8, 2) := dk_16 8 (dk_at dksX9_unwhole_1 3 rfl rfl)
theorem dX9_unwhole_28 : decode cX9_unwhole 28 = .ok (.iload_n 1, 1) := dk_27 (dk_at dksX9_unwhole_1 5 rfl rfl)
theorem dX9_unwhole_29 : decode cX9_unwhole 29 = .ok (.bipush 8, 2) := dk_16 8 (dk_at dksX9_unwhole_1 6 rfl rfl)
theorem dX9_unwhole_31 : decode cX9_unwhole 31 = .ok (.irem, 1) := dk_112 (dk_at dksX9_unwhole_1 8 rfl rfl)
theorem dX9_unwhole_32 : decode cX9_unwhole 32 = .ok (.iastore, 1) := dk_79 (dk_at dksX9_unwhole_1 9 rfl rfl)
theorem dX9_unwhole_33 : decode cX9_unwhole 33 = .ok (.return_, 1) := dk_177 (dk_at dksX9_unwhole_1 10 rfl rfl)
abbrev cX9_joins : ByteArray := prog_21_method_68_code
def yX9_joins : MethodName := ⟨RX9, "joins", "(II)V"⟩
def dkwX9_joins_5 : List UInt8 := [47, 42, 180, 0, 61, 16, 31, 27, 104, 21, 5, 96, 47, 97, 80, 132, 5, 1, 167, 255, 214, 177]
abbrev dktX9_joins_5 : List UInt8 := dkwX9_joins_5 ++ []
def dkwX9_joins_4 : List UInt8 := [21, 5, 28, 96, 16, 31, 162, 0, 39, 42, 180, 0, 64, 16, 31, 21, 4, 104, 21, 5, 96, 28, 96, 92]
abbrev dktX9_joins_4 : List UInt8 := dkwX9_joins_4 ++ dktX9_joins_5
def dkwX9_joins_3 : List UInt8 := [21, 5, 96, 9, 80, 132, 5, 1, 167, 255, 232, 42, 89, 180, 1, 37, 4, 96, 181, 1, 37, 3, 54, 5]
abbrev dktX9_joins_3 : List UInt8 := dkwX9_joins_3 ++ dktX9_joins_4
def dkwX9_joins_2 : List UInt8 := [21, 4, 29, 79, 3, 54, 5, 21, 5, 16, 31, 162, 0, 23, 42, 180, 0, 64, 16, 31, 21, 4, 104]
abbrev dktX9_joins_2 : List UInt8 := dkwX9_joins_2 ++ dktX9_joins_3
def dkwX9_joins_1 : List UInt8 := [29, 159, 0, 9, 132, 4, 1, 167, 255, 233, 21, 4, 42, 180, 1, 37, 160, 0, 51, 42, 180, 0, 57]
abbrev dktX9_joins_1 : List UInt8 := dkwX9_joins_1 ++ dktX9_joins_2
def dkwX9_joins_0 : List UInt8 := [42, 182, 1, 34, 62, 3, 54, 4, 21, 4, 42, 180, 1, 37, 162, 0, 20, 42, 180, 0, 57, 21, 4, 46]
abbrev dktX9_joins_0 : List UInt8 := dkwX9_joins_0 ++ dktX9_joins_1
theorem dksX9_joins_0 : cX9_joins.data.toList.drop 0 = dktX9_joins_0 := by decide +kernel
theorem dksX9_joins_1 : cX9_joins.data.toList.drop 24 = dktX9_joins_1 := dk_seg dksX9_joins_0 24 rfl rfl
theorem dksX9_joins_2 : cX9_joins.data.toList.drop 47 = dktX9_joins_2 := dk_seg dksX9_joins_1 23 rfl rfl
theorem dksX9_joins_3 : cX9_joins.data.toList.drop 70 = dktX9_joins_3 := dk_seg dksX9_joins_2 23 rfl rfl
theorem dksX9_joins_4 : cX9_joins.data.toList.drop 94 = dktX9_joins_4 := dk_seg dksX9_joins_3 24 rfl rfl
theorem dksX9_joins_5 : cX9_joins.data.toList.drop 118 = dktX9_joins_5 := dk_seg dksX9_joins_4 24 rfl rfl
theorem dX9_joins_0 : decode cX9_joins 0 = .ok (.aload_n 0, 1) := dk_42 (dk_at dksX9_joins_0 0 rfl rfl)
theorem dX9_joins_1 : decode cX9_joins 1 = .ok (.invokevirtual 290, 3) := dk_182 1 34 (dk_at dksX9_joins_0 1 rfl rfl)
theorem dX9_joins_4 : decode cX9_joins 4 = .ok (.istore_n 3, 1) := dk_62 (dk_at dksX9_joins_0 4 rfl rfl)
theorem dX9_joins_5 : decode cX9_joins 5 = .ok (.iconst 0, 1) := dk_3 (dk_at dksX9_joins_0 5 rfl rfl)
theorem dX9_joins_6 : decode cX9_joins 6 = .ok (.istore 4, 2) := dk_54 4 (dk_at dksX9_joins_0 6 rfl rfl)
theorem dX9_joins_8 : decode cX9_joins 8 = .ok (.iload 4, 2) := dk_21 4 (dk_at dksX9_joins_0 8 rfl rfl)
theorem dX9_joins_10 : decode cX9_joins 10 = .ok (.aload_n 0, 1) := dk_42 (dk_at dksX9_joins_0 10 rfl rfl)
theorem dX9_joins_11 : decode cX9_joins 11 = .ok (.getfield 293, 3) := dk_180 1 37 (dk_at dksX9_joins_0 11 rfl rfl)
theorem dX9_joins_14 : decode cX9_joins 14 = .ok (.if_icmp .ge 20, 3) := dk_162 0 20 (dk_at dksX9_joins_0 14 rfl rfl)
theorem dX9_joins_17 : decode cX9_joins 17 = .ok (.aload_n 0, 1) := dk_42 (dk_at dksX9_joins_0 17 rfl rfl)
theorem dX9_joins_18 : decode cX9_joins 18 = .ok (.getfield 57, 3) := dk_180 0 57 (dk_at dksX9_joins_0 18 rfl rfl)
theorem dX9_joins_21 : decode cX9_joins 21 = .ok (.iload 4, 2) := dk_21 4 (dk_at dksX9_joins_0 21 rfl rfl)
theorem dX9_joins_23 : decode cX9_joins 23 = .ok (.iaload, 1) := dk_46 (dk_at dksX9_joins_0 23 rfl rfl)
theorem dX9_joins_24 : decode cX9_joins 24 = .ok (.iload_n 3, 1) := dk_29 (dk_at dksX9_joins_1 0 rfl rfl)
theorem dX9_joins_25 : decode cX9_joins 25 = .ok (.if_icmp .eq 9, 3) := dk_159 0 9 (dk_at dksX9_joins_1 1 rfl rfl)
theorem dX9_joins_28 : decode cX9_joins 28 = .ok (.iinc 4 1, 3) := dk_132 4 1 (dk_at dksX9_joins_1 4 rfl rfl)
theorem dX9_joins_31 : decode cX9_joins 31 = .ok (.goto (-23), 3) := dk_167 255 233 (dk_at dksX9_joins_1 7 rfl rfl)
theorem dX9_joins_34 : decode cX9_joins 34 = .ok (.iload 4, 2) := dk_21 4 (dk_at dksX9_joins_1 10 rfl rfl)
theorem dX9_joins_36 : decode cX9_joins 36 = .ok (.aload_n 0, 1) := dk_42 (dk_at dksX9_joins_1 12 rfl rfl)
theorem dX9_joins_37 : decode cX9_joins 37 = .ok (.getfield 293, 3) := dk_180 1 37 (dk_at dksX9_joins_1 13 rfl rfl)
theorem dX9_joins_40 : decode cX9_joins 40 = .ok (.if_icmp .ne 51, 3) := dk_160 0 51 (dk_at dksX9_joins_1 16 rfl rfl)
theorem dX9_joins_43 : decode cX9_joins 43 = .ok (.aload_n 0, 1) := dk_42 (dk_at dksX9_joins_1 19 rfl rfl)
theorem dX9_joins_44 : decode cX9_joins 44 = .ok (.getfield 57, 3) := dk_180 0 57 (dk_at dksX9_joins_1 20 rfl rfl)
theorem dX9_joins_47 : decode cX9_joins 47 = .ok (.iload 4, 2) := dk_21 4 (dk_at dksX9_joins_2 0 rfl rfl)
theorem dX9_joins_49 : decode cX9_joins 49 = .ok (.iload_n 3, 1) := dk_29 (dk_at dksX9_joins_2 2 rfl rfl)
theorem dX9_joins_50 : decode cX9_joins 50 = .ok (.iastore, 1) := dk_79 (dk_at dksX9_joins_2 3 rfl rfl)
theorem dX9_joins_51 : decode cX9_joins 51 = .ok (.iconst 0, 1) := dk_3 (dk_at dksX9_joins_2 4 rfl rfl)
theorem dX9_joins_52 : decode cX9_joins 52 = .ok (.istore 5, 2) := dk_54 5 (dk_at dksX9_joins_2 5 rfl rfl)
theorem dX9_joins_54 : decode cX9_joins 54 = .ok (.iload 5, 2) := dk_21 5 (dk_at dksX9_joins_2 7 rfl rfl)
theorem dX9_joins_56 : decode cX9_joins 56 = .ok (.bipush 31, 2) := dk_16 31 (dk_at dksX9_joins_2 9 rfl rfl)
theorem dX9_joins_58 : decode cX9_joins 58 = .ok (.if_icmp .ge 23, 3) := dk_162 0 23 (dk_at dksX9_joins_2 11 rfl rfl)
theorem dX9_joins_61 : decode cX9_joins 61 = .ok (.aload_n 0, 1) := dk_42 (dk_at dksX9_joins_2 14 rfl rfl)
theorem dX9_joins_62 : decode cX9_joins 62 = .ok (.getfield 64, 3) := dk_180 0 64 (dk_at dksX9_joins_2 15 rfl rfl)
theorem dX9_joins_65 : decode cX9_joins 65 = .ok (.bipush 31, 2) := dk_16 31 (dk_at dksX9_joins_2 18 rfl rfl)
theorem dX9_joins_67 : decode cX9_joins 67 = .ok (.iload 4, 2) := dk_21 4 (dk_at dksX9_joins_2 20 rfl rfl)
theorem dX9_joins_69 : decode cX9_joins 69 = .ok (.imul, 1) := dk_104 (dk_at dksX9_joins_2 22 rfl rfl)
theorem dX9_joins_70 : decode cX9_joins 70 = .ok (.iload 5, 2) := dk_21 5 (dk_at dksX9_joins_3 0 rfl rfl)
theorem dX9_joins_72 : decode cX9_joins 72 = .ok (.iadd, 1) := dk_96 (dk_at dksX9_joins_3 2 rfl rfl)
theorem dX9_joins_73 : decode cX9_joins 73 = .ok (.lconst 0, 1) := dk_9 (dk_at dksX9_joins_3 3 rfl rfl)
theorem dX9_joins_74 : decode cX9_joins 74 = .ok (.lastore, 1) := dk_80 (dk_at dksX9_joins_3 4 rfl rfl)
theorem dX9_joins_75 : decode cX9_joins 75 = .ok (.iinc 5 1, 3) := dk_132 5 1 (dk_at dksX9_joins_3 5 rfl rfl)
theorem dX9_joins_78 : decode cX9_joins 78 = .ok (.goto (-24), 3) := dk_167 255 232 (dk_at dksX9_joins_3 8 rfl rfl)
theorem dX9_joins_81 : decode cX9_joins 81 = .ok (.aload_n 0, 1) := dk_42 (dk_at dksX9_joins_3 11 rfl rfl)
theorem dX9_joins_82 : decode cX9_joins 82 = .ok (.dup, 1) := dk_89 (dk_at dksX9_joins_3 12 rfl rfl)
theorem dX9_joins_83 : decode cX9_joins 83 = .ok (.getfield 293, 3) := dk_180 1 37 (dk_at dksX9_joins_3 13 rfl rfl)
theorem dX9_joins_86 : decode cX9_joins 86 = .ok (.iconst 1, 1) := dk_4 (dk_at dksX9_joins_3 16 rfl rfl)
theorem dX9_joins_87 : decode cX9_joins 87 = .ok (.iadd, 1) := dk_96 (dk_at dksX9_joins_3 17 rfl rfl)
theorem dX9_joins_88 : decode cX9_joins 88 = .ok (.putfield 293, 3) := dk_181 1 37 (dk_at dksX9_joins_3 18 rfl rfl)
theorem dX9_joins_91 : decode cX9_joins 91 = .ok (.iconst 0, 1) := dk_3 (dk_at dksX9_joins_3 21 rfl rfl)
theorem dX9_joins_92 : decode cX9_joins 92 = .ok (.istore 5, 2) := dk_54 5 (dk_at dksX9_joins_3 22 rfl rfl)
theorem dX9_joins_94 : decode cX9_joins 94 = .ok (.iload 5, 2) := dk_21 5 (dk_at dksX9_joins_4 0 rfl rfl)
theorem dX9_joins_96 : decode cX9_joins 96 = .ok (.iload_n 2, 1) := dk_28 (dk_at dksX9_joins_4 2 rfl rfl)
theorem dX9_joins_97 : decode cX9_joins 97 = .ok (.iadd, 1) := dk_96 (dk_at dksX9_joins_4 3 rfl rfl)
theorem dX9_joins_98 : decode cX9_joins 98 = .ok (.bipush 31, 2) := dk_16 31 (dk_at dksX9_joins_4 4 rfl rfl)
theorem dX9_joins_100 : decode cX9_joins 100 = .ok (.if_icmp .ge 39, 3) := dk_162 0 39 (dk_at dksX9_joins_4 6 rfl rfl)
theorem dX9_joins_103 : decode cX9_joins 103 = .ok (.aload_n 0, 1) := dk_42 (dk_at dksX9_joins_4 9 rfl rfl)
theorem dX9_joins_104 : decode cX9_joins 104 = .ok (.getfield 64, 3) := dk_180 0 64 (dk_at dksX9_joins_4 10 rfl rfl)
theorem dX9_joins_107 : decode cX9_joins 107 = .ok (.bipush 31, 2) := dk_16 31 (dk_at dksX9_joins_4 13 rfl rfl)
theorem dX9_joins_109 : decode cX9_joins 109 = .ok (.iload 4, 2) := dk_21 4 (dk_at dksX9_joins_4 15 rfl rfl)
theorem dX9_joins_111 : decode cX9_joins 111 = .ok (.imul, 1) := dk_104 (dk_at dksX9_joins_4 17 rfl rfl)
theorem dX9_joins_112 : decode cX9_joins 112 = .ok (.iload 5, 2) := dk_21 5 (dk_at dksX9_joins_4 18 rfl rfl)
theorem dX9_joins_114 : decode cX9_joins 114 = .ok (.iadd, 1) := dk_96 (dk_at dksX9_joins_4 20 rfl rfl)
theorem dX9_joins_115 : decode cX9_joins 115 = .ok (.iload_n 2, 1) := dk_28 (dk_at dksX9_joins_4 21 rfl rfl)
theorem dX9_joins_116 : decode cX9_joins 116 = .ok (.iadd, 1) := dk_96 (dk_at dksX9_joins_4 22 rfl rfl)
theorem dX9_joins_117 : decode cX9_joins 117 = .ok (.dup2, 1) := dk_92 (dk_at dksX9_joins_4 23 rfl rfl)
theorem dX9_joins_118 : decode cX9_joins 118 = .ok (.laload, 1) := dk_47 (dk_at dksX9_joins_5 0 rfl rfl)
theorem dX9_joins_119 : decode cX9_joins 119 = .ok (.aload_n 0, 1) := dk_42 (dk_at dksX9_joins_5 1 rfl rfl)
theorem dX9_joins_120 : decode cX9_joins 120 = .ok (.getfield 61, 3) := dk_180 0 61 (dk_at dksX9_joins_5 2 rfl rfl)
theorem dX9_joins_123 : decode cX9_joins 123 = .ok (.bipush 31, 2) := dk_16 31 (dk_at dksX9_joins_5 5 rfl rfl)
theorem dX9_joins_125 : decode cX9_joins 125 = .ok (.iload_n 1, 1) := dk_27 (dk_at dksX9_joins_5 7 rfl rfl)
theorem dX9_joins_126 : decode cX9_joins 126 = .ok (.imul, 1) := dk_104 (dk_at dksX9_joins_5 8 rfl rfl)
theorem dX9_joins_127 : decode cX9_joins 127 = .ok (.iload 5, 2) := dk_21 5 (dk_at dksX9_joins_5 9 rfl rfl)
theorem dX9_joins_129 : decode cX9_joins 129 = .ok (.iadd, 1) := dk_96 (dk_at dksX9_joins_5 11 rfl rfl)
theorem dX9_joins_130 : decode cX9_joins 130 = .ok (.laload, 1) := dk_47 (dk_at dksX9_joins_5 12 rfl rfl)
theorem dX9_joins_131 : decode cX9_joins 131 = .ok (.ladd, 1) := dk_97 (dk_at dksX9_joins_5 13 rfl rfl)
theorem dX9_joins_132 : decode cX9_joins 132 = .ok (.lastore, 1) := dk_80 (dk_at dksX9_joins_5 14 rfl rfl)
theorem dX9_joins_133 : decode cX9_joins 133 = .ok (.iinc 5 1, 3) := dk_132 5 1 (dk_at dksX9_joins_5 15 rfl rfl)
theorem dX9_joins_136 : decode cX9_joins 136 = .ok (.goto (-42), 3) := dk_167 255 214 (dk_at dksX9_joins_5 18 rfl rfl)
theorem dX9_joins_139 : decode cX9_joins 139 = .ok (.return_, 1) := dk_177 (dk_at dksX9_joins_5 21 rfl rfl)
abbrev cX9_play : ByteArray := prog_21_method_70_code
def yX9_play : MethodName := ⟨RX9, "play", "(III)I"⟩
def dkwX9_play_8 : List UInt8 := [29, 16, 10, 160, 0, 8, 21, 5, 167, 0, 8, 42, 29, 182, 0, 209, 172]
abbrev dktX9_play_8 : List UInt8 := dkwX9_play_8 ++ []
def dkwX9_play_7 : List UInt8 := [104, 96, 21, 9, 96, 46, 96, 54, 10, 167, 255, 221, 42, 21, 9, 182, 0, 230, 132, 5, 1, 167, 255, 122]
abbrev dktX9_play_7 : List UInt8 := dkwX9_play_7 ++ dktX9_play_8
def dkwX9_play_6 : List UInt8 := [21, 10, 161, 0, 34, 132, 9, 1, 21, 10, 42, 180, 0, 7, 3, 16, 12, 7, 21, 6, 104, 21, 7, 96]
abbrev dktX9_play_6 : List UInt8 := dkwX9_play_6 ++ dktX9_play_7
def dkwX9_play_5 : List UInt8 := [54, 9, 42, 180, 0, 7, 3, 16, 12, 7, 21, 6, 104, 21, 7, 96, 104, 96, 46, 54, 10, 21, 8]
abbrev dktX9_play_5 : List UInt8 := dkwX9_play_5 ++ dktX9_play_6
def dkwX9_play_4 : List UInt8 := [21, 4, 104, 17, 48, 57, 96, 54, 4, 21, 4, 16, 16, 124, 17, 127, 255, 126, 16, 100, 112, 54, 8, 3]
abbrev dktX9_play_4 : List UInt8 := dkwX9_play_4 ++ dktX9_play_5
def dkwX9_play_3 : List UInt8 := [5, 46, 182, 0, 203, 54, 6, 42, 4, 42, 180, 0, 29, 5, 46, 100, 182, 0, 203, 54, 7, 19, 1, 52]
abbrev dktX9_play_3 : List UInt8 := dkwX9_play_3 ++ dktX9_play_4
def dkwX9_play_2 : List UInt8 := [27, 54, 4, 3, 54, 5, 21, 5, 28, 162, 0, 134, 42, 182, 0, 227, 154, 0, 127, 42, 42, 180, 0, 29]
abbrev dktX9_play_2 : List UInt8 := dkwX9_play_2 ++ dktX9_play_3
def dkwX9_play_1 : List UInt8 := [154, 0, 7, 5, 167, 0, 4, 3, 181, 0, 67, 42, 180, 0, 67, 158, 0, 5, 3, 172, 42, 182, 0, 200]
abbrev dktX9_play_1 : List UInt8 := dkwX9_play_1 ++ dktX9_play_2
def dkwX9_play_0 : List UInt8 := [42, 28, 3, 17, 0, 200, 184, 0, 70, 154, 0, 7, 4, 167, 0, 18, 29, 3, 16, 10, 184, 0, 70]
abbrev dktX9_play_0 : List UInt8 := dkwX9_play_0 ++ dktX9_play_1
theorem dksX9_play_0 : cX9_play.data.toList.drop 0 = dktX9_play_0 := by decide +kernel
theorem dksX9_play_1 : cX9_play.data.toList.drop 23 = dktX9_play_1 := dk_seg dksX9_play_0 23 rfl rfl
theorem dksX9_play_2 : cX9_play.data.toList.drop 47 = dktX9_play_2 := dk_seg dksX9_play_1 24 rfl rfl
theorem dksX9_play_3 : cX9_play.data.toList.drop 71 = dktX9_play_3 := dk_seg dksX9_play_2 24 rfl rfl
theorem dksX9_play_4 : cX9_play.data.toList.drop 95 = dktX9_play_4 := dk_seg dksX9_play_3 24 rfl rfl
theorem dksX9_play_5 : cX9_play.data.toList.drop 119 = dktX9_play_5 := dk_seg dksX9_play_4 24 rfl rfl
theorem dksX9_play_6 : cX9_play.data.toList.drop 142 = dktX9_play_6 := dk_seg dksX9_play_5 23 rfl rfl
theorem dksX9_play_7 : cX9_play.data.toList.drop 166 = dktX9_play_7 := dk_seg dksX9_play_6 24 rfl rfl
theorem dksX9_play_8 : cX9_play.data.toList.drop 190 = dktX9_play_8 := dk_seg dksX9_play_7 24 rfl rfl
theorem dX9_play_0 : decode cX9_play 0 = .ok (.aload_n 0, 1) := dk_42 (dk_at dksX9_play_0 0 rfl rfl)
theorem dX9_play_1 : decode cX9_play 1 = .ok (.iload_n 2, 1) := dk_28 (dk_at dksX9_play_0 1 rfl rfl)
theorem dX9_play_2 : decode cX9_play 2 = .ok (.iconst 0, 1) := dk_3 (dk_at dksX9_play_0 2 rfl rfl)
theorem dX9_play_3 : decode cX9_play 3 = .ok (.sipush 200, 3) := dk_17 0 200 (dk_at dksX9_play_0 3 rfl rfl)
theorem dX9_play_6 : decode cX9_play 6 = .ok (.invokestatic 70, 3) := dk_184 0 70 (dk_at dksX9_play_0 6 rfl rfl)
theorem dX9_play_9 : decode cX9_play 9 = .ok (.ifCond .ne 7, 3) := dk_154 0 7 (dk_at dksX9_play_0 9 rfl rfl)
theorem dX9_play_12 : decode cX9_play 12 = .ok (.iconst 1, 1) := dk_4 (dk_at dksX9_play_0 12 rfl rfl)
theorem dX9_play_13 : decode cX9_play 13 = .ok (.goto 18, 3) := dk_167 0 18 (dk_at dksX9_play_0 13 rfl rfl)
theorem dX9_play_16 : decode cX9_play 16 = .ok (.iload_n 3, 1) := dk_29 (dk_at dksX9_play_0 16 rfl rfl)
theorem dX9_play_17 : decode cX9_play 17 = .ok (.iconst 0, 1) := dk_3 (dk_at dksX9_play_0 17 rfl rfl)
theorem dX9_play_18 : decode cX9_play 18 = .ok (.bipush 10, 2) := dk_16 10 (dk_at dksX9_play_0 18 rfl rfl)
theorem dX9_play_20 : decode cX9_play 20 = .ok (.invokestatic 70, 3) := dk_184 0 70 (dk_at dksX9_play_0 20 rfl rfl)
theorem dX9_play_23 : decode cX9_play 23 = .ok (.ifCond .ne 7, 3) := dk_154 0 7 (dk_at dksX9_play_1 0 rfl rfl)
theorem dX9_play_26 : decode cX9_play 26 = .ok (.iconst 2, 1) := dk_5 (dk_at dksX9_play_1 3 rfl rfl)
theorem dX9_play_27 : decode cX9_play 27 = .ok (.goto 4, 3) := dk_167 0 4 (dk_at dksX9_play_1 4 rfl rfl)
theorem dX9_play_30 : decode cX9_play 30 = .ok (.iconst 0, 1) := dk_3 (dk_at dksX9_play_1 7 rfl rfl)
theorem dX9_play_31 : decode cX9_play 31 = .ok (.putfield 67, 3) := dk_181 0 67 (dk_at dksX9_play_1 8 rfl rfl)
theorem dX9_play_34 : decode cX9_play 34 = .ok (.aload_n 0, 1) := dk_42 (dk_at dksX9_play_1 11 rfl rfl)
theorem dX9_play_35 : decode cX9_play 35 = .ok (.getfield 67, 3) := dk_180 0 67 (dk_at dksX9_play_1 12 rfl rfl)
theorem dX9_play_38 : decode cX9_play 38 = .ok (.ifCond .le 5, 3) := dk_158 0 5 (dk_at dksX9_play_1 15 rfl rfl)
theorem dX9_play_41 : decode cX9_play 41 = .ok (.iconst 0, 1) := dk_3 (dk_at dksX9_play_1 18 rfl rfl)
theorem dX9_play_42 : decode cX9_play 42 = .ok (.ireturn, 1) := dk_172 (dk_at dksX9_play_1 19 rfl rfl)
theorem dX9_play_43 : decode cX9_play 43 = .ok (.aload_n 0, 1) := dk_42 (dk_at dksX9_play_1 20 rfl rfl)
theorem dX9_play_44 : decode cX9_play 44 = .ok (.invokevirtual 200, 3) := dk_182 0 200 (dk_at dksX9_play_1 21 rfl rfl)
theorem dX9_play_47 : decode cX9_play 47 = .ok (.iload_n 1, 1) := dk_27 (dk_at dksX9_play_2 0 rfl rfl)
theorem dX9_play_48 : decode cX9_play 48 = .ok (.istore 4, 2) := dk_54 4 (dk_at dksX9_play_2 1 rfl rfl)
theorem dX9_play_50 : decode cX9_play 50 = .ok (.iconst 0, 1) := dk_3 (dk_at dksX9_play_2 3 rfl rfl)
theorem dX9_play_51 : decode cX9_play 51 = .ok (.istore 5, 2) := dk_54 5 (dk_at dksX9_play_2 4 rfl rfl)
theorem dX9_play_53 : decode cX9_play 53 = .ok (.iload 5, 2) := dk_21 5 (dk_at dksX9_play_2 6 rfl rfl)
theorem dX9_play_55 : decode cX9_play 55 = .ok (.iload_n 2, 1) := dk_28 (dk_at dksX9_play_2 8 rfl rfl)
theorem dX9_play_56 : decode cX9_play 56 = .ok (.if_icmp .ge 134, 3) := dk_162 0 134 (dk_at dksX9_play_2 9 rfl rfl)
theorem dX9_play_59 : decode cX9_play 59 = .ok (.aload_n 0, 1) := dk_42 (dk_at dksX9_play_2 12 rfl rfl)
theorem dX9_play_60 : decode cX9_play 60 = .ok (.invokevirtual 227, 3) := dk_182 0 227 (dk_at dksX9_play_2 13 rfl rfl)
theorem dX9_play_63 : decode cX9_play 63 = .ok (.ifCond .ne 127, 3) := dk_154 0 127 (dk_at dksX9_play_2 16 rfl rfl)
theorem dX9_play_66 : decode cX9_play 66 = .ok (.aload_n 0, 1) := dk_42 (dk_at dksX9_play_2 19 rfl rfl)
theorem dX9_play_67 : decode cX9_play 67 = .ok (.aload_n 0, 1) := dk_42 (dk_at dksX9_play_2 20 rfl rfl)
theorem dX9_play_68 : decode cX9_play 68 = .ok (.getfield 29, 3) := dk_180 0 29 (dk_at dksX9_play_2 21 rfl rfl)
theorem dX9_play_71 : decode cX9_play 71 = .ok (.iconst 2, 1) := dk_5 (dk_at dksX9_play_3 0 rfl rfl)
theorem dX9_play_72 : decode cX9_play 72 = .ok (.iaload, 1) := dk_46 (dk_at dksX9_play_3 1 rfl rfl)
theorem dX9_play_73 : decode cX9_play 73 = .ok (.invokevirtual 203, 3) := dk_182 0 203 (dk_at dksX9_play_3 2 rfl rfl)
theorem dX9_play_76 : decode cX9_play 76 = .ok (.istore 6, 2) := dk_54 6 (dk_at dksX9_play_3 5 rfl rfl)
theorem dX9_play_78 : decode cX9_play 78 = .ok (.aload_n 0, 1) := dk_42 (dk_at dksX9_play_3 7 rfl rfl)
theorem dX9_play_79 : decode cX9_play 79 = .ok (.iconst 1, 1) := dk_4 (dk_at dksX9_play_3 8 rfl rfl)
theorem dX9_play_80 : decode cX9_play 80 = .ok (.aload_n 0, 1) := dk_42 (dk_at dksX9_play_3 9 rfl rfl)
theorem dX9_play_81 : decode cX9_play 81 = .ok (.getfield 29, 3) := dk_180 0 29 (dk_at dksX9_play_3 10 rfl rfl)
theorem dX9_play_84 : decode cX9_play 84 = .ok (.iconst 2, 1) := dk_5 (dk_at dksX9_play_3 13 rfl rfl)
theorem dX9_play_85 : decode cX9_play 85 = .ok (.iaload, 1) := dk_46 (dk_at dksX9_play_3 14 rfl rfl)
theorem dX9_play_86 : decode cX9_play 86 = .ok (.isub, 1) := dk_100 (dk_at dksX9_play_3 15 rfl rfl)
theorem dX9_play_87 : decode cX9_play 87 = .ok (.invokevirtual 203, 3) := dk_182 0 203 (dk_at dksX9_play_3 16 rfl rfl)
theorem dX9_play_90 : decode cX9_play 90 = .ok (.istore 7, 2) := dk_54 7 (dk_at dksX9_play_3 19 rfl rfl)
theorem dX9_play_92 : decode cX9_play 92 = .ok (.ldc_w 308, 3) := dk_19 1 52 (dk_at dksX9_play_3 21 rfl rfl)
theorem dX9_play_95 : decode cX9_play 95 = .ok (.iload 4, 2) := dk_21 4 (dk_at dksX9_play_4 0 rfl rfl)
theorem dX9_play_97 : decode cX9_play 97 = .ok (.imul, 1) := dk_104 (dk_at dksX9_play_4 2 rfl rfl)
theorem dX9_play_98 : decode cX9_play 98 = .ok (.sipush 12345, 3) := dk_17 48 57 (dk_at dksX9_play_4 3 rfl rfl)
theorem dX9_play_101 : decode cX9_play 101 = .ok (.iadd, 1) := dk_96 (dk_at dksX9_play_4 6 rfl rfl)
theorem dX9_play_102 : decode cX9_play 102 = .ok (.istore 4, 2) := dk_54 4 (dk_at dksX9_play_4 7 rfl rfl)
theorem dX9_play_104 : decode cX9_play 104 = .ok (.iload 4, 2) := dk_21 4 (dk_at dksX9_play_4 9 rfl rfl)
theorem dX9_play_106 : decode cX9_play 106 = .ok (.bipush 16, 2) := dk_16 16 (dk_at dksX9_play_4 11 rfl rfl)
theorem dX9_play_108 : decode cX9_play 108 = .ok (.iushr, 1) := dk_124 (dk_at dksX9_play_4 13 rfl rfl)
theorem dX9_play_109 : decode cX9_play 109 = .ok (.sipush 32767, 3) := dk_17 127 255 (dk_at dksX9_play_4 14 rfl rfl)
theorem dX9_play_112 : decode cX9_play 112 = .ok (.iand, 1) := dk_126 (dk_at dksX9_play_4 17 rfl rfl)
theorem dX9_play_113 : decode cX9_play 113 = .ok (.bipush 100, 2) := dk_16 100 (dk_at dksX9_play_4 18 rfl rfl)
theorem dX9_play_115 : decode cX9_play 115 = .ok (.irem, 1) := dk_112 (dk_at dksX9_play_4 20 rfl rfl)
theorem dX9_play_116 : decode cX9_play 116 = .ok (.istore 8, 2) := dk_54 8 (dk_at dksX9_play_4 21 rfl rfl)
theorem dX9_play_118 : decode cX9_play 118 = .ok (.iconst 0, 1) := dk_3 (dk_at dksX9_play_4 23 rfl rfl)
theorem dX9_play_119 : decode cX9_play 119 = .ok (.istore 9, 2) := dk_54 9 (dk_at dksX9_play_5 0 rfl rfl)
theorem dX9_play_121 : decode cX9_play 121 = .ok (.aload_n 0, 1) := dk_42 (dk_at dksX9_play_5 2 rfl rfl)
theorem dX9_play_122 : decode cX9_play 122 = .ok (.getfield 7, 3) := dk_180 0 7 (dk_at dksX9_play_5 3 rfl rfl)
theorem dX9_play_125 : decode cX9_play 125 = .ok (.iconst 0, 1) := dk_3 (dk_at dksX9_play_5 6 rfl rfl)
theorem dX9_play_126 : decode cX9_play 126 = .ok (.bipush 12, 2) := dk_16 12 (dk_at dksX9_play_5 7 rfl rfl)
theorem dX9_play_128 : decode cX9_play 128 = .ok (.iconst 4, 1) := dk_7 (dk_at dksX9_play_5 9 rfl rfl)
theorem dX9_play_129 : decode cX9_play 129 = .ok (.iload 6, 2) := dk_21 6 (dk_at dksX9_play_5 10 rfl rfl)
theorem dX9_play_131 : decode cX9_play 131 = .ok (.imul, 1) := dk_104 (dk_at dksX9_play_5 12 rfl rfl)
theorem dX9_play_132 : decode cX9_play 132 = .ok (.iload 7, 2) := dk_21 7 (dk_at dksX9_play_5 13 rfl rfl)
theorem dX9_play_134 : decode cX9_play 134 = .ok (.iadd, 1) := dk_96 (dk_at dksX9_play_5 15 rfl rfl)
theorem dX9_play_135 : decode cX9_play 135 = .ok (.imul, 1) := dk_104 (dk_at dksX9_play_5 16 rfl rfl)
theorem dX9_play_136 : decode cX9_play 136 = .ok (.iadd, 1) := dk_96 (dk_at dksX9_play_5 17 rfl rfl)
theorem dX9_play_137 : decode cX9_play 137 = .ok (.iaload, 1) := dk_46 (dk_at dksX9_play_5 18 rfl rfl)
theorem dX9_play_138 : decode cX9_play 138 = .ok (.istore 10, 2) := dk_54 10 (dk_at dksX9_play_5 19 rfl rfl)
theorem dX9_play_140 : decode cX9_play 140 = .ok (.iload 8, 2) := dk_21 8 (dk_at dksX9_play_5 21 rfl rfl)
theorem dX9_play_142 : decode cX9_play 142 = .ok (.iload 10, 2) := dk_21 10 (dk_at dksX9_play_6 0 rfl rfl)
theorem dX9_play_144 : decode cX9_play 144 = .ok (.if_icmp .lt 34, 3) := dk_161 0 34 (dk_at dksX9_play_6 2 rfl rfl)
theorem dX9_play_147 : decode cX9_play 147 = .ok (.iinc 9 1, 3) := dk_132 9 1 (dk_at dksX9_play_6 5 rfl rfl)
theorem dX9_play_150 : decode cX9_play 150 = .ok (.iload 10, 2) := dk_21 10 (dk_at dksX9_play_6 8 rfl rfl)
theorem dX9_play_152 : decode cX9_play 152 = .ok (.aload_n 0, 1) := dk_42 (dk_at dksX9_play_6 10 rfl rfl)
theorem dX9_play_153 : decode cX9_play 153 = .ok (.getfield 7, 3) := dk_180 0 7 (dk_at dksX9_play_6 11 rfl rfl)
theorem dX9_play_156 : decode cX9_play 156 = .ok (.iconst 0, 1) := dk_3 (dk_at dksX9_play_6 14 rfl rfl)
theorem dX9_play_157 : decode cX9_play 157 = .ok (.bipush 12, 2) := dk_16 12 (dk_at dksX9_play_6 15 rfl rfl)
theorem dX9_play_159 : decode cX9_play 159 = .ok (.iconst 4, 1) := dk_7 (dk_at dksX9_play_6 17 rfl rfl)
theorem dX9_play_160 : decode cX9_play 160 = .ok (.iload 6, 2) := dk_21 6 (dk_at dksX9_play_6 18 rfl rfl)
theorem dX9_play_162 : decode cX9_play 162 = .ok (.imul, 1) := dk_104 (dk_at dksX9_play_6 20 rfl rfl)
theorem dX9_play_163 : decode cX9_play 163 = .ok (.iload 7, 2) := dk_21 7 (dk_at dksX9_play_6 21 rfl rfl)
theorem dX9_play_165 : decode cX9_play 165 = .ok (.iadd, 1) := dk_96 (dk_at dksX9_play_6 23 rfl rfl)
theorem dX9_play_166 : decode cX9_play 166 = .ok (.imul, 1) := dk_104 (dk_at dksX9_play_7 0 rfl rfl)
theorem dX9_play_167 : decode cX9_play 167 = .ok (.iadd, 1) := dk_96 (dk_at dksX9_play_7 1 rfl rfl)
theorem dX9_play_168 : decode cX9_play 168 = .ok (.iload 9, 2) := dk_21 9 (dk_at dksX9_play_7 2 rfl rfl)
theorem dX9_play_170 : decode cX9_play 170 = .ok (.iadd, 1) := dk_96 (dk_at dksX9_play_7 4 rfl rfl)
theorem dX9_play_171 : decode cX9_play 171 = .ok (.iaload, 1) := dk_46 (dk_at dksX9_play_7 5 rfl rfl)
theorem dX9_play_172 : decode cX9_play 172 = .ok (.iadd, 1) := dk_96 (dk_at dksX9_play_7 6 rfl rfl)
theorem dX9_play_173 : decode cX9_play 173 = .ok (.istore 10, 2) := dk_54 10 (dk_at dksX9_play_7 7 rfl rfl)
theorem dX9_play_175 : decode cX9_play 175 = .ok (.goto (-35), 3) := dk_167 255 221 (dk_at dksX9_play_7 9 rfl rfl)
theorem dX9_play_178 : decode cX9_play 178 = .ok (.aload_n 0, 1) := dk_42 (dk_at dksX9_play_7 12 rfl rfl)
theorem dX9_play_179 : decode cX9_play 179 = .ok (.iload 9, 2) := dk_21 9 (dk_at dksX9_play_7 13 rfl rfl)
theorem dX9_play_181 : decode cX9_play 181 = .ok (.invokevirtual 230, 3) := dk_182 0 230 (dk_at dksX9_play_7 15 rfl rfl)
theorem dX9_play_184 : decode cX9_play 184 = .ok (.iinc 5 1, 3) := dk_132 5 1 (dk_at dksX9_play_7 18 rfl rfl)
theorem dX9_play_187 : decode cX9_play 187 = .ok (.goto (-134), 3) := dk_167 255 122 (dk_at dksX9_play_7 21 rfl rfl)
theorem dX9_play_190 : decode cX9_play 190 = .ok (.iload_n 3, 1) := dk_29 (dk_at dksX9_play_8 0 rfl rfl)
theorem dX9_play_191 : decode cX9_play 191 = .ok (.bipush 10, 2) := dk_16 10 (dk_at dksX9_play_8 1 rfl rfl)
theorem dX9_play_193 : decode cX9_play 193 = .ok (.if_icmp .ne 8, 3) := dk_160 0 8 (dk_at dksX9_play_8 3 rfl rfl)
theorem dX9_play_196 : decode cX9_play 196 = .ok (.iload 5, 2) := dk_21 5 (dk_at dksX9_play_8 6 rfl rfl)
theorem dX9_play_198 : decode cX9_play 198 = .ok (.goto 8, 3) := dk_167 0 8 (dk_at dksX9_play_8 8 rfl rfl)
theorem dX9_play_201 : decode cX9_play 201 = .ok (.aload_n 0, 1) := dk_42 (dk_at dksX9_play_8 11 rfl rfl)
theorem dX9_play_202 : decode cX9_play 202 = .ok (.iload_n 3, 1) := dk_29 (dk_at dksX9_play_8 12 rfl rfl)
theorem dX9_play_203 : decode cX9_play 203 = .ok (.invokevirtual 209, 3) := dk_182 0 209 (dk_at dksX9_play_8 13 rfl rfl)
theorem dX9_play_206 : decode cX9_play 206 = .ok (.ireturn, 1) := dk_172 (dk_at dksX9_play_8 16 rfl rfl)
abbrev cX9_image : ByteArray := prog_21_method_71_code
def yX9_image : MethodName := ⟨RX9, "image", "()V"⟩
def dkwX9_image_1 : List UInt8 := [46, 79, 132, 1, 1, 167, 255, 234, 42, 4, 181, 1, 53, 177]
abbrev dktX9_image_1 : List UInt8 := dkwX9_image_1 ++ []
def dkwX9_image_0 : List UInt8 := [42, 3, 181, 0, 67, 3, 60, 27, 17, 10, 56, 162, 0, 21, 42, 180, 0, 13, 27, 42, 180, 0, 7, 27]
abbrev dktX9_image_0 : List UInt8 := dkwX9_image_0 ++ dktX9_image_1
theorem dksX9_image_0 : cX9_image.data.toList.drop 0 = dktX9_image_0 := by decide +kernel
theorem dksX9_image_1 : cX9_image.data.toList.drop 24 = dktX9_image_1 := dk_seg dksX9_image_0 24 rfl rfl
theorem dX9_image_0 : decode cX9_image 0 = .ok (.aload_n 0, 1) := dk_42 (dk_at dksX9_image_0 0 rfl rfl)
theorem dX9_image_1 : decode cX9_image 1 = .ok (.iconst 0, 1) := dk_3 (dk_at dksX9_image_0 1 rfl rfl)
theorem dX9_image_2 : decode cX9_image 2 = .ok (.putfield 67, 3) := dk_181 0 67 (dk_at dksX9_image_0 2 rfl rfl)
theorem dX9_image_5 : decode cX9_image 5 = .ok (.iconst 0, 1) := dk_3 (dk_at dksX9_image_0 5 rfl rfl)
theorem dX9_image_6 : decode cX9_image 6 = .ok (.istore_n 1, 1) := dk_60 (dk_at dksX9_image_0 6 rfl rfl)
theorem dX9_image_7 : decode cX9_image 7 = .ok (.iload_n 1, 1) := dk_27 (dk_at dksX9_image_0 7 rfl rfl)
theorem dX9_image_8 : decode cX9_image 8 = .ok (.sipush 2616, 3) := dk_17 10 56 (dk_at dksX9_image_0 8 rfl rfl)
theorem dX9_image_11 : decode cX9_image 11 = .ok (.if_icmp .ge 21, 3) := dk_162 0 21 (dk_at dksX9_image_0 11 rfl rfl)
theorem dX9_image_14 : decode cX9_image 14 = .ok (.aload_n 0, 1) := dk_42 (dk_at dksX9_image_0 14 rfl rfl)
theorem dX9_image_15 : decode cX9_image 15 = .ok (.getfield 13, 3) := dk_180 0 13 (dk_at dksX9_image_0 15 rfl rfl)
theorem dX9_image_18 : decode cX9_image 18 = .ok (.iload_n 1, 1) := dk_27 (dk_at dksX9_image_0 18 rfl rfl)
theorem dX9_image_19 : decode cX9_image 19 = .ok (.aload_n 0, 1) := dk_42 (dk_at dksX9_image_0 19 rfl rfl)
theorem dX9_image_20 : decode cX9_image 20 = .ok (.getfield 7, 3) := dk_180 0 7 (dk_at dksX9_image_0 20 rfl rfl)
theorem dX9_image_23 : decode cX9_image 23 = .ok (.iload_n 1, 1) := dk_27 (dk_at dksX9_image_0 23 rfl rfl)
theorem dX9_image_24 : decode cX9_image 24 = .ok (.iaload, 1) := dk_46 (dk_at dksX9_image_1 0 rfl rfl)
theorem dX9_image_25 : decode cX9_image 25 = .ok (.iastore, 1) := dk_79 (dk_at dksX9_image_1 1 rfl rfl)
theorem dX9_image_26 : decode cX9_image 26 = .ok (.iinc 1 1, 3) := dk_132 1 1 (dk_at dksX9_image_1 2 rfl rfl)
theorem dX9_image_29 : decode cX9_image 29 = .ok (.goto (-22), 3) := dk_167 255 234 (dk_at dksX9_image_1 5 rfl rfl)
theorem dX9_image_32 : decode cX9_image 32 = .ok (.aload_n 0, 1) := dk_42 (dk_at dksX9_image_1 8 rfl rfl)
theorem dX9_image_33 : decode cX9_image 33 = .ok (.iconst 1, 1) := dk_4 (dk_at dksX9_image_1 9 rfl rfl)
theorem dX9_image_34 : decode cX9_image 34 = .ok (.putfield 309, 3) := dk_181 1 53 (dk_at dksX9_image_1 10 rfl rfl)
theorem dX9_image_37 : decode cX9_image 37 = .ok (.return_, 1) := dk_177 (dk_at dksX9_image_1 13 rfl rfl)
abbrev cX9_back : ByteArray := prog_21_method_72_code
def yX9_back : MethodName := ⟨RX9, "back", "()Z"⟩
def dkwX9_back_1 : List UInt8 := [180, 0, 7, 27, 42, 180, 0, 13, 27, 46, 79, 132, 1, 1, 167, 255, 234, 4, 172]
abbrev dktX9_back_1 : List UInt8 := dkwX9_back_1 ++ []
def dkwX9_back_0 : List UInt8 := [42, 3, 181, 0, 67, 42, 180, 1, 53, 154, 0, 5, 3, 172, 3, 60, 27, 17, 10, 56, 162, 0, 21, 42]
abbrev dktX9_back_0 : List UInt8 := dkwX9_back_0 ++ dktX9_back_1
theorem dksX9_back_0 : cX9_back.data.toList.drop 0 = dktX9_back_0 := by decide +kernel
theorem dksX9_back_1 : cX9_back.data.toList.drop 24 = dktX9_back_1 := dk_seg dksX9_back_0 24 rfl rfl
theorem dX9_back_0 : decode cX9_back 0 = .ok (.aload_n 0, 1) := dk_42 (dk_at dksX9_back_0 0 rfl rfl)
theorem dX9_back_1 : decode cX9_back 1 = .ok (.iconst 0, 1) := dk_3 (dk_at dksX9_back_0 1 rfl rfl)
theorem dX9_back_2 : decode cX9_back 2 = .ok (.putfield 67, 3) := dk_181 0 67 (dk_at dksX9_back_0 2 rfl rfl)
theorem dX9_back_5 : decode cX9_back 5 = .ok (.aload_n 0, 1) := dk_42 (dk_at dksX9_back_0 5 rfl rfl)
theorem dX9_back_6 : decode cX9_back 6 = .ok (.getfield 309, 3) := dk_180 1 53 (dk_at dksX9_back_0 6 rfl rfl)
theorem dX9_back_9 : decode cX9_back 9 = .ok (.ifCond .ne 5, 3) := dk_154 0 5 (dk_at dksX9_back_0 9 rfl rfl)
theorem dX9_back_12 : decode cX9_back 12 = .ok (.iconst 0, 1) := dk_3 (dk_at dksX9_back_0 12 rfl rfl)
theorem dX9_back_13 : decode cX9_back 13 = .ok (.ireturn, 1) := dk_172 (dk_at dksX9_back_0 13 rfl rfl)
theorem dX9_back_14 : decode cX9_back 14 = .ok (.iconst 0, 1) := dk_3 (dk_at dksX9_back_0 14 rfl rfl)
theorem dX9_back_15 : decode cX9_back 15 = .ok (.istore_n 1, 1) := dk_60 (dk_at dksX9_back_0 15 rfl rfl)
theorem dX9_back_16 : decode cX9_back 16 = .ok (.iload_n 1, 1) := dk_27 (dk_at dksX9_back_0 16 rfl rfl)
theorem dX9_back_17 : decode cX9_back 17 = .ok (.sipush 2616, 3) := dk_17 10 56 (dk_at dksX9_back_0 17 rfl rfl)
theorem dX9_back_20 : decode cX9_back 20 = .ok (.if_icmp .ge 21, 3) := dk_162 0 21 (dk_at dksX9_back_0 20 rfl rfl)
theorem dX9_back_23 : decode cX9_back 23 = .ok (.aload_n 0, 1) := dk_42 (dk_at dksX9_back_0 23 rfl rfl)
theorem dX9_back_24 : decode cX9_back 24 = .ok (.getfield 7, 3) := dk_180 0 7 (dk_at dksX9_back_1 0 rfl rfl)
theorem dX9_back_27 : decode cX9_back 27 = .ok (.iload_n 1, 1) := dk_27 (dk_at dksX9_back_1 3 rfl rfl)
theorem dX9_back_28 : decode cX9_back 28 = .ok (.aload_n 0, 1) := dk_42 (dk_at dksX9_back_1 4 rfl rfl)
theorem dX9_back_29 : decode cX9_back 29 = .ok (.getfield 13, 3) := dk_180 0 13 (dk_at dksX9_back_1 5 rfl rfl)
theorem dX9_back_32 : decode cX9_back 32 = .ok (.iload_n 1, 1) := dk_27 (dk_at dksX9_back_1 8 rfl rfl)
theorem dX9_back_33 : decode cX9_back 33 = .ok (.iaload, 1) := dk_46 (dk_at dksX9_back_1 9 rfl rfl)
theorem dX9_back_34 : decode cX9_back 34 = .ok (.iastore, 1) := dk_79 (dk_at dksX9_back_1 10 rfl rfl)
theorem dX9_back_35 : decode cX9_back 35 = .ok (.iinc 1 1, 3) := dk_132 1 1 (dk_at dksX9_back_1 11 rfl rfl)
theorem dX9_back_38 : decode cX9_back 38 = .ok (.goto (-22), 3) := dk_167 255 234 (dk_at dksX9_back_1 14 rfl rfl)
theorem dX9_back_41 : decode cX9_back 41 = .ok (.iconst 1, 1) := dk_4 (dk_at dksX9_back_1 17 rfl rfl)
theorem dX9_back_42 : decode cX9_back 42 = .ok (.ireturn, 1) := dk_172 (dk_at dksX9_back_1 18 rfl rfl)
abbrev cX9_count : ByteArray := prog_21_method_73_code
def yX9_count : MethodName := ⟨RX9, "count", "(I)I"⟩
def dkwX9_count_5 : List UInt8 := [2, 172]
abbrev dktX9_count_5 : List UInt8 := dkwX9_count_5 ++ []
def dkwX9_count_4 : List UInt8 := [17, 0, 197, 46, 167, 0, 21, 27, 16, 6, 160, 0, 14, 42, 180, 0, 7, 17, 0, 198, 46, 167, 0, 4]
abbrev dktX9_count_4 : List UInt8 := dkwX9_count_4 ++ dktX9_count_5
def dkwX9_count_3 : List UInt8 := [7, 160, 0, 14, 42, 180, 0, 7, 17, 0, 196, 46, 167, 0, 37, 27, 8, 160, 0, 14, 42, 180, 0, 7]
abbrev dktX9_count_3 : List UInt8 := dkwX9_count_3 ++ dktX9_count_4
def dkwX9_count_2 : List UInt8 := [17, 0, 194, 46, 167, 0, 69, 27, 6, 160, 0, 14, 42, 180, 0, 7, 17, 0, 195, 46, 167, 0, 53, 27]
abbrev dktX9_count_2 : List UInt8 := dkwX9_count_2 ++ dktX9_count_3
def dkwX9_count_1 : List UInt8 := [160, 0, 14, 42, 180, 0, 7, 17, 0, 193, 46, 167, 0, 85, 27, 5, 160, 0, 14, 42, 180, 0, 7]
abbrev dktX9_count_1 : List UInt8 := dkwX9_count_1 ++ dktX9_count_2
def dkwX9_count_0 : List UInt8 := [42, 3, 181, 0, 67, 27, 154, 0, 14, 42, 180, 0, 7, 17, 0, 192, 46, 167, 0, 101, 27, 4]
abbrev dktX9_count_0 : List UInt8 := dkwX9_count_0 ++ dktX9_count_1
theorem dksX9_count_0 : cX9_count.data.toList.drop 0 = dktX9_count_0 := by decide +kernel
theorem dksX9_count_1 : cX9_count.data.toList.drop 22 = dktX9_count_1 := dk_seg dksX9_count_0 22 rfl rfl
theorem dksX9_count_2 : cX9_count.data.toList.drop 45 = dktX9_count_2 := dk_seg dksX9_count_1 23 rfl rfl
theorem dksX9_count_3 : cX9_count.data.toList.drop 69 = dktX9_count_3 := dk_seg dksX9_count_2 24 rfl rfl
theorem dksX9_count_4 : cX9_count.data.toList.drop 93 = dktX9_count_4 := dk_seg dksX9_count_3 24 rfl rfl
theorem dksX9_count_5 : cX9_count.data.toList.drop 117 = dktX9_count_5 := dk_seg dksX9_count_4 24 rfl rfl
theorem dX9_count_0 : decode cX9_count 0 = .ok (.aload_n 0, 1) := dk_42 (dk_at dksX9_count_0 0 rfl rfl)
theorem dX9_count_1 : decode cX9_count 1 = .ok (.iconst 0, 1) := dk_3 (dk_at dksX9_count_0 1 rfl rfl)
theorem dX9_count_2 : decode cX9_count 2 = .ok (.putfield 67, 3) := dk_181 0 67 (dk_at dksX9_count_0 2 rfl rfl)
theorem dX9_count_5 : decode cX9_count 5 = .ok (.iload_n 1, 1) := dk_27 (dk_at dksX9_count_0 5 rfl rfl)
theorem dX9_count_6 : decode cX9_count 6 = .ok (.ifCond .ne 14, 3) := dk_154 0 14 (dk_at dksX9_count_0 6 rfl rfl)
theorem dX9_count_9 : decode cX9_count 9 = .ok (.aload_n 0, 1) := dk_42 (dk_at dksX9_count_0 9 rfl rfl)
theorem dX9_count_10 : decode cX9_count 10 = .ok (.getfield 7, 3) := dk_180 0 7 (dk_at dksX9_count_0 10 rfl rfl)
theorem dX9_count_13 : decode cX9_count 13 = .ok (.sipush 192, 3) := dk_17 0 192 (dk_at dksX9_count_0 13 rfl rfl)
theorem dX9_count_16 : decode cX9_count 16 = .ok (.iaload, 1) := dk_46 (dk_at dksX9_count_0 16 rfl rfl)
theorem dX9_count_17 : decode cX9_count 17 = .ok (.goto 101, 3) := dk_167 0 101 (dk_at dksX9_count_0 17 rfl rfl)
theorem dX9_count_20 : decode cX9_count 20 = .ok (.iload_n 1, 1) := dk_27 (dk_at dksX9_count_0 20 rfl rfl)
theorem dX9_count_21 : decode cX9_count 21 = .ok (.iconst 1, 1) := dk_4 (dk_at dksX9_count_0 21 rfl rfl)
theorem dX9_count_22 : decode cX9_count 22 = .ok (.if_icmp .ne 14, 3) := dk_160 0 14 (dk_at dksX9_count_1 0 rfl rfl)
theorem dX9_count_25 : decode cX9_count 25 = .ok (.aload_n 0, 1) := dk_42 (dk_at dksX9_count_1 3 rfl rfl)
theorem dX9_count_26 : decode cX9_count 26 = .ok (.getfield 7, 3) := dk_180 0 7 (dk_at dksX9_count_1 4 rfl rfl)
theorem dX9_count_29 : decode cX9_count 29 = .ok (.sipush 193, 3) := dk_17 0 193 (dk_at dksX9_count_1 7 rfl rfl)
theorem dX9_count_32 : decode cX9_count 32 = .ok (.iaload, 1) := dk_46 (dk_at dksX9_count_1 10 rfl rfl)
theorem dX9_count_33 : decode cX9_count 33 = .ok (.goto 85, 3) := dk_167 0 85 (dk_at dksX9_count_1 11 rfl rfl)
theorem dX9_count_36 : decode cX9_count 36 = .ok (.iload_n 1, 1) := dk_27 (dk_at dksX9_count_1 14 rfl rfl)
theorem dX9_count_37 : decode cX9_count 37 = .ok (.iconst 2, 1) := dk_5 (dk_at dksX9_count_1 15 rfl rfl)
theorem dX9_count_38 : decode cX9_count 38 = .ok (.if_icmp .ne 14, 3) := dk_160 0 14 (dk_at dksX9_count_1 16 rfl rfl)
theorem dX9_count_41 : decode cX9_count 41 = .ok (.aload_n 0, 1) := dk_42 (dk_at dksX9_count_1 19 rfl rfl)
theorem dX9_count_42 : decode cX9_count 42 = .ok (.getfield 7, 3) := dk_180 0 7 (dk_at dksX9_count_1 20 rfl rfl)
theorem dX9_count_45 : decode cX9_count 45 = .ok (.sipush 194, 3) := dk_17 0 194 (dk_at dksX9_count_2 0 rfl rfl)
theorem dX9_count_48 : decode cX9_count 48 = .ok (.iaload, 1) := dk_46 (dk_at dksX9_count_2 3 rfl rfl)
theorem dX9_count_49 : decode cX9_count 49 = .ok (.goto 69, 3) := dk_167 0 69 (dk_at dksX9_count_2 4 rfl rfl)
theorem dX9_count_52 : decode cX9_count 52 = .ok (.iload_n 1, 1) := dk_27 (dk_at dksX9_count_2 7 rfl rfl)
theorem dX9_count_53 : decode cX9_count 53 = .ok (.iconst 3, 1) := dk_6 (dk_at dksX9_count_2 8 rfl rfl)
theorem dX9_count_54 : decode cX9_count 54 = .ok (.if_icmp .ne 14, 3) := dk_160 0 14 (dk_at dksX9_count_2 9 rfl rfl)
theorem dX9_count_57 : decode cX9_count 57 = .ok (.aload_n 0, 1) := dk_42 (dk_at dksX9_count_2 12 rfl rfl)
theorem dX9_count_58 : decode cX9_count 58 = .ok (.getfield 7, 3) := dk_180 0 7 (dk_at dksX9_count_2 13 rfl rfl)
theorem dX9_count_61 : decode cX9_count 61 = .ok (.sipush 195, 3) := dk_17 0 195 (dk_at dksX9_count_2 16 rfl rfl)
theorem dX9_count_64 : decode cX9_count 64 = .ok (.iaload, 1) := dk_46 (dk_at dksX9_count_2 19 rfl rfl)
theorem dX9_count_65 : decode cX9_count 65 = .ok (.goto 53, 3) := dk_167 0 53 (dk_at dksX9_count_2 20 rfl rfl)
theorem dX9_count_68 : decode cX9_count 68 = .ok (.iload_n 1, 1) := dk_27 (dk_at dksX9_count_2 23 rfl rfl)
theorem dX9_count_69 : decode cX9_count 69 = .ok (.iconst 4, 1) := dk_7 (dk_at dksX9_count_3 0 rfl rfl)
theorem dX9_count_70 : decode cX9_count 70 = .ok (.if_icmp .ne 14, 3) := dk_160 0 14 (dk_at dksX9_count_3 1 rfl rfl)
theorem dX9_count_73 : decode cX9_count 73 = .ok (.aload_n 0, 1) := dk_42 (dk_at dksX9_count_3 4 rfl rfl)
theorem dX9_count_74 : decode cX9_count 74 = .ok (.getfield 7, 3) := dk_180 0 7 (dk_at dksX9_count_3 5 rfl rfl)
theorem dX9_count_77 : decode cX9_count 77 = .ok (.sipush 196, 3) := dk_17 0 196 (dk_at dksX9_count_3 8 rfl rfl)
theorem dX9_count_80 : decode cX9_count 80 = .ok (.iaload, 1) := dk_46 (dk_at dksX9_count_3 11 rfl rfl)
theorem dX9_count_81 : decode cX9_count 81 = .ok (.goto 37, 3) := dk_167 0 37 (dk_at dksX9_count_3 12 rfl rfl)
theorem dX9_count_84 : decode cX9_count 84 = .ok (.iload_n 1, 1) := dk_27 (dk_at dksX9_count_3 15 rfl rfl)
theorem dX9_count_85 : decode cX9_count 85 = .ok (.iconst 5, 1) := dk_8 (dk_at dksX9_count_3 16 rfl rfl)
theorem dX9_count_86 : decode cX9_count 86 = .ok (.if_icmp .ne 14, 3) := dk_160 0 14 (dk_at dksX9_count_3 17 rfl rfl)
theorem dX9_count_89 : decode cX9_count 89 = .ok (.aload_n 0, 1) := dk_42 (dk_at dksX9_count_3 20 rfl rfl)
theorem dX9_count_90 : decode cX9_count 90 = .ok (.getfield 7, 3) := dk_180 0 7 (dk_at dksX9_count_3 21 rfl rfl)
theorem dX9_count_93 : decode cX9_count 93 = .ok (.sipush 197, 3) := dk_17 0 197 (dk_at dksX9_count_4 0 rfl rfl)
theorem dX9_count_96 : decode cX9_count 96 = .ok (.iaload, 1) := dk_46 (dk_at dksX9_count_4 3 rfl rfl)
theorem dX9_count_97 : decode cX9_count 97 = .ok (.goto 21, 3) := dk_167 0 21 (dk_at dksX9_count_4 4 rfl rfl)
theorem dX9_count_100 : decode cX9_count 100 = .ok (.iload_n 1, 1) := dk_27 (dk_at dksX9_count_4 7 rfl rfl)
theorem dX9_count_101 : decode cX9_count 101 = .ok (.bipush 6, 2) := dk_16 6 (dk_at dksX9_count_4 8 rfl rfl)
theorem dX9_count_103 : decode cX9_count 103 = .ok (.if_icmp .ne 14, 3) := dk_160 0 14 (dk_at dksX9_count_4 10 rfl rfl)
theorem dX9_count_106 : decode cX9_count 106 = .ok (.aload_n 0, 1) := dk_42 (dk_at dksX9_count_4 13 rfl rfl)
theorem dX9_count_107 : decode cX9_count 107 = .ok (.getfield 7, 3) := dk_180 0 7 (dk_at dksX9_count_4 14 rfl rfl)
theorem dX9_count_110 : decode cX9_count 110 = .ok (.sipush 198, 3) := dk_17 0 198 (dk_at dksX9_count_4 17 rfl rfl)
theorem dX9_count_113 : decode cX9_count 113 = .ok (.iaload, 1) := dk_46 (dk_at dksX9_count_4 20 rfl rfl)
theorem dX9_count_114 : decode cX9_count 114 = .ok (.goto 4, 3) := dk_167 0 4 (dk_at dksX9_count_4 21 rfl rfl)
theorem dX9_count_117 : decode cX9_count 117 = .ok (.iconst (-1), 1) := dk_2 (dk_at dksX9_count_5 0 rfl rfl)
theorem dX9_count_118 : decode cX9_count 118 = .ok (.ireturn, 1) := dk_172 (dk_at dksX9_count_5 1 rfl rfl)
