/-! MoleBoardModel -/
set_option maxRecDepth 100000
set_option maxRecDepth 100000 in
set_option maxRecDepth 100000 in
abbrev cX10_init : ByteArray := prog_16_method_1_code
def yX10_init : MethodName := ⟨RX10, "<init>", "()V"⟩
def dkwX10_init_8 : List UInt8 := [181, 0, 74, 42, 17, 0, 240, 188, 11, 181, 0, 77, 42, 16, 60, 188, 11, 181, 0, 80, 177]
abbrev dktX10_init_8 : List UInt8 := dkwX10_init_8 ++ []
def dkwX10_init_7 : List UInt8 := [89, 3, 2, 79, 89, 4, 2, 79, 89, 5, 2, 79, 89, 6, 2, 79, 181, 0, 71, 42, 7, 188, 10]
abbrev dktX10_init_7 : List UInt8 := dkwX10_init_7 ++ dktX10_init_8
def dkwX10_init_6 : List UInt8 := [181, 0, 61, 42, 17, 0, 169, 188, 11, 181, 0, 65, 42, 16, 60, 188, 10, 181, 0, 68, 42, 7, 188, 10]
abbrev dktX10_init_6 : List UInt8 := dkwX10_init_6 ++ dktX10_init_7
def dkwX10_init_5 : List UInt8 := [17, 5, 172, 188, 10, 181, 0, 55, 42, 17, 5, 172, 188, 10, 181, 0, 58, 42, 17, 0, 169, 188, 11]
abbrev dktX10_init_5 : List UInt8 := dkwX10_init_5 ++ dktX10_init_6
def dkwX10_init_4 : List UInt8 := [188, 10, 181, 0, 46, 42, 16, 120, 188, 10, 181, 0, 49, 42, 16, 120, 188, 10, 181, 0, 52, 42]
abbrev dktX10_init_4 : List UInt8 := dkwX10_init_4 ++ dktX10_init_5
def dkwX10_init_3 : List UInt8 := [188, 10, 181, 0, 37, 42, 16, 60, 188, 10, 181, 0, 40, 42, 16, 60, 188, 10, 181, 0, 43, 42, 16, 60]
abbrev dktX10_init_3 : List UInt8 := dkwX10_init_3 ++ dktX10_init_4
def dkwX10_init_2 : List UInt8 := [181, 0, 27, 42, 16, 116, 188, 10, 181, 0, 31, 42, 17, 0, 180, 188, 10, 181, 0, 34, 42, 16, 60]
abbrev dktX10_init_2 : List UInt8 := dkwX10_init_2 ++ dktX10_init_3
def dkwX10_init_1 : List UInt8 := [188, 4, 181, 0, 16, 42, 17, 4, 176, 188, 8, 181, 0, 20, 42, 8, 188, 10, 181, 0, 24, 42, 2]
abbrev dktX10_init_1 : List UInt8 := dkwX10_init_1 ++ dktX10_init_2
def dkwX10_init_0 : List UInt8 := [42, 183, 0, 3, 42, 16, 116, 188, 10, 181, 0, 9, 42, 17, 1, 92, 188, 10, 181, 0, 13, 42, 6]
abbrev dktX10_init_0 : List UInt8 := dkwX10_init_0 ++ dktX10_init_1
theorem dksX10_init_0 : cX10_init.data.toList.drop 0 = dktX10_init_0 := by decide +kernel
theorem dksX10_init_1 : cX10_init.data.toList.drop 23 = dktX10_init_1 := dk_seg dksX10_init_0 23 rfl rfl
theorem dksX10_init_2 : cX10_init.data.toList.drop 46 = dktX10_init_2 := dk_seg dksX10_init_1 23 rfl rfl
theorem dksX10_init_3 : cX10_init.data.toList.drop 69 = dktX10_init_3 := dk_seg dksX10_init_2 23 rfl rfl
theorem dksX10_init_4 : cX10_init.data.toList.drop 93 = dktX10_init_4 := dk_seg dksX10_init_3 24 rfl rfl
theorem dksX10_init_5 : cX10_init.data.toList.drop 115 = dktX10_init_5 := dk_seg dksX10_init_4 22 rfl rfl
theorem dksX10_init_6 : cX10_init.data.toList.drop 138 = dktX10_init_6 := dk_seg dksX10_init_5 23 rfl rfl
theorem dksX10_init_7 : cX10_init.data.toList.drop 162 = dktX10_init_7 := dk_seg dksX10_init_6 24 rfl rfl
theorem dksX10_init_8 : cX10_init.data.toList.drop 185 = dktX10_init_8 := dk_seg dksX10_init_7 23 rfl rfl
theorem dX10_init_0 : decode cX10_init 0 = .ok (.aload_n 0, 1) := dk_42 (dk_at dksX10_init_0 0 rfl rfl)
theorem dX10_init_1 : decode cX10_init 1 = .ok (.invokespecial 3, 3) := dk_183 0 3 (dk_at dksX10_init_0 1 rfl rfl)
theorem dX10_init_4 : decode cX10_init 4 = .ok (.aload_n 0, 1) := dk_42 (dk_at dksX10_init_0 4 rfl rfl)
theorem dX10_init_5 : decode cX10_init 5 = .ok (.bipush 116, 2) := dk_16 116 (dk_at dksX10_init_0 5 rfl rfl)
theorem dX10_init_7 : decode cX10_init 7 = .ok (.newarray .int, 2) := dk_188_10 (dk_at dksX10_init_0 7 rfl rfl)
theorem dX10_init_9 : decode cX10_init 9 = .ok (.putfield 9, 3) := dk_181 0 9 (dk_at dksX10_init_0 9 rfl rfl)
theorem dX10_init_12 : decode cX10_init 12 = .ok (.aload_n 0, 1) := dk_42 (dk_at dksX10_init_0 12 rfl rfl)
theorem dX10_init_13 : decode cX10_init 13 = .ok (.sipush 348, 3) := dk_17 1 92 (dk_at dksX10_init_0 13 rfl rfl)
theorem dX10_init_16 : decode cX10_init 16 = .ok (.newarray .int, 2) := dk_188_10 (dk_at dksX10_init_0 16 rfl rfl)
theorem dX10_init_18 : decode cX10_init 18 = .ok (.putfield 13, 3) := dk_181 0 13 (dk_at dksX10_init_0 18 rfl rfl)
theorem dX10_init_21 : decode cX10_init 21 = .ok (.aload_n 0, 1) := dk_42 (dk_at dksX10_init_0 21 rfl rfl)
theorem dX10_init_22 : decode cX10_init 22 = .ok (.iconst 3, 1) := dk_6 (dk_at dksX10_init_0 22 rfl rfl)
theorem dX10_init_23 : decode cX10_init 23 = .ok (.newarray .boolean, 2) := dk_188_4 (dk_at dksX10_init_1 0 rfl rfl)
theorem dX10_init_25 : decode cX10_init 25 = .ok (.putfield 16, 3) := dk_181 0 16 (dk_at dksX10_init_1 2 rfl rfl)
theorem dX10_init_28 : decode cX10_init 28 = .ok (.aload_n 0, 1) := dk_42 (dk_at dksX10_init_1 5 rfl rfl)
theorem dX10_init_29 : decode cX10_init 29 = .ok (.sipush 1200, 3) := dk_17 4 176 (dk_at dksX10_init_1 6 rfl rfl)
theorem dX10_init_32 : decode cX10_init 32 = .ok (.newarray .byte, 2) := dk_188_8 (dk_at dksX10_init_1 9 rfl rfl)
theorem dX10_init_34 : decode cX10_init 34 = .ok (.putfield 20, 3) := dk_181 0 20 (dk_at dksX10_init_1 11 rfl rfl)
theorem dX10_init_37 : decode cX10_init 37 = .ok (.aload_n 0, 1) := dk_42 (dk_at dksX10_init_1 14 rfl rfl)
theorem dX10_init_38 : decode cX10_init 38 = .ok (.iconst 5, 1) := dk_8 (dk_at dksX10_init_1 15 rfl rfl)
theorem dX10_init_39 : decode cX10_init 39 = .ok (.newarray .int, 2) := dk_188_10 (dk_at dksX10_init_1 16 rfl rfl)
theorem dX10_init_41 : decode cX10_init 41 = .ok (.putfield 24, 3) := dk_181 0 24 (dk_at dksX10_init_1 18 rfl rfl)
theorem dX10_init_44 : decode cX10_init 44 = .ok (.aload_n 0, 1) := dk_42 (dk_at dksX10_init_1 21 rfl rfl)
theorem dX10_init_45 : decode cX10_init 45 = .ok (.iconst (-1), 1) := dk_2 (dk_at dksX10_init_1 22 rfl rfl)
theorem dX10_init_46 : decode cX10_init 46 = .ok (.putfield 27, 3) := dk_181 0 27 (dk_at dksX10_init_2 0 rfl rfl)
theorem dX10_init_49 : decode cX10_init 49 = .ok (.aload_n 0, 1) := dk_42 (dk_at dksX10_init_2 3 rfl rfl)
theorem dX10_init_50 : decode cX10_init 50 = .ok (.bipush 116, 2) := dk_16 116 (dk_at dksX10_init_2 4 rfl rfl)
theorem dX10_init_52 : decode cX10_init 52 = .ok (.newarray .int, 2) := dk_188_10 (dk_at dksX10_init_2 6 rfl rfl)
theorem dX10_init_54 : decode cX10_init 54 = .ok (.putfield 31, 3) := dk_181 0 31 (dk_at dksX10_init_2 8 rfl rfl)
theorem dX10_init_57 : decode cX10_init 57 = .ok (.aload_n 0, 1) := dk_42 (dk_at dksX10_init_2 11 rfl rfl)
theorem dX10_init_58 : decode cX10_init 58 = .ok (.sipush 180, 3) := dk_17 0 180 (dk_at dksX10_init_2 12 rfl rfl)
theorem dX10_init_61 : decode cX10_init 61 = .ok (.newarray .int, 2) := dk_188_10 (dk_at dksX10_init_2 15 rfl rfl)
theorem dX10_init_63 : decode cX10_init 63 = .ok (.putfield 34, 3) := dk_181 0 34 (dk_at dksX10_init_2 17 rfl rfl)
theorem dX10_init_66 : decode cX10_init 66 = .ok (.aload_n 0, 1) := dk_42 (dk_at dksX10_init_2 20 rfl rfl)
theorem dX10_init_67 : decode cX10_init 67 = .ok (.bipush 60, 2) := dk_16 60 (dk_at dksX10_init_2 21 rfl rfl)
theorem dX10_init_69 : decode cX10_init 69 = .ok (.newarray .int, 2) := dk_188_10 (dk_at dksX10_init_3 0 rfl rfl)
theorem dX10_init_71 : decode cX10_init 71 = .ok (.putfield 37, 3) := dk_181 0 37 (dk_at dksX10_init_3 2 rfl rfl)
theorem dX10_init_74 : decode cX10_init 74 = .ok (.aload_n 0, 1) := dk_42 (dk_at dksX10_init_3 5 rfl rfl)
theorem dX10_init_75 : decode cX10_init 75 = .ok (.bipush 60, 2) := dk_16 60 (dk_at dksX10_init_3 6 rfl rfl)
theorem dX10_init_77 : decode cX10_init 77 = .ok (.newarray .int, 2) := dk_188_10 (dk_at dksX10_init_3 8 rfl rfl)
theorem dX10_init_79 : decode cX10_init 79 = .ok (.putfield 40, 3) := dk_181 0 40 (dk_at dksX10_init_3 10 rfl rfl)
theorem dX10_init_82 : decode cX10_init 82 = .ok (.aload_n 0, 1) := dk_42 (dk_at dksX10_init_3 13 rfl rfl)
theorem dX10_init_83 : decode cX10_init 83 = .ok (.bipush 60, 2) := dk_16 60 (dk_at dksX10_init_3 14 rfl rfl)
theorem dX10_init_85 : decode cX10_init 85 = .ok (.newarray .int, 2) := dk_188_10 (dk_at dksX10_init_3 16 rfl rfl)
theorem dX10_init_87 : decode cX10_init 87 = .ok (.putfield 43, 3) := dk_181 0 43 (dk_at dksX10_init_3 18 rfl rfl)
theorem dX10_init_90 : decode cX10_init 90 = .ok (.aload_n 0, 1) := dk_42 (dk_at dksX10_init_3 21 rfl rfl)
theorem dX10_init_91 : decode cX10_init 91 = .ok (.bipush 60, 2) := dk_16 60 (dk_at dksX10_init_3 22 rfl rfl)
theorem dX10_init_93 : decode cX10_init 93 = .ok (.newarray .int, 2) := dk_188_10 (dk_at dksX10_init_4 0 rfl rfl)
theorem dX10_init_95 : decode cX10_init 95 = .ok (.putfield 46, 3) := dk_181 0 46 (dk_at dksX10_init_4 2 rfl rfl)
theorem dX10_init_98 : decode cX10_init 98 = .ok (.aload_n 0, 1) := dk_42 (dk_at dksX10_init_4 5 rfl rfl)
theorem dX10_init_99 : decode cX10_init 99 = .ok (.bipush 120, 2) := dk_16 120 (dk_at dksX10_init_4 6 rfl rfl)
theorem dX10_init_101 : decode cX10_init 101 = .ok (.newarray .int, 2) := dk_188_10 (dk_at dksX10_init_4 8 rfl rfl)
theorem dX10_init_103 : decode cX10_init 103 = .ok (.putfield 49, 3) := dk_181 0 49 (dk_at dksX10_init_4 10 rfl rfl)
theorem dX10_init_106 : decode cX10_init 106 = .ok (.aload_n 0, 1) := dk_42 (dk_at dksX10_init_4 13 rfl rfl)
theorem dX10_init_107 : decode cX10_init 107 = .ok (.bipush 120, 2) := dk_16 120 (dk_at dksX10_init_4 14 rfl rfl)
theorem dX10_init_109 : decode cX10_init 109 = .ok (.newarray .int, 2) := dk_188_10 (dk_at dksX10_init_4 16 rfl rfl)
theorem dX10_init_111 : decode cX10_init 111 = .ok (.putfield 52, 3) := dk_181 0 52 (dk_at dksX10_init_4 18 rfl rfl)
theorem dX10_init_114 : decode cX10_init 114 = .ok (.aload_n 0, 1) := dk_42 (dk_at dksX10_init_4 21 rfl rfl)
theorem dX10_init_115 : decode cX10_init 115 = .ok (.sipush 1452, 3) := dk_17 5 172 (dk_at dksX10_init_5 0 rfl rfl)
theorem dX10_init_118 : decode cX10_init 118 = .ok (.newarray .int, 2) := dk_188_10 (dk_at dksX10_init_5 3 rfl rfl)
theorem dX10_init_120 : decode cX10_init 120 = .ok (.putfield 55, 3) := dk_181 0 55 (dk_at dksX10_init_5 5 rfl rfl)
theorem dX10_init_123 : decode cX10_init 123 = .ok (.aload_n 0, 1) := dk_42 (dk_at dksX10_init_5 8 rfl rfl)
theorem dX10_init_124 : decode cX10_init 124 = .ok (.sipush 1452, 3) := dk_17 5 172 (dk_at dksX10_init_5 9 rfl rfl)
theorem dX10_init_127 : decode cX10_init 127 = .ok (.newarray .int, 2) := dk_188_10 (dk_at dksX10_init_5 12 rfl rfl)
theorem dX10_init_129 : decode cX10_init 129 = .ok (.putfield 58, 3) := dk_181 0 58 (dk_at dksX10_init_5 14 rfl rfl)
theorem dX10_init_132 : decode cX10_init 132 = .ok (.aload_n 0, 1) := dk_42 (dk_at dksX10_init_5 17 rfl rfl)
theorem dX10_init_133 : decode cX10_init 133 = .ok (.sipush 169, 3) := dk_17 0 169 (dk_at dksX10_init_5 18 rfl rfl)
theorem dX10_init_136 : decode cX10_init 136 = .ok (.newarray .long, 2) := dk_188_11 (dk_at dksX10_init_5 21 rfl rfl)
theorem dX10_init_138 : decode cX10_init 138 = .ok (.putfield 61, 3) := dk_181 0 61 (dk_at dksX10_init_6 0 rfl rfl)
theorem dX10_init_141 : decode cX10_init 141 = .ok (.aload_n 0, 1) := dk_42 (dk_at dksX10_init_6 3 rfl rfl)
theorem dX10_init_142 : decode cX10_init 142 = .ok (.sipush 169, 3) := dk_17 0 169 (dk_at dksX10_init_6 4 rfl rfl)
theorem dX10_init_145 : decode cX10_init 145 = .ok (.newarray .long, 2) := dk_188_11 (dk_at dksX10_init_6 7 rfl rfl)
theorem dX10_init_147 : decode cX10_init 147 = .ok (.putfield 65, 3) := dk_181 0 65 (dk_at dksX10_init_6 9 rfl rfl)
theorem dX10_init_150 : decode cX10_init 150 = .ok (.aload_n 0, 1) := dk_42 (dk_at dksX10_init_6 12 rfl rfl)
theorem dX10_init_151 : decode cX10_init 151 = .ok (.bipush 60, 2) := dk_16 60 (dk_at dksX10_init_6 13 rfl rfl)
theorem dX10_init_153 : decode cX10_init 153 = .ok (.newarray .int, 2) := dk_188_10 (dk_at dksX10_init_6 15 rfl rfl)
theorem dX10_init_155 : decode cX10_init 155 = .ok (.putfield 68, 3) := dk_181 0 68 (dk_at dksX10_init_6 17 rfl rfl)
theorem dX10_init_158 : decode cX10_init 158 = .ok (.aload_n 0, 1) := dk_42 (dk_at dksX10_init_6 20 rfl rfl)
theorem dX10_init_159 : decode cX10_init 159 = .ok (.iconst 4, 1) := dk_7 (dk_at dksX10_init_6 21 rfl rfl)
theorem dX10_init_160 : decode cX10_init 160 = .ok (.newarray .int, 2) := dk_188_10 (dk_at dksX10_init_6 22 rfl rfl)
theorem dX10_init_162 : decode cX10_init 162 = .ok (.dup, 1) := dk_89 (dk_at dksX10_init_7 0 rfl rfl)
theorem dX10_init_163 : decode cX10_init 163 = .ok (.iconst 0, 1) := dk_3 (dk_at dksX10_init_7 1 rfl rfl)
theorem dX10_init_164 : decode cX10_init 164 = .ok (.iconst (-1), 1) := dk_2 (dk_at dksX10_init_7 2 rfl rfl)
theorem dX10_init_165 : decode cX10_init 165 = .ok (.iastore, 1) := dk_79 (dk_at dksX10_init_7 3 rfl rfl)
theorem dX10_init_166 : decode cX10_init 166 = .ok (.dup, 1) := dk_89 (dk_at dksX10_init_7 4 rfl rfl)
theorem dX10_init_167 : decode cX10_init 167 = .ok (.iconst 1, 1) := dk_4 (dk_at dksX10_init_7 5 rfl rfl)
theorem dX10_init_168 : decode cX10_init 168 = .ok (.iconst (-1), 1) := dk_2 (dk_at dksX10_init_7 6 rfl rfl)
theorem dX10_init_169 : decode cX10_init 169 = .ok (.iastore, 1) := dk_79 (dk_at dksX10_init_7 7 rfl rfl)
theorem dX10_init_170 : decode cX10_init 170 = .ok (.dup, 1) := dk_89 (dk_at dksX10_init_7 8 rfl rfl)
theorem dX10_init_171 : decode cX10_init 171 = .ok (.iconst 2, 1) := dk_5 (dk_at dksX10_init_7 9 rfl rfl)
theorem dX10_init_172 : decode cX10_init 172 = .ok (.iconst (-1), 1) := dk_2 (dk_at dksX10_init_7 10 rfl rfl)
theorem dX10_init_173 : decode cX10_init 173 = .ok (.iastore, 1) := dk_79 (dk_at dksX10_init_7 11 rfl rfl)
theorem dX10_init_174 : decode cX10_init 174 = .ok (.dup, 1) := dk_89 (dk_at dksX10_init_7 12 rfl rfl)
theorem dX10_init_175 : decode cX10_init 175 = .ok (.iconst 3, 1) := dk_6 (dk_at dksX10_init_7 13 rfl rfl)
theorem dX10_init_176 : decode cX10_init 176 = .ok (.iconst (-1), 1) := dk_2 (dk_at dksX10_init_7 14 rfl rfl)
theorem dX10_init_177 : decode cX10_init 177 = .ok (.iastore, 1) := dk_79 (dk_at dksX10_init_7 15 rfl rfl)
theorem dX10_init_178 : decode cX10_init 178 = .ok (.putfield 71, 3) := dk_181 0 71 (dk_at dksX10_init_7 16 rfl rfl)
theorem dX10_init_181 : decode cX10_init 181 = .ok (.aload_n 0, 1) := dk_42 (dk_at dksX10_init_7 19 rfl rfl)
theorem dX10_init_182 : decode cX10_init 182 = .ok (.iconst 4, 1) := dk_7 (dk_at dksX10_init_7 20 rfl rfl)
theorem dX10_init_183 : decode cX10_init 183 = .ok (.newarray .int, 2) := dk_188_10 (dk_at dksX10_init_7 21 rfl rfl)
theorem dX10_init_185 : decode cX10_init 185 = .ok (.putfield 74, 3) := dk_181 0 74 (dk_at dksX10_init_8 0 rfl rfl)
theorem dX10_init_188 : decode cX10_init 188 = .ok (.aload_n 0, 1) := dk_42 (dk_at dksX10_init_8 3 rfl rfl)
theorem dX10_init_189 : decode cX10_init 189 = .ok (.sipush 240, 3) := dk_17 0 240 (dk_at dksX10_init_8 4 rfl rfl)
theorem dX10_init_192 : decode cX10_init 192 = .ok (.newarray .long, 2) := dk_188_11 (dk_at dksX10_init_8 7 rfl rfl)
theorem dX10_init_194 : decode cX10_init 194 = .ok (.putfield 77, 3) := dk_181 0 77 (dk_at dksX10_init_8 9 rfl rfl)
theorem dX10_init_197 : decode cX10_init 197 = .ok (.aload_n 0, 1) := dk_42 (dk_at dksX10_init_8 12 rfl rfl)
theorem dX10_init_198 : decode cX10_init 198 = .ok (.bipush 60, 2) := dk_16 60 (dk_at dksX10_init_8 13 rfl rfl)
theorem dX10_init_200 : decode cX10_init 200 = .ok (.newarray .long, 2) := dk_188_11 (dk_at dksX10_init_8 15 rfl rfl)
theorem dX10_init_202 : decode cX10_init 202 = .ok (.putfield 80, 3) := dk_181 0 80 (dk_at dksX10_init_8 17 rfl rfl)
theorem dX10_init_205 : decode cX10_init 205 = .ok (.return_, 1) := dk_177 (dk_at dksX10_init_8 20 rfl rfl)
abbrev cX10_image : ByteArray := prog_16_method_4_code
def yX10_image : MethodName := ⟨RX10, "image", "(I)I"⟩
def dkwX10_image_2 : List UInt8 := [180, 0, 16, 27, 4, 84, 3, 172]
abbrev dktX10_image_2 : List UInt8 := dkwX10_image_2 ++ []
def dkwX10_image_1 : List UInt8 := [180, 0, 13, 16, 116, 27, 104, 28, 96, 42, 180, 0, 9, 28, 46, 79, 132, 2, 1, 167, 255, 230, 42]
abbrev dktX10_image_1 : List UInt8 := dkwX10_image_1 ++ dktX10_image_2
def dkwX10_image_0 : List UInt8 := [27, 133, 9, 20, 0, 86, 184, 0, 88, 154, 0, 6, 16, 254, 172, 3, 61, 28, 16, 116, 162, 0, 26, 42]
abbrev dktX10_image_0 : List UInt8 := dkwX10_image_0 ++ dktX10_image_1
theorem dksX10_image_0 : cX10_image.data.toList.drop 0 = dktX10_image_0 := by decide +kernel
theorem dksX10_image_1 : cX10_image.data.toList.drop 24 = dktX10_image_1 := dk_seg dksX10_image_0 24 rfl rfl
theorem dksX10_image_2 : cX10_image.data.toList.drop 47 = dktX10_image_2 := dk_seg dksX10_image_1 23 rfl rfl
theorem dX10_image_0 : decode cX10_image 0 = .ok (.iload_n 1, 1) := dk_27 (dk_at dksX10_image_0 0 rfl rfl)
theorem dX10_image_1 : decode cX10_image 1 = .ok (.i2l, 1) := dk_133 (dk_at dksX10_image_0 1 rfl rfl)
theorem dX10_image_2 : decode cX10_image 2 = .ok (.lconst 0, 1) := dk_9 (dk_at dksX10_image_0 2 rfl rfl)
theorem dX10_image_3 : decode cX10_image 3 = .ok (.ldc2_w 86, 3) := dk_20 0 86 (dk_at dksX10_image_0 3 rfl rfl)
theorem dX10_image_6 : decode cX10_image 6 = .ok (.invokestatic 88, 3) := dk_184 0 88 (dk_at dksX10_image_0 6 rfl rfl)
theorem dX10_image_9 : decode cX10_image 9 = .ok (.ifCond .ne 6, 3) := dk_154 0 6 (dk_at dksX10_image_0 9 rfl rfl)
theorem dX10_image_12 : decode cX10_image 12 = .ok (.bipush (-2), 2) := dk_16 254 (dk_at dksX10_image_0 12 rfl rfl)
theorem dX10_image_14 : decode cX10_image 14 = .ok (.ireturn, 1) := dk_172 (dk_at dksX10_image_0 14 rfl rfl)
theorem dX10_image_15 : decode cX10_image 15 = .ok (.iconst 0, 1) := dk_3 (dk_at dksX10_image_0 15 rfl rfl)
theorem dX10_image_16 : decode cX10_image 16 = .ok (.istore_n 2, 1) := dk_61 (dk_at dksX10_image_0 16 rfl rfl)
theorem dX10_image_17 : decode cX10_image 17 = .ok (.iload_n 2, 1) := dk_28 (dk_at dksX10_image_0 17 rfl rfl)
theorem dX10_image_18 : decode cX10_image 18 = .ok (.bipush 116, 2) := dk_16 116 (dk_at dksX10_image_0 18 rfl rfl)
theorem dX10_image_20 : decode cX10_image 20 = .ok (.if_icmp .ge 26, 3) := dk_162 0 26 (dk_at dksX10_image_0 20 rfl rfl)
theorem dX10_image_23 : decode cX10_image 23 = .ok (.aload_n 0, 1) := dk_42 (dk_at dksX10_image_0 23 rfl rfl)
theorem dX10_image_24 : decode cX10_image 24 = .ok (.getfield 13, 3) := dk_180 0 13 (dk_at dksX10_image_1 0 rfl rfl)
theorem dX10_image_27 : decode cX10_image 27 = .ok (.bipush 116, 2) := dk_16 116 (dk_at dksX10_image_1 3 rfl rfl)
theorem dX10_image_29 : decode cX10_image 29 = .ok (.iload_n 1, 1) := dk_27 (dk_at dksX10_image_1 5 rfl rfl)
theorem dX10_image_30 : decode cX10_image 30 = .ok (.imul, 1) := dk_104 (dk_at dksX10_image_1 6 rfl rfl)
theorem dX10_image_31 : decode cX10_image 31 = .ok (.iload_n 2, 1) := dk_28 (dk_at dksX10_image_1 7 rfl rfl)
theorem dX10_image_32 : decode cX10_image 32 = .ok (.iadd, 1) := dk_96 (dk_at dksX10_image_1 8 rfl rfl)
theorem dX10_image_33 : decode cX10_image 33 = .ok (.aload_n 0, 1) := dk_42 (dk_at dksX10_image_1 9 rfl rfl)
theorem dX10_image_34 : decode cX10_image 34 = .ok (.getfield 9, 3) := dk_180 0 9 (dk_at dksX10_image_1 10 rfl rfl)
theorem dX10_image_37 : decode cX10_image 37 = .ok (.iload_n 2, 1) := dk_28 (dk_at dksX10_image_1 13 rfl rfl)
theorem dX10_image_38 : decode cX10_image 38 = .ok (.iaload, 1) := dk_46 (dk_at dksX10_image_1 14 rfl rfl)
theorem dX10_image_39 : decode cX10_image 39 = .ok (.iastore, 1) := dk_79 (dk_at dksX10_image_1 15 rfl rfl)
theorem dX10_image_40 : decode cX10_image 40 = .ok (.iinc 2 1, 3) := dk_132 2 1 (dk_at dksX10_image_1 16 rfl rfl)
theorem dX10_image_43 : decode cX10_image 43 = .ok (.goto (-26), 3) := dk_167 255 230 (dk_at dksX10_image_1 19 rfl rfl)
theorem dX10_image_46 : decode cX10_image 46 = .ok (.aload_n 0, 1) := dk_42 (dk_at dksX10_image_1 22 rfl rfl)
theorem dX10_image_47 : decode cX10_image 47 = .ok (.getfield 16, 3) := dk_180 0 16 (dk_at dksX10_image_2 0 rfl rfl)
theorem dX10_image_50 : decode cX10_image 50 = .ok (.iload_n 1, 1) := dk_27 (dk_at dksX10_image_2 3 rfl rfl)
theorem dX10_image_51 : decode cX10_image 51 = .ok (.iconst 1, 1) := dk_4 (dk_at dksX10_image_2 4 rfl rfl)
theorem dX10_image_52 : decode cX10_image 52 = .ok (.bastore, 1) := dk_84 (dk_at dksX10_image_2 5 rfl rfl)
theorem dX10_image_53 : decode cX10_image 53 = .ok (.iconst 0, 1) := dk_3 (dk_at dksX10_image_2 6 rfl rfl)
theorem dX10_image_54 : decode cX10_image 54 = .ok (.ireturn, 1) := dk_172 (dk_at dksX10_image_2 7 rfl rfl)
abbrev cX10_in : ByteArray := prog_16_method_3_code
def yX10_in : MethodName := ⟨RX10, "in", "(JJJ)Z"⟩
def dkwX10_in_0 : List UInt8 := [30, 32, 148, 155, 0, 14, 30, 22, 4, 148, 157, 0, 7, 4, 167, 0, 4, 3, 172]
abbrev dktX10_in_0 : List UInt8 := dkwX10_in_0 ++ []
theorem dksX10_in_0 : cX10_in.data.toList.drop 0 = dktX10_in_0 := by decide +kernel
theorem dX10_in_0 : decode cX10_in 0 = .ok (.lload_n 0, 1) := dk_30 (dk_at dksX10_in_0 0 rfl rfl)
theorem dX10_in_1 : decode cX10_in 1 = .ok (.lload_n 2, 1) := dk_32 (dk_at dksX10_in_0 1 rfl rfl)
theorem dX10_in_2 : decode cX10_in 2 = .ok (.lcmp, 1) := dk_148 (dk_at dksX10_in_0 2 rfl rfl)
theorem dX10_in_3 : decode cX10_in 3 = .ok (.ifCond .lt 14, 3) := dk_155 0 14 (dk_at dksX10_in_0 3 rfl rfl)
theorem dX10_in_6 : decode cX10_in 6 = .ok (.lload_n 0, 1) := dk_30 (dk_at dksX10_in_0 6 rfl rfl)
theorem dX10_in_7 : decode cX10_in 7 = .ok (.lload 4, 2) := dk_22 4 (dk_at dksX10_in_0 7 rfl rfl)
theorem dX10_in_9 : decode cX10_in 9 = .ok (.lcmp, 1) := dk_148 (dk_at dksX10_in_0 9 rfl rfl)
theorem dX10_in_10 : decode cX10_in 10 = .ok (.ifCond .gt 7, 3) := dk_157 0 7 (dk_at dksX10_in_0 10 rfl rfl)
theorem dX10_in_13 : decode cX10_in 13 = .ok (.iconst 1, 1) := dk_4 (dk_at dksX10_in_0 13 rfl rfl)
theorem dX10_in_14 : decode cX10_in 14 = .ok (.goto 4, 3) := dk_167 0 4 (dk_at dksX10_in_0 14 rfl rfl)
theorem dX10_in_17 : decode cX10_in 17 = .ok (.iconst 0, 1) := dk_3 (dk_at dksX10_in_0 17 rfl rfl)
theorem dX10_in_18 : decode cX10_in 18 = .ok (.ireturn, 1) := dk_172 (dk_at dksX10_in_0 18 rfl rfl)
abbrev cX10_back : ByteArray := prog_16_method_5_code
def yX10_back : MethodName := ⟨RX10, "back", "(I)I"⟩
def dkwX10_back_2 : List UInt8 := [28, 96, 46, 79, 132, 2, 1, 167, 255, 230, 3, 172]
abbrev dktX10_back_2 : List UInt8 := dkwX10_back_2 ++ []
def dkwX10_back_1 : List UInt8 := [16, 250, 172, 3, 61, 28, 16, 116, 162, 0, 26, 42, 180, 0, 9, 28, 42, 180, 0, 13, 16, 116, 27, 104]
abbrev dktX10_back_1 : List UInt8 := dkwX10_back_1 ++ dktX10_back_2
def dkwX10_back_0 : List UInt8 := [27, 133, 9, 20, 0, 86, 184, 0, 88, 154, 0, 6, 16, 254, 172, 42, 180, 0, 16, 27, 51, 154, 0, 6]
abbrev dktX10_back_0 : List UInt8 := dkwX10_back_0 ++ dktX10_back_1
theorem dksX10_back_0 : cX10_back.data.toList.drop 0 = dktX10_back_0 := by decide +kernel
theorem dksX10_back_1 : cX10_back.data.toList.drop 24 = dktX10_back_1 := dk_seg dksX10_back_0 24 rfl rfl
theorem dksX10_back_2 : cX10_back.data.toList.drop 48 = dktX10_back_2 := dk_seg dksX10_back_1 24 rfl rfl
theorem dX10_back_0 : decode cX10_back 0 = .ok (.iload_n 1, 1) := dk_27 (dk_at dksX10_back_0 0 rfl rfl)
theorem dX10_back_1 : decode cX10_back 1 = .ok (.i2l, 1) := dk_133 (dk_at dksX10_back_0 1 rfl rfl)
theorem dX10_back_2 : decode cX10_back 2 = .ok (.lconst 0, 1) := dk_9 (dk_at dksX10_back_0 2 rfl rfl)
theorem dX10_back_3 : decode cX10_back 3 = .ok (.ldc2_w 86, 3) := dk_20 0 86 (dk_at dksX10_back_0 3 rfl rfl)
theorem dX10_back_6 : decode cX10_back 6 = .ok (.invokestatic 88, 3) := dk_184 0 88 (dk_at dksX10_back_0 6 rfl rfl)
theorem dX10_back_9 : decode cX10_back 9 = .ok (.ifCond .ne 6, 3) := dk_154 0 6 (dk_at dksX10_back_0 9 rfl rfl)
theorem dX10_back_12 : decode cX10_back 12 = .ok (.bipush (-2), 2) := dk_16 254 (dk_at dksX10_back_0 12 rfl rfl)
theorem dX10_back_14 : decode cX10_back 14 = .ok (.ireturn, 1) := dk_172 (dk_at dksX10_back_0 14 rfl rfl)
theorem dX10_back_15 : decode cX10_back 15 = .ok (.aload_n 0, 1) := dk_42 (dk_at dksX10_back_0 15 rfl rfl)
theorem dX10_back_16 : decode cX10_back 16 = .ok (.getfield 16, 3) := dk_180 0 16 (dk_at dksX10_back_0 16 rfl rfl)
theorem dX10_back_19 : decode cX10_back 19 = .ok (.iload_n 1, 1) := dk_27 (dk_at dksX10_back_0 19 rfl rfl)
theorem dX10_back_20 : decode cX10_back 20 = .ok (.baload, 1) := dk_51 (dk_at dksX10_back_0 20 rfl rfl)
theorem dX10_back_21 : decode cX10_back 21 = .ok (.ifCond .ne 6, 3) := dk_154 0 6 (dk_at dksX10_back_0 21 rfl rfl)
theorem dX10_back_24 : decode cX10_back 24 = .ok (.bipush (-6), 2) := dk_16 250 (dk_at dksX10_back_1 0 rfl rfl)
theorem dX10_back_26 : decode cX10_back 26 = .ok (.ireturn, 1) := dk_172 (dk_at dksX10_back_1 2 rfl rfl)
theorem dX10_back_27 : decode cX10_back 27 = .ok (.iconst 0, 1) := dk_3 (dk_at dksX10_back_1 3 rfl rfl)
theorem dX10_back_28 : decode cX10_back 28 = .ok (.istore_n 2, 1) := dk_61 (dk_at dksX10_back_1 4 rfl rfl)
theorem dX10_back_29 : decode cX10_back 29 = .ok (.iload_n 2, 1) := dk_28 (dk_at dksX10_back_1 5 rfl rfl)
theorem dX10_back_30 : decode cX10_back 30 = .ok (.bipush 116, 2) := dk_16 116 (dk_at dksX10_back_1 6 rfl rfl)
theorem dX10_back_32 : decode cX10_back 32 = .ok (.if_icmp .ge 26, 3) := dk_162 0 26 (dk_at dksX10_back_1 8 rfl rfl)
theorem dX10_back_35 : decode cX10_back 35 = .ok (.aload_n 0, 1) := dk_42 (dk_at dksX10_back_1 11 rfl rfl)
theorem dX10_back_36 : decode cX10_back 36 = .ok (.getfield 9, 3) := dk_180 0 9 (dk_at dksX10_back_1 12 rfl rfl)
theorem dX10_back_39 : decode cX10_back 39 = .ok (.iload_n 2, 1) := dk_28 (dk_at dksX10_back_1 15 rfl rfl)
theorem dX10_back_40 : decode cX10_back 40 = .ok (.aload_n 0, 1) := dk_42 (dk_at dksX10_back_1 16 rfl rfl)
theorem dX10_back_41 : decode cX10_back 41 = .ok (.getfield 13, 3) := dk_180 0 13 (dk_at dksX10_back_1 17 rfl rfl)
theorem dX10_back_44 : decode cX10_back 44 = .ok (.bipush 116, 2) := dk_16 116 (dk_at dksX10_back_1 20 rfl rfl)
theorem dX10_back_46 : decode cX10_back 46 = .ok (.iload_n 1, 1) := dk_27 (dk_at dksX10_back_1 22 rfl rfl)
theorem dX10_back_47 : decode cX10_back 47 = .ok (.imul, 1) := dk_104 (dk_at dksX10_back_1 23 rfl rfl)
theorem dX10_back_48 : decode cX10_back 48 = .ok (.iload_n 2, 1) := dk_28 (dk_at dksX10_back_2 0 rfl rfl)
theorem dX10_back_49 : decode cX10_back 49 = .ok (.iadd, 1) := dk_96 (dk_at dksX10_back_2 1 rfl rfl)
theorem dX10_back_50 : decode cX10_back 50 = .ok (.iaload, 1) := dk_46 (dk_at dksX10_back_2 2 rfl rfl)
theorem dX10_back_51 : decode cX10_back 51 = .ok (.iastore, 1) := dk_79 (dk_at dksX10_back_2 3 rfl rfl)
theorem dX10_back_52 : decode cX10_back 52 = .ok (.iinc 2 1, 3) := dk_132 2 1 (dk_at dksX10_back_2 4 rfl rfl)
theorem dX10_back_55 : decode cX10_back 55 = .ok (.goto (-26), 3) := dk_167 255 230 (dk_at dksX10_back_2 7 rfl rfl)
theorem dX10_back_58 : decode cX10_back 58 = .ok (.iconst 0, 1) := dk_3 (dk_at dksX10_back_2 10 rfl rfl)
theorem dX10_back_59 : decode cX10_back 59 = .ok (.ireturn, 1) := dk_172 (dk_at dksX10_back_2 11 rfl rfl)
abbrev cX10_feed : ByteArray := prog_16_method_15_code
def yX10_feed : MethodName := ⟨RX10, "feed", "(IIIII)I"⟩
def dkwX10_feed_5 : List UInt8 := [180, 0, 96, 172]
abbrev dktX10_feed_5 : List UInt8 := dkwX10_feed_5 ++ []
def dkwX10_feed_4 : List UInt8 := [100, 122, 145, 84, 132, 6, 1, 167, 255, 213, 42, 89, 180, 0, 96, 16, 20, 96, 181, 0, 96, 42]
abbrev dktX10_feed_4 : List UInt8 := dkwX10_feed_4 ++ dktX10_feed_5
def dkwX10_feed_3 : List UInt8 := [180, 0, 96, 21, 6, 96, 42, 180, 0, 24, 21, 6, 7, 108, 46, 16, 24, 16, 8, 21, 6, 7, 112, 104]
abbrev dktX10_feed_3 : List UInt8 := dkwX10_feed_3 ++ dktX10_feed_4
def dkwX10_feed_2 : List UInt8 := [180, 0, 24, 7, 21, 5, 79, 3, 54, 6, 21, 6, 16, 20, 162, 0, 42, 42, 180, 0, 20, 42]
abbrev dktX10_feed_2 : List UInt8 := dkwX10_feed_2 ++ dktX10_feed_3
def dkwX10_feed_1 : List UInt8 := [180, 0, 24, 4, 28, 79, 42, 180, 0, 24, 5, 29, 79, 42, 180, 0, 24, 6, 21, 4, 79, 42]
abbrev dktX10_feed_1 : List UInt8 := dkwX10_feed_1 ++ dktX10_feed_2
def dkwX10_feed_0 : List UInt8 := [42, 180, 0, 96, 16, 20, 96, 17, 4, 176, 164, 0, 5, 2, 172, 42, 180, 0, 24, 3, 27, 79, 42]
abbrev dktX10_feed_0 : List UInt8 := dkwX10_feed_0 ++ dktX10_feed_1
theorem dksX10_feed_0 : cX10_feed.data.toList.drop 0 = dktX10_feed_0 := by decide +kernel
theorem dksX10_feed_1 : cX10_feed.data.toList.drop 23 = dktX10_feed_1 := dk_seg dksX10_feed_0 23 rfl rfl
theorem dksX10_feed_2 : cX10_feed.data.toList.drop 45 = dktX10_feed_2 := dk_seg dksX10_feed_1 22 rfl rfl
theorem dksX10_feed_3 : cX10_feed.data.toList.drop 67 = dktX10_feed_3 := dk_seg dksX10_feed_2 22 rfl rfl
theorem dksX10_feed_4 : cX10_feed.data.toList.drop 91 = dktX10_feed_4 := dk_seg dksX10_feed_3 24 rfl rfl
theorem dksX10_feed_5 : cX10_feed.data.toList.drop 113 = dktX10_feed_5 := dk_seg dksX10_feed_4 22 rfl rfl
theorem dX10_feed_0 : decode cX10_feed 0 = .ok (.aload_n 0, 1) := dk_42 (dk_at dksX10_feed_0 0 rfl rfl)
theorem dX10_feed_1 : decode cX10_feed 1 = .ok (.getfield 96, 3) := dk_180 0 96 (dk_at dksX10_feed_0 1 rfl rfl)
theorem dX10_feed_4 : decode cX10_feed 4 = .ok (.bipush 20, 2) := dk_16 20 (dk_at dksX10_feed_0 4 rfl rfl)
theorem dX10_feed_6 : decode cX10_feed 6 = .ok (.iadd, 1) := dk_96 (dk_at dksX10_feed_0 6 rfl rfl)
theorem dX10_feed_7 : decode cX10_feed 7 = .ok (.sipush 1200, 3) := dk_17 4 176 (dk_at dksX10_feed_0 7 rfl rfl)
theorem dX10_feed_10 : decode cX10_feed 10 = .ok (.if_icmp .le 5, 3) := dk_164 0 5 (dk_at dksX10_feed_0 10 rfl rfl)
theorem dX10_feed_13 : decode cX10_feed 13 = .ok (.iconst (-1), 1) := dk_2 (dk_at dksX10_feed_0 13 rfl rfl)
theorem dX10_feed_14 : decode cX10_feed 14 = .ok (.ireturn, 1) := dk_172 (dk_at dksX10_feed_0 14 rfl rfl)
theorem dX10_feed_15 : decode cX10_feed 15 = .ok (.aload_n 0, 1) := dk_42 (dk_at dksX10_feed_0 15 rfl rfl)
theorem dX10_feed_16 : decode cX10_feed 16 = .ok (.getfield 24, 3) := dk_180 0 24 (dk_at dksX10_feed_0 16 rfl rfl)
theorem dX10_feed_19 : decode cX10_feed 19 = .ok (.iconst 0, 1) := dk_3 (dk_at dksX10_feed_0 19 rfl rfl)
theorem dX10_feed_20 : decode cX10_feed 20 = .ok (.iload_n 1, 1) := dk_27 (dk_at dksX10_feed_0 20 rfl rfl)
theorem dX10_feed_21 : decode cX10_feed 21 = .ok (.iastore, 1) := dk_79 (dk_at dksX10_feed_0 21 rfl rfl)
theorem dX10_feed_22 : decode cX10_feed 22 = .ok (.aload_n 0, 1) := dk_42 (dk_at dksX10_feed_0 22 rfl rfl)
theorem dX10_feed_23 : decode cX10_feed 23 = .ok (.getfield 24, 3) := dk_180 0 24 (dk_at dksX10_feed_1 0 rfl rfl)
theorem dX10_feed_26 : decode cX10_feed 26 = .ok (.iconst 1, 1) := dk_4 (dk_at dksX10_feed_1 3 rfl rfl)
theorem dX10_feed_27 : decode cX10_feed 27 = .ok (.iload_n 2, 1) := dk_28 (dk_at dksX10_feed_1 4 rfl rfl)
theorem dX10_feed_28 : decode cX10_feed 28 = .ok (.iastore, 1) := dk_79 (dk_at dksX10_feed_1 5 rfl rfl)
theorem dX10_feed_29 : decode cX10_feed 29 = .ok (.aload_n 0, 1) := dk_42 (dk_at dksX10_feed_1 6 rfl rfl)
theorem dX10_feed_30 : decode cX10_feed 30 = .ok (.getfield 24, 3) := dk_180 0 24 (dk_at dksX10_feed_1 7 rfl rfl)
theorem dX10_feed_33 : decode cX10_feed 33 = .ok (.iconst 2, 1) := dk_5 (dk_at dksX10_feed_1 10 rfl rfl)
theorem dX10_feed_34 : decode cX10_feed 34 = .ok (.iload_n 3, 1) := dk_29 (dk_at dksX10_feed_1 11 rfl rfl)
theorem dX10_feed_35 : decode cX10_feed 35 = .ok (.iastore, 1) := dk_79 (dk_at dksX10_feed_1 12 rfl rfl)
theorem dX10_feed_36 : decode cX10_feed 36 = .ok (.aload_n 0, 1) := dk_42 (dk_at dksX10_feed_1 13 rfl rfl)
theorem dX10_feed_37 : decode cX10_feed 37 = .ok (.getfield 24, 3) := dk_180 0 24 (dk_at dksX10_feed_1 14 rfl rfl)
theorem dX10_feed_40 : decode cX10_feed 40 = .ok (.iconst 3, 1) := dk_6 (dk_at dksX10_feed_1 17 rfl rfl)
theorem dX10_feed_41 : decode cX10_feed 41 = .ok (.iload 4, 2) := dk_21 4 (dk_at dksX10_feed_1 18 rfl rfl)
theorem dX10_feed_43 : decode cX10_feed 43 = .ok (.iastore, 1) := dk_79 (dk_at dksX10_feed_1 20 rfl rfl)
theorem dX10_feed_44 : decode cX10_feed 44 = .ok (.aload_n 0, 1) := dk_42 (dk_at dksX10_feed_1 21 rfl rfl)
theorem dX10_feed_45 : decode cX10_feed 45 = .ok (.getfield 24, 3) := dk_180 0 24 (dk_at dksX10_feed_2 0 rfl rfl)
theorem dX10_feed_48 : decode cX10_feed 48 = .ok (.iconst 4, 1) := dk_7 (dk_at dksX10_feed_2 3 rfl rfl)
theorem dX10_feed_49 : decode cX10_feed 49 = .ok (.iload 5, 2) := dk_21 5 (dk_at dksX10_feed_2 4 rfl rfl)
theorem dX10_feed_51 : decode cX10_feed 51 = .ok (.iastore, 1) := dk_79 (dk_at dksX10_feed_2 6 rfl rfl)
theorem dX10_feed_52 : decode cX10_feed 52 = .ok (.iconst 0, 1) := dk_3 (dk_at dksX10_feed_2 7 rfl rfl)
theorem dX10_feed_53 : decode cX10_feed 53 = .ok (.istore 6, 2) := dk_54 6 (dk_at dksX10_feed_2 8 rfl rfl)
theorem dX10_feed_55 : decode cX10_feed 55 = .ok (.iload 6, 2) := dk_21 6 (dk_at dksX10_feed_2 10 rfl rfl)
theorem dX10_feed_57 : decode cX10_feed 57 = .ok (.bipush 20, 2) := dk_16 20 (dk_at dksX10_feed_2 12 rfl rfl)
theorem dX10_feed_59 : decode cX10_feed 59 = .ok (.if_icmp .ge 42, 3) := dk_162 0 42 (dk_at dksX10_feed_2 14 rfl rfl)
theorem dX10_feed_62 : decode cX10_feed 62 = .ok (.aload_n 0, 1) := dk_42 (dk_at dksX10_feed_2 17 rfl rfl)
theorem dX10_feed_63 : decode cX10_feed 63 = .ok (.getfield 20, 3) := dk_180 0 20 (dk_at dksX10_feed_2 18 rfl rfl)
theorem dX10_feed_66 : decode cX10_feed 66 = .ok (.aload_n 0, 1) := dk_42 (dk_at dksX10_feed_2 21 rfl rfl)
theorem dX10_feed_67 : decode cX10_feed 67 = .ok (.getfield 96, 3) := dk_180 0 96 (dk_at dksX10_feed_3 0 rfl rfl)
theorem dX10_feed_70 : decode cX10_feed 70 = .ok (.iload 6, 2) := dk_21 6 (dk_at dksX10_feed_3 3 rfl rfl)
theorem dX10_feed_72 : decode cX10_feed 72 = .ok (.iadd, 1) := dk_96 (dk_at dksX10_feed_3 5 rfl rfl)
theorem dX10_feed_73 : decode cX10_feed 73 = .ok (.aload_n 0, 1) := dk_42 (dk_at dksX10_feed_3 6 rfl rfl)
theorem dX10_feed_74 : decode cX10_feed 74 = .ok (.getfield 24, 3) := dk_180 0 24 (dk_at dksX10_feed_3 7 rfl rfl)
theorem dX10_feed_77 : decode cX10_feed 77 = .ok (.iload 6, 2) := dk_21 6 (dk_at dksX10_feed_3 10 rfl rfl)
theorem dX10_feed_79 : decode cX10_feed 79 = .ok (.iconst 4, 1) := dk_7 (dk_at dksX10_feed_3 12 rfl rfl)
theorem dX10_feed_80 : decode cX10_feed 80 = .ok (.idiv, 1) := dk_108 (dk_at dksX10_feed_3 13 rfl rfl)
theorem dX10_feed_81 : decode cX10_feed 81 = .ok (.iaload, 1) := dk_46 (dk_at dksX10_feed_3 14 rfl rfl)
theorem dX10_feed_82 : decode cX10_feed 82 = .ok (.bipush 24, 2) := dk_16 24 (dk_at dksX10_feed_3 15 rfl rfl)
theorem dX10_feed_84 : decode cX10_feed 84 = .ok (.bipush 8, 2) := dk_16 8 (dk_at dksX10_feed_3 17 rfl rfl)
theorem dX10_feed_86 : decode cX10_feed 86 = .ok (.iload 6, 2) := dk_21 6 (dk_at dksX10_feed_3 19 rfl rfl)
theorem dX10_feed_88 : decode cX10_feed 88 = .ok (.iconst 4, 1) := dk_7 (dk_at dksX10_feed_3 21 rfl rfl)
theorem dX10_feed_89 : decode cX10_feed 89 = .ok (.irem, 1) := dk_112 (dk_at dksX10_feed_3 22 rfl rfl)
theorem dX10_feed_90 : decode cX10_feed 90 = .ok (.imul, 1) := dk_104 (dk_at dksX10_feed_3 23 rfl rfl)
theorem dX10_feed_91 : decode cX10_feed 91 = .ok (.isub, 1) := dk_100 (dk_at dksX10_feed_4 0 rfl rfl)
theorem dX10_feed_92 : decode cX10_feed 92 = .ok (.ishr, 1) := dk_122 (dk_at dksX10_feed_4 1 rfl rfl)
theorem dX10_feed_93 : decode cX10_feed 93 = .ok (.i2b, 1) := dk_145 (dk_at dksX10_feed_4 2 rfl rfl)
theorem dX10_feed_94 : decode cX10_feed 94 = .ok (.bastore, 1) := dk_84 (dk_at dksX10_feed_4 3 rfl rfl)
theorem dX10_feed_95 : decode cX10_feed 95 = .ok (.iinc 6 1, 3) := dk_132 6 1 (dk_at dksX10_feed_4 4 rfl rfl)
theorem dX10_feed_98 : decode cX10_feed 98 = .ok (.goto (-43), 3) := dk_167 255 213 (dk_at dksX10_feed_4 7 rfl rfl)
theorem dX10_feed_101 : decode cX10_feed 101 = .ok (.aload_n 0, 1) := dk_42 (dk_at dksX10_feed_4 10 rfl rfl)
theorem dX10_feed_102 : decode cX10_feed 102 = .ok (.dup, 1) := dk_89 (dk_at dksX10_feed_4 11 rfl rfl)
theorem dX10_feed_103 : decode cX10_feed 103 = .ok (.getfield 96, 3) := dk_180 0 96 (dk_at dksX10_feed_4 12 rfl rfl)
theorem dX10_feed_106 : decode cX10_feed 106 = .ok (.bipush 20, 2) := dk_16 20 (dk_at dksX10_feed_4 15 rfl rfl)
theorem dX10_feed_108 : decode cX10_feed 108 = .ok (.iadd, 1) := dk_96 (dk_at dksX10_feed_4 17 rfl rfl)
theorem dX10_feed_109 : decode cX10_feed 109 = .ok (.putfield 96, 3) := dk_181 0 96 (dk_at dksX10_feed_4 18 rfl rfl)
theorem dX10_feed_112 : decode cX10_feed 112 = .ok (.aload_n 0, 1) := dk_42 (dk_at dksX10_feed_4 21 rfl rfl)
theorem dX10_feed_113 : decode cX10_feed 113 = .ok (.getfield 96, 3) := dk_180 0 96 (dk_at dksX10_feed_5 0 rfl rfl)
theorem dX10_feed_116 : decode cX10_feed 116 = .ok (.ireturn, 1) := dk_172 (dk_at dksX10_feed_5 3 rfl rfl)
abbrev cX10_end : ByteArray := prog_16_method_16_code
def yX10_end : MethodName := ⟨RX10, "end", "(I)I"⟩
def dkwX10_end_0 : List UInt8 := [27, 133, 9, 42, 180, 0, 96, 133, 184, 0, 88, 154, 0, 5, 2, 172, 42, 27, 181, 0, 96, 27, 172]
abbrev dktX10_end_0 : List UInt8 := dkwX10_end_0 ++ []
theorem dksX10_end_0 : cX10_end.data.toList.drop 0 = dktX10_end_0 := by decide +kernel
theorem dX10_end_0 : decode cX10_end 0 = .ok (.iload_n 1, 1) := dk_27 (dk_at dksX10_end_0 0 rfl rfl)
theorem dX10_end_1 : decode cX10_end 1 = .ok (.i2l, 1) := dk_133 (dk_at dksX10_end_0 1 rfl rfl)
theorem dX10_end_2 : decode cX10_end 2 = .ok (.lconst 0, 1) := dk_9 (dk_at dksX10_end_0 2 rfl rfl)
theorem dX10_end_3 : decode cX10_end 3 = .ok (.aload_n 0, 1) := dk_42 (dk_at dksX10_end_0 3 rfl rfl)
theorem dX10_end_4 : decode cX10_end 4 = .ok (.getfield 96, 3) := dk_180 0 96 (dk_at dksX10_end_0 4 rfl rfl)
theorem dX10_end_7 : decode cX10_end 7 = .ok (.i2l, 1) := dk_133 (dk_at dksX10_end_0 7 rfl rfl)
theorem dX10_end_8 : decode cX10_end 8 = .ok (.invokestatic 88, 3) := dk_184 0 88 (dk_at dksX10_end_0 8 rfl rfl)
theorem dX10_end_11 : decode cX10_end 11 = .ok (.ifCond .ne 5, 3) := dk_154 0 5 (dk_at dksX10_end_0 11 rfl rfl)
theorem dX10_end_14 : decode cX10_end 14 = .ok (.iconst (-1), 1) := dk_2 (dk_at dksX10_end_0 14 rfl rfl)
theorem dX10_end_15 : decode cX10_end 15 = .ok (.ireturn, 1) := dk_172 (dk_at dksX10_end_0 15 rfl rfl)
theorem dX10_end_16 : decode cX10_end 16 = .ok (.aload_n 0, 1) := dk_42 (dk_at dksX10_end_0 16 rfl rfl)
theorem dX10_end_17 : decode cX10_end 17 = .ok (.iload_n 1, 1) := dk_27 (dk_at dksX10_end_0 17 rfl rfl)
theorem dX10_end_18 : decode cX10_end 18 = .ok (.putfield 96, 3) := dk_181 0 96 (dk_at dksX10_end_0 18 rfl rfl)
theorem dX10_end_21 : decode cX10_end 21 = .ok (.iload_n 1, 1) := dk_27 (dk_at dksX10_end_0 21 rfl rfl)
theorem dX10_end_22 : decode cX10_end 22 = .ok (.ireturn, 1) := dk_172 (dk_at dksX10_end_0 22 rfl rfl)
abbrev cX10_fault : ByteArray := prog_16_method_26_code
def yX10_fault : MethodName := ⟨RX10, "fault", "(I)I"⟩
def dkwX10_fault_1 : List UInt8 := [172]
abbrev dktX10_fault_1 : List UInt8 := dkwX10_fault_1 ++ []
def dkwX10_fault_0 : List UInt8 := [27, 154, 0, 10, 42, 180, 0, 133, 167, 0, 16, 27, 4, 160, 0, 10, 42, 180, 0, 27, 167, 0, 4, 2]
abbrev dktX10_fault_0 : List UInt8 := dkwX10_fault_0 ++ dktX10_fault_1
theorem dksX10_fault_0 : cX10_fault.data.toList.drop 0 = dktX10_fault_0 := by decide +kernel
theorem dksX10_fault_1 : cX10_fault.data.toList.drop 24 = dktX10_fault_1 := dk_seg dksX10_fault_0 24 rfl rfl
theorem dX10_fault_0 : decode cX10_fault 0 = .ok (.iload_n 1, 1) := dk_27 (dk_at dksX10_fault_0 0 rfl rfl)
theorem dX10_fault_1 : decode cX10_fault 1 = .ok (.ifCond .ne 10, 3) := dk_154 0 10 (dk_at dksX10_fault_0 1 rfl rfl)
theorem dX10_fault_4 : decode cX10_fault 4 = .ok (.aload_n 0, 1) := dk_42 (dk_at dksX10_fault_0 4 rfl rfl)
theorem dX10_fault_5 : decode cX10_fault 5 = .ok (.getfield 133, 3) := dk_180 0 133 (dk_at dksX10_fault_0 5 rfl rfl)
theorem dX10_fault_8 : decode cX10_fault 8 = .ok (.goto 16, 3) := dk_167 0 16 (dk_at dksX10_fault_0 8 rfl rfl)
theorem dX10_fault_11 : decode cX10_fault 11 = .ok (.iload_n 1, 1) := dk_27 (dk_at dksX10_fault_0 11 rfl rfl)
theorem dX10_fault_12 : decode cX10_fault 12 = .ok (.iconst 1, 1) := dk_4 (dk_at dksX10_fault_0 12 rfl rfl)
theorem dX10_fault_13 : decode cX10_fault 13 = .ok (.if_icmp .ne 10, 3) := dk_160 0 10 (dk_at dksX10_fault_0 13 rfl rfl)
theorem dX10_fault_16 : decode cX10_fault 16 = .ok (.aload_n 0, 1) := dk_42 (dk_at dksX10_fault_0 16 rfl rfl)
theorem dX10_fault_17 : decode cX10_fault 17 = .ok (.getfield 27, 3) := dk_180 0 27 (dk_at dksX10_fault_0 17 rfl rfl)
theorem dX10_fault_20 : decode cX10_fault 20 = .ok (.goto 4, 3) := dk_167 0 4 (dk_at dksX10_fault_0 20 rfl rfl)
theorem dX10_fault_23 : decode cX10_fault 23 = .ok (.iconst (-1), 1) := dk_2 (dk_at dksX10_fault_0 23 rfl rfl)
theorem dX10_fault_24 : decode cX10_fault 24 = .ok (.ireturn, 1) := dk_172 (dk_at dksX10_fault_1 0 rfl rfl)
abbrev cX10_board : ByteArray := prog_16_method_39_code
def yX10_board : MethodName := ⟨RX10, "board", "()I"⟩
def dkwX10_board_5 : List UInt8 := [46, 172]
abbrev dktX10_board_5 : List UInt8 := dkwX10_board_5 ++ []
def dkwX10_board_4 : List UInt8 := [42, 180, 0, 9, 27, 42, 180, 0, 31, 27, 46, 79, 132, 1, 1, 167, 255, 235, 42, 180, 0, 9, 16, 9]
abbrev dktX10_board_4 : List UInt8 := dkwX10_board_4 ++ dktX10_board_5
def dkwX10_board_3 : List UInt8 := [182, 0, 245, 167, 255, 238, 42, 182, 0, 136, 154, 0, 6, 16, 252, 172, 3, 60, 27, 16, 116, 162, 0, 21]
abbrev dktX10_board_3 : List UInt8 := dkwX10_board_3 ++ dktX10_board_4
def dkwX10_board_2 : List UInt8 := [167, 255, 240, 42, 182, 0, 153, 42, 182, 0, 136, 153, 0, 17, 42, 180, 0, 112, 153, 0, 10, 42]
abbrev dktX10_board_2 : List UInt8 := dkwX10_board_2 ++ dktX10_board_3
def dkwX10_board_1 : List UInt8 := [2, 181, 0, 27, 3, 60, 27, 16, 116, 162, 0, 16, 42, 180, 0, 31, 27, 3, 79, 132, 1, 1]
abbrev dktX10_board_1 : List UInt8 := dkwX10_board_1 ++ dktX10_board_2
def dkwX10_board_0 : List UInt8 := [42, 42, 180, 0, 96, 181, 0, 99, 42, 3, 181, 0, 96, 42, 3, 181, 0, 102, 42, 3, 181, 0, 133, 42]
abbrev dktX10_board_0 : List UInt8 := dkwX10_board_0 ++ dktX10_board_1
theorem dksX10_board_0 : cX10_board.data.toList.drop 0 = dktX10_board_0 := by decide +kernel
theorem dksX10_board_1 : cX10_board.data.toList.drop 24 = dktX10_board_1 := dk_seg dksX10_board_0 24 rfl rfl
theorem dksX10_board_2 : cX10_board.data.toList.drop 46 = dktX10_board_2 := dk_seg dksX10_board_1 22 rfl rfl
theorem dksX10_board_3 : cX10_board.data.toList.drop 68 = dktX10_board_3 := dk_seg dksX10_board_2 22 rfl rfl
theorem dksX10_board_4 : cX10_board.data.toList.drop 92 = dktX10_board_4 := dk_seg dksX10_board_3 24 rfl rfl
theorem dksX10_board_5 : cX10_board.data.toList.drop 116 = dktX10_board_5 := dk_seg dksX10_board_4 24 rfl rfl
theorem dX10_board_0 : decode cX10_board 0 = .ok (.aload_n 0, 1) := dk_42 (dk_at dksX10_board_0 0 rfl rfl)
theorem dX10_board_1 : decode cX10_board 1 = .ok (.aload_n 0, 1) := dk_42 (dk_at dksX10_board_0 1 rfl rfl)
theorem dX10_board_2 : decode cX10_board 2 = .ok (.getfield 96, 3) := dk_180 0 96 (dk_at dksX10_board_0 2 rfl rfl)
theorem dX10_board_5 : decode cX10_board 5 = .ok (.putfield 99, 3) := dk_181 0 99 (dk_at dksX10_board_0 5 rfl rfl)
theorem dX10_board_8 : decode cX10_board 8 = .ok (.aload_n 0, 1) := dk_42 (dk_at dksX10_board_0 8 rfl rfl)
theorem dX10_board_9 : decode cX10_board 9 = .ok (.iconst 0, 1) := dk_3 (dk_at dksX10_board_0 9 rfl rfl)
theorem dX10_board_10 : decode cX10_board 10 = .ok (.putfield 96, 3) := dk_181 0 96 (dk_at dksX10_board_0 10 rfl rfl)
theorem dX10_board_13 : decode cX10_board 13 = .ok (.aload_n 0, 1) := dk_42 (dk_at dksX10_board_0 13 rfl rfl)
theorem dX10_board_14 : decode cX10_board 14 = .ok (.iconst 0, 1) := dk_3 (dk_at dksX10_board_0 14 rfl rfl)
theorem dX10_board_15 : decode cX10_board 15 = .ok (.putfield 102, 3) := dk_181 0 102 (dk_at dksX10_board_0 15 rfl rfl)
theorem dX10_board_18 : decode cX10_board 18 = .ok (.aload_n 0, 1) := dk_42 (dk_at dksX10_board_0 18 rfl rfl)
theorem dX10_board_19 : decode cX10_board 19 = .ok (.iconst 0, 1) := dk_3 (dk_at dksX10_board_0 19 rfl rfl)
theorem dX10_board_20 : decode cX10_board 20 = .ok (.putfield 133, 3) := dk_181 0 133 (dk_at dksX10_board_0 20 rfl rfl)
theorem dX10_board_23 : decode cX10_board 23 = .ok (.aload_n 0, 1) := dk_42 (dk_at dksX10_board_0 23 rfl rfl)
theorem dX10_board_24 : decode cX10_board 24 = .ok (.iconst (-1), 1) := dk_2 (dk_at dksX10_board_1 0 rfl rfl)
theorem dX10_board_25 : decode cX10_board 25 = .ok (.putfield 27, 3) := dk_181 0 27 (dk_at dksX10_board_1 1 rfl rfl)
theorem dX10_board_28 : decode cX10_board 28 = .ok (.iconst 0, 1) := dk_3 (dk_at dksX10_board_1 4 rfl rfl)
theorem dX10_board_29 : decode cX10_board 29 = .ok (.istore_n 1, 1) := dk_60 (dk_at dksX10_board_1 5 rfl rfl)
theorem dX10_board_30 : decode cX10_board 30 = .ok (.iload_n 1, 1) := dk_27 (dk_at dksX10_board_1 6 rfl rfl)
theorem dX10_board_31 : decode cX10_board 31 = .ok (.bipush 116, 2) := dk_16 116 (dk_at dksX10_board_1 7 rfl rfl)
theorem dX10_board_33 : decode cX10_board 33 = .ok (.if_icmp .ge 16, 3) := dk_162 0 16 (dk_at dksX10_board_1 9 rfl rfl)
theorem dX10_board_36 : decode cX10_board 36 = .ok (.aload_n 0, 1) := dk_42 (dk_at dksX10_board_1 12 rfl rfl)
theorem dX10_board_37 : decode cX10_board 37 = .ok (.getfield 31, 3) := dk_180 0 31 (dk_at dksX10_board_1 13 rfl rfl)
theorem dX10_board_40 : decode cX10_board 40 = .ok (.iload_n 1, 1) := dk_27 (dk_at dksX10_board_1 16 rfl rfl)
theorem dX10_board_41 : decode cX10_board 41 = .ok (.iconst 0, 1) := dk_3 (dk_at dksX10_board_1 17 rfl rfl)
theorem dX10_board_42 : decode cX10_board 42 = .ok (.iastore, 1) := dk_79 (dk_at dksX10_board_1 18 rfl rfl)
theorem dX10_board_43 : decode cX10_board 43 = .ok (.iinc 1 1, 3) := dk_132 1 1 (dk_at dksX10_board_1 19 rfl rfl)
theorem dX10_board_46 : decode cX10_board 46 = .ok (.goto (-16), 3) := dk_167 255 240 (dk_at dksX10_board_2 0 rfl rfl)
theorem dX10_board_49 : decode cX10_board 49 = .ok (.aload_n 0, 1) := dk_42 (dk_at dksX10_board_2 3 rfl rfl)
theorem dX10_board_50 : decode cX10_board 50 = .ok (.invokevirtual 153, 3) := dk_182 0 153 (dk_at dksX10_board_2 4 rfl rfl)
theorem dX10_board_53 : decode cX10_board 53 = .ok (.aload_n 0, 1) := dk_42 (dk_at dksX10_board_2 7 rfl rfl)
theorem dX10_board_54 : decode cX10_board 54 = .ok (.invokevirtual 136, 3) := dk_182 0 136 (dk_at dksX10_board_2 8 rfl rfl)
theorem dX10_board_57 : decode cX10_board 57 = .ok (.ifCond .eq 17, 3) := dk_153 0 17 (dk_at dksX10_board_2 11 rfl rfl)
theorem dX10_board_60 : decode cX10_board 60 = .ok (.aload_n 0, 1) := dk_42 (dk_at dksX10_board_2 14 rfl rfl)
theorem dX10_board_61 : decode cX10_board 61 = .ok (.getfield 112, 3) := dk_180 0 112 (dk_at dksX10_board_2 15 rfl rfl)
theorem dX10_board_64 : decode cX10_board 64 = .ok (.ifCond .eq 10, 3) := dk_153 0 10 (dk_at dksX10_board_2 18 rfl rfl)
theorem dX10_board_67 : decode cX10_board 67 = .ok (.aload_n 0, 1) := dk_42 (dk_at dksX10_board_2 21 rfl rfl)
theorem dX10_board_68 : decode cX10_board 68 = .ok (.invokevirtual 245, 3) := dk_182 0 245 (dk_at dksX10_board_3 0 rfl rfl)
theorem dX10_board_71 : decode cX10_board 71 = .ok (.goto (-18), 3) := dk_167 255 238 (dk_at dksX10_board_3 3 rfl rfl)
theorem dX10_board_74 : decode cX10_board 74 = .ok (.aload_n 0, 1) := dk_42 (dk_at dksX10_board_3 6 rfl rfl)
theorem dX10_board_75 : decode cX10_board 75 = .ok (.invokevirtual 136, 3) := dk_182 0 136 (dk_at dksX10_board_3 7 rfl rfl)
theorem dX10_board_78 : decode cX10_board 78 = .ok (.ifCond .ne 6, 3) := dk_154 0 6 (dk_at dksX10_board_3 10 rfl rfl)
theorem dX10_board_81 : decode cX10_board 81 = .ok (.bipush (-4), 2) := dk_16 252 (dk_at dksX10_board_3 13 rfl rfl)
theorem dX10_board_83 : decode cX10_board 83 = .ok (.ireturn, 1) := dk_172 (dk_at dksX10_board_3 15 rfl rfl)
theorem dX10_board_84 : decode cX10_board 84 = .ok (.iconst 0, 1) := dk_3 (dk_at dksX10_board_3 16 rfl rfl)
theorem dX10_board_85 : decode cX10_board 85 = .ok (.istore_n 1, 1) := dk_60 (dk_at dksX10_board_3 17 rfl rfl)
theorem dX10_board_86 : decode cX10_board 86 = .ok (.iload_n 1, 1) := dk_27 (dk_at dksX10_board_3 18 rfl rfl)
theorem dX10_board_87 : decode cX10_board 87 = .ok (.bipush 116, 2) := dk_16 116 (dk_at dksX10_board_3 19 rfl rfl)
theorem dX10_board_89 : decode cX10_board 89 = .ok (.if_icmp .ge 21, 3) := dk_162 0 21 (dk_at dksX10_board_3 21 rfl rfl)
theorem dX10_board_92 : decode cX10_board 92 = .ok (.aload_n 0, 1) := dk_42 (dk_at dksX10_board_4 0 rfl rfl)
theorem dX10_board_93 : decode cX10_board 93 = .ok (.getfield 9, 3) := dk_180 0 9 (dk_at dksX10_board_4 1 rfl rfl)
theorem dX10_board_96 : decode cX10_board 96 = .ok (.iload_n 1, 1) := dk_27 (dk_at dksX10_board_4 4 rfl rfl)
theorem dX10_board_97 : decode cX10_board 97 = .ok (.aload_n 0, 1) := dk_42 (dk_at dksX10_board_4 5 rfl rfl)
theorem dX10_board_98 : decode cX10_board 98 = .ok (.getfield 31, 3) := dk_180 0 31 (dk_at dksX10_board_4 6 rfl rfl)
theorem dX10_board_101 : decode cX10_board 101 = .ok (.iload_n 1, 1) := dk_27 (dk_at dksX10_board_4 9 rfl rfl)
theorem dX10_board_102 : decode cX10_board 102 = .ok (.iaload, 1) := dk_46 (dk_at dksX10_board_4 10 rfl rfl)
theorem dX10_board_103 : decode cX10_board 103 = .ok (.iastore, 1) := dk_79 (dk_at dksX10_board_4 11 rfl rfl)
theorem dX10_board_104 : decode cX10_board 104 = .ok (.iinc 1 1, 3) := dk_132 1 1 (dk_at dksX10_board_4 12 rfl rfl)
theorem dX10_board_107 : decode cX10_board 107 = .ok (.goto (-21), 3) := dk_167 255 235 (dk_at dksX10_board_4 15 rfl rfl)
theorem dX10_board_110 : decode cX10_board 110 = .ok (.aload_n 0, 1) := dk_42 (dk_at dksX10_board_4 18 rfl rfl)
theorem dX10_board_111 : decode cX10_board 111 = .ok (.getfield 9, 3) := dk_180 0 9 (dk_at dksX10_board_4 19 rfl rfl)
theorem dX10_board_114 : decode cX10_board 114 = .ok (.bipush 9, 2) := dk_16 9 (dk_at dksX10_board_4 22 rfl rfl)
theorem dX10_board_116 : decode cX10_board 116 = .ok (.iaload, 1) := dk_46 (dk_at dksX10_board_5 0 rfl rfl)
theorem dX10_board_117 : decode cX10_board 117 = .ok (.ireturn, 1) := dk_172 (dk_at dksX10_board_5 1 rfl rfl)
abbrev cX10_advance : ByteArray := prog_16_method_18_code
def yX10_advance : MethodName := ⟨RX10, "advance", "()V"⟩
def dkwX10_advance_10 : List UInt8 := [96, 181, 0, 102, 177]
abbrev dktX10_advance_10 : List UInt8 := dkwX10_advance_10 ++ []
def dkwX10_advance_9 : List UInt8 := [167, 0, 28, 42, 27, 16, 59, 160, 0, 7, 6, 167, 0, 4, 7, 181, 0, 112, 42, 89, 180, 0, 102, 4]
abbrev dktX10_advance_9 : List UInt8 := dkwX10_advance_9 ++ dktX10_advance_10
def dkwX10_advance_8 : List UInt8 := [184, 0, 127, 181, 0, 123, 42, 89, 180, 0, 102, 4, 96, 181, 0, 102, 167, 255, 197, 42, 5, 181, 0, 112]
abbrev dktX10_advance_8 : List UInt8 := dkwX10_advance_8 ++ dktX10_advance_9
def dkwX10_advance_7 : List UInt8 := [42, 18, 126, 16, 10, 42, 180, 0, 123, 104, 42, 42, 180, 0, 102, 182, 0, 105, 96, 16, 48, 100]
abbrev dktX10_advance_7 : List UInt8 := dkwX10_advance_7 ++ dktX10_advance_8
def dkwX10_advance_6 : List UInt8 := [181, 0, 123, 42, 42, 180, 0, 102, 182, 0, 105, 133, 20, 0, 119, 20, 0, 121, 184, 0, 88, 153, 0, 44]
abbrev dktX10_advance_6 : List UInt8 := dkwX10_advance_6 ++ dktX10_advance_7
def dkwX10_advance_5 : List UInt8 := [181, 0, 112, 167, 0, 117, 27, 133, 20, 0, 119, 20, 0, 121, 184, 0, 88, 153, 0, 78, 42, 3]
abbrev dktX10_advance_5 : List UInt8 := dkwX10_advance_5 ++ dktX10_advance_6
def dkwX10_advance_4 : List UInt8 := [20, 0, 117, 184, 0, 88, 153, 0, 16, 42, 89, 180, 0, 102, 4, 96, 181, 0, 102, 167, 255, 225, 42, 4]
abbrev dktX10_advance_4 : List UInt8 := dkwX10_advance_4 ++ dktX10_advance_5
def dkwX10_advance_3 : List UInt8 := [20, 0, 115, 20, 0, 117, 184, 0, 88, 153, 0, 45, 42, 42, 180, 0, 102, 182, 0, 105, 133, 20, 0, 115]
abbrev dktX10_advance_3 : List UInt8 := dkwX10_advance_3 ++ dktX10_advance_4
def dkwX10_advance_2 : List UInt8 := [42, 42, 180, 0, 102, 182, 0, 105, 60, 27, 2, 160, 0, 11, 42, 3, 181, 0, 112, 167, 0, 173, 27, 133]
abbrev dktX10_advance_2 : List UInt8 := dkwX10_advance_2 ++ dktX10_advance_3
def dkwX10_advance_1 : List UInt8 := [160, 0, 16, 42, 89, 180, 0, 102, 4, 96, 181, 0, 102, 167, 255, 220, 42, 42, 180, 0, 102, 181, 0, 109]
abbrev dktX10_advance_1 : List UInt8 := dkwX10_advance_1 ++ dktX10_advance_2
def dkwX10_advance_0 : List UInt8 := [42, 42, 180, 0, 102, 182, 0, 105, 16, 32, 159, 0, 16, 42, 42, 180, 0, 102, 182, 0, 105, 16, 10]
abbrev dktX10_advance_0 : List UInt8 := dkwX10_advance_0 ++ dktX10_advance_1
theorem dksX10_advance_0 : cX10_advance.data.toList.drop 0 = dktX10_advance_0 := by decide +kernel
theorem dksX10_advance_1 : cX10_advance.data.toList.drop 23 = dktX10_advance_1 := dk_seg dksX10_advance_0 23 rfl rfl
theorem dksX10_advance_2 : cX10_advance.data.toList.drop 47 = dktX10_advance_2 := dk_seg dksX10_advance_1 24 rfl rfl
theorem dksX10_advance_3 : cX10_advance.data.toList.drop 71 = dktX10_advance_3 := dk_seg dksX10_advance_2 24 rfl rfl
theorem dksX10_advance_4 : cX10_advance.data.toList.drop 95 = dktX10_advance_4 := dk_seg dksX10_advance_3 24 rfl rfl
theorem dksX10_advance_5 : cX10_advance.data.toList.drop 119 = dktX10_advance_5 := dk_seg dksX10_advance_4 24 rfl rfl
theorem dksX10_advance_6 : cX10_advance.data.toList.drop 141 = dktX10_advance_6 := dk_seg dksX10_advance_5 22 rfl rfl
theorem dksX10_advance_7 : cX10_advance.data.toList.drop 165 = dktX10_advance_7 := dk_seg dksX10_advance_6 24 rfl rfl
theorem dksX10_advance_8 : cX10_advance.data.toList.drop 187 = dktX10_advance_8 := dk_seg dksX10_advance_7 22 rfl rfl
theorem dksX10_advance_9 : cX10_advance.data.toList.drop 211 = dktX10_advance_9 := dk_seg dksX10_advance_8 24 rfl rfl
theorem dksX10_advance_10 : cX10_advance.data.toList.drop 235 = dktX10_advance_10 := dk_seg dksX10_advance_9 24 rfl rfl
theorem dX10_advance_0 : decode cX10_advance 0 = .ok (.aload_n 0, 1) := dk_42 (dk_at dksX10_advance_0 0 rfl rfl)
theorem dX10_advance_1 : decode cX10_advance 1 = .ok (.aload_n 0, 1) := dk_42 (dk_at dksX10_advance_0 1 rfl rfl)
theorem dX10_advance_2 : decode cX10_advance 2 = .ok (.getfield 102, 3) := dk_180 0 102 (dk_at dksX10_advance_0 2 rfl rfl)
theorem dX10_advance_5 : decode cX10_advance 5 = .ok (.invokevirtual 105, 3) := dk_182 0 105 (dk_at dksX10_advance_0 5 rfl rfl)
theorem dX10_advance_8 : decode cX10_advance 8 = .ok (.bipush 32, 2) := dk_16 32 (dk_at dksX10_advance_0 8 rfl rfl)
theorem dX10_advance_10 : decode cX10_advance 10 = .ok (.if_icmp .eq 16, 3) := dk_159 0 16 (dk_at dksX10_advance_0 10 rfl rfl)
theorem dX10_advance_13 : decode cX10_advance 13 = .ok (.aload_n 0, 1) := dk_42 (dk_at dksX10_advance_0 13 rfl rfl)
theorem dX10_advance_14 : decode cX10_advance 14 = .ok (.aload_n 0, 1) := dk_42 (dk_at dksX10_advance_0 14 rfl rfl)
theorem dX10_advance_15 : decode cX10_advance 15 = .ok (.getfield 102, 3) := dk_180 0 102 (dk_at dksX10_advance_0 15 rfl rfl)
theorem dX10_advance_18 : decode cX10_advance 18 = .ok (.invokevirtual 105, 3) := dk_182 0 105 (dk_at dksX10_advance_0 18 rfl rfl)
theorem dX10_advance_21 : decode cX10_advance 21 = .ok (.bipush 10, 2) := dk_16 10 (dk_at dksX10_advance_0 21 rfl rfl)
theorem dX10_advance_23 : decode cX10_advance 23 = .ok (.if_icmp .ne 16, 3) := dk_160 0 16 (dk_at dksX10_advance_1 0 rfl rfl)
theorem dX10_advance_26 : decode cX10_advance 26 = .ok (.aload_n 0, 1) := dk_42 (dk_at dksX10_advance_1 3 rfl rfl)
theorem dX10_advance_27 : decode cX10_advance 27 = .ok (.dup, 1) := dk_89 (dk_at dksX10_advance_1 4 rfl rfl)
theorem dX10_advance_28 : decode cX10_advance 28 = .ok (.getfield 102, 3) := dk_180 0 102 (dk_at dksX10_advance_1 5 rfl rfl)
theorem dX10_advance_31 : decode cX10_advance 31 = .ok (.iconst 1, 1) := dk_4 (dk_at dksX10_advance_1 8 rfl rfl)
theorem dX10_advance_32 : decode cX10_advance 32 = .ok (.iadd, 1) := dk_96 (dk_at dksX10_advance_1 9 rfl rfl)
theorem dX10_advance_33 : decode cX10_advance 33 = .ok (.putfield 102, 3) := dk_181 0 102 (dk_at dksX10_advance_1 10 rfl rfl)
theorem dX10_advance_36 : decode cX10_advance 36 = .ok (.goto (-36), 3) := dk_167 255 220 (dk_at dksX10_advance_1 13 rfl rfl)
theorem dX10_advance_39 : decode cX10_advance 39 = .ok (.aload_n 0, 1) := dk_42 (dk_at dksX10_advance_1 16 rfl rfl)
theorem dX10_advance_40 : decode cX10_advance 40 = .ok (.aload_n 0, 1) := dk_42 (dk_at dksX10_advance_1 17 rfl rfl)
theorem dX10_advance_41 : decode cX10_advance 41 = .ok (.getfield 102, 3) := dk_180 0 102 (dk_at dksX10_advance_1 18 rfl rfl)
theorem dX10_advance_44 : decode cX10_advance 44 = .ok (.putfield 109, 3) := dk_181 0 109 (dk_at dksX10_advance_1 21 rfl rfl)
theorem dX10_advance_47 : decode cX10_advance 47 = .ok (.aload_n 0, 1) := dk_42 (dk_at dksX10_advance_2 0 rfl rfl)
theorem dX10_advance_48 : decode cX10_advance 48 = .ok (.aload_n 0, 1) := dk_42 (dk_at dksX10_advance_2 1 rfl rfl)
theorem dX10_advance_49 : decode cX10_advance 49 = .ok (.getfield 102, 3) := dk_180 0 102 (dk_at dksX10_advance_2 2 rfl rfl)
theorem dX10_advance_52 : decode cX10_advance 52 = .ok (.invokevirtual 105, 3) := dk_182 0 105 (dk_at dksX10_advance_2 5 rfl rfl)
theorem dX10_advance_55 : decode cX10_advance 55 = .ok (.istore_n 1, 1) := dk_60 (dk_at dksX10_advance_2 8 rfl rfl)
theorem dX10_advance_56 : decode cX10_advance 56 = .ok (.iload_n 1, 1) := dk_27 (dk_at dksX10_advance_2 9 rfl rfl)
theorem dX10_advance_57 : decode cX10_advance 57 = .ok (.iconst (-1), 1) := dk_2 (dk_at dksX10_advance_2 10 rfl rfl)
theorem dX10_advance_58 : decode cX10_advance 58 = .ok (.if_icmp .ne 11, 3) := dk_160 0 11 (dk_at dksX10_advance_2 11 rfl rfl)
theorem dX10_advance_61 : decode cX10_advance 61 = .ok (.aload_n 0, 1) := dk_42 (dk_at dksX10_advance_2 14 rfl rfl)
theorem dX10_advance_62 : decode cX10_advance 62 = .ok (.iconst 0, 1) := dk_3 (dk_at dksX10_advance_2 15 rfl rfl)
theorem dX10_advance_63 : decode cX10_advance 63 = .ok (.putfield 112, 3) := dk_181 0 112 (dk_at dksX10_advance_2 16 rfl rfl)
theorem dX10_advance_66 : decode cX10_advance 66 = .ok (.goto 173, 3) := dk_167 0 173 (dk_at dksX10_advance_2 19 rfl rfl)
theorem dX10_advance_69 : decode cX10_advance 69 = .ok (.iload_n 1, 1) := dk_27 (dk_at dksX10_advance_2 22 rfl rfl)
theorem dX10_advance_70 : decode cX10_advance 70 = .ok (.i2l, 1) := dk_133 (dk_at dksX10_advance_2 23 rfl rfl)
theorem dX10_advance_71 : decode cX10_advance 71 = .ok (.ldc2_w 115, 3) := dk_20 0 115 (dk_at dksX10_advance_3 0 rfl rfl)
theorem dX10_advance_74 : decode cX10_advance 74 = .ok (.ldc2_w 117, 3) := dk_20 0 117 (dk_at dksX10_advance_3 3 rfl rfl)
theorem dX10_advance_77 : decode cX10_advance 77 = .ok (.invokestatic 88, 3) := dk_184 0 88 (dk_at dksX10_advance_3 6 rfl rfl)
theorem dX10_advance_80 : decode cX10_advance 80 = .ok (.ifCond .eq 45, 3) := dk_153 0 45 (dk_at dksX10_advance_3 9 rfl rfl)
theorem dX10_advance_83 : decode cX10_advance 83 = .ok (.aload_n 0, 1) := dk_42 (dk_at dksX10_advance_3 12 rfl rfl)
theorem dX10_advance_84 : decode cX10_advance 84 = .ok (.aload_n 0, 1) := dk_42 (dk_at dksX10_advance_3 13 rfl rfl)
theorem dX10_advance_85 : decode cX10_advance 85 = .ok (.getfield 102, 3) := dk_180 0 102 (dk_at dksX10_advance_3 14 rfl rfl)
theorem dX10_advance_88 : decode cX10_advance 88 = .ok (.invokevirtual 105, 3) := dk_182 0 105 (dk_at dksX10_advance_3 17 rfl rfl)
theorem dX10_advance_91 : decode cX10_advance 91 = .ok (.i2l, 1) := dk_133 (dk_at dksX10_advance_3 20 rfl rfl)
theorem dX10_advance_92 : decode cX10_advance 92 = .ok (.ldc2_w 115, 3) := dk_20 0 115 (dk_at dksX10_advance_3 21 rfl rfl)
theorem dX10_advance_95 : decode cX10_advance 95 = .ok (.ldc2_w 117, 3) := dk_20 0 117 (dk_at dksX10_advance_4 0 rfl rfl)
theorem dX10_advance_98 : decode cX10_advance 98 = .ok (.invokestatic 88, 3) := dk_184 0 88 (dk_at dksX10_advance_4 3 rfl rfl)
theorem dX10_advance_101 : decode cX10_advance 101 = .ok (.ifCond .eq 16, 3) := dk_153 0 16 (dk_at dksX10_advance_4 6 rfl rfl)
theorem dX10_advance_104 : decode cX10_advance 104 = .ok (.aload_n 0, 1) := dk_42 (dk_at dksX10_advance_4 9 rfl rfl)
theorem dX10_advance_105 : decode cX10_advance 105 = .ok (.dup, 1) := dk_89 (dk_at dksX10_advance_4 10 rfl rfl)
theorem dX10_advance_106 : decode cX10_advance 106 = .ok (.getfield 102, 3) := dk_180 0 102 (dk_at dksX10_advance_4 11 rfl rfl)
theorem dX10_advance_109 : decode cX10_advance 109 = .ok (.iconst 1, 1) := dk_4 (dk_at dksX10_advance_4 14 rfl rfl)
theorem dX10_advance_110 : decode cX10_advance 110 = .ok (.iadd, 1) := dk_96 (dk_at dksX10_advance_4 15 rfl rfl)
theorem dX10_advance_111 : decode cX10_advance 111 = .ok (.putfield 102, 3) := dk_181 0 102 (dk_at dksX10_advance_4 16 rfl rfl)
theorem dX10_advance_114 : decode cX10_advance 114 = .ok (.goto (-31), 3) := dk_167 255 225 (dk_at dksX10_advance_4 19 rfl rfl)
theorem dX10_advance_117 : decode cX10_advance 117 = .ok (.aload_n 0, 1) := dk_42 (dk_at dksX10_advance_4 22 rfl rfl)
theorem dX10_advance_118 : decode cX10_advance 118 = .ok (.iconst 1, 1) := dk_4 (dk_at dksX10_advance_4 23 rfl rfl)
theorem dX10_advance_119 : decode cX10_advance 119 = .ok (.putfield 112, 3) := dk_181 0 112 (dk_at dksX10_advance_5 0 rfl rfl)
theorem dX10_advance_122 : decode cX10_advance 122 = .ok (.goto 117, 3) := dk_167 0 117 (dk_at dksX10_advance_5 3 rfl rfl)
theorem dX10_advance_125 : decode cX10_advance 125 = .ok (.iload_n 1, 1) := dk_27 (dk_at dksX10_advance_5 6 rfl rfl)
theorem dX10_advance_126 : decode cX10_advance 126 = .ok (.i2l, 1) := dk_133 (dk_at dksX10_advance_5 7 rfl rfl)
theorem dX10_advance_127 : decode cX10_advance 127 = .ok (.ldc2_w 119, 3) := dk_20 0 119 (dk_at dksX10_advance_5 8 rfl rfl)
theorem dX10_advance_130 : decode cX10_advance 130 = .ok (.ldc2_w 121, 3) := dk_20 0 121 (dk_at dksX10_advance_5 11 rfl rfl)
theorem dX10_advance_133 : decode cX10_advance 133 = .ok (.invokestatic 88, 3) := dk_184 0 88 (dk_at dksX10_advance_5 14 rfl rfl)
theorem dX10_advance_136 : decode cX10_advance 136 = .ok (.ifCond .eq 78, 3) := dk_153 0 78 (dk_at dksX10_advance_5 17 rfl rfl)
theorem dX10_advance_139 : decode cX10_advance 139 = .ok (.aload_n 0, 1) := dk_42 (dk_at dksX10_advance_5 20 rfl rfl)
theorem dX10_advance_140 : decode cX10_advance 140 = .ok (.iconst 0, 1) := dk_3 (dk_at dksX10_advance_5 21 rfl rfl)
theorem dX10_advance_141 : decode cX10_advance 141 = .ok (.putfield 123, 3) := dk_181 0 123 (dk_at dksX10_advance_6 0 rfl rfl)
theorem dX10_advance_144 : decode cX10_advance 144 = .ok (.aload_n 0, 1) := dk_42 (dk_at dksX10_advance_6 3 rfl rfl)
theorem dX10_advance_145 : decode cX10_advance 145 = .ok (.aload_n 0, 1) := dk_42 (dk_at dksX10_advance_6 4 rfl rfl)
theorem dX10_advance_146 : decode cX10_advance 146 = .ok (.getfield 102, 3) := dk_180 0 102 (dk_at dksX10_advance_6 5 rfl rfl)
theorem dX10_advance_149 : decode cX10_advance 149 = .ok (.invokevirtual 105, 3) := dk_182 0 105 (dk_at dksX10_advance_6 8 rfl rfl)
theorem dX10_advance_152 : decode cX10_advance 152 = .ok (.i2l, 1) := dk_133 (dk_at dksX10_advance_6 11 rfl rfl)
theorem dX10_advance_153 : decode cX10_advance 153 = .ok (.ldc2_w 119, 3) := dk_20 0 119 (dk_at dksX10_advance_6 12 rfl rfl)
theorem dX10_advance_156 : decode cX10_advance 156 = .ok (.ldc2_w 121, 3) := dk_20 0 121 (dk_at dksX10_advance_6 15 rfl rfl)
theorem dX10_advance_159 : decode cX10_advance 159 = .ok (.invokestatic 88, 3) := dk_184 0 88 (dk_at dksX10_advance_6 18 rfl rfl)
theorem dX10_advance_162 : decode cX10_advance 162 = .ok (.ifCond .eq 44, 3) := dk_153 0 44 (dk_at dksX10_advance_6 21 rfl rfl)
theorem dX10_advance_165 : decode cX10_advance 165 = .ok (.aload_n 0, 1) := dk_42 (dk_at dksX10_advance_7 0 rfl rfl)
theorem dX10_advance_166 : decode cX10_advance 166 = .ok (.ldc 126, 2) := dk_18 126 (dk_at dksX10_advance_7 1 rfl rfl)
theorem dX10_advance_168 : decode cX10_advance 168 = .ok (.bipush 10, 2) := dk_16 10 (dk_at dksX10_advance_7 3 rfl rfl)
theorem dX10_advance_170 : decode cX10_advance 170 = .ok (.aload_n 0, 1) := dk_42 (dk_at dksX10_advance_7 5 rfl rfl)
theorem dX10_advance_171 : decode cX10_advance 171 = .ok (.getfield 123, 3) := dk_180 0 123 (dk_at dksX10_advance_7 6 rfl rfl)
theorem dX10_advance_174 : decode cX10_advance 174 = .ok (.imul, 1) := dk_104 (dk_at dksX10_advance_7 9 rfl rfl)
theorem dX10_advance_175 : decode cX10_advance 175 = .ok (.aload_n 0, 1) := dk_42 (dk_at dksX10_advance_7 10 rfl rfl)
theorem dX10_advance_176 : decode cX10_advance 176 = .ok (.aload_n 0, 1) := dk_42 (dk_at dksX10_advance_7 11 rfl rfl)
theorem dX10_advance_177 : decode cX10_advance 177 = .ok (.getfield 102, 3) := dk_180 0 102 (dk_at dksX10_advance_7 12 rfl rfl)
theorem dX10_advance_180 : decode cX10_advance 180 = .ok (.invokevirtual 105, 3) := dk_182 0 105 (dk_at dksX10_advance_7 15 rfl rfl)
theorem dX10_advance_183 : decode cX10_advance 183 = .ok (.iadd, 1) := dk_96 (dk_at dksX10_advance_7 18 rfl rfl)
theorem dX10_advance_184 : decode cX10_advance 184 = .ok (.bipush 48, 2) := dk_16 48 (dk_at dksX10_advance_7 19 rfl rfl)
theorem dX10_advance_186 : decode cX10_advance 186 = .ok (.isub, 1) := dk_100 (dk_at dksX10_advance_7 21 rfl rfl)
theorem dX10_advance_187 : decode cX10_advance 187 = .ok (.invokestatic 127, 3) := dk_184 0 127 (dk_at dksX10_advance_8 0 rfl rfl)
theorem dX10_advance_190 : decode cX10_advance 190 = .ok (.putfield 123, 3) := dk_181 0 123 (dk_at dksX10_advance_8 3 rfl rfl)
theorem dX10_advance_193 : decode cX10_advance 193 = .ok (.aload_n 0, 1) := dk_42 (dk_at dksX10_advance_8 6 rfl rfl)
theorem dX10_advance_194 : decode cX10_advance 194 = .ok (.dup, 1) := dk_89 (dk_at dksX10_advance_8 7 rfl rfl)
theorem dX10_advance_195 : decode cX10_advance 195 = .ok (.getfield 102, 3) := dk_180 0 102 (dk_at dksX10_advance_8 8 rfl rfl)
theorem dX10_advance_198 : decode cX10_advance 198 = .ok (.iconst 1, 1) := dk_4 (dk_at dksX10_advance_8 11 rfl rfl)
theorem dX10_advance_199 : decode cX10_advance 199 = .ok (.iadd, 1) := dk_96 (dk_at dksX10_advance_8 12 rfl rfl)
theorem dX10_advance_200 : decode cX10_advance 200 = .ok (.putfield 102, 3) := dk_181 0 102 (dk_at dksX10_advance_8 13 rfl rfl)
theorem dX10_advance_203 : decode cX10_advance 203 = .ok (.goto (-59), 3) := dk_167 255 197 (dk_at dksX10_advance_8 16 rfl rfl)
theorem dX10_advance_206 : decode cX10_advance 206 = .ok (.aload_n 0, 1) := dk_42 (dk_at dksX10_advance_8 19 rfl rfl)
theorem dX10_advance_207 : decode cX10_advance 207 = .ok (.iconst 2, 1) := dk_5 (dk_at dksX10_advance_8 20 rfl rfl)
theorem dX10_advance_208 : decode cX10_advance 208 = .ok (.putfield 112, 3) := dk_181 0 112 (dk_at dksX10_advance_8 21 rfl rfl)
theorem dX10_advance_211 : decode cX10_advance 211 = .ok (.goto 28, 3) := dk_167 0 28 (dk_at dksX10_advance_9 0 rfl rfl)
theorem dX10_advance_214 : decode cX10_advance 214 = .ok (.aload_n 0, 1) := dk_42 (dk_at dksX10_advance_9 3 rfl rfl)
theorem dX10_advance_215 : decode cX10_advance 215 = .ok (.iload_n 1, 1) := dk_27 (dk_at dksX10_advance_9 4 rfl rfl)
theorem dX10_advance_216 : decode cX10_advance 216 = .ok (.bipush 59, 2) := dk_16 59 (dk_at dksX10_advance_9 5 rfl rfl)
theorem dX10_advance_218 : decode cX10_advance 218 = .ok (.if_icmp .ne 7, 3) := dk_160 0 7 (dk_at dksX10_advance_9 7 rfl rfl)
theorem dX10_advance_221 : decode cX10_advance 221 = .ok (.iconst 3, 1) := dk_6 (dk_at dksX10_advance_9 10 rfl rfl)
theorem dX10_advance_222 : decode cX10_advance 222 = .ok (.goto 4, 3) := dk_167 0 4 (dk_at dksX10_advance_9 11 rfl rfl)
theorem dX10_advance_225 : decode cX10_advance 225 = .ok (.iconst 4, 1) := dk_7 (dk_at dksX10_advance_9 14 rfl rfl)
theorem dX10_advance_226 : decode cX10_advance 226 = .ok (.putfield 112, 3) := dk_181 0 112 (dk_at dksX10_advance_9 15 rfl rfl)
theorem dX10_advance_229 : decode cX10_advance 229 = .ok (.aload_n 0, 1) := dk_42 (dk_at dksX10_advance_9 18 rfl rfl)
theorem dX10_advance_230 : decode cX10_advance 230 = .ok (.dup, 1) := dk_89 (dk_at dksX10_advance_9 19 rfl rfl)
theorem dX10_advance_231 : decode cX10_advance 231 = .ok (.getfield 102, 3) := dk_180 0 102 (dk_at dksX10_advance_9 20 rfl rfl)
theorem dX10_advance_234 : decode cX10_advance 234 = .ok (.iconst 1, 1) := dk_4 (dk_at dksX10_advance_9 23 rfl rfl)
theorem dX10_advance_235 : decode cX10_advance 235 = .ok (.iadd, 1) := dk_96 (dk_at dksX10_advance_10 0 rfl rfl)
theorem dX10_advance_236 : decode cX10_advance 236 = .ok (.putfield 102, 3) := dk_181 0 102 (dk_at dksX10_advance_10 1 rfl rfl)
theorem dX10_advance_239 : decode cX10_advance 239 = .ok (.return_, 1) := dk_177 (dk_at dksX10_advance_10 4 rfl rfl)
abbrev cX10_see : ByteArray := prog_16_method_17_code
def yX10_see : MethodName := ⟨RX10, "see", "(I)I"⟩
def dkwX10_see_0 : List UInt8 := [27, 42, 180, 0, 99, 162, 0, 16, 42, 180, 0, 20, 27, 51, 17, 0, 255, 126, 167, 0, 4, 2, 172]
abbrev dktX10_see_0 : List UInt8 := dkwX10_see_0 ++ []
theorem dksX10_see_0 : cX10_see.data.toList.drop 0 = dktX10_see_0 := by decide +kernel
theorem dX10_see_0 : decode cX10_see 0 = .ok (.iload_n 1, 1) := dk_27 (dk_at dksX10_see_0 0 rfl rfl)
theorem dX10_see_1 : decode cX10_see 1 = .ok (.aload_n 0, 1) := dk_42 (dk_at dksX10_see_0 1 rfl rfl)
theorem dX10_see_2 : decode cX10_see 2 = .ok (.getfield 99, 3) := dk_180 0 99 (dk_at dksX10_see_0 2 rfl rfl)
theorem dX10_see_5 : decode cX10_see 5 = .ok (.if_icmp .ge 16, 3) := dk_162 0 16 (dk_at dksX10_see_0 5 rfl rfl)
theorem dX10_see_8 : decode cX10_see 8 = .ok (.aload_n 0, 1) := dk_42 (dk_at dksX10_see_0 8 rfl rfl)
theorem dX10_see_9 : decode cX10_see 9 = .ok (.getfield 20, 3) := dk_180 0 20 (dk_at dksX10_see_0 9 rfl rfl)
theorem dX10_see_12 : decode cX10_see 12 = .ok (.iload_n 1, 1) := dk_27 (dk_at dksX10_see_0 12 rfl rfl)
theorem dX10_see_13 : decode cX10_see 13 = .ok (.baload, 1) := dk_51 (dk_at dksX10_see_0 13 rfl rfl)
theorem dX10_see_14 : decode cX10_see 14 = .ok (.sipush 255, 3) := dk_17 0 255 (dk_at dksX10_see_0 14 rfl rfl)
theorem dX10_see_17 : decode cX10_see 17 = .ok (.iand, 1) := dk_126 (dk_at dksX10_see_0 17 rfl rfl)
theorem dX10_see_18 : decode cX10_see 18 = .ok (.goto 4, 3) := dk_167 0 4 (dk_at dksX10_see_0 18 rfl rfl)
theorem dX10_see_21 : decode cX10_see 21 = .ok (.iconst (-1), 1) := dk_2 (dk_at dksX10_see_0 21 rfl rfl)
theorem dX10_see_22 : decode cX10_see 22 = .ok (.ireturn, 1) := dk_172 (dk_at dksX10_see_0 22 rfl rfl)
abbrev cX10_good : ByteArray := prog_16_method_19_code
def yX10_good : MethodName := ⟨RX10, "good", "()Z"⟩
def dkwX10_good_0 : List UInt8 := [42, 180, 0, 133, 154, 0, 7, 4, 167, 0, 4, 3, 172]
abbrev dktX10_good_0 : List UInt8 := dkwX10_good_0 ++ []
theorem dksX10_good_0 : cX10_good.data.toList.drop 0 = dktX10_good_0 := by decide +kernel
theorem dX10_good_0 : decode cX10_good 0 = .ok (.aload_n 0, 1) := dk_42 (dk_at dksX10_good_0 0 rfl rfl)
theorem dX10_good_1 : decode cX10_good 1 = .ok (.getfield 133, 3) := dk_180 0 133 (dk_at dksX10_good_0 1 rfl rfl)
theorem dX10_good_4 : decode cX10_good 4 = .ok (.ifCond .ne 7, 3) := dk_154 0 7 (dk_at dksX10_good_0 4 rfl rfl)
theorem dX10_good_7 : decode cX10_good 7 = .ok (.iconst 1, 1) := dk_4 (dk_at dksX10_good_0 7 rfl rfl)
theorem dX10_good_8 : decode cX10_good 8 = .ok (.goto 4, 3) := dk_167 0 4 (dk_at dksX10_good_0 8 rfl rfl)
theorem dX10_good_11 : decode cX10_good 11 = .ok (.iconst 0, 1) := dk_3 (dk_at dksX10_good_0 11 rfl rfl)
theorem dX10_good_12 : decode cX10_good 12 = .ok (.ireturn, 1) := dk_172 (dk_at dksX10_good_0 12 rfl rfl)
abbrev cX10_readLine : ByteArray := prog_16_method_38_code
def yX10_readLine : MethodName := ⟨RX10, "readLine", "()V"⟩
def dkwX10_readLine_2 : List UInt8 := [153, 0, 7, 42, 182, 0, 153, 42, 180, 0, 31, 16, 9, 92, 46, 4, 96, 79, 177]
abbrev dktX10_readLine_2 : List UInt8 := dkwX10_readLine_2 ++ []
def dkwX10_readLine_1 : List UInt8 := [182, 0, 136, 153, 0, 16, 42, 180, 0, 112, 6, 159, 0, 8, 42, 4, 182, 0, 159, 42, 182, 0, 136]
abbrev dktX10_readLine_1 : List UInt8 := dkwX10_readLine_1 ++ dktX10_readLine_2
def dkwX10_readLine_0 : List UInt8 := [42, 180, 0, 31, 16, 9, 46, 154, 0, 10, 42, 182, 0, 239, 167, 0, 7, 42, 182, 0, 242, 42]
abbrev dktX10_readLine_0 : List UInt8 := dkwX10_readLine_0 ++ dktX10_readLine_1
theorem dksX10_readLine_0 : cX10_readLine.data.toList.drop 0 = dktX10_readLine_0 := by decide +kernel
theorem dksX10_readLine_1 : cX10_readLine.data.toList.drop 22 = dktX10_readLine_1 := dk_seg dksX10_readLine_0 22 rfl rfl
theorem dksX10_readLine_2 : cX10_readLine.data.toList.drop 45 = dktX10_readLine_2 := dk_seg dksX10_readLine_1 23 rfl rfl
theorem dX10_readLine_0 : decode cX10_readLine 0 = .ok (.aload_n 0, 1) := dk_42 (dk_at dksX10_readLine_0 0 rfl rfl)
theorem dX10_readLine_1 : decode cX10_readLine 1 = .ok (.getfield 31, 3) := dk_180 0 31 (dk_at dksX10_readLine_0 1 rfl rfl)
theorem dX10_readLine_4 : decode cX10_readLine 4 = .ok (.bipush 9, 2) := dk_16 9 (dk_at dksX10_readLine_0 4 rfl rfl)
theorem dX10_readLine_6 : decode cX10_readLine 6 = .ok (.iaload, 1) := dk_46 (dk_at dksX10_readLine_0 6 rfl rfl)
theorem dX10_readLine_7 : decode cX10_readLine 7 = .ok (.ifCond .ne 10, 3) := dk_154 0 10 (dk_at dksX10_readLine_0 7 rfl rfl)
theorem dX10_readLine_10 : decode cX10_readLine 10 = .ok (.aload_n 0, 1) := dk_42 (dk_at dksX10_readLine_0 10 rfl rfl)
theorem dX10_readLine_11 : decode cX10_readLine 11 = .ok (.invokevirtual 239, 3) := dk_182 0 239 (dk_at dksX10_readLine_0 11 rfl rfl)
theorem dX10_readLine_14 : decode cX10_readLine 14 = .ok (.goto 7, 3) := dk_167 0 7 (dk_at dksX10_readLine_0 14 rfl rfl)
theorem dX10_readLine_17 : decode cX10_readLine 17 = .ok (.aload_n 0, 1) := dk_42 (dk_at dksX10_readLine_0 17 rfl rfl)
theorem dX10_readLine_18 : decode cX10_readLine 18 = .ok (.invokevirtual 242, 3) := dk_182 0 242 (dk_at dksX10_readLine_0 18 rfl rfl)
theorem dX10_readLine_21 : decode cX10_readLine 21 = .ok (.aload_n 0, 1) := dk_42 (dk_at dksX10_readLine_0 21 rfl rfl)
theorem dX10_readLine_22 : decode cX10_readLine 22 = .ok (.invokevirtual 136, 3) := dk_182 0 136 (dk_at dksX10_readLine_1 0 rfl rfl)
theorem dX10_readLine_25 : decode cX10_readLine 25 = .ok (.ifCond .eq 16, 3) := dk_153 0 16 (dk_at dksX10_readLine_1 3 rfl rfl)
theorem dX10_readLine_28 : decode cX10_readLine 28 = .ok (.aload_n 0, 1) := dk_42 (dk_at dksX10_readLine_1 6 rfl rfl)
theorem dX10_readLine_29 : decode cX10_readLine 29 = .ok (.getfield 112, 3) := dk_180 0 112 (dk_at dksX10_readLine_1 7 rfl rfl)
theorem dX10_readLine_32 : decode cX10_readLine 32 = .ok (.iconst 3, 1) := dk_6 (dk_at dksX10_readLine_1 10 rfl rfl)
theorem dX10_readLine_33 : decode cX10_readLine 33 = .ok (.if_icmp .eq 8, 3) := dk_159 0 8 (dk_at dksX10_readLine_1 11 rfl rfl)
theorem dX10_readLine_36 : decode cX10_readLine 36 = .ok (.aload_n 0, 1) := dk_42 (dk_at dksX10_readLine_1 14 rfl rfl)
theorem dX10_readLine_37 : decode cX10_readLine 37 = .ok (.iconst 1, 1) := dk_4 (dk_at dksX10_readLine_1 15 rfl rfl)
theorem dX10_readLine_38 : decode cX10_readLine 38 = .ok (.invokevirtual 159, 3) := dk_182 0 159 (dk_at dksX10_readLine_1 16 rfl rfl)
theorem dX10_readLine_41 : decode cX10_readLine 41 = .ok (.aload_n 0, 1) := dk_42 (dk_at dksX10_readLine_1 19 rfl rfl)
theorem dX10_readLine_42 : decode cX10_readLine 42 = .ok (.invokevirtual 136, 3) := dk_182 0 136 (dk_at dksX10_readLine_1 20 rfl rfl)
theorem dX10_readLine_45 : decode cX10_readLine 45 = .ok (.ifCond .eq 7, 3) := dk_153 0 7 (dk_at dksX10_readLine_2 0 rfl rfl)
theorem dX10_readLine_48 : decode cX10_readLine 48 = .ok (.aload_n 0, 1) := dk_42 (dk_at dksX10_readLine_2 3 rfl rfl)
theorem dX10_readLine_49 : decode cX10_readLine 49 = .ok (.invokevirtual 153, 3) := dk_182 0 153 (dk_at dksX10_readLine_2 4 rfl rfl)
theorem dX10_readLine_52 : decode cX10_readLine 52 = .ok (.aload_n 0, 1) := dk_42 (dk_at dksX10_readLine_2 7 rfl rfl)
theorem dX10_readLine_53 : decode cX10_readLine 53 = .ok (.getfield 31, 3) := dk_180 0 31 (dk_at dksX10_readLine_2 8 rfl rfl)
theorem dX10_readLine_56 : decode cX10_readLine 56 = .ok (.bipush 9, 2) := dk_16 9 (dk_at dksX10_readLine_2 11 rfl rfl)
theorem dX10_readLine_58 : decode cX10_readLine 58 = .ok (.dup2, 1) := dk_92 (dk_at dksX10_readLine_2 13 rfl rfl)
theorem dX10_readLine_59 : decode cX10_readLine 59 = .ok (.iaload, 1) := dk_46 (dk_at dksX10_readLine_2 14 rfl rfl)
theorem dX10_readLine_60 : decode cX10_readLine 60 = .ok (.iconst 1, 1) := dk_4 (dk_at dksX10_readLine_2 15 rfl rfl)
theorem dX10_readLine_61 : decode cX10_readLine 61 = .ok (.iadd, 1) := dk_96 (dk_at dksX10_readLine_2 16 rfl rfl)
theorem dX10_readLine_62 : decode cX10_readLine 62 = .ok (.iastore, 1) := dk_79 (dk_at dksX10_readLine_2 17 rfl rfl)
theorem dX10_readLine_63 : decode cX10_readLine 63 = .ok (.return_, 1) := dk_177 (dk_at dksX10_readLine_2 18 rfl rfl)
abbrev cX10_readFirst : ByteArray := prog_16_method_28_code
def yX10_readFirst : MethodName := ⟨RX10, "readFirst", "()V"⟩
def dkwX10_readFirst_3 : List UInt8 := [16, 10, 4, 79, 42, 180, 0, 31, 16, 11, 16, 100, 79, 177]
abbrev dktX10_readFirst_3 : List UInt8 := dkwX10_readFirst_3 ++ []
def dkwX10_readFirst_2 : List UInt8 := [182, 0, 174, 79, 42, 180, 0, 31, 6, 42, 18, 182, 3, 16, 9, 182, 0, 174, 79, 42, 180, 0, 31]
abbrev dktX10_readFirst_2 : List UInt8 := dkwX10_readFirst_2 ++ dktX10_readFirst_3
def dkwX10_readFirst_1 : List UInt8 := [4, 42, 18, 178, 4, 6, 182, 0, 174, 79, 42, 180, 0, 31, 5, 42, 18, 180, 4, 17, 0, 200]
abbrev dktX10_readFirst_1 : List UInt8 := dkwX10_readFirst_1 ++ dktX10_readFirst_2
def dkwX10_readFirst_0 : List UInt8 := [42, 18, 170, 182, 0, 163, 42, 180, 0, 31, 3, 42, 18, 172, 4, 7, 182, 0, 174, 79, 42, 180, 0, 31]
abbrev dktX10_readFirst_0 : List UInt8 := dkwX10_readFirst_0 ++ dktX10_readFirst_1
theorem dksX10_readFirst_0 : cX10_readFirst.data.toList.drop 0 = dktX10_readFirst_0 := by decide +kernel
theorem dksX10_readFirst_1 : cX10_readFirst.data.toList.drop 24 = dktX10_readFirst_1 := dk_seg dksX10_readFirst_0 24 rfl rfl
theorem dksX10_readFirst_2 : cX10_readFirst.data.toList.drop 46 = dktX10_readFirst_2 := dk_seg dksX10_readFirst_1 22 rfl rfl
theorem dksX10_readFirst_3 : cX10_readFirst.data.toList.drop 69 = dktX10_readFirst_3 := dk_seg dksX10_readFirst_2 23 rfl rfl
theorem dX10_readFirst_0 : decode cX10_readFirst 0 = .ok (.aload_n 0, 1) := dk_42 (dk_at dksX10_readFirst_0 0 rfl rfl)
theorem dX10_readFirst_1 : decode cX10_readFirst 1 = .ok (.ldc 170, 2) := dk_18 170 (dk_at dksX10_readFirst_0 1 rfl rfl)
theorem dX10_readFirst_3 : decode cX10_readFirst 3 = .ok (.invokevirtual 163, 3) := dk_182 0 163 (dk_at dksX10_readFirst_0 3 rfl rfl)
theorem dX10_readFirst_6 : decode cX10_readFirst 6 = .ok (.aload_n 0, 1) := dk_42 (dk_at dksX10_readFirst_0 6 rfl rfl)
theorem dX10_readFirst_7 : decode cX10_readFirst 7 = .ok (.getfield 31, 3) := dk_180 0 31 (dk_at dksX10_readFirst_0 7 rfl rfl)
theorem dX10_readFirst_10 : decode cX10_readFirst 10 = .ok (.iconst 0, 1) := dk_3 (dk_at dksX10_readFirst_0 10 rfl rfl)
theorem dX10_readFirst_11 : decode cX10_readFirst 11 = .ok (.aload_n 0, 1) := dk_42 (dk_at dksX10_readFirst_0 11 rfl rfl)
theorem dX10_readFirst_12 : decode cX10_readFirst 12 = .ok (.ldc 172, 2) := dk_18 172 (dk_at dksX10_readFirst_0 12 rfl rfl)
theorem dX10_readFirst_14 : decode cX10_readFirst 14 = .ok (.iconst 1, 1) := dk_4 (dk_at dksX10_readFirst_0 14 rfl rfl)
theorem dX10_readFirst_15 : decode cX10_readFirst 15 = .ok (.iconst 4, 1) := dk_7 (dk_at dksX10_readFirst_0 15 rfl rfl)
theorem dX10_readFirst_16 : decode cX10_readFirst 16 = .ok (.invokevirtual 174, 3) := dk_182 0 174 (dk_at dksX10_readFirst_0 16 rfl rfl)
theorem dX10_readFirst_19 : decode cX10_readFirst 19 = .ok (.iastore, 1) := dk_79 (dk_at dksX10_readFirst_0 19 rfl rfl)
theorem dX10_readFirst_20 : decode cX10_readFirst 20 = .ok (.aload_n 0, 1) := dk_42 (dk_at dksX10_readFirst_0 20 rfl rfl)
theorem dX10_readFirst_21 : decode cX10_readFirst 21 = .ok (.getfield 31, 3) := dk_180 0 31 (dk_at dksX10_readFirst_0 21 rfl rfl)
theorem dX10_readFirst_24 : decode cX10_readFirst 24 = .ok (.iconst 1, 1) := dk_4 (dk_at dksX10_readFirst_1 0 rfl rfl)
theorem dX10_readFirst_25 : decode cX10_readFirst 25 = .ok (.aload_n 0, 1) := dk_42 (dk_at dksX10_readFirst_1 1 rfl rfl)
theorem dX10_readFirst_26 : decode cX10_readFirst 26 = .ok (.ldc 178, 2) := dk_18 178 (dk_at dksX10_readFirst_1 2 rfl rfl)
theorem dX10_readFirst_28 : decode cX10_readFirst 28 = .ok (.iconst 1, 1) := dk_4 (dk_at dksX10_readFirst_1 4 rfl rfl)
theorem dX10_readFirst_29 : decode cX10_readFirst 29 = .ok (.iconst 3, 1) := dk_6 (dk_at dksX10_readFirst_1 5 rfl rfl)
theorem dX10_readFirst_30 : decode cX10_readFirst 30 = .ok (.invokevirtual 174, 3) := dk_182 0 174 (dk_at dksX10_readFirst_1 6 rfl rfl)
theorem dX10_readFirst_33 : decode cX10_readFirst 33 = .ok (.iastore, 1) := dk_79 (dk_at dksX10_readFirst_1 9 rfl rfl)
theorem dX10_readFirst_34 : decode cX10_readFirst 34 = .ok (.aload_n 0, 1) := dk_42 (dk_at dksX10_readFirst_1 10 rfl rfl)
theorem dX10_readFirst_35 : decode cX10_readFirst 35 = .ok (.getfield 31, 3) := dk_180 0 31 (dk_at dksX10_readFirst_1 11 rfl rfl)
theorem dX10_readFirst_38 : decode cX10_readFirst 38 = .ok (.iconst 2, 1) := dk_5 (dk_at dksX10_readFirst_1 14 rfl rfl)
theorem dX10_readFirst_39 : decode cX10_readFirst 39 = .ok (.aload_n 0, 1) := dk_42 (dk_at dksX10_readFirst_1 15 rfl rfl)
theorem dX10_readFirst_40 : decode cX10_readFirst 40 = .ok (.ldc 180, 2) := dk_18 180 (dk_at dksX10_readFirst_1 16 rfl rfl)
theorem dX10_readFirst_42 : decode cX10_readFirst 42 = .ok (.iconst 1, 1) := dk_4 (dk_at dksX10_readFirst_1 18 rfl rfl)
theorem dX10_readFirst_43 : decode cX10_readFirst 43 = .ok (.sipush 200, 3) := dk_17 0 200 (dk_at dksX10_readFirst_1 19 rfl rfl)
theorem dX10_readFirst_46 : decode cX10_readFirst 46 = .ok (.invokevirtual 174, 3) := dk_182 0 174 (dk_at dksX10_readFirst_2 0 rfl rfl)
theorem dX10_readFirst_49 : decode cX10_readFirst 49 = .ok (.iastore, 1) := dk_79 (dk_at dksX10_readFirst_2 3 rfl rfl)
theorem dX10_readFirst_50 : decode cX10_readFirst 50 = .ok (.aload_n 0, 1) := dk_42 (dk_at dksX10_readFirst_2 4 rfl rfl)
theorem dX10_readFirst_51 : decode cX10_readFirst 51 = .ok (.getfield 31, 3) := dk_180 0 31 (dk_at dksX10_readFirst_2 5 rfl rfl)
theorem dX10_readFirst_54 : decode cX10_readFirst 54 = .ok (.iconst 3, 1) := dk_6 (dk_at dksX10_readFirst_2 8 rfl rfl)
theorem dX10_readFirst_55 : decode cX10_readFirst 55 = .ok (.aload_n 0, 1) := dk_42 (dk_at dksX10_readFirst_2 9 rfl rfl)
theorem dX10_readFirst_56 : decode cX10_readFirst 56 = .ok (.ldc 182, 2) := dk_18 182 (dk_at dksX10_readFirst_2 10 rfl rfl)
theorem dX10_readFirst_58 : decode cX10_readFirst 58 = .ok (.iconst 0, 1) := dk_3 (dk_at dksX10_readFirst_2 12 rfl rfl)
theorem dX10_readFirst_59 : decode cX10_readFirst 59 = .ok (.bipush 9, 2) := dk_16 9 (dk_at dksX10_readFirst_2 13 rfl rfl)
theorem dX10_readFirst_61 : decode cX10_readFirst 61 = .ok (.invokevirtual 174, 3) := dk_182 0 174 (dk_at dksX10_readFirst_2 15 rfl rfl)
theorem dX10_readFirst_64 : decode cX10_readFirst 64 = .ok (.iastore, 1) := dk_79 (dk_at dksX10_readFirst_2 18 rfl rfl)
theorem dX10_readFirst_65 : decode cX10_readFirst 65 = .ok (.aload_n 0, 1) := dk_42 (dk_at dksX10_readFirst_2 19 rfl rfl)
theorem dX10_readFirst_66 : decode cX10_readFirst 66 = .ok (.getfield 31, 3) := dk_180 0 31 (dk_at dksX10_readFirst_2 20 rfl rfl)
theorem dX10_readFirst_69 : decode cX10_readFirst 69 = .ok (.bipush 10, 2) := dk_16 10 (dk_at dksX10_readFirst_3 0 rfl rfl)
theorem dX10_readFirst_71 : decode cX10_readFirst 71 = .ok (.iconst 1, 1) := dk_4 (dk_at dksX10_readFirst_3 2 rfl rfl)
theorem dX10_readFirst_72 : decode cX10_readFirst 72 = .ok (.iastore, 1) := dk_79 (dk_at dksX10_readFirst_3 3 rfl rfl)
theorem dX10_readFirst_73 : decode cX10_readFirst 73 = .ok (.aload_n 0, 1) := dk_42 (dk_at dksX10_readFirst_3 4 rfl rfl)
theorem dX10_readFirst_74 : decode cX10_readFirst 74 = .ok (.getfield 31, 3) := dk_180 0 31 (dk_at dksX10_readFirst_3 5 rfl rfl)
theorem dX10_readFirst_77 : decode cX10_readFirst 77 = .ok (.bipush 11, 2) := dk_16 11 (dk_at dksX10_readFirst_3 8 rfl rfl)
theorem dX10_readFirst_79 : decode cX10_readFirst 79 = .ok (.bipush 100, 2) := dk_16 100 (dk_at dksX10_readFirst_3 10 rfl rfl)
theorem dX10_readFirst_81 : decode cX10_readFirst 81 = .ok (.iastore, 1) := dk_79 (dk_at dksX10_readFirst_3 12 rfl rfl)
theorem dX10_readFirst_82 : decode cX10_readFirst 82 = .ok (.return_, 1) := dk_177 (dk_at dksX10_readFirst_3 13 rfl rfl)
abbrev cX10_needs : ByteArray := prog_16_method_23_code
def yX10_needs : MethodName := ⟨RX10, "needs", "(Ljava/lang/String;)V"⟩
def dkwX10_needs_0 : List UInt8 := [42, 43, 182, 0, 156, 154, 0, 8, 42, 4, 182, 0, 159, 177]
abbrev dktX10_needs_0 : List UInt8 := dkwX10_needs_0 ++ []
theorem dksX10_needs_0 : cX10_needs.data.toList.drop 0 = dktX10_needs_0 := by decide +kernel
theorem dX10_needs_0 : decode cX10_needs 0 = .ok (.aload_n 0, 1) := dk_42 (dk_at dksX10_needs_0 0 rfl rfl)
theorem dX10_needs_1 : decode cX10_needs 1 = .ok (.aload_n 1, 1) := dk_43 (dk_at dksX10_needs_0 1 rfl rfl)
theorem dX10_needs_2 : decode cX10_needs 2 = .ok (.invokevirtual 156, 3) := dk_182 0 156 (dk_at dksX10_needs_0 2 rfl rfl)
theorem dX10_needs_5 : decode cX10_needs 5 = .ok (.ifCond .ne 8, 3) := dk_154 0 8 (dk_at dksX10_needs_0 5 rfl rfl)
theorem dX10_needs_8 : decode cX10_needs 8 = .ok (.aload_n 0, 1) := dk_42 (dk_at dksX10_needs_0 8 rfl rfl)
theorem dX10_needs_9 : decode cX10_needs 9 = .ok (.iconst 1, 1) := dk_4 (dk_at dksX10_needs_0 9 rfl rfl)
theorem dX10_needs_10 : decode cX10_needs 10 = .ok (.invokevirtual 159, 3) := dk_182 0 159 (dk_at dksX10_needs_0 10 rfl rfl)
theorem dX10_needs_13 : decode cX10_needs 13 = .ok (.return_, 1) := dk_177 (dk_at dksX10_needs_0 13 rfl rfl)
abbrev cX10_takes : ByteArray := prog_16_method_22_code
def yX10_takes : MethodName := ⟨RX10, "takes", "(Ljava/lang/String;)Z"⟩
def dkwX10_takes_0 : List UInt8 := [42, 43, 182, 0, 149, 61, 28, 153, 0, 7, 42, 182, 0, 153, 28, 172]
abbrev dktX10_takes_0 : List UInt8 := dkwX10_takes_0 ++ []
theorem dksX10_takes_0 : cX10_takes.data.toList.drop 0 = dktX10_takes_0 := by decide +kernel
theorem dX10_takes_0 : decode cX10_takes 0 = .ok (.aload_n 0, 1) := dk_42 (dk_at dksX10_takes_0 0 rfl rfl)
theorem dX10_takes_1 : decode cX10_takes 1 = .ok (.aload_n 1, 1) := dk_43 (dk_at dksX10_takes_0 1 rfl rfl)
theorem dX10_takes_2 : decode cX10_takes 2 = .ok (.invokevirtual 149, 3) := dk_182 0 149 (dk_at dksX10_takes_0 2 rfl rfl)
theorem dX10_takes_5 : decode cX10_takes 5 = .ok (.istore_n 2, 1) := dk_61 (dk_at dksX10_takes_0 5 rfl rfl)
theorem dX10_takes_6 : decode cX10_takes 6 = .ok (.iload_n 2, 1) := dk_28 (dk_at dksX10_takes_0 6 rfl rfl)
theorem dX10_takes_7 : decode cX10_takes 7 = .ok (.ifCond .eq 7, 3) := dk_153 0 7 (dk_at dksX10_takes_0 7 rfl rfl)
theorem dX10_takes_10 : decode cX10_takes 10 = .ok (.aload_n 0, 1) := dk_42 (dk_at dksX10_takes_0 10 rfl rfl)
theorem dX10_takes_11 : decode cX10_takes 11 = .ok (.invokevirtual 153, 3) := dk_182 0 153 (dk_at dksX10_takes_0 11 rfl rfl)
theorem dX10_takes_14 : decode cX10_takes 14 = .ok (.iload_n 2, 1) := dk_28 (dk_at dksX10_takes_0 14 rfl rfl)
theorem dX10_takes_15 : decode cX10_takes 15 = .ok (.ireturn, 1) := dk_172 (dk_at dksX10_takes_0 15 rfl rfl)
abbrev cX10_is : ByteArray := prog_16_method_21_code
def yX10_is : MethodName := ⟨RX10, "is", "(Ljava/lang/String;)Z"⟩
def dkwX10_is_3 : List UInt8 := [167, 0, 4, 3, 61, 132, 3, 1, 167, 255, 216, 28, 172]
abbrev dktX10_is_3 : List UInt8 := dkwX10_is_3 ++ []
def dkwX10_is_2 : List UInt8 := [153, 0, 34, 42, 180, 0, 20, 42, 180, 0, 109, 29, 96, 51, 43, 29, 182, 0, 145, 160, 0, 7, 4]
abbrev dktX10_is_2 : List UInt8 := dkwX10_is_2 ++ dktX10_is_3
def dkwX10_is_1 : List UInt8 := [43, 182, 0, 140, 160, 0, 7, 4, 167, 0, 4, 3, 61, 3, 62, 29, 43, 182, 0, 140, 162, 0, 38, 28]
abbrev dktX10_is_1 : List UInt8 := dkwX10_is_1 ++ dktX10_is_2
def dkwX10_is_0 : List UInt8 := [42, 182, 0, 136, 153, 0, 31, 42, 180, 0, 112, 4, 160, 0, 23, 42, 180, 0, 102, 42, 180, 0, 109, 100]
abbrev dktX10_is_0 : List UInt8 := dkwX10_is_0 ++ dktX10_is_1
theorem dksX10_is_0 : cX10_is.data.toList.drop 0 = dktX10_is_0 := by decide +kernel
theorem dksX10_is_1 : cX10_is.data.toList.drop 24 = dktX10_is_1 := dk_seg dksX10_is_0 24 rfl rfl
theorem dksX10_is_2 : cX10_is.data.toList.drop 48 = dktX10_is_2 := dk_seg dksX10_is_1 24 rfl rfl
theorem dksX10_is_3 : cX10_is.data.toList.drop 71 = dktX10_is_3 := dk_seg dksX10_is_2 23 rfl rfl
theorem dX10_is_0 : decode cX10_is 0 = .ok (.aload_n 0, 1) := dk_42 (dk_at dksX10_is_0 0 rfl rfl)
theorem dX10_is_1 : decode cX10_is 1 = .ok (.invokevirtual 136, 3) := dk_182 0 136 (dk_at dksX10_is_0 1 rfl rfl)
theorem dX10_is_4 : decode cX10_is 4 = .ok (.ifCond .eq 31, 3) := dk_153 0 31 (dk_at dksX10_is_0 4 rfl rfl)
theorem dX10_is_7 : decode cX10_is 7 = .ok (.aload_n 0, 1) := dk_42 (dk_at dksX10_is_0 7 rfl rfl)
theorem dX10_is_8 : decode cX10_is 8 = .ok (.getfield 112, 3) := dk_180 0 112 (dk_at dksX10_is_0 8 rfl rfl)
theorem dX10_is_11 : decode cX10_is 11 = .ok (.iconst 1, 1) := dk_4 (dk_at dksX10_is_0 11 rfl rfl)
theorem dX10_is_12 : decode cX10_is 12 = .ok (.if_icmp .ne 23, 3) := dk_160 0 23 (dk_at dksX10_is_0 12 rfl rfl)
theorem dX10_is_15 : decode cX10_is 15 = .ok (.aload_n 0, 1) := dk_42 (dk_at dksX10_is_0 15 rfl rfl)
theorem dX10_is_16 : decode cX10_is 16 = .ok (.getfield 102, 3) := dk_180 0 102 (dk_at dksX10_is_0 16 rfl rfl)
theorem dX10_is_19 : decode cX10_is 19 = .ok (.aload_n 0, 1) := dk_42 (dk_at dksX10_is_0 19 rfl rfl)
theorem dX10_is_20 : decode cX10_is 20 = .ok (.getfield 109, 3) := dk_180 0 109 (dk_at dksX10_is_0 20 rfl rfl)
theorem dX10_is_23 : decode cX10_is 23 = .ok (.isub, 1) := dk_100 (dk_at dksX10_is_0 23 rfl rfl)
theorem dX10_is_24 : decode cX10_is 24 = .ok (.aload_n 1, 1) := dk_43 (dk_at dksX10_is_1 0 rfl rfl)
theorem dX10_is_25 : decode cX10_is 25 = .ok (.invokevirtual 140, 3) := dk_182 0 140 (dk_at dksX10_is_1 1 rfl rfl)
theorem dX10_is_28 : decode cX10_is 28 = .ok (.if_icmp .ne 7, 3) := dk_160 0 7 (dk_at dksX10_is_1 4 rfl rfl)
theorem dX10_is_31 : decode cX10_is 31 = .ok (.iconst 1, 1) := dk_4 (dk_at dksX10_is_1 7 rfl rfl)
theorem dX10_is_32 : decode cX10_is 32 = .ok (.goto 4, 3) := dk_167 0 4 (dk_at dksX10_is_1 8 rfl rfl)
theorem dX10_is_35 : decode cX10_is 35 = .ok (.iconst 0, 1) := dk_3 (dk_at dksX10_is_1 11 rfl rfl)
theorem dX10_is_36 : decode cX10_is 36 = .ok (.istore_n 2, 1) := dk_61 (dk_at dksX10_is_1 12 rfl rfl)
theorem dX10_is_37 : decode cX10_is 37 = .ok (.iconst 0, 1) := dk_3 (dk_at dksX10_is_1 13 rfl rfl)
theorem dX10_is_38 : decode cX10_is 38 = .ok (.istore_n 3, 1) := dk_62 (dk_at dksX10_is_1 14 rfl rfl)
theorem dX10_is_39 : decode cX10_is 39 = .ok (.iload_n 3, 1) := dk_29 (dk_at dksX10_is_1 15 rfl rfl)
theorem dX10_is_40 : decode cX10_is 40 = .ok (.aload_n 1, 1) := dk_43 (dk_at dksX10_is_1 16 rfl rfl)
theorem dX10_is_41 : decode cX10_is 41 = .ok (.invokevirtual 140, 3) := dk_182 0 140 (dk_at dksX10_is_1 17 rfl rfl)
theorem dX10_is_44 : decode cX10_is 44 = .ok (.if_icmp .ge 38, 3) := dk_162 0 38 (dk_at dksX10_is_1 20 rfl rfl)
theorem dX10_is_47 : decode cX10_is 47 = .ok (.iload_n 2, 1) := dk_28 (dk_at dksX10_is_1 23 rfl rfl)
theorem dX10_is_48 : decode cX10_is 48 = .ok (.ifCond .eq 34, 3) := dk_153 0 34 (dk_at dksX10_is_2 0 rfl rfl)
theorem dX10_is_51 : decode cX10_is 51 = .ok (.aload_n 0, 1) := dk_42 (dk_at dksX10_is_2 3 rfl rfl)
theorem dX10_is_52 : decode cX10_is 52 = .ok (.getfield 20, 3) := dk_180 0 20 (dk_at dksX10_is_2 4 rfl rfl)
theorem dX10_is_55 : decode cX10_is 55 = .ok (.aload_n 0, 1) := dk_42 (dk_at dksX10_is_2 7 rfl rfl)
theorem dX10_is_56 : decode cX10_is 56 = .ok (.getfield 109, 3) := dk_180 0 109 (dk_at dksX10_is_2 8 rfl rfl)
theorem dX10_is_59 : decode cX10_is 59 = .ok (.iload_n 3, 1) := dk_29 (dk_at dksX10_is_2 11 rfl rfl)
theorem dX10_is_60 : decode cX10_is 60 = .ok (.iadd, 1) := dk_96 (dk_at dksX10_is_2 12 rfl rfl)
theorem dX10_is_61 : decode cX10_is 61 = .ok (.baload, 1) := dk_51 (dk_at dksX10_is_2 13 rfl rfl)
theorem dX10_is_62 : decode cX10_is 62 = .ok (.aload_n 1, 1) := dk_43 (dk_at dksX10_is_2 14 rfl rfl)
theorem dX10_is_63 : decode cX10_is 63 = .ok (.iload_n 3, 1) := dk_29 (dk_at dksX10_is_2 15 rfl rfl)
theorem dX10_is_64 : decode cX10_is 64 = .ok (.invokevirtual 145, 3) := dk_182 0 145 (dk_at dksX10_is_2 16 rfl rfl)
theorem dX10_is_67 : decode cX10_is 67 = .ok (.if_icmp .ne 7, 3) := dk_160 0 7 (dk_at dksX10_is_2 19 rfl rfl)
theorem dX10_is_70 : decode cX10_is 70 = .ok (.iconst 1, 1) := dk_4 (dk_at dksX10_is_2 22 rfl rfl)
theorem dX10_is_71 : decode cX10_is 71 = .ok (.goto 4, 3) := dk_167 0 4 (dk_at dksX10_is_3 0 rfl rfl)
theorem dX10_is_74 : decode cX10_is 74 = .ok (.iconst 0, 1) := dk_3 (dk_at dksX10_is_3 3 rfl rfl)
theorem dX10_is_75 : decode cX10_is 75 = .ok (.istore_n 2, 1) := dk_61 (dk_at dksX10_is_3 4 rfl rfl)
theorem dX10_is_76 : decode cX10_is 76 = .ok (.iinc 3 1, 3) := dk_132 3 1 (dk_at dksX10_is_3 5 rfl rfl)
theorem dX10_is_79 : decode cX10_is 79 = .ok (.goto (-40), 3) := dk_167 255 216 (dk_at dksX10_is_3 8 rfl rfl)
theorem dX10_is_82 : decode cX10_is 82 = .ok (.iload_n 2, 1) := dk_28 (dk_at dksX10_is_3 11 rfl rfl)
theorem dX10_is_83 : decode cX10_is 83 = .ok (.ireturn, 1) := dk_172 (dk_at dksX10_is_3 12 rfl rfl)
abbrev cX10_errs : ByteArray := prog_16_method_20_code
def yX10_errs : MethodName := ⟨RX10, "errs", "(I)V"⟩
def dkwX10_errs_0 : List UInt8 := [42, 182, 0, 136, 154, 0, 4, 177, 42, 27, 181, 0, 133, 42, 42, 180, 0, 109, 181, 0, 27, 177]
abbrev dktX10_errs_0 : List UInt8 := dkwX10_errs_0 ++ []
theorem dksX10_errs_0 : cX10_errs.data.toList.drop 0 = dktX10_errs_0 := by decide +kernel
theorem dX10_errs_0 : decode cX10_errs 0 = .ok (.aload_n 0, 1) := dk_42 (dk_at dksX10_errs_0 0 rfl rfl)
theorem dX10_errs_1 : decode cX10_errs 1 = .ok (.invokevirtual 136, 3) := dk_182 0 136 (dk_at dksX10_errs_0 1 rfl rfl)
theorem dX10_errs_4 : decode cX10_errs 4 = .ok (.ifCond .ne 4, 3) := dk_154 0 4 (dk_at dksX10_errs_0 4 rfl rfl)
theorem dX10_errs_7 : decode cX10_errs 7 = .ok (.return_, 1) := dk_177 (dk_at dksX10_errs_0 7 rfl rfl)
theorem dX10_errs_8 : decode cX10_errs 8 = .ok (.aload_n 0, 1) := dk_42 (dk_at dksX10_errs_0 8 rfl rfl)
theorem dX10_errs_9 : decode cX10_errs 9 = .ok (.iload_n 1, 1) := dk_27 (dk_at dksX10_errs_0 9 rfl rfl)
theorem dX10_errs_10 : decode cX10_errs 10 = .ok (.putfield 133, 3) := dk_181 0 133 (dk_at dksX10_errs_0 10 rfl rfl)
theorem dX10_errs_13 : decode cX10_errs 13 = .ok (.aload_n 0, 1) := dk_42 (dk_at dksX10_errs_0 13 rfl rfl)
theorem dX10_errs_14 : decode cX10_errs 14 = .ok (.aload_n 0, 1) := dk_42 (dk_at dksX10_errs_0 14 rfl rfl)
theorem dX10_errs_15 : decode cX10_errs 15 = .ok (.getfield 109, 3) := dk_180 0 109 (dk_at dksX10_errs_0 15 rfl rfl)
theorem dX10_errs_18 : decode cX10_errs 18 = .ok (.putfield 27, 3) := dk_181 0 27 (dk_at dksX10_errs_0 18 rfl rfl)
theorem dX10_errs_21 : decode cX10_errs 21 = .ok (.return_, 1) := dk_177 (dk_at dksX10_errs_0 21 rfl rfl)
abbrev cX10_told : ByteArray := prog_16_method_25_code
def yX10_told : MethodName := ⟨RX10, "told", "(Ljava/lang/String;II)I"⟩
def dkwX10_told_0 : List UInt8 := [42, 43, 182, 0, 163, 42, 28, 29, 182, 0, 167, 172]
abbrev dktX10_told_0 : List UInt8 := dkwX10_told_0 ++ []
theorem dksX10_told_0 : cX10_told.data.toList.drop 0 = dktX10_told_0 := by decide +kernel
theorem dX10_told_0 : decode cX10_told 0 = .ok (.aload_n 0, 1) := dk_42 (dk_at dksX10_told_0 0 rfl rfl)
theorem dX10_told_1 : decode cX10_told 1 = .ok (.aload_n 1, 1) := dk_43 (dk_at dksX10_told_0 1 rfl rfl)
theorem dX10_told_2 : decode cX10_told 2 = .ok (.invokevirtual 163, 3) := dk_182 0 163 (dk_at dksX10_told_0 2 rfl rfl)
theorem dX10_told_5 : decode cX10_told 5 = .ok (.aload_n 0, 1) := dk_42 (dk_at dksX10_told_0 5 rfl rfl)
theorem dX10_told_6 : decode cX10_told 6 = .ok (.iload_n 2, 1) := dk_28 (dk_at dksX10_told_0 6 rfl rfl)
theorem dX10_told_7 : decode cX10_told 7 = .ok (.iload_n 3, 1) := dk_29 (dk_at dksX10_told_0 7 rfl rfl)
theorem dX10_told_8 : decode cX10_told 8 = .ok (.invokevirtual 167, 3) := dk_182 0 167 (dk_at dksX10_told_0 8 rfl rfl)
theorem dX10_told_11 : decode cX10_told 11 = .ok (.ireturn, 1) := dk_172 (dk_at dksX10_told_0 11 rfl rfl)
abbrev cX10_number : ByteArray := prog_16_method_24_code
def yX10_number : MethodName := ⟨RX10, "number", "(II)I"⟩
def dkwX10_number_2 : List UInt8 := [182, 0, 136, 154, 0, 5, 3, 172, 42, 180, 0, 123, 62, 42, 182, 0, 153, 29, 172]
abbrev dktX10_number_2 : List UInt8 := dkwX10_number_2 ++ []
def dkwX10_number_1 : List UInt8 := [153, 0, 23, 42, 180, 0, 123, 133, 27, 133, 28, 133, 184, 0, 88, 154, 0, 8, 42, 5, 182, 0, 159, 42]
abbrev dktX10_number_1 : List UInt8 := dkwX10_number_1 ++ dktX10_number_2
def dkwX10_number_0 : List UInt8 := [42, 182, 0, 136, 153, 0, 16, 42, 180, 0, 112, 5, 159, 0, 8, 42, 4, 182, 0, 159, 42, 182, 0, 136]
abbrev dktX10_number_0 : List UInt8 := dkwX10_number_0 ++ dktX10_number_1
theorem dksX10_number_0 : cX10_number.data.toList.drop 0 = dktX10_number_0 := by decide +kernel
theorem dksX10_number_1 : cX10_number.data.toList.drop 24 = dktX10_number_1 := dk_seg dksX10_number_0 24 rfl rfl
theorem dksX10_number_2 : cX10_number.data.toList.drop 48 = dktX10_number_2 := dk_seg dksX10_number_1 24 rfl rfl
theorem dX10_number_0 : decode cX10_number 0 = .ok (.aload_n 0, 1) := dk_42 (dk_at dksX10_number_0 0 rfl rfl)
theorem dX10_number_1 : decode cX10_number 1 = .ok (.invokevirtual 136, 3) := dk_182 0 136 (dk_at dksX10_number_0 1 rfl rfl)
theorem dX10_number_4 : decode cX10_number 4 = .ok (.ifCond .eq 16, 3) := dk_153 0 16 (dk_at dksX10_number_0 4 rfl rfl)
theorem dX10_number_7 : decode cX10_number 7 = .ok (.aload_n 0, 1) := dk_42 (dk_at dksX10_number_0 7 rfl rfl)
theorem dX10_number_8 : decode cX10_number 8 = .ok (.getfield 112, 3) := dk_180 0 112 (dk_at dksX10_number_0 8 rfl rfl)
theorem dX10_number_11 : decode cX10_number 11 = .ok (.iconst 2, 1) := dk_5 (dk_at dksX10_number_0 11 rfl rfl)
theorem dX10_number_12 : decode cX10_number 12 = .ok (.if_icmp .eq 8, 3) := dk_159 0 8 (dk_at dksX10_number_0 12 rfl rfl)
theorem dX10_number_15 : decode cX10_number 15 = .ok (.aload_n 0, 1) := dk_42 (dk_at dksX10_number_0 15 rfl rfl)
theorem dX10_number_16 : decode cX10_number 16 = .ok (.iconst 1, 1) := dk_4 (dk_at dksX10_number_0 16 rfl rfl)
theorem dX10_number_17 : decode cX10_number 17 = .ok (.invokevirtual 159, 3) := dk_182 0 159 (dk_at dksX10_number_0 17 rfl rfl)
theorem dX10_number_20 : decode cX10_number 20 = .ok (.aload_n 0, 1) := dk_42 (dk_at dksX10_number_0 20 rfl rfl)
theorem dX10_number_21 : decode cX10_number 21 = .ok (.invokevirtual 136, 3) := dk_182 0 136 (dk_at dksX10_number_0 21 rfl rfl)
theorem dX10_number_24 : decode cX10_number 24 = .ok (.ifCond .eq 23, 3) := dk_153 0 23 (dk_at dksX10_number_1 0 rfl rfl)
theorem dX10_number_27 : decode cX10_number 27 = .ok (.aload_n 0, 1) := dk_42 (dk_at dksX10_number_1 3 rfl rfl)
theorem dX10_number_28 : decode cX10_number 28 = .ok (.getfield 123, 3) := dk_180 0 123 (dk_at dksX10_number_1 4 rfl rfl)
theorem dX10_number_31 : decode cX10_number 31 = .ok (.i2l, 1) := dk_133 (dk_at dksX10_number_1 7 rfl rfl)
theorem dX10_number_32 : decode cX10_number 32 = .ok (.iload_n 1, 1) := dk_27 (dk_at dksX10_number_1 8 rfl rfl)
theorem dX10_number_33 : decode cX10_number 33 = .ok (.i2l, 1) := dk_133 (dk_at dksX10_number_1 9 rfl rfl)
theorem dX10_number_34 : decode cX10_number 34 = .ok (.iload_n 2, 1) := dk_28 (dk_at dksX10_number_1 10 rfl rfl)
theorem dX10_number_35 : decode cX10_number 35 = .ok (.i2l, 1) := dk_133 (dk_at dksX10_number_1 11 rfl rfl)
theorem dX10_number_36 : decode cX10_number 36 = .ok (.invokestatic 88, 3) := dk_184 0 88 (dk_at dksX10_number_1 12 rfl rfl)
theorem dX10_number_39 : decode cX10_number 39 = .ok (.ifCond .ne 8, 3) := dk_154 0 8 (dk_at dksX10_number_1 15 rfl rfl)
theorem dX10_number_42 : decode cX10_number 42 = .ok (.aload_n 0, 1) := dk_42 (dk_at dksX10_number_1 18 rfl rfl)
theorem dX10_number_43 : decode cX10_number 43 = .ok (.iconst 2, 1) := dk_5 (dk_at dksX10_number_1 19 rfl rfl)
theorem dX10_number_44 : decode cX10_number 44 = .ok (.invokevirtual 159, 3) := dk_182 0 159 (dk_at dksX10_number_1 20 rfl rfl)
theorem dX10_number_47 : decode cX10_number 47 = .ok (.aload_n 0, 1) := dk_42 (dk_at dksX10_number_1 23 rfl rfl)
theorem dX10_number_48 : decode cX10_number 48 = .ok (.invokevirtual 136, 3) := dk_182 0 136 (dk_at dksX10_number_2 0 rfl rfl)
theorem dX10_number_51 : decode cX10_number 51 = .ok (.ifCond .ne 5, 3) := dk_154 0 5 (dk_at dksX10_number_2 3 rfl rfl)
theorem dX10_number_54 : decode cX10_number 54 = .ok (.iconst 0, 1) := dk_3 (dk_at dksX10_number_2 6 rfl rfl)
theorem dX10_number_55 : decode cX10_number 55 = .ok (.ireturn, 1) := dk_172 (dk_at dksX10_number_2 7 rfl rfl)
theorem dX10_number_56 : decode cX10_number 56 = .ok (.aload_n 0, 1) := dk_42 (dk_at dksX10_number_2 8 rfl rfl)
theorem dX10_number_57 : decode cX10_number 57 = .ok (.getfield 123, 3) := dk_180 0 123 (dk_at dksX10_number_2 9 rfl rfl)
theorem dX10_number_60 : decode cX10_number 60 = .ok (.istore_n 3, 1) := dk_62 (dk_at dksX10_number_2 12 rfl rfl)
theorem dX10_number_61 : decode cX10_number 61 = .ok (.aload_n 0, 1) := dk_42 (dk_at dksX10_number_2 13 rfl rfl)
theorem dX10_number_62 : decode cX10_number 62 = .ok (.invokevirtual 153, 3) := dk_182 0 153 (dk_at dksX10_number_2 14 rfl rfl)
theorem dX10_number_65 : decode cX10_number 65 = .ok (.iload_n 3, 1) := dk_29 (dk_at dksX10_number_2 17 rfl rfl)
theorem dX10_number_66 : decode cX10_number 66 = .ok (.ireturn, 1) := dk_172 (dk_at dksX10_number_2 18 rfl rfl)
abbrev cX10_readNext : ByteArray := prog_16_method_37_code
def yX10_readNext : MethodName := ⟨RX10, "readNext", "()V"⟩
def dkwX10_readNext_11 : List UInt8 := [182, 0, 174, 79, 177]
abbrev dktX10_readNext_11 : List UInt8 := dkwX10_readNext_11 ++ []
def dkwX10_readNext_10 : List UInt8 := [16, 10, 42, 4, 16, 99, 182, 0, 167, 79, 42, 180, 0, 31, 16, 11, 42, 18, 237, 4, 17, 1, 244]
abbrev dktX10_readNext_10 : List UInt8 := dkwX10_readNext_10 ++ dktX10_readNext_11
def dkwX10_readNext_9 : List UInt8 := [42, 18, 220, 182, 0, 156, 153, 0, 10, 42, 182, 0, 234, 167, 0, 38, 42, 182, 0, 153, 42, 180, 0, 31]
abbrev dktX10_readNext_9 : List UInt8 := dkwX10_readNext_9 ++ dktX10_readNext_10
def dkwX10_readNext_8 : List UInt8 := [182, 0, 230, 167, 0, 72, 42, 18, 214, 182, 0, 156, 153, 0, 12, 42, 3, 4, 182, 0, 230, 167, 0, 54]
abbrev dktX10_readNext_8 : List UInt8 := dkwX10_readNext_8 ++ dktX10_readNext_9
def dkwX10_readNext_7 : List UInt8 := [153, 0, 12, 42, 3, 3, 182, 0, 230, 167, 0, 90, 42, 18, 212, 182, 0, 156, 153, 0, 12, 42, 4, 3]
abbrev dktX10_readNext_7 : List UInt8 := dkwX10_readNext_7 ++ dktX10_readNext_8
def dkwX10_readNext_6 : List UInt8 := [42, 18, 218, 182, 0, 156, 153, 0, 10, 42, 182, 0, 227, 167, 0, 108, 42, 18, 211, 182, 0, 156]
abbrev dktX10_readNext_6 : List UInt8 := dkwX10_readNext_6 ++ dktX10_readNext_7
def dkwX10_readNext_5 : List UInt8 := [42, 182, 0, 136, 154, 0, 4, 177, 42, 18, 216, 182, 0, 156, 153, 0, 10, 42, 182, 0, 224, 167, 0, 124]
abbrev dktX10_readNext_5 : List UInt8 := dkwX10_readNext_5 ++ dktX10_readNext_6
def dkwX10_readNext_4 : List UInt8 := [18, 220, 182, 0, 149, 153, 0, 19, 42, 180, 0, 31, 16, 6, 46, 7, 160, 0, 8, 42, 6, 182, 0, 159]
abbrev dktX10_readNext_4 : List UInt8 := dkwX10_readNext_4 ++ dktX10_readNext_5
def dkwX10_readNext_3 : List UInt8 := [154, 0, 8, 42, 4, 182, 0, 159, 27, 153, 0, 14, 42, 180, 0, 31, 8, 46, 16, 24, 159, 0, 23, 42]
abbrev dktX10_readNext_3 : List UInt8 := dkwX10_readNext_3 ++ dktX10_readNext_4
def dkwX10_readNext_2 : List UInt8 := [18, 218, 182, 0, 149, 154, 0, 26, 42, 18, 220, 182, 0, 149, 154, 0, 17, 42, 18, 222, 182, 0, 149]
abbrev dktX10_readNext_2 : List UInt8 := dkwX10_readNext_2 ++ dktX10_readNext_3
def dkwX10_readNext_1 : List UInt8 := [153, 0, 7, 4, 167, 0, 4, 3, 60, 27, 154, 0, 44, 42, 18, 216, 182, 0, 149, 154, 0, 35, 42]
abbrev dktX10_readNext_1 : List UInt8 := dkwX10_readNext_1 ++ dktX10_readNext_2
def dkwX10_readNext_0 : List UInt8 := [42, 18, 211, 182, 0, 149, 154, 0, 21, 42, 18, 212, 182, 0, 149, 154, 0, 12, 42, 18, 214, 182, 0, 149]
abbrev dktX10_readNext_0 : List UInt8 := dkwX10_readNext_0 ++ dktX10_readNext_1
theorem dksX10_readNext_0 : cX10_readNext.data.toList.drop 0 = dktX10_readNext_0 := by decide +kernel
theorem dksX10_readNext_1 : cX10_readNext.data.toList.drop 24 = dktX10_readNext_1 := dk_seg dksX10_readNext_0 24 rfl rfl
theorem dksX10_readNext_2 : cX10_readNext.data.toList.drop 47 = dktX10_readNext_2 := dk_seg dksX10_readNext_1 23 rfl rfl
theorem dksX10_readNext_3 : cX10_readNext.data.toList.drop 70 = dktX10_readNext_3 := dk_seg dksX10_readNext_2 23 rfl rfl
theorem dksX10_readNext_4 : cX10_readNext.data.toList.drop 94 = dktX10_readNext_4 := dk_seg dksX10_readNext_3 24 rfl rfl
theorem dksX10_readNext_5 : cX10_readNext.data.toList.drop 118 = dktX10_readNext_5 := dk_seg dksX10_readNext_4 24 rfl rfl
theorem dksX10_readNext_6 : cX10_readNext.data.toList.drop 142 = dktX10_readNext_6 := dk_seg dksX10_readNext_5 24 rfl rfl
theorem dksX10_readNext_7 : cX10_readNext.data.toList.drop 164 = dktX10_readNext_7 := dk_seg dksX10_readNext_6 22 rfl rfl
theorem dksX10_readNext_8 : cX10_readNext.data.toList.drop 188 = dktX10_readNext_8 := dk_seg dksX10_readNext_7 24 rfl rfl
theorem dksX10_readNext_9 : cX10_readNext.data.toList.drop 212 = dktX10_readNext_9 := dk_seg dksX10_readNext_8 24 rfl rfl
theorem dksX10_readNext_10 : cX10_readNext.data.toList.drop 236 = dktX10_readNext_10 := dk_seg dksX10_readNext_9 24 rfl rfl
theorem dksX10_readNext_11 : cX10_readNext.data.toList.drop 259 = dktX10_readNext_11 := dk_seg dksX10_readNext_10 23 rfl rfl
theorem dX10_readNext_0 : decode cX10_readNext 0 = .ok (.aload_n 0, 1) := dk_42 (dk_at dksX10_readNext_0 0 rfl rfl)
theorem dX10_readNext_1 : decode cX10_readNext 1 = .ok (.ldc 211, 2) := dk_18 211 (dk_at dksX10_readNext_0 1 rfl rfl)
theorem dX10_readNext_3 : decode cX10_readNext 3 = .ok (.invokevirtual 149, 3) := dk_182 0 149 (dk_at dksX10_readNext_0 3 rfl rfl)
theorem dX10_readNext_6 : decode cX10_readNext 6 = .ok (.ifCond .ne 21, 3) := dk_154 0 21 (dk_at dksX10_readNext_0 6 rfl rfl)
theorem dX10_readNext_9 : decode cX10_readNext 9 = .ok (.aload_n 0, 1) := dk_42 (dk_at dksX10_readNext_0 9 rfl rfl)
theorem dX10_readNext_10 : decode cX10_readNext 10 = .ok (.ldc 212, 2) := dk_18 212 (dk_at dksX10_readNext_0 10 rfl rfl)
theorem dX10_readNext_12 : decode cX10_readNext 12 = .ok (.invokevirtual 149, 3) := dk_182 0 149 (dk_at dksX10_readNext_0 12 rfl rfl)
theorem dX10_readNext_15 : decode cX10_readNext 15 = .ok (.ifCond .ne 12, 3) := dk_154 0 12 (dk_at dksX10_readNext_0 15 rfl rfl)
theorem dX10_readNext_18 : decode cX10_readNext 18 = .ok (.aload_n 0, 1) := dk_42 (dk_at dksX10_readNext_0 18 rfl rfl)
theorem dX10_readNext_19 : decode cX10_readNext 19 = .ok (.ldc 214, 2) := dk_18 214 (dk_at dksX10_readNext_0 19 rfl rfl)
theorem dX10_readNext_21 : decode cX10_readNext 21 = .ok (.invokevirtual 149, 3) := dk_182 0 149 (dk_at dksX10_readNext_0 21 rfl rfl)
theorem dX10_readNext_24 : decode cX10_readNext 24 = .ok (.ifCond .eq 7, 3) := dk_153 0 7 (dk_at dksX10_readNext_1 0 rfl rfl)
theorem dX10_readNext_27 : decode cX10_readNext 27 = .ok (.iconst 1, 1) := dk_4 (dk_at dksX10_readNext_1 3 rfl rfl)
theorem dX10_readNext_28 : decode cX10_readNext 28 = .ok (.goto 4, 3) := dk_167 0 4 (dk_at dksX10_readNext_1 4 rfl rfl)
theorem dX10_readNext_31 : decode cX10_readNext 31 = .ok (.iconst 0, 1) := dk_3 (dk_at dksX10_readNext_1 7 rfl rfl)
theorem dX10_readNext_32 : decode cX10_readNext 32 = .ok (.istore_n 1, 1) := dk_60 (dk_at dksX10_readNext_1 8 rfl rfl)
theorem dX10_readNext_33 : decode cX10_readNext 33 = .ok (.iload_n 1, 1) := dk_27 (dk_at dksX10_readNext_1 9 rfl rfl)
theorem dX10_readNext_34 : decode cX10_readNext 34 = .ok (.ifCond .ne 44, 3) := dk_154 0 44 (dk_at dksX10_readNext_1 10 rfl rfl)
theorem dX10_readNext_37 : decode cX10_readNext 37 = .ok (.aload_n 0, 1) := dk_42 (dk_at dksX10_readNext_1 13 rfl rfl)
theorem dX10_readNext_38 : decode cX10_readNext 38 = .ok (.ldc 216, 2) := dk_18 216 (dk_at dksX10_readNext_1 14 rfl rfl)
theorem dX10_readNext_40 : decode cX10_readNext 40 = .ok (.invokevirtual 149, 3) := dk_182 0 149 (dk_at dksX10_readNext_1 16 rfl rfl)
theorem dX10_readNext_43 : decode cX10_readNext 43 = .ok (.ifCond .ne 35, 3) := dk_154 0 35 (dk_at dksX10_readNext_1 19 rfl rfl)
theorem dX10_readNext_46 : decode cX10_readNext 46 = .ok (.aload_n 0, 1) := dk_42 (dk_at dksX10_readNext_1 22 rfl rfl)
theorem dX10_readNext_47 : decode cX10_readNext 47 = .ok (.ldc 218, 2) := dk_18 218 (dk_at dksX10_readNext_2 0 rfl rfl)
theorem dX10_readNext_49 : decode cX10_readNext 49 = .ok (.invokevirtual 149, 3) := dk_182 0 149 (dk_at dksX10_readNext_2 2 rfl rfl)
theorem dX10_readNext_52 : decode cX10_readNext 52 = .ok (.ifCond .ne 26, 3) := dk_154 0 26 (dk_at dksX10_readNext_2 5 rfl rfl)
theorem dX10_readNext_55 : decode cX10_readNext 55 = .ok (.aload_n 0, 1) := dk_42 (dk_at dksX10_readNext_2 8 rfl rfl)
theorem dX10_readNext_56 : decode cX10_readNext 56 = .ok (.ldc 220, 2) := dk_18 220 (dk_at dksX10_readNext_2 9 rfl rfl)
theorem dX10_readNext_58 : decode cX10_readNext 58 = .ok (.invokevirtual 149, 3) := dk_182 0 149 (dk_at dksX10_readNext_2 11 rfl rfl)
theorem dX10_readNext_61 : decode cX10_readNext 61 = .ok (.ifCond .ne 17, 3) := dk_154 0 17 (dk_at dksX10_readNext_2 14 rfl rfl)
theorem dX10_readNext_64 : decode cX10_readNext 64 = .ok (.aload_n 0, 1) := dk_42 (dk_at dksX10_readNext_2 17 rfl rfl)
theorem dX10_readNext_65 : decode cX10_readNext 65 = .ok (.ldc 222, 2) := dk_18 222 (dk_at dksX10_readNext_2 18 rfl rfl)
theorem dX10_readNext_67 : decode cX10_readNext 67 = .ok (.invokevirtual 149, 3) := dk_182 0 149 (dk_at dksX10_readNext_2 20 rfl rfl)
theorem dX10_readNext_70 : decode cX10_readNext 70 = .ok (.ifCond .ne 8, 3) := dk_154 0 8 (dk_at dksX10_readNext_3 0 rfl rfl)
theorem dX10_readNext_73 : decode cX10_readNext 73 = .ok (.aload_n 0, 1) := dk_42 (dk_at dksX10_readNext_3 3 rfl rfl)
theorem dX10_readNext_74 : decode cX10_readNext 74 = .ok (.iconst 1, 1) := dk_4 (dk_at dksX10_readNext_3 4 rfl rfl)
theorem dX10_readNext_75 : decode cX10_readNext 75 = .ok (.invokevirtual 159, 3) := dk_182 0 159 (dk_at dksX10_readNext_3 5 rfl rfl)
theorem dX10_readNext_78 : decode cX10_readNext 78 = .ok (.iload_n 1, 1) := dk_27 (dk_at dksX10_readNext_3 8 rfl rfl)
theorem dX10_readNext_79 : decode cX10_readNext 79 = .ok (.ifCond .eq 14, 3) := dk_153 0 14 (dk_at dksX10_readNext_3 9 rfl rfl)
theorem dX10_readNext_82 : decode cX10_readNext 82 = .ok (.aload_n 0, 1) := dk_42 (dk_at dksX10_readNext_3 12 rfl rfl)
theorem dX10_readNext_83 : decode cX10_readNext 83 = .ok (.getfield 31, 3) := dk_180 0 31 (dk_at dksX10_readNext_3 13 rfl rfl)
theorem dX10_readNext_86 : decode cX10_readNext 86 = .ok (.iconst 5, 1) := dk_8 (dk_at dksX10_readNext_3 16 rfl rfl)
theorem dX10_readNext_87 : decode cX10_readNext 87 = .ok (.iaload, 1) := dk_46 (dk_at dksX10_readNext_3 17 rfl rfl)
theorem dX10_readNext_88 : decode cX10_readNext 88 = .ok (.bipush 24, 2) := dk_16 24 (dk_at dksX10_readNext_3 18 rfl rfl)
theorem dX10_readNext_90 : decode cX10_readNext 90 = .ok (.if_icmp .eq 23, 3) := dk_159 0 23 (dk_at dksX10_readNext_3 20 rfl rfl)
theorem dX10_readNext_93 : decode cX10_readNext 93 = .ok (.aload_n 0, 1) := dk_42 (dk_at dksX10_readNext_3 23 rfl rfl)
theorem dX10_readNext_94 : decode cX10_readNext 94 = .ok (.ldc 220, 2) := dk_18 220 (dk_at dksX10_readNext_4 0 rfl rfl)
theorem dX10_readNext_96 : decode cX10_readNext 96 = .ok (.invokevirtual 149, 3) := dk_182 0 149 (dk_at dksX10_readNext_4 2 rfl rfl)
theorem dX10_readNext_99 : decode cX10_readNext 99 = .ok (.ifCond .eq 19, 3) := dk_153 0 19 (dk_at dksX10_readNext_4 5 rfl rfl)
theorem dX10_readNext_102 : decode cX10_readNext 102 = .ok (.aload_n 0, 1) := dk_42 (dk_at dksX10_readNext_4 8 rfl rfl)
theorem dX10_readNext_103 : decode cX10_readNext 103 = .ok (.getfield 31, 3) := dk_180 0 31 (dk_at dksX10_readNext_4 9 rfl rfl)
theorem dX10_readNext_106 : decode cX10_readNext 106 = .ok (.bipush 6, 2) := dk_16 6 (dk_at dksX10_readNext_4 12 rfl rfl)
theorem dX10_readNext_108 : decode cX10_readNext 108 = .ok (.iaload, 1) := dk_46 (dk_at dksX10_readNext_4 14 rfl rfl)
theorem dX10_readNext_109 : decode cX10_readNext 109 = .ok (.iconst 4, 1) := dk_7 (dk_at dksX10_readNext_4 15 rfl rfl)
theorem dX10_readNext_110 : decode cX10_readNext 110 = .ok (.if_icmp .ne 8, 3) := dk_160 0 8 (dk_at dksX10_readNext_4 16 rfl rfl)
theorem dX10_readNext_113 : decode cX10_readNext 113 = .ok (.aload_n 0, 1) := dk_42 (dk_at dksX10_readNext_4 19 rfl rfl)
theorem dX10_readNext_114 : decode cX10_readNext 114 = .ok (.iconst 3, 1) := dk_6 (dk_at dksX10_readNext_4 20 rfl rfl)
theorem dX10_readNext_115 : decode cX10_readNext 115 = .ok (.invokevirtual 159, 3) := dk_182 0 159 (dk_at dksX10_readNext_4 21 rfl rfl)
theorem dX10_readNext_118 : decode cX10_readNext 118 = .ok (.aload_n 0, 1) := dk_42 (dk_at dksX10_readNext_5 0 rfl rfl)
theorem dX10_readNext_119 : decode cX10_readNext 119 = .ok (.invokevirtual 136, 3) := dk_182 0 136 (dk_at dksX10_readNext_5 1 rfl rfl)
theorem dX10_readNext_122 : decode cX10_readNext 122 = .ok (.ifCond .ne 4, 3) := dk_154 0 4 (dk_at dksX10_readNext_5 4 rfl rfl)
theorem dX10_readNext_125 : decode cX10_readNext 125 = .ok (.return_, 1) := dk_177 (dk_at dksX10_readNext_5 7 rfl rfl)
theorem dX10_readNext_126 : decode cX10_readNext 126 = .ok (.aload_n 0, 1) := dk_42 (dk_at dksX10_readNext_5 8 rfl rfl)
theorem dX10_readNext_127 : decode cX10_readNext 127 = .ok (.ldc 216, 2) := dk_18 216 (dk_at dksX10_readNext_5 9 rfl rfl)
theorem dX10_readNext_129 : decode cX10_readNext 129 = .ok (.invokevirtual 156, 3) := dk_182 0 156 (dk_at dksX10_readNext_5 11 rfl rfl)
theorem dX10_readNext_132 : decode cX10_readNext 132 = .ok (.ifCond .eq 10, 3) := dk_153 0 10 (dk_at dksX10_readNext_5 14 rfl rfl)
theorem dX10_readNext_135 : decode cX10_readNext 135 = .ok (.aload_n 0, 1) := dk_42 (dk_at dksX10_readNext_5 17 rfl rfl)
theorem dX10_readNext_136 : decode cX10_readNext 136 = .ok (.invokevirtual 224, 3) := dk_182 0 224 (dk_at dksX10_readNext_5 18 rfl rfl)
theorem dX10_readNext_139 : decode cX10_readNext 139 = .ok (.goto 124, 3) := dk_167 0 124 (dk_at dksX10_readNext_5 21 rfl rfl)
theorem dX10_readNext_142 : decode cX10_readNext 142 = .ok (.aload_n 0, 1) := dk_42 (dk_at dksX10_readNext_6 0 rfl rfl)
theorem dX10_readNext_143 : decode cX10_readNext 143 = .ok (.ldc 218, 2) := dk_18 218 (dk_at dksX10_readNext_6 1 rfl rfl)
theorem dX10_readNext_145 : decode cX10_readNext 145 = .ok (.invokevirtual 156, 3) := dk_182 0 156 (dk_at dksX10_readNext_6 3 rfl rfl)
theorem dX10_readNext_148 : decode cX10_readNext 148 = .ok (.ifCond .eq 10, 3) := dk_153 0 10 (dk_at dksX10_readNext_6 6 rfl rfl)
theorem dX10_readNext_151 : decode cX10_readNext 151 = .ok (.aload_n 0, 1) := dk_42 (dk_at dksX10_readNext_6 9 rfl rfl)
theorem dX10_readNext_152 : decode cX10_readNext 152 = .ok (.invokevirtual 227, 3) := dk_182 0 227 (dk_at dksX10_readNext_6 10 rfl rfl)
theorem dX10_readNext_155 : decode cX10_readNext 155 = .ok (.goto 108, 3) := dk_167 0 108 (dk_at dksX10_readNext_6 13 rfl rfl)
theorem dX10_readNext_158 : decode cX10_readNext 158 = .ok (.aload_n 0, 1) := dk_42 (dk_at dksX10_readNext_6 16 rfl rfl)
theorem dX10_readNext_159 : decode cX10_readNext 159 = .ok (.ldc 211, 2) := dk_18 211 (dk_at dksX10_readNext_6 17 rfl rfl)
theorem dX10_readNext_161 : decode cX10_readNext 161 = .ok (.invokevirtual 156, 3) := dk_182 0 156 (dk_at dksX10_readNext_6 19 rfl rfl)
theorem dX10_readNext_164 : decode cX10_readNext 164 = .ok (.ifCond .eq 12, 3) := dk_153 0 12 (dk_at dksX10_readNext_7 0 rfl rfl)
theorem dX10_readNext_167 : decode cX10_readNext 167 = .ok (.aload_n 0, 1) := dk_42 (dk_at dksX10_readNext_7 3 rfl rfl)
theorem dX10_readNext_168 : decode cX10_readNext 168 = .ok (.iconst 0, 1) := dk_3 (dk_at dksX10_readNext_7 4 rfl rfl)
theorem dX10_readNext_169 : decode cX10_readNext 169 = .ok (.iconst 0, 1) := dk_3 (dk_at dksX10_readNext_7 5 rfl rfl)
theorem dX10_readNext_170 : decode cX10_readNext 170 = .ok (.invokevirtual 230, 3) := dk_182 0 230 (dk_at dksX10_readNext_7 6 rfl rfl)
theorem dX10_readNext_173 : decode cX10_readNext 173 = .ok (.goto 90, 3) := dk_167 0 90 (dk_at dksX10_readNext_7 9 rfl rfl)
theorem dX10_readNext_176 : decode cX10_readNext 176 = .ok (.aload_n 0, 1) := dk_42 (dk_at dksX10_readNext_7 12 rfl rfl)
theorem dX10_readNext_177 : decode cX10_readNext 177 = .ok (.ldc 212, 2) := dk_18 212 (dk_at dksX10_readNext_7 13 rfl rfl)
theorem dX10_readNext_179 : decode cX10_readNext 179 = .ok (.invokevirtual 156, 3) := dk_182 0 156 (dk_at dksX10_readNext_7 15 rfl rfl)
theorem dX10_readNext_182 : decode cX10_readNext 182 = .ok (.ifCond .eq 12, 3) := dk_153 0 12 (dk_at dksX10_readNext_7 18 rfl rfl)
theorem dX10_readNext_185 : decode cX10_readNext 185 = .ok (.aload_n 0, 1) := dk_42 (dk_at dksX10_readNext_7 21 rfl rfl)
theorem dX10_readNext_186 : decode cX10_readNext 186 = .ok (.iconst 1, 1) := dk_4 (dk_at dksX10_readNext_7 22 rfl rfl)
theorem dX10_readNext_187 : decode cX10_readNext 187 = .ok (.iconst 0, 1) := dk_3 (dk_at dksX10_readNext_7 23 rfl rfl)
theorem dX10_readNext_188 : decode cX10_readNext 188 = .ok (.invokevirtual 230, 3) := dk_182 0 230 (dk_at dksX10_readNext_8 0 rfl rfl)
theorem dX10_readNext_191 : decode cX10_readNext 191 = .ok (.goto 72, 3) := dk_167 0 72 (dk_at dksX10_readNext_8 3 rfl rfl)
theorem dX10_readNext_194 : decode cX10_readNext 194 = .ok (.aload_n 0, 1) := dk_42 (dk_at dksX10_readNext_8 6 rfl rfl)
theorem dX10_readNext_195 : decode cX10_readNext 195 = .ok (.ldc 214, 2) := dk_18 214 (dk_at dksX10_readNext_8 7 rfl rfl)
theorem dX10_readNext_197 : decode cX10_readNext 197 = .ok (.invokevirtual 156, 3) := dk_182 0 156 (dk_at dksX10_readNext_8 9 rfl rfl)
theorem dX10_readNext_200 : decode cX10_readNext 200 = .ok (.ifCond .eq 12, 3) := dk_153 0 12 (dk_at dksX10_readNext_8 12 rfl rfl)
theorem dX10_readNext_203 : decode cX10_readNext 203 = .ok (.aload_n 0, 1) := dk_42 (dk_at dksX10_readNext_8 15 rfl rfl)
theorem dX10_readNext_204 : decode cX10_readNext 204 = .ok (.iconst 0, 1) := dk_3 (dk_at dksX10_readNext_8 16 rfl rfl)
theorem dX10_readNext_205 : decode cX10_readNext 205 = .ok (.iconst 1, 1) := dk_4 (dk_at dksX10_readNext_8 17 rfl rfl)
theorem dX10_readNext_206 : decode cX10_readNext 206 = .ok (.invokevirtual 230, 3) := dk_182 0 230 (dk_at dksX10_readNext_8 18 rfl rfl)
theorem dX10_readNext_209 : decode cX10_readNext 209 = .ok (.goto 54, 3) := dk_167 0 54 (dk_at dksX10_readNext_8 21 rfl rfl)
theorem dX10_readNext_212 : decode cX10_readNext 212 = .ok (.aload_n 0, 1) := dk_42 (dk_at dksX10_readNext_9 0 rfl rfl)
theorem dX10_readNext_213 : decode cX10_readNext 213 = .ok (.ldc 220, 2) := dk_18 220 (dk_at dksX10_readNext_9 1 rfl rfl)
theorem dX10_readNext_215 : decode cX10_readNext 215 = .ok (.invokevirtual 156, 3) := dk_182 0 156 (dk_at dksX10_readNext_9 3 rfl rfl)
theorem dX10_readNext_218 : decode cX10_readNext 218 = .ok (.ifCond .eq 10, 3) := dk_153 0 10 (dk_at dksX10_readNext_9 6 rfl rfl)
theorem dX10_readNext_221 : decode cX10_readNext 221 = .ok (.aload_n 0, 1) := dk_42 (dk_at dksX10_readNext_9 9 rfl rfl)
theorem dX10_readNext_222 : decode cX10_readNext 222 = .ok (.invokevirtual 234, 3) := dk_182 0 234 (dk_at dksX10_readNext_9 10 rfl rfl)
theorem dX10_readNext_225 : decode cX10_readNext 225 = .ok (.goto 38, 3) := dk_167 0 38 (dk_at dksX10_readNext_9 13 rfl rfl)
theorem dX10_readNext_228 : decode cX10_readNext 228 = .ok (.aload_n 0, 1) := dk_42 (dk_at dksX10_readNext_9 16 rfl rfl)
theorem dX10_readNext_229 : decode cX10_readNext 229 = .ok (.invokevirtual 153, 3) := dk_182 0 153 (dk_at dksX10_readNext_9 17 rfl rfl)
theorem dX10_readNext_232 : decode cX10_readNext 232 = .ok (.aload_n 0, 1) := dk_42 (dk_at dksX10_readNext_9 20 rfl rfl)
theorem dX10_readNext_233 : decode cX10_readNext 233 = .ok (.getfield 31, 3) := dk_180 0 31 (dk_at dksX10_readNext_9 21 rfl rfl)
theorem dX10_readNext_236 : decode cX10_readNext 236 = .ok (.bipush 10, 2) := dk_16 10 (dk_at dksX10_readNext_10 0 rfl rfl)
theorem dX10_readNext_238 : decode cX10_readNext 238 = .ok (.aload_n 0, 1) := dk_42 (dk_at dksX10_readNext_10 2 rfl rfl)
theorem dX10_readNext_239 : decode cX10_readNext 239 = .ok (.iconst 1, 1) := dk_4 (dk_at dksX10_readNext_10 3 rfl rfl)
theorem dX10_readNext_240 : decode cX10_readNext 240 = .ok (.bipush 99, 2) := dk_16 99 (dk_at dksX10_readNext_10 4 rfl rfl)
theorem dX10_readNext_242 : decode cX10_readNext 242 = .ok (.invokevirtual 167, 3) := dk_182 0 167 (dk_at dksX10_readNext_10 6 rfl rfl)
theorem dX10_readNext_245 : decode cX10_readNext 245 = .ok (.iastore, 1) := dk_79 (dk_at dksX10_readNext_10 9 rfl rfl)
theorem dX10_readNext_246 : decode cX10_readNext 246 = .ok (.aload_n 0, 1) := dk_42 (dk_at dksX10_readNext_10 10 rfl rfl)
theorem dX10_readNext_247 : decode cX10_readNext 247 = .ok (.getfield 31, 3) := dk_180 0 31 (dk_at dksX10_readNext_10 11 rfl rfl)
theorem dX10_readNext_250 : decode cX10_readNext 250 = .ok (.bipush 11, 2) := dk_16 11 (dk_at dksX10_readNext_10 14 rfl rfl)
theorem dX10_readNext_252 : decode cX10_readNext 252 = .ok (.aload_n 0, 1) := dk_42 (dk_at dksX10_readNext_10 16 rfl rfl)
theorem dX10_readNext_253 : decode cX10_readNext 253 = .ok (.ldc 237, 2) := dk_18 237 (dk_at dksX10_readNext_10 17 rfl rfl)
theorem dX10_readNext_255 : decode cX10_readNext 255 = .ok (.iconst 1, 1) := dk_4 (dk_at dksX10_readNext_10 19 rfl rfl)
theorem dX10_readNext_256 : decode cX10_readNext 256 = .ok (.sipush 500, 3) := dk_17 1 244 (dk_at dksX10_readNext_10 20 rfl rfl)
theorem dX10_readNext_259 : decode cX10_readNext 259 = .ok (.invokevirtual 174, 3) := dk_182 0 174 (dk_at dksX10_readNext_11 0 rfl rfl)
theorem dX10_readNext_262 : decode cX10_readNext 262 = .ok (.iastore, 1) := dk_79 (dk_at dksX10_readNext_11 3 rfl rfl)
theorem dX10_readNext_263 : decode cX10_readNext 263 = .ok (.return_, 1) := dk_177 (dk_at dksX10_readNext_11 4 rfl rfl)
abbrev cX10_readStay : ByteArray := prog_16_method_30_code
def yX10_readStay : MethodName := ⟨RX10, "readStay", "()V"⟩
def dkwX10_readStay_7 : List UInt8 := [96, 27, 79, 177]
abbrev dktX10_readStay_7 : List UInt8 := dkwX10_readStay_7 ++ []
def dkwX10_readStay_6 : List UInt8 := [180, 0, 31, 16, 12, 5, 21, 4, 104, 96, 29, 79, 42, 180, 0, 31, 16, 12, 5, 21, 4, 104, 96, 4]
abbrev dktX10_readStay_6 : List UInt8 := dkwX10_readStay_6 ++ dktX10_readStay_7
def dkwX10_readStay_5 : List UInt8 := [160, 0, 21, 42, 180, 0, 31, 7, 46, 54, 4, 42, 180, 0, 31, 7, 92, 46, 4, 96, 79, 42]
abbrev dktX10_readStay_5 : List UInt8 := dkwX10_readStay_5 ++ dktX10_readStay_6
def dkwX10_readStay_4 : List UInt8 := [182, 0, 167, 62, 42, 182, 0, 136, 154, 0, 4, 177, 42, 29, 182, 0, 185, 54, 4, 21, 4, 2]
abbrev dktX10_readStay_4 : List UInt8 := dkwX10_readStay_4 ++ dktX10_readStay_5
def dkwX10_readStay_3 : List UInt8 := [182, 0, 185, 2, 160, 0, 8, 42, 6, 182, 0, 159, 42, 3, 42, 180, 0, 31, 5, 46, 4, 100]
abbrev dktX10_readStay_3 : List UInt8 := dkwX10_readStay_3 ++ dktX10_readStay_4
def dkwX10_readStay_2 : List UInt8 := [3, 61, 28, 153, 0, 31, 42, 180, 0, 31, 7, 46, 16, 6, 160, 0, 20, 42, 42, 180, 0, 123]
abbrev dktX10_readStay_2 : List UInt8 := dkwX10_readStay_2 ++ dktX10_readStay_3
def dkwX10_readStay_1 : List UInt8 := [180, 0, 112, 5, 160, 0, 20, 42, 180, 0, 123, 42, 180, 0, 31, 5, 46, 162, 0, 7, 4, 167, 0, 4]
abbrev dktX10_readStay_1 : List UInt8 := dkwX10_readStay_1 ++ dktX10_readStay_2
def dkwX10_readStay_0 : List UInt8 := [42, 4, 16, 40, 182, 0, 167, 60, 42, 18, 184, 182, 0, 163, 42, 182, 0, 136, 153, 0, 28, 42]
abbrev dktX10_readStay_0 : List UInt8 := dkwX10_readStay_0 ++ dktX10_readStay_1
theorem dksX10_readStay_0 : cX10_readStay.data.toList.drop 0 = dktX10_readStay_0 := by decide +kernel
theorem dksX10_readStay_1 : cX10_readStay.data.toList.drop 22 = dktX10_readStay_1 := dk_seg dksX10_readStay_0 22 rfl rfl
theorem dksX10_readStay_2 : cX10_readStay.data.toList.drop 46 = dktX10_readStay_2 := dk_seg dksX10_readStay_1 24 rfl rfl
theorem dksX10_readStay_3 : cX10_readStay.data.toList.drop 68 = dktX10_readStay_3 := dk_seg dksX10_readStay_2 22 rfl rfl
theorem dksX10_readStay_4 : cX10_readStay.data.toList.drop 90 = dktX10_readStay_4 := dk_seg dksX10_readStay_3 22 rfl rfl
theorem dksX10_readStay_5 : cX10_readStay.data.toList.drop 112 = dktX10_readStay_5 := dk_seg dksX10_readStay_4 22 rfl rfl
theorem dksX10_readStay_6 : cX10_readStay.data.toList.drop 134 = dktX10_readStay_6 := dk_seg dksX10_readStay_5 22 rfl rfl
theorem dksX10_readStay_7 : cX10_readStay.data.toList.drop 158 = dktX10_readStay_7 := dk_seg dksX10_readStay_6 24 rfl rfl
theorem dX10_readStay_0 : decode cX10_readStay 0 = .ok (.aload_n 0, 1) := dk_42 (dk_at dksX10_readStay_0 0 rfl rfl)
theorem dX10_readStay_1 : decode cX10_readStay 1 = .ok (.iconst 1, 1) := dk_4 (dk_at dksX10_readStay_0 1 rfl rfl)
theorem dX10_readStay_2 : decode cX10_readStay 2 = .ok (.bipush 40, 2) := dk_16 40 (dk_at dksX10_readStay_0 2 rfl rfl)
theorem dX10_readStay_4 : decode cX10_readStay 4 = .ok (.invokevirtual 167, 3) := dk_182 0 167 (dk_at dksX10_readStay_0 4 rfl rfl)
theorem dX10_readStay_7 : decode cX10_readStay 7 = .ok (.istore_n 1, 1) := dk_60 (dk_at dksX10_readStay_0 7 rfl rfl)
theorem dX10_readStay_8 : decode cX10_readStay 8 = .ok (.aload_n 0, 1) := dk_42 (dk_at dksX10_readStay_0 8 rfl rfl)
theorem dX10_readStay_9 : decode cX10_readStay 9 = .ok (.ldc 184, 2) := dk_18 184 (dk_at dksX10_readStay_0 9 rfl rfl)
theorem dX10_readStay_11 : decode cX10_readStay 11 = .ok (.invokevirtual 163, 3) := dk_182 0 163 (dk_at dksX10_readStay_0 11 rfl rfl)
theorem dX10_readStay_14 : decode cX10_readStay 14 = .ok (.aload_n 0, 1) := dk_42 (dk_at dksX10_readStay_0 14 rfl rfl)
theorem dX10_readStay_15 : decode cX10_readStay 15 = .ok (.invokevirtual 136, 3) := dk_182 0 136 (dk_at dksX10_readStay_0 15 rfl rfl)
theorem dX10_readStay_18 : decode cX10_readStay 18 = .ok (.ifCond .eq 28, 3) := dk_153 0 28 (dk_at dksX10_readStay_0 18 rfl rfl)
theorem dX10_readStay_21 : decode cX10_readStay 21 = .ok (.aload_n 0, 1) := dk_42 (dk_at dksX10_readStay_0 21 rfl rfl)
theorem dX10_readStay_22 : decode cX10_readStay 22 = .ok (.getfield 112, 3) := dk_180 0 112 (dk_at dksX10_readStay_1 0 rfl rfl)
theorem dX10_readStay_25 : decode cX10_readStay 25 = .ok (.iconst 2, 1) := dk_5 (dk_at dksX10_readStay_1 3 rfl rfl)
theorem dX10_readStay_26 : decode cX10_readStay 26 = .ok (.if_icmp .ne 20, 3) := dk_160 0 20 (dk_at dksX10_readStay_1 4 rfl rfl)
theorem dX10_readStay_29 : decode cX10_readStay 29 = .ok (.aload_n 0, 1) := dk_42 (dk_at dksX10_readStay_1 7 rfl rfl)
theorem dX10_readStay_30 : decode cX10_readStay 30 = .ok (.getfield 123, 3) := dk_180 0 123 (dk_at dksX10_readStay_1 8 rfl rfl)
theorem dX10_readStay_33 : decode cX10_readStay 33 = .ok (.aload_n 0, 1) := dk_42 (dk_at dksX10_readStay_1 11 rfl rfl)
theorem dX10_readStay_34 : decode cX10_readStay 34 = .ok (.getfield 31, 3) := dk_180 0 31 (dk_at dksX10_readStay_1 12 rfl rfl)
theorem dX10_readStay_37 : decode cX10_readStay 37 = .ok (.iconst 2, 1) := dk_5 (dk_at dksX10_readStay_1 15 rfl rfl)
theorem dX10_readStay_38 : decode cX10_readStay 38 = .ok (.iaload, 1) := dk_46 (dk_at dksX10_readStay_1 16 rfl rfl)
theorem dX10_readStay_39 : decode cX10_readStay 39 = .ok (.if_icmp .ge 7, 3) := dk_162 0 7 (dk_at dksX10_readStay_1 17 rfl rfl)
theorem dX10_readStay_42 : decode cX10_readStay 42 = .ok (.iconst 1, 1) := dk_4 (dk_at dksX10_readStay_1 20 rfl rfl)
theorem dX10_readStay_43 : decode cX10_readStay 43 = .ok (.goto 4, 3) := dk_167 0 4 (dk_at dksX10_readStay_1 21 rfl rfl)
theorem dX10_readStay_46 : decode cX10_readStay 46 = .ok (.iconst 0, 1) := dk_3 (dk_at dksX10_readStay_2 0 rfl rfl)
theorem dX10_readStay_47 : decode cX10_readStay 47 = .ok (.istore_n 2, 1) := dk_61 (dk_at dksX10_readStay_2 1 rfl rfl)
theorem dX10_readStay_48 : decode cX10_readStay 48 = .ok (.iload_n 2, 1) := dk_28 (dk_at dksX10_readStay_2 2 rfl rfl)
theorem dX10_readStay_49 : decode cX10_readStay 49 = .ok (.ifCond .eq 31, 3) := dk_153 0 31 (dk_at dksX10_readStay_2 3 rfl rfl)
theorem dX10_readStay_52 : decode cX10_readStay 52 = .ok (.aload_n 0, 1) := dk_42 (dk_at dksX10_readStay_2 6 rfl rfl)
theorem dX10_readStay_53 : decode cX10_readStay 53 = .ok (.getfield 31, 3) := dk_180 0 31 (dk_at dksX10_readStay_2 7 rfl rfl)
theorem dX10_readStay_56 : decode cX10_readStay 56 = .ok (.iconst 4, 1) := dk_7 (dk_at dksX10_readStay_2 10 rfl rfl)
theorem dX10_readStay_57 : decode cX10_readStay 57 = .ok (.iaload, 1) := dk_46 (dk_at dksX10_readStay_2 11 rfl rfl)
theorem dX10_readStay_58 : decode cX10_readStay 58 = .ok (.bipush 6, 2) := dk_16 6 (dk_at dksX10_readStay_2 12 rfl rfl)
theorem dX10_readStay_60 : decode cX10_readStay 60 = .ok (.if_icmp .ne 20, 3) := dk_160 0 20 (dk_at dksX10_readStay_2 14 rfl rfl)
theorem dX10_readStay_63 : decode cX10_readStay 63 = .ok (.aload_n 0, 1) := dk_42 (dk_at dksX10_readStay_2 17 rfl rfl)
theorem dX10_readStay_64 : decode cX10_readStay 64 = .ok (.aload_n 0, 1) := dk_42 (dk_at dksX10_readStay_2 18 rfl rfl)
theorem dX10_readStay_65 : decode cX10_readStay 65 = .ok (.getfield 123, 3) := dk_180 0 123 (dk_at dksX10_readStay_2 19 rfl rfl)
theorem dX10_readStay_68 : decode cX10_readStay 68 = .ok (.invokevirtual 185, 3) := dk_182 0 185 (dk_at dksX10_readStay_3 0 rfl rfl)
theorem dX10_readStay_71 : decode cX10_readStay 71 = .ok (.iconst (-1), 1) := dk_2 (dk_at dksX10_readStay_3 3 rfl rfl)
theorem dX10_readStay_72 : decode cX10_readStay 72 = .ok (.if_icmp .ne 8, 3) := dk_160 0 8 (dk_at dksX10_readStay_3 4 rfl rfl)
theorem dX10_readStay_75 : decode cX10_readStay 75 = .ok (.aload_n 0, 1) := dk_42 (dk_at dksX10_readStay_3 7 rfl rfl)
theorem dX10_readStay_76 : decode cX10_readStay 76 = .ok (.iconst 3, 1) := dk_6 (dk_at dksX10_readStay_3 8 rfl rfl)
theorem dX10_readStay_77 : decode cX10_readStay 77 = .ok (.invokevirtual 159, 3) := dk_182 0 159 (dk_at dksX10_readStay_3 9 rfl rfl)
theorem dX10_readStay_80 : decode cX10_readStay 80 = .ok (.aload_n 0, 1) := dk_42 (dk_at dksX10_readStay_3 12 rfl rfl)
theorem dX10_readStay_81 : decode cX10_readStay 81 = .ok (.iconst 0, 1) := dk_3 (dk_at dksX10_readStay_3 13 rfl rfl)
theorem dX10_readStay_82 : decode cX10_readStay 82 = .ok (.aload_n 0, 1) := dk_42 (dk_at dksX10_readStay_3 14 rfl rfl)
theorem dX10_readStay_83 : decode cX10_readStay 83 = .ok (.getfield 31, 3) := dk_180 0 31 (dk_at dksX10_readStay_3 15 rfl rfl)
theorem dX10_readStay_86 : decode cX10_readStay 86 = .ok (.iconst 2, 1) := dk_5 (dk_at dksX10_readStay_3 18 rfl rfl)
theorem dX10_readStay_87 : decode cX10_readStay 87 = .ok (.iaload, 1) := dk_46 (dk_at dksX10_readStay_3 19 rfl rfl)
theorem dX10_readStay_88 : decode cX10_readStay 88 = .ok (.iconst 1, 1) := dk_4 (dk_at dksX10_readStay_3 20 rfl rfl)
theorem dX10_readStay_89 : decode cX10_readStay 89 = .ok (.isub, 1) := dk_100 (dk_at dksX10_readStay_3 21 rfl rfl)
theorem dX10_readStay_90 : decode cX10_readStay 90 = .ok (.invokevirtual 167, 3) := dk_182 0 167 (dk_at dksX10_readStay_4 0 rfl rfl)
theorem dX10_readStay_93 : decode cX10_readStay 93 = .ok (.istore_n 3, 1) := dk_62 (dk_at dksX10_readStay_4 3 rfl rfl)
theorem dX10_readStay_94 : decode cX10_readStay 94 = .ok (.aload_n 0, 1) := dk_42 (dk_at dksX10_readStay_4 4 rfl rfl)
theorem dX10_readStay_95 : decode cX10_readStay 95 = .ok (.invokevirtual 136, 3) := dk_182 0 136 (dk_at dksX10_readStay_4 5 rfl rfl)
theorem dX10_readStay_98 : decode cX10_readStay 98 = .ok (.ifCond .ne 4, 3) := dk_154 0 4 (dk_at dksX10_readStay_4 8 rfl rfl)
theorem dX10_readStay_101 : decode cX10_readStay 101 = .ok (.return_, 1) := dk_177 (dk_at dksX10_readStay_4 11 rfl rfl)
theorem dX10_readStay_102 : decode cX10_readStay 102 = .ok (.aload_n 0, 1) := dk_42 (dk_at dksX10_readStay_4 12 rfl rfl)
theorem dX10_readStay_103 : decode cX10_readStay 103 = .ok (.iload_n 3, 1) := dk_29 (dk_at dksX10_readStay_4 13 rfl rfl)
theorem dX10_readStay_104 : decode cX10_readStay 104 = .ok (.invokevirtual 185, 3) := dk_182 0 185 (dk_at dksX10_readStay_4 14 rfl rfl)
theorem dX10_readStay_107 : decode cX10_readStay 107 = .ok (.istore 4, 2) := dk_54 4 (dk_at dksX10_readStay_4 17 rfl rfl)
theorem dX10_readStay_109 : decode cX10_readStay 109 = .ok (.iload 4, 2) := dk_21 4 (dk_at dksX10_readStay_4 19 rfl rfl)
theorem dX10_readStay_111 : decode cX10_readStay 111 = .ok (.iconst (-1), 1) := dk_2 (dk_at dksX10_readStay_4 21 rfl rfl)
theorem dX10_readStay_112 : decode cX10_readStay 112 = .ok (.if_icmp .ne 21, 3) := dk_160 0 21 (dk_at dksX10_readStay_5 0 rfl rfl)
theorem dX10_readStay_115 : decode cX10_readStay 115 = .ok (.aload_n 0, 1) := dk_42 (dk_at dksX10_readStay_5 3 rfl rfl)
theorem dX10_readStay_116 : decode cX10_readStay 116 = .ok (.getfield 31, 3) := dk_180 0 31 (dk_at dksX10_readStay_5 4 rfl rfl)
theorem dX10_readStay_119 : decode cX10_readStay 119 = .ok (.iconst 4, 1) := dk_7 (dk_at dksX10_readStay_5 7 rfl rfl)
theorem dX10_readStay_120 : decode cX10_readStay 120 = .ok (.iaload, 1) := dk_46 (dk_at dksX10_readStay_5 8 rfl rfl)
theorem dX10_readStay_121 : decode cX10_readStay 121 = .ok (.istore 4, 2) := dk_54 4 (dk_at dksX10_readStay_5 9 rfl rfl)
theorem dX10_readStay_123 : decode cX10_readStay 123 = .ok (.aload_n 0, 1) := dk_42 (dk_at dksX10_readStay_5 11 rfl rfl)
theorem dX10_readStay_124 : decode cX10_readStay 124 = .ok (.getfield 31, 3) := dk_180 0 31 (dk_at dksX10_readStay_5 12 rfl rfl)
theorem dX10_readStay_127 : decode cX10_readStay 127 = .ok (.iconst 4, 1) := dk_7 (dk_at dksX10_readStay_5 15 rfl rfl)
theorem dX10_readStay_128 : decode cX10_readStay 128 = .ok (.dup2, 1) := dk_92 (dk_at dksX10_readStay_5 16 rfl rfl)
theorem dX10_readStay_129 : decode cX10_readStay 129 = .ok (.iaload, 1) := dk_46 (dk_at dksX10_readStay_5 17 rfl rfl)
theorem dX10_readStay_130 : decode cX10_readStay 130 = .ok (.iconst 1, 1) := dk_4 (dk_at dksX10_readStay_5 18 rfl rfl)
theorem dX10_readStay_131 : decode cX10_readStay 131 = .ok (.iadd, 1) := dk_96 (dk_at dksX10_readStay_5 19 rfl rfl)
theorem dX10_readStay_132 : decode cX10_readStay 132 = .ok (.iastore, 1) := dk_79 (dk_at dksX10_readStay_5 20 rfl rfl)
theorem dX10_readStay_133 : decode cX10_readStay 133 = .ok (.aload_n 0, 1) := dk_42 (dk_at dksX10_readStay_5 21 rfl rfl)
theorem dX10_readStay_134 : decode cX10_readStay 134 = .ok (.getfield 31, 3) := dk_180 0 31 (dk_at dksX10_readStay_6 0 rfl rfl)
theorem dX10_readStay_137 : decode cX10_readStay 137 = .ok (.bipush 12, 2) := dk_16 12 (dk_at dksX10_readStay_6 3 rfl rfl)
theorem dX10_readStay_139 : decode cX10_readStay 139 = .ok (.iconst 2, 1) := dk_5 (dk_at dksX10_readStay_6 5 rfl rfl)
theorem dX10_readStay_140 : decode cX10_readStay 140 = .ok (.iload 4, 2) := dk_21 4 (dk_at dksX10_readStay_6 6 rfl rfl)
theorem dX10_readStay_142 : decode cX10_readStay 142 = .ok (.imul, 1) := dk_104 (dk_at dksX10_readStay_6 8 rfl rfl)
theorem dX10_readStay_143 : decode cX10_readStay 143 = .ok (.iadd, 1) := dk_96 (dk_at dksX10_readStay_6 9 rfl rfl)
theorem dX10_readStay_144 : decode cX10_readStay 144 = .ok (.iload_n 3, 1) := dk_29 (dk_at dksX10_readStay_6 10 rfl rfl)
theorem dX10_readStay_145 : decode cX10_readStay 145 = .ok (.iastore, 1) := dk_79 (dk_at dksX10_readStay_6 11 rfl rfl)
theorem dX10_readStay_146 : decode cX10_readStay 146 = .ok (.aload_n 0, 1) := dk_42 (dk_at dksX10_readStay_6 12 rfl rfl)
theorem dX10_readStay_147 : decode cX10_readStay 147 = .ok (.getfield 31, 3) := dk_180 0 31 (dk_at dksX10_readStay_6 13 rfl rfl)
theorem dX10_readStay_150 : decode cX10_readStay 150 = .ok (.bipush 12, 2) := dk_16 12 (dk_at dksX10_readStay_6 16 rfl rfl)
theorem dX10_readStay_152 : decode cX10_readStay 152 = .ok (.iconst 2, 1) := dk_5 (dk_at dksX10_readStay_6 18 rfl rfl)
theorem dX10_readStay_153 : decode cX10_readStay 153 = .ok (.iload 4, 2) := dk_21 4 (dk_at dksX10_readStay_6 19 rfl rfl)
theorem dX10_readStay_155 : decode cX10_readStay 155 = .ok (.imul, 1) := dk_104 (dk_at dksX10_readStay_6 21 rfl rfl)
theorem dX10_readStay_156 : decode cX10_readStay 156 = .ok (.iadd, 1) := dk_96 (dk_at dksX10_readStay_6 22 rfl rfl)
theorem dX10_readStay_157 : decode cX10_readStay 157 = .ok (.iconst 1, 1) := dk_4 (dk_at dksX10_readStay_6 23 rfl rfl)
theorem dX10_readStay_158 : decode cX10_readStay 158 = .ok (.iadd, 1) := dk_96 (dk_at dksX10_readStay_7 0 rfl rfl)
theorem dX10_readStay_159 : decode cX10_readStay 159 = .ok (.iload_n 1, 1) := dk_27 (dk_at dksX10_readStay_7 1 rfl rfl)
theorem dX10_readStay_160 : decode cX10_readStay 160 = .ok (.iastore, 1) := dk_79 (dk_at dksX10_readStay_7 2 rfl rfl)
theorem dX10_readStay_161 : decode cX10_readStay 161 = .ok (.return_, 1) := dk_177 (dk_at dksX10_readStay_7 3 rfl rfl)
abbrev cX10_freshStay : ByteArray := prog_16_method_29_code
def yX10_freshStay : MethodName := ⟨RX10, "freshStay", "(I)I"⟩
def dkwX10_freshStay_1 : List UInt8 := [160, 0, 5, 28, 172, 132, 2, 1, 167, 255, 226, 2, 172]
abbrev dktX10_freshStay_1 : List UInt8 := dkwX10_freshStay_1 ++ []
def dkwX10_freshStay_0 : List UInt8 := [3, 61, 28, 42, 180, 0, 31, 7, 46, 162, 0, 26, 42, 180, 0, 31, 16, 12, 5, 28, 104, 96, 46, 27]
abbrev dktX10_freshStay_0 : List UInt8 := dkwX10_freshStay_0 ++ dktX10_freshStay_1
theorem dksX10_freshStay_0 : cX10_freshStay.data.toList.drop 0 = dktX10_freshStay_0 := by decide +kernel
theorem dksX10_freshStay_1 : cX10_freshStay.data.toList.drop 24 = dktX10_freshStay_1 := dk_seg dksX10_freshStay_0 24 rfl rfl
theorem dX10_freshStay_0 : decode cX10_freshStay 0 = .ok (.iconst 0, 1) := dk_3 (dk_at dksX10_freshStay_0 0 rfl rfl)
theorem dX10_freshStay_1 : decode cX10_freshStay 1 = .ok (.istore_n 2, 1) := dk_61 (dk_at dksX10_freshStay_0 1 rfl rfl)
theorem dX10_freshStay_2 : decode cX10_freshStay 2 = .ok (.iload_n 2, 1) := dk_28 (dk_at dksX10_freshStay_0 2 rfl rfl)
theorem dX10_freshStay_3 : decode cX10_freshStay 3 = .ok (.aload_n 0, 1) := dk_42 (dk_at dksX10_freshStay_0 3 rfl rfl)
theorem dX10_freshStay_4 : decode cX10_freshStay 4 = .ok (.getfield 31, 3) := dk_180 0 31 (dk_at dksX10_freshStay_0 4 rfl rfl)
theorem dX10_freshStay_7 : decode cX10_freshStay 7 = .ok (.iconst 4, 1) := dk_7 (dk_at dksX10_freshStay_0 7 rfl rfl)
theorem dX10_freshStay_8 : decode cX10_freshStay 8 = .ok (.iaload, 1) := dk_46 (dk_at dksX10_freshStay_0 8 rfl rfl)
theorem dX10_freshStay_9 : decode cX10_freshStay 9 = .ok (.if_icmp .ge 26, 3) := dk_162 0 26 (dk_at dksX10_freshStay_0 9 rfl rfl)
theorem dX10_freshStay_12 : decode cX10_freshStay 12 = .ok (.aload_n 0, 1) := dk_42 (dk_at dksX10_freshStay_0 12 rfl rfl)
theorem dX10_freshStay_13 : decode cX10_freshStay 13 = .ok (.getfield 31, 3) := dk_180 0 31 (dk_at dksX10_freshStay_0 13 rfl rfl)
theorem dX10_freshStay_16 : decode cX10_freshStay 16 = .ok (.bipush 12, 2) := dk_16 12 (dk_at dksX10_freshStay_0 16 rfl rfl)
theorem dX10_freshStay_18 : decode cX10_freshStay 18 = .ok (.iconst 2, 1) := dk_5 (dk_at dksX10_freshStay_0 18 rfl rfl)
theorem dX10_freshStay_19 : decode cX10_freshStay 19 = .ok (.iload_n 2, 1) := dk_28 (dk_at dksX10_freshStay_0 19 rfl rfl)
theorem dX10_freshStay_20 : decode cX10_freshStay 20 = .ok (.imul, 1) := dk_104 (dk_at dksX10_freshStay_0 20 rfl rfl)
theorem dX10_freshStay_21 : decode cX10_freshStay 21 = .ok (.iadd, 1) := dk_96 (dk_at dksX10_freshStay_0 21 rfl rfl)
theorem dX10_freshStay_22 : decode cX10_freshStay 22 = .ok (.iaload, 1) := dk_46 (dk_at dksX10_freshStay_0 22 rfl rfl)
theorem dX10_freshStay_23 : decode cX10_freshStay 23 = .ok (.iload_n 1, 1) := dk_27 (dk_at dksX10_freshStay_0 23 rfl rfl)
theorem dX10_freshStay_24 : decode cX10_freshStay 24 = .ok (.if_icmp .ne 5, 3) := dk_160 0 5 (dk_at dksX10_freshStay_1 0 rfl rfl)
theorem dX10_freshStay_27 : decode cX10_freshStay 27 = .ok (.iload_n 2, 1) := dk_28 (dk_at dksX10_freshStay_1 3 rfl rfl)
theorem dX10_freshStay_28 : decode cX10_freshStay 28 = .ok (.ireturn, 1) := dk_172 (dk_at dksX10_freshStay_1 4 rfl rfl)
theorem dX10_freshStay_29 : decode cX10_freshStay 29 = .ok (.iinc 2 1, 3) := dk_132 2 1 (dk_at dksX10_freshStay_1 5 rfl rfl)
theorem dX10_freshStay_32 : decode cX10_freshStay 32 = .ok (.goto (-30), 3) := dk_167 255 226 (dk_at dksX10_freshStay_1 8 rfl rfl)
theorem dX10_freshStay_35 : decode cX10_freshStay 35 = .ok (.iconst (-1), 1) := dk_2 (dk_at dksX10_freshStay_1 11 rfl rfl)
theorem dX10_freshStay_36 : decode cX10_freshStay 36 = .ok (.ireturn, 1) := dk_172 (dk_at dksX10_freshStay_1 12 rfl rfl)
abbrev cX10_readShut : ByteArray := prog_16_method_33_code
def yX10_readShut : MethodName := ⟨RX10, "readShut", "()V"⟩
def dkwX10_readShut_3 : List UInt8 := [4, 27, 120, 128, 79, 177]
abbrev dktX10_readShut_3 : List UInt8 := dkwX10_readShut_3 ++ []
def dkwX10_readShut_2 : List UInt8 := [182, 0, 188, 4, 100, 182, 0, 167, 60, 42, 182, 0, 136, 153, 0, 16, 42, 180, 0, 31, 16, 7, 92, 46]
abbrev dktX10_readShut_2 : List UInt8 := dkwX10_readShut_2 ++ dktX10_readShut_3
def dkwX10_readShut_1 : List UInt8 := [159, 0, 14, 42, 42, 180, 0, 123, 182, 0, 194, 153, 0, 8, 42, 5, 182, 0, 159, 42, 3, 42]
abbrev dktX10_readShut_1 : List UInt8 := dkwX10_readShut_1 ++ dktX10_readShut_2
def dkwX10_readShut_0 : List UInt8 := [42, 182, 0, 191, 153, 0, 37, 42, 180, 0, 31, 16, 7, 46, 42, 180, 0, 123, 122, 4, 126, 4]
abbrev dktX10_readShut_0 : List UInt8 := dkwX10_readShut_0 ++ dktX10_readShut_1
theorem dksX10_readShut_0 : cX10_readShut.data.toList.drop 0 = dktX10_readShut_0 := by decide +kernel
theorem dksX10_readShut_1 : cX10_readShut.data.toList.drop 22 = dktX10_readShut_1 := dk_seg dksX10_readShut_0 22 rfl rfl
theorem dksX10_readShut_2 : cX10_readShut.data.toList.drop 44 = dktX10_readShut_2 := dk_seg dksX10_readShut_1 22 rfl rfl
theorem dksX10_readShut_3 : cX10_readShut.data.toList.drop 68 = dktX10_readShut_3 := dk_seg dksX10_readShut_2 24 rfl rfl
theorem dX10_readShut_0 : decode cX10_readShut 0 = .ok (.aload_n 0, 1) := dk_42 (dk_at dksX10_readShut_0 0 rfl rfl)
theorem dX10_readShut_1 : decode cX10_readShut 1 = .ok (.invokevirtual 191, 3) := dk_182 0 191 (dk_at dksX10_readShut_0 1 rfl rfl)
theorem dX10_readShut_4 : decode cX10_readShut 4 = .ok (.ifCond .eq 37, 3) := dk_153 0 37 (dk_at dksX10_readShut_0 4 rfl rfl)
theorem dX10_readShut_7 : decode cX10_readShut 7 = .ok (.aload_n 0, 1) := dk_42 (dk_at dksX10_readShut_0 7 rfl rfl)
theorem dX10_readShut_8 : decode cX10_readShut 8 = .ok (.getfield 31, 3) := dk_180 0 31 (dk_at dksX10_readShut_0 8 rfl rfl)
theorem dX10_readShut_11 : decode cX10_readShut 11 = .ok (.bipush 7, 2) := dk_16 7 (dk_at dksX10_readShut_0 11 rfl rfl)
theorem dX10_readShut_13 : decode cX10_readShut 13 = .ok (.iaload, 1) := dk_46 (dk_at dksX10_readShut_0 13 rfl rfl)
theorem dX10_readShut_14 : decode cX10_readShut 14 = .ok (.aload_n 0, 1) := dk_42 (dk_at dksX10_readShut_0 14 rfl rfl)
theorem dX10_readShut_15 : decode cX10_readShut 15 = .ok (.getfield 123, 3) := dk_180 0 123 (dk_at dksX10_readShut_0 15 rfl rfl)
theorem dX10_readShut_18 : decode cX10_readShut 18 = .ok (.ishr, 1) := dk_122 (dk_at dksX10_readShut_0 18 rfl rfl)
theorem dX10_readShut_19 : decode cX10_readShut 19 = .ok (.iconst 1, 1) := dk_4 (dk_at dksX10_readShut_0 19 rfl rfl)
theorem dX10_readShut_20 : decode cX10_readShut 20 = .ok (.iand, 1) := dk_126 (dk_at dksX10_readShut_0 20 rfl rfl)
theorem dX10_readShut_21 : decode cX10_readShut 21 = .ok (.iconst 1, 1) := dk_4 (dk_at dksX10_readShut_0 21 rfl rfl)
theorem dX10_readShut_22 : decode cX10_readShut 22 = .ok (.if_icmp .eq 14, 3) := dk_159 0 14 (dk_at dksX10_readShut_1 0 rfl rfl)
theorem dX10_readShut_25 : decode cX10_readShut 25 = .ok (.aload_n 0, 1) := dk_42 (dk_at dksX10_readShut_1 3 rfl rfl)
theorem dX10_readShut_26 : decode cX10_readShut 26 = .ok (.aload_n 0, 1) := dk_42 (dk_at dksX10_readShut_1 4 rfl rfl)
theorem dX10_readShut_27 : decode cX10_readShut 27 = .ok (.getfield 123, 3) := dk_180 0 123 (dk_at dksX10_readShut_1 5 rfl rfl)
theorem dX10_readShut_30 : decode cX10_readShut 30 = .ok (.invokevirtual 194, 3) := dk_182 0 194 (dk_at dksX10_readShut_1 8 rfl rfl)
theorem dX10_readShut_33 : decode cX10_readShut 33 = .ok (.ifCond .eq 8, 3) := dk_153 0 8 (dk_at dksX10_readShut_1 11 rfl rfl)
theorem dX10_readShut_36 : decode cX10_readShut 36 = .ok (.aload_n 0, 1) := dk_42 (dk_at dksX10_readShut_1 14 rfl rfl)
theorem dX10_readShut_37 : decode cX10_readShut 37 = .ok (.iconst 2, 1) := dk_5 (dk_at dksX10_readShut_1 15 rfl rfl)
theorem dX10_readShut_38 : decode cX10_readShut 38 = .ok (.invokevirtual 159, 3) := dk_182 0 159 (dk_at dksX10_readShut_1 16 rfl rfl)
theorem dX10_readShut_41 : decode cX10_readShut 41 = .ok (.aload_n 0, 1) := dk_42 (dk_at dksX10_readShut_1 19 rfl rfl)
theorem dX10_readShut_42 : decode cX10_readShut 42 = .ok (.iconst 0, 1) := dk_3 (dk_at dksX10_readShut_1 20 rfl rfl)
theorem dX10_readShut_43 : decode cX10_readShut 43 = .ok (.aload_n 0, 1) := dk_42 (dk_at dksX10_readShut_1 21 rfl rfl)
theorem dX10_readShut_44 : decode cX10_readShut 44 = .ok (.invokevirtual 188, 3) := dk_182 0 188 (dk_at dksX10_readShut_2 0 rfl rfl)
theorem dX10_readShut_47 : decode cX10_readShut 47 = .ok (.iconst 1, 1) := dk_4 (dk_at dksX10_readShut_2 3 rfl rfl)
theorem dX10_readShut_48 : decode cX10_readShut 48 = .ok (.isub, 1) := dk_100 (dk_at dksX10_readShut_2 4 rfl rfl)
theorem dX10_readShut_49 : decode cX10_readShut 49 = .ok (.invokevirtual 167, 3) := dk_182 0 167 (dk_at dksX10_readShut_2 5 rfl rfl)
theorem dX10_readShut_52 : decode cX10_readShut 52 = .ok (.istore_n 1, 1) := dk_60 (dk_at dksX10_readShut_2 8 rfl rfl)
theorem dX10_readShut_53 : decode cX10_readShut 53 = .ok (.aload_n 0, 1) := dk_42 (dk_at dksX10_readShut_2 9 rfl rfl)
theorem dX10_readShut_54 : decode cX10_readShut 54 = .ok (.invokevirtual 136, 3) := dk_182 0 136 (dk_at dksX10_readShut_2 10 rfl rfl)
theorem dX10_readShut_57 : decode cX10_readShut 57 = .ok (.ifCond .eq 16, 3) := dk_153 0 16 (dk_at dksX10_readShut_2 13 rfl rfl)
theorem dX10_readShut_60 : decode cX10_readShut 60 = .ok (.aload_n 0, 1) := dk_42 (dk_at dksX10_readShut_2 16 rfl rfl)
theorem dX10_readShut_61 : decode cX10_readShut 61 = .ok (.getfield 31, 3) := dk_180 0 31 (dk_at dksX10_readShut_2 17 rfl rfl)
theorem dX10_readShut_64 : decode cX10_readShut 64 = .ok (.bipush 7, 2) := dk_16 7 (dk_at dksX10_readShut_2 20 rfl rfl)
theorem dX10_readShut_66 : decode cX10_readShut 66 = .ok (.dup2, 1) := dk_92 (dk_at dksX10_readShut_2 22 rfl rfl)
theorem dX10_readShut_67 : decode cX10_readShut 67 = .ok (.iaload, 1) := dk_46 (dk_at dksX10_readShut_2 23 rfl rfl)
theorem dX10_readShut_68 : decode cX10_readShut 68 = .ok (.iconst 1, 1) := dk_4 (dk_at dksX10_readShut_3 0 rfl rfl)
theorem dX10_readShut_69 : decode cX10_readShut 69 = .ok (.iload_n 1, 1) := dk_27 (dk_at dksX10_readShut_3 1 rfl rfl)
theorem dX10_readShut_70 : decode cX10_readShut 70 = .ok (.ishl, 1) := dk_120 (dk_at dksX10_readShut_3 2 rfl rfl)
theorem dX10_readShut_71 : decode cX10_readShut 71 = .ok (.ior, 1) := dk_128 (dk_at dksX10_readShut_3 3 rfl rfl)
theorem dX10_readShut_72 : decode cX10_readShut 72 = .ok (.iastore, 1) := dk_79 (dk_at dksX10_readShut_3 4 rfl rfl)
theorem dX10_readShut_73 : decode cX10_readShut 73 = .ok (.return_, 1) := dk_177 (dk_at dksX10_readShut_3 5 rfl rfl)
abbrev cX10_isNextHole : ByteArray := prog_16_method_31_code
def yX10_isNextHole : MethodName := ⟨RX10, "isNextHole", "()Z"⟩
def dkwX10_isNextHole_1 : List UInt8 := [162, 0, 7, 4, 167, 0, 4, 3, 172]
abbrev dktX10_isNextHole_1 : List UInt8 := dkwX10_isNextHole_1 ++ []
def dkwX10_isNextHole_0 : List UInt8 := [42, 182, 0, 136, 153, 0, 26, 42, 180, 0, 112, 5, 160, 0, 18, 42, 180, 0, 123, 42, 182, 0, 188]
abbrev dktX10_isNextHole_0 : List UInt8 := dkwX10_isNextHole_0 ++ dktX10_isNextHole_1
theorem dksX10_isNextHole_0 : cX10_isNextHole.data.toList.drop 0 = dktX10_isNextHole_0 := by decide +kernel
theorem dksX10_isNextHole_1 : cX10_isNextHole.data.toList.drop 23 = dktX10_isNextHole_1 := dk_seg dksX10_isNextHole_0 23 rfl rfl
theorem dX10_isNextHole_0 : decode cX10_isNextHole 0 = .ok (.aload_n 0, 1) := dk_42 (dk_at dksX10_isNextHole_0 0 rfl rfl)
theorem dX10_isNextHole_1 : decode cX10_isNextHole 1 = .ok (.invokevirtual 136, 3) := dk_182 0 136 (dk_at dksX10_isNextHole_0 1 rfl rfl)
theorem dX10_isNextHole_4 : decode cX10_isNextHole 4 = .ok (.ifCond .eq 26, 3) := dk_153 0 26 (dk_at dksX10_isNextHole_0 4 rfl rfl)
theorem dX10_isNextHole_7 : decode cX10_isNextHole 7 = .ok (.aload_n 0, 1) := dk_42 (dk_at dksX10_isNextHole_0 7 rfl rfl)
theorem dX10_isNextHole_8 : decode cX10_isNextHole 8 = .ok (.getfield 112, 3) := dk_180 0 112 (dk_at dksX10_isNextHole_0 8 rfl rfl)
theorem dX10_isNextHole_11 : decode cX10_isNextHole 11 = .ok (.iconst 2, 1) := dk_5 (dk_at dksX10_isNextHole_0 11 rfl rfl)
theorem dX10_isNextHole_12 : decode cX10_isNextHole 12 = .ok (.if_icmp .ne 18, 3) := dk_160 0 18 (dk_at dksX10_isNextHole_0 12 rfl rfl)
theorem dX10_isNextHole_15 : decode cX10_isNextHole 15 = .ok (.aload_n 0, 1) := dk_42 (dk_at dksX10_isNextHole_0 15 rfl rfl)
theorem dX10_isNextHole_16 : decode cX10_isNextHole 16 = .ok (.getfield 123, 3) := dk_180 0 123 (dk_at dksX10_isNextHole_0 16 rfl rfl)
theorem dX10_isNextHole_19 : decode cX10_isNextHole 19 = .ok (.aload_n 0, 1) := dk_42 (dk_at dksX10_isNextHole_0 19 rfl rfl)
theorem dX10_isNextHole_20 : decode cX10_isNextHole 20 = .ok (.invokevirtual 188, 3) := dk_182 0 188 (dk_at dksX10_isNextHole_0 20 rfl rfl)
theorem dX10_isNextHole_23 : decode cX10_isNextHole 23 = .ok (.if_icmp .ge 7, 3) := dk_162 0 7 (dk_at dksX10_isNextHole_1 0 rfl rfl)
theorem dX10_isNextHole_26 : decode cX10_isNextHole 26 = .ok (.iconst 1, 1) := dk_4 (dk_at dksX10_isNextHole_1 3 rfl rfl)
theorem dX10_isNextHole_27 : decode cX10_isNextHole 27 = .ok (.goto 4, 3) := dk_167 0 4 (dk_at dksX10_isNextHole_1 4 rfl rfl)
theorem dX10_isNextHole_30 : decode cX10_isNextHole 30 = .ok (.iconst 0, 1) := dk_3 (dk_at dksX10_isNextHole_1 7 rfl rfl)
theorem dX10_isNextHole_31 : decode cX10_isNextHole 31 = .ok (.ireturn, 1) := dk_172 (dk_at dksX10_isNextHole_1 8 rfl rfl)
abbrev cX10_freshHoles : ByteArray := prog_16_method_27_code
def yX10_freshHoles : MethodName := ⟨RX10, "freshHoles", "()I"⟩
def dkwX10_freshHoles_0 : List UInt8 := [42, 180, 0, 31, 3, 46, 42, 180, 0, 31, 4, 46, 104, 172]
abbrev dktX10_freshHoles_0 : List UInt8 := dkwX10_freshHoles_0 ++ []
theorem dksX10_freshHoles_0 : cX10_freshHoles.data.toList.drop 0 = dktX10_freshHoles_0 := by decide +kernel
theorem dX10_freshHoles_0 : decode cX10_freshHoles 0 = .ok (.aload_n 0, 1) := dk_42 (dk_at dksX10_freshHoles_0 0 rfl rfl)
theorem dX10_freshHoles_1 : decode cX10_freshHoles 1 = .ok (.getfield 31, 3) := dk_180 0 31 (dk_at dksX10_freshHoles_0 1 rfl rfl)
theorem dX10_freshHoles_4 : decode cX10_freshHoles 4 = .ok (.iconst 0, 1) := dk_3 (dk_at dksX10_freshHoles_0 4 rfl rfl)
theorem dX10_freshHoles_5 : decode cX10_freshHoles 5 = .ok (.iaload, 1) := dk_46 (dk_at dksX10_freshHoles_0 5 rfl rfl)
theorem dX10_freshHoles_6 : decode cX10_freshHoles 6 = .ok (.aload_n 0, 1) := dk_42 (dk_at dksX10_freshHoles_0 6 rfl rfl)
theorem dX10_freshHoles_7 : decode cX10_freshHoles 7 = .ok (.getfield 31, 3) := dk_180 0 31 (dk_at dksX10_freshHoles_0 7 rfl rfl)
theorem dX10_freshHoles_10 : decode cX10_freshHoles 10 = .ok (.iconst 1, 1) := dk_4 (dk_at dksX10_freshHoles_0 10 rfl rfl)
theorem dX10_freshHoles_11 : decode cX10_freshHoles 11 = .ok (.iaload, 1) := dk_46 (dk_at dksX10_freshHoles_0 11 rfl rfl)
theorem dX10_freshHoles_12 : decode cX10_freshHoles 12 = .ok (.imul, 1) := dk_104 (dk_at dksX10_freshHoles_0 12 rfl rfl)
theorem dX10_freshHoles_13 : decode cX10_freshHoles 13 = .ok (.ireturn, 1) := dk_172 (dk_at dksX10_freshHoles_0 13 rfl rfl)
abbrev cX10_isFreshComing : ByteArray := prog_16_method_32_code
def yX10_isFreshComing : MethodName := ⟨RX10, "isFreshComing", "(I)Z"⟩
def dkwX10_isFreshComing_2 : List UInt8 := [132, 2, 1, 167, 255, 207, 3, 172]
abbrev dktX10_isFreshComing_2 : List UInt8 := dkwX10_isFreshComing_2 ++ []
def dkwX10_isFreshComing_1 : List UInt8 := [46, 27, 159, 0, 20, 42, 180, 0, 31, 16, 24, 6, 28, 104, 96, 4, 96, 46, 27, 160, 0, 5, 4, 172]
abbrev dktX10_isFreshComing_1 : List UInt8 := dkwX10_isFreshComing_1 ++ dktX10_isFreshComing_2
def dkwX10_isFreshComing_0 : List UInt8 := [3, 61, 28, 42, 180, 0, 31, 8, 46, 162, 0, 45, 42, 180, 0, 31, 16, 24, 6, 28, 104, 96, 3, 96]
abbrev dktX10_isFreshComing_0 : List UInt8 := dkwX10_isFreshComing_0 ++ dktX10_isFreshComing_1
theorem dksX10_isFreshComing_0 : cX10_isFreshComing.data.toList.drop 0 = dktX10_isFreshComing_0 := by decide +kernel
theorem dksX10_isFreshComing_1 : cX10_isFreshComing.data.toList.drop 24 = dktX10_isFreshComing_1 := dk_seg dksX10_isFreshComing_0 24 rfl rfl
theorem dksX10_isFreshComing_2 : cX10_isFreshComing.data.toList.drop 48 = dktX10_isFreshComing_2 := dk_seg dksX10_isFreshComing_1 24 rfl rfl
theorem dX10_isFreshComing_0 : decode cX10_isFreshComing 0 = .ok (.iconst 0, 1) := dk_3 (dk_at dksX10_isFreshComing_0 0 rfl rfl)
theorem dX10_isFreshComing_1 : decode cX10_isFreshComing 1 = .ok (.istore_n 2, 1) := dk_61 (dk_at dksX10_isFreshComing_0 1 rfl rfl)
theorem dX10_isFreshComing_2 : decode cX10_isFreshComing 2 = .ok (.iload_n 2, 1) := dk_28 (dk_at dksX10_isFreshComing_0 2 rfl rfl)
theorem dX10_isFreshComing_3 : decode cX10_isFreshComing 3 = .ok (.aload_n 0, 1) := dk_42 (dk_at dksX10_isFreshComing_0 3 rfl rfl)
theorem dX10_isFreshComing_4 : decode cX10_isFreshComing 4 = .ok (.getfield 31, 3) := dk_180 0 31 (dk_at dksX10_isFreshComing_0 4 rfl rfl)
theorem dX10_isFreshComing_7 : decode cX10_isFreshComing 7 = .ok (.iconst 5, 1) := dk_8 (dk_at dksX10_isFreshComing_0 7 rfl rfl)
theorem dX10_isFreshComing_8 : decode cX10_isFreshComing 8 = .ok (.iaload, 1) := dk_46 (dk_at dksX10_isFreshComing_0 8 rfl rfl)
theorem dX10_isFreshComing_9 : decode cX10_isFreshComing 9 = .ok (.if_icmp .ge 45, 3) := dk_162 0 45 (dk_at dksX10_isFreshComing_0 9 rfl rfl)
theorem dX10_isFreshComing_12 : decode cX10_isFreshComing 12 = .ok (.aload_n 0, 1) := dk_42 (dk_at dksX10_isFreshComing_0 12 rfl rfl)
theorem dX10_isFreshComing_13 : decode cX10_isFreshComing 13 = .ok (.getfield 31, 3) := dk_180 0 31 (dk_at dksX10_isFreshComing_0 13 rfl rfl)
theorem dX10_isFreshComing_16 : decode cX10_isFreshComing 16 = .ok (.bipush 24, 2) := dk_16 24 (dk_at dksX10_isFreshComing_0 16 rfl rfl)
theorem dX10_isFreshComing_18 : decode cX10_isFreshComing 18 = .ok (.iconst 3, 1) := dk_6 (dk_at dksX10_isFreshComing_0 18 rfl rfl)
theorem dX10_isFreshComing_19 : decode cX10_isFreshComing 19 = .ok (.iload_n 2, 1) := dk_28 (dk_at dksX10_isFreshComing_0 19 rfl rfl)
theorem dX10_isFreshComing_20 : decode cX10_isFreshComing 20 = .ok (.imul, 1) := dk_104 (dk_at dksX10_isFreshComing_0 20 rfl rfl)
theorem dX10_isFreshComing_21 : decode cX10_isFreshComing 21 = .ok (.iadd, 1) := dk_96 (dk_at dksX10_isFreshComing_0 21 rfl rfl)
theorem dX10_isFreshComing_22 : decode cX10_isFreshComing 22 = .ok (.iconst 0, 1) := dk_3 (dk_at dksX10_isFreshComing_0 22 rfl rfl)
theorem dX10_isFreshComing_23 : decode cX10_isFreshComing 23 = .ok (.iadd, 1) := dk_96 (dk_at dksX10_isFreshComing_0 23 rfl rfl)
theorem dX10_isFreshComing_24 : decode cX10_isFreshComing 24 = .ok (.iaload, 1) := dk_46 (dk_at dksX10_isFreshComing_1 0 rfl rfl)
theorem dX10_isFreshComing_25 : decode cX10_isFreshComing 25 = .ok (.iload_n 1, 1) := dk_27 (dk_at dksX10_isFreshComing_1 1 rfl rfl)
theorem dX10_isFreshComing_26 : decode cX10_isFreshComing 26 = .ok (.if_icmp .eq 20, 3) := dk_159 0 20 (dk_at dksX10_isFreshComing_1 2 rfl rfl)
theorem dX10_isFreshComing_29 : decode cX10_isFreshComing 29 = .ok (.aload_n 0, 1) := dk_42 (dk_at dksX10_isFreshComing_1 5 rfl rfl)
theorem dX10_isFreshComing_30 : decode cX10_isFreshComing 30 = .ok (.getfield 31, 3) := dk_180 0 31 (dk_at dksX10_isFreshComing_1 6 rfl rfl)
theorem dX10_isFreshComing_33 : decode cX10_isFreshComing 33 = .ok (.bipush 24, 2) := dk_16 24 (dk_at dksX10_isFreshComing_1 9 rfl rfl)
theorem dX10_isFreshComing_35 : decode cX10_isFreshComing 35 = .ok (.iconst 3, 1) := dk_6 (dk_at dksX10_isFreshComing_1 11 rfl rfl)
theorem dX10_isFreshComing_36 : decode cX10_isFreshComing 36 = .ok (.iload_n 2, 1) := dk_28 (dk_at dksX10_isFreshComing_1 12 rfl rfl)
theorem dX10_isFreshComing_37 : decode cX10_isFreshComing 37 = .ok (.imul, 1) := dk_104 (dk_at dksX10_isFreshComing_1 13 rfl rfl)
theorem dX10_isFreshComing_38 : decode cX10_isFreshComing 38 = .ok (.iadd, 1) := dk_96 (dk_at dksX10_isFreshComing_1 14 rfl rfl)
theorem dX10_isFreshComing_39 : decode cX10_isFreshComing 39 = .ok (.iconst 1, 1) := dk_4 (dk_at dksX10_isFreshComing_1 15 rfl rfl)
theorem dX10_isFreshComing_40 : decode cX10_isFreshComing 40 = .ok (.iadd, 1) := dk_96 (dk_at dksX10_isFreshComing_1 16 rfl rfl)
theorem dX10_isFreshComing_41 : decode cX10_isFreshComing 41 = .ok (.iaload, 1) := dk_46 (dk_at dksX10_isFreshComing_1 17 rfl rfl)
theorem dX10_isFreshComing_42 : decode cX10_isFreshComing 42 = .ok (.iload_n 1, 1) := dk_27 (dk_at dksX10_isFreshComing_1 18 rfl rfl)
theorem dX10_isFreshComing_43 : decode cX10_isFreshComing 43 = .ok (.if_icmp .ne 5, 3) := dk_160 0 5 (dk_at dksX10_isFreshComing_1 19 rfl rfl)
theorem dX10_isFreshComing_46 : decode cX10_isFreshComing 46 = .ok (.iconst 1, 1) := dk_4 (dk_at dksX10_isFreshComing_1 22 rfl rfl)
theorem dX10_isFreshComing_47 : decode cX10_isFreshComing 47 = .ok (.ireturn, 1) := dk_172 (dk_at dksX10_isFreshComing_1 23 rfl rfl)
theorem dX10_isFreshComing_48 : decode cX10_isFreshComing 48 = .ok (.iinc 2 1, 3) := dk_132 2 1 (dk_at dksX10_isFreshComing_2 0 rfl rfl)
theorem dX10_isFreshComing_51 : decode cX10_isFreshComing 51 = .ok (.goto (-49), 3) := dk_167 255 207 (dk_at dksX10_isFreshComing_2 3 rfl rfl)
theorem dX10_isFreshComing_54 : decode cX10_isFreshComing 54 = .ok (.iconst 0, 1) := dk_3 (dk_at dksX10_isFreshComing_2 6 rfl rfl)
theorem dX10_isFreshComing_55 : decode cX10_isFreshComing 55 = .ok (.ireturn, 1) := dk_172 (dk_at dksX10_isFreshComing_2 7 rfl rfl)
abbrev cX10_readComing : ByteArray := prog_16_method_35_code
def yX10_readComing : MethodName := ⟨RX10, "readComing", "(ZZ)V"⟩
def dkwX10_readComing_3 : List UInt8 := [153, 0, 7, 4, 167, 0, 4, 3, 79, 42, 180, 0, 31, 8, 92, 46, 4, 96, 79, 177]
abbrev dktX10_readComing_3 : List UInt8 := dkwX10_readComing_3 ++ []
def dkwX10_readComing_2 : List UInt8 := [3, 96, 21, 4, 79, 42, 180, 0, 31, 29, 4, 96, 21, 5, 79, 42, 180, 0, 31, 29, 5, 96, 27]
abbrev dktX10_readComing_2 : List UInt8 := dkwX10_readComing_2 ++ dktX10_readComing_3
def dkwX10_readComing_1 : List UInt8 := [21, 4, 182, 0, 198, 167, 0, 4, 2, 54, 5, 42, 182, 0, 136, 154, 0, 4, 177, 42, 180, 0, 31, 29]
abbrev dktX10_readComing_1 : List UInt8 := dkwX10_readComing_1 ++ dktX10_readComing_2
def dkwX10_readComing_0 : List UInt8 := [16, 24, 6, 42, 180, 0, 31, 8, 46, 104, 96, 62, 42, 2, 182, 0, 198, 54, 4, 28, 153, 0, 12, 42]
abbrev dktX10_readComing_0 : List UInt8 := dkwX10_readComing_0 ++ dktX10_readComing_1
theorem dksX10_readComing_0 : cX10_readComing.data.toList.drop 0 = dktX10_readComing_0 := by decide +kernel
theorem dksX10_readComing_1 : cX10_readComing.data.toList.drop 24 = dktX10_readComing_1 := dk_seg dksX10_readComing_0 24 rfl rfl
theorem dksX10_readComing_2 : cX10_readComing.data.toList.drop 48 = dktX10_readComing_2 := dk_seg dksX10_readComing_1 24 rfl rfl
theorem dksX10_readComing_3 : cX10_readComing.data.toList.drop 71 = dktX10_readComing_3 := dk_seg dksX10_readComing_2 23 rfl rfl
theorem dX10_readComing_0 : decode cX10_readComing 0 = .ok (.bipush 24, 2) := dk_16 24 (dk_at dksX10_readComing_0 0 rfl rfl)
theorem dX10_readComing_2 : decode cX10_readComing 2 = .ok (.iconst 3, 1) := dk_6 (dk_at dksX10_readComing_0 2 rfl rfl)
theorem dX10_readComing_3 : decode cX10_readComing 3 = .ok (.aload_n 0, 1) := dk_42 (dk_at dksX10_readComing_0 3 rfl rfl)
theorem dX10_readComing_4 : decode cX10_readComing 4 = .ok (.getfield 31, 3) := dk_180 0 31 (dk_at dksX10_readComing_0 4 rfl rfl)
theorem dX10_readComing_7 : decode cX10_readComing 7 = .ok (.iconst 5, 1) := dk_8 (dk_at dksX10_readComing_0 7 rfl rfl)
theorem dX10_readComing_8 : decode cX10_readComing 8 = .ok (.iaload, 1) := dk_46 (dk_at dksX10_readComing_0 8 rfl rfl)
theorem dX10_readComing_9 : decode cX10_readComing 9 = .ok (.imul, 1) := dk_104 (dk_at dksX10_readComing_0 9 rfl rfl)
theorem dX10_readComing_10 : decode cX10_readComing 10 = .ok (.iadd, 1) := dk_96 (dk_at dksX10_readComing_0 10 rfl rfl)
theorem dX10_readComing_11 : decode cX10_readComing 11 = .ok (.istore_n 3, 1) := dk_62 (dk_at dksX10_readComing_0 11 rfl rfl)
theorem dX10_readComing_12 : decode cX10_readComing 12 = .ok (.aload_n 0, 1) := dk_42 (dk_at dksX10_readComing_0 12 rfl rfl)
theorem dX10_readComing_13 : decode cX10_readComing 13 = .ok (.iconst (-1), 1) := dk_2 (dk_at dksX10_readComing_0 13 rfl rfl)
theorem dX10_readComing_14 : decode cX10_readComing 14 = .ok (.invokevirtual 198, 3) := dk_182 0 198 (dk_at dksX10_readComing_0 14 rfl rfl)
theorem dX10_readComing_17 : decode cX10_readComing 17 = .ok (.istore 4, 2) := dk_54 4 (dk_at dksX10_readComing_0 17 rfl rfl)
theorem dX10_readComing_19 : decode cX10_readComing 19 = .ok (.iload_n 2, 1) := dk_28 (dk_at dksX10_readComing_0 19 rfl rfl)
theorem dX10_readComing_20 : decode cX10_readComing 20 = .ok (.ifCond .eq 12, 3) := dk_153 0 12 (dk_at dksX10_readComing_0 20 rfl rfl)
theorem dX10_readComing_23 : decode cX10_readComing 23 = .ok (.aload_n 0, 1) := dk_42 (dk_at dksX10_readComing_0 23 rfl rfl)
theorem dX10_readComing_24 : decode cX10_readComing 24 = .ok (.iload 4, 2) := dk_21 4 (dk_at dksX10_readComing_1 0 rfl rfl)
theorem dX10_readComing_26 : decode cX10_readComing 26 = .ok (.invokevirtual 198, 3) := dk_182 0 198 (dk_at dksX10_readComing_1 2 rfl rfl)
theorem dX10_readComing_29 : decode cX10_readComing 29 = .ok (.goto 4, 3) := dk_167 0 4 (dk_at dksX10_readComing_1 5 rfl rfl)
theorem dX10_readComing_32 : decode cX10_readComing 32 = .ok (.iconst (-1), 1) := dk_2 (dk_at dksX10_readComing_1 8 rfl rfl)
theorem dX10_readComing_33 : decode cX10_readComing 33 = .ok (.istore 5, 2) := dk_54 5 (dk_at dksX10_readComing_1 9 rfl rfl)
theorem dX10_readComing_35 : decode cX10_readComing 35 = .ok (.aload_n 0, 1) := dk_42 (dk_at dksX10_readComing_1 11 rfl rfl)
theorem dX10_readComing_36 : decode cX10_readComing 36 = .ok (.invokevirtual 136, 3) := dk_182 0 136 (dk_at dksX10_readComing_1 12 rfl rfl)
theorem dX10_readComing_39 : decode cX10_readComing 39 = .ok (.ifCond .ne 4, 3) := dk_154 0 4 (dk_at dksX10_readComing_1 15 rfl rfl)
theorem dX10_readComing_42 : decode cX10_readComing 42 = .ok (.return_, 1) := dk_177 (dk_at dksX10_readComing_1 18 rfl rfl)
theorem dX10_readComing_43 : decode cX10_readComing 43 = .ok (.aload_n 0, 1) := dk_42 (dk_at dksX10_readComing_1 19 rfl rfl)
theorem dX10_readComing_44 : decode cX10_readComing 44 = .ok (.getfield 31, 3) := dk_180 0 31 (dk_at dksX10_readComing_1 20 rfl rfl)
theorem dX10_readComing_47 : decode cX10_readComing 47 = .ok (.iload_n 3, 1) := dk_29 (dk_at dksX10_readComing_1 23 rfl rfl)
theorem dX10_readComing_48 : decode cX10_readComing 48 = .ok (.iconst 0, 1) := dk_3 (dk_at dksX10_readComing_2 0 rfl rfl)
theorem dX10_readComing_49 : decode cX10_readComing 49 = .ok (.iadd, 1) := dk_96 (dk_at dksX10_readComing_2 1 rfl rfl)
theorem dX10_readComing_50 : decode cX10_readComing 50 = .ok (.iload 4, 2) := dk_21 4 (dk_at dksX10_readComing_2 2 rfl rfl)
theorem dX10_readComing_52 : decode cX10_readComing 52 = .ok (.iastore, 1) := dk_79 (dk_at dksX10_readComing_2 4 rfl rfl)
theorem dX10_readComing_53 : decode cX10_readComing 53 = .ok (.aload_n 0, 1) := dk_42 (dk_at dksX10_readComing_2 5 rfl rfl)
theorem dX10_readComing_54 : decode cX10_readComing 54 = .ok (.getfield 31, 3) := dk_180 0 31 (dk_at dksX10_readComing_2 6 rfl rfl)
theorem dX10_readComing_57 : decode cX10_readComing 57 = .ok (.iload_n 3, 1) := dk_29 (dk_at dksX10_readComing_2 9 rfl rfl)
theorem dX10_readComing_58 : decode cX10_readComing 58 = .ok (.iconst 1, 1) := dk_4 (dk_at dksX10_readComing_2 10 rfl rfl)
theorem dX10_readComing_59 : decode cX10_readComing 59 = .ok (.iadd, 1) := dk_96 (dk_at dksX10_readComing_2 11 rfl rfl)
theorem dX10_readComing_60 : decode cX10_readComing 60 = .ok (.iload 5, 2) := dk_21 5 (dk_at dksX10_readComing_2 12 rfl rfl)
theorem dX10_readComing_62 : decode cX10_readComing 62 = .ok (.iastore, 1) := dk_79 (dk_at dksX10_readComing_2 14 rfl rfl)
theorem dX10_readComing_63 : decode cX10_readComing 63 = .ok (.aload_n 0, 1) := dk_42 (dk_at dksX10_readComing_2 15 rfl rfl)
theorem dX10_readComing_64 : decode cX10_readComing 64 = .ok (.getfield 31, 3) := dk_180 0 31 (dk_at dksX10_readComing_2 16 rfl rfl)
theorem dX10_readComing_67 : decode cX10_readComing 67 = .ok (.iload_n 3, 1) := dk_29 (dk_at dksX10_readComing_2 19 rfl rfl)
theorem dX10_readComing_68 : decode cX10_readComing 68 = .ok (.iconst 2, 1) := dk_5 (dk_at dksX10_readComing_2 20 rfl rfl)
theorem dX10_readComing_69 : decode cX10_readComing 69 = .ok (.iadd, 1) := dk_96 (dk_at dksX10_readComing_2 21 rfl rfl)
theorem dX10_readComing_70 : decode cX10_readComing 70 = .ok (.iload_n 1, 1) := dk_27 (dk_at dksX10_readComing_2 22 rfl rfl)
theorem dX10_readComing_71 : decode cX10_readComing 71 = .ok (.ifCond .eq 7, 3) := dk_153 0 7 (dk_at dksX10_readComing_3 0 rfl rfl)
theorem dX10_readComing_74 : decode cX10_readComing 74 = .ok (.iconst 1, 1) := dk_4 (dk_at dksX10_readComing_3 3 rfl rfl)
theorem dX10_readComing_75 : decode cX10_readComing 75 = .ok (.goto 4, 3) := dk_167 0 4 (dk_at dksX10_readComing_3 4 rfl rfl)
theorem dX10_readComing_78 : decode cX10_readComing 78 = .ok (.iconst 0, 1) := dk_3 (dk_at dksX10_readComing_3 7 rfl rfl)
theorem dX10_readComing_79 : decode cX10_readComing 79 = .ok (.iastore, 1) := dk_79 (dk_at dksX10_readComing_3 8 rfl rfl)
theorem dX10_readComing_80 : decode cX10_readComing 80 = .ok (.aload_n 0, 1) := dk_42 (dk_at dksX10_readComing_3 9 rfl rfl)
theorem dX10_readComing_81 : decode cX10_readComing 81 = .ok (.getfield 31, 3) := dk_180 0 31 (dk_at dksX10_readComing_3 10 rfl rfl)
theorem dX10_readComing_84 : decode cX10_readComing 84 = .ok (.iconst 5, 1) := dk_8 (dk_at dksX10_readComing_3 13 rfl rfl)
theorem dX10_readComing_85 : decode cX10_readComing 85 = .ok (.dup2, 1) := dk_92 (dk_at dksX10_readComing_3 14 rfl rfl)
theorem dX10_readComing_86 : decode cX10_readComing 86 = .ok (.iaload, 1) := dk_46 (dk_at dksX10_readComing_3 15 rfl rfl)
theorem dX10_readComing_87 : decode cX10_readComing 87 = .ok (.iconst 1, 1) := dk_4 (dk_at dksX10_readComing_3 16 rfl rfl)
theorem dX10_readComing_88 : decode cX10_readComing 88 = .ok (.iadd, 1) := dk_96 (dk_at dksX10_readComing_3 17 rfl rfl)
theorem dX10_readComing_89 : decode cX10_readComing 89 = .ok (.iastore, 1) := dk_79 (dk_at dksX10_readComing_3 18 rfl rfl)
theorem dX10_readComing_90 : decode cX10_readComing 90 = .ok (.return_, 1) := dk_177 (dk_at dksX10_readComing_3 19 rfl rfl)
abbrev cX10_readHole : ByteArray := prog_16_method_34_code
def yX10_readHole : MethodName := ⟨RX10, "readHole", "(I)I"⟩
def dkwX10_readHole_2 : List UInt8 := [182, 0, 167, 172]
abbrev dktX10_readHole_2 : List UInt8 := dkwX10_readHole_2 ++ []
def dkwX10_readHole_1 : List UInt8 := [159, 0, 11, 42, 180, 0, 123, 27, 160, 0, 8, 42, 5, 182, 0, 159, 42, 3, 42, 182, 0, 188, 4, 100]
abbrev dktX10_readHole_1 : List UInt8 := dkwX10_readHole_1 ++ dktX10_readHole_2
def dkwX10_readHole_0 : List UInt8 := [42, 182, 0, 191, 153, 0, 34, 42, 180, 0, 31, 16, 7, 46, 42, 180, 0, 123, 122, 4, 126, 4]
abbrev dktX10_readHole_0 : List UInt8 := dkwX10_readHole_0 ++ dktX10_readHole_1
theorem dksX10_readHole_0 : cX10_readHole.data.toList.drop 0 = dktX10_readHole_0 := by decide +kernel
theorem dksX10_readHole_1 : cX10_readHole.data.toList.drop 22 = dktX10_readHole_1 := dk_seg dksX10_readHole_0 22 rfl rfl
theorem dksX10_readHole_2 : cX10_readHole.data.toList.drop 46 = dktX10_readHole_2 := dk_seg dksX10_readHole_1 24 rfl rfl
theorem dX10_readHole_0 : decode cX10_readHole 0 = .ok (.aload_n 0, 1) := dk_42 (dk_at dksX10_readHole_0 0 rfl rfl)
theorem dX10_readHole_1 : decode cX10_readHole 1 = .ok (.invokevirtual 191, 3) := dk_182 0 191 (dk_at dksX10_readHole_0 1 rfl rfl)
theorem dX10_readHole_4 : decode cX10_readHole 4 = .ok (.ifCond .eq 34, 3) := dk_153 0 34 (dk_at dksX10_readHole_0 4 rfl rfl)
theorem dX10_readHole_7 : decode cX10_readHole 7 = .ok (.aload_n 0, 1) := dk_42 (dk_at dksX10_readHole_0 7 rfl rfl)
theorem dX10_readHole_8 : decode cX10_readHole 8 = .ok (.getfield 31, 3) := dk_180 0 31 (dk_at dksX10_readHole_0 8 rfl rfl)
theorem dX10_readHole_11 : decode cX10_readHole 11 = .ok (.bipush 7, 2) := dk_16 7 (dk_at dksX10_readHole_0 11 rfl rfl)
theorem dX10_readHole_13 : decode cX10_readHole 13 = .ok (.iaload, 1) := dk_46 (dk_at dksX10_readHole_0 13 rfl rfl)
theorem dX10_readHole_14 : decode cX10_readHole 14 = .ok (.aload_n 0, 1) := dk_42 (dk_at dksX10_readHole_0 14 rfl rfl)
theorem dX10_readHole_15 : decode cX10_readHole 15 = .ok (.getfield 123, 3) := dk_180 0 123 (dk_at dksX10_readHole_0 15 rfl rfl)
theorem dX10_readHole_18 : decode cX10_readHole 18 = .ok (.ishr, 1) := dk_122 (dk_at dksX10_readHole_0 18 rfl rfl)
theorem dX10_readHole_19 : decode cX10_readHole 19 = .ok (.iconst 1, 1) := dk_4 (dk_at dksX10_readHole_0 19 rfl rfl)
theorem dX10_readHole_20 : decode cX10_readHole 20 = .ok (.iand, 1) := dk_126 (dk_at dksX10_readHole_0 20 rfl rfl)
theorem dX10_readHole_21 : decode cX10_readHole 21 = .ok (.iconst 1, 1) := dk_4 (dk_at dksX10_readHole_0 21 rfl rfl)
theorem dX10_readHole_22 : decode cX10_readHole 22 = .ok (.if_icmp .eq 11, 3) := dk_159 0 11 (dk_at dksX10_readHole_1 0 rfl rfl)
theorem dX10_readHole_25 : decode cX10_readHole 25 = .ok (.aload_n 0, 1) := dk_42 (dk_at dksX10_readHole_1 3 rfl rfl)
theorem dX10_readHole_26 : decode cX10_readHole 26 = .ok (.getfield 123, 3) := dk_180 0 123 (dk_at dksX10_readHole_1 4 rfl rfl)
theorem dX10_readHole_29 : decode cX10_readHole 29 = .ok (.iload_n 1, 1) := dk_27 (dk_at dksX10_readHole_1 7 rfl rfl)
theorem dX10_readHole_30 : decode cX10_readHole 30 = .ok (.if_icmp .ne 8, 3) := dk_160 0 8 (dk_at dksX10_readHole_1 8 rfl rfl)
theorem dX10_readHole_33 : decode cX10_readHole 33 = .ok (.aload_n 0, 1) := dk_42 (dk_at dksX10_readHole_1 11 rfl rfl)
theorem dX10_readHole_34 : decode cX10_readHole 34 = .ok (.iconst 2, 1) := dk_5 (dk_at dksX10_readHole_1 12 rfl rfl)
theorem dX10_readHole_35 : decode cX10_readHole 35 = .ok (.invokevirtual 159, 3) := dk_182 0 159 (dk_at dksX10_readHole_1 13 rfl rfl)
theorem dX10_readHole_38 : decode cX10_readHole 38 = .ok (.aload_n 0, 1) := dk_42 (dk_at dksX10_readHole_1 16 rfl rfl)
theorem dX10_readHole_39 : decode cX10_readHole 39 = .ok (.iconst 0, 1) := dk_3 (dk_at dksX10_readHole_1 17 rfl rfl)
theorem dX10_readHole_40 : decode cX10_readHole 40 = .ok (.aload_n 0, 1) := dk_42 (dk_at dksX10_readHole_1 18 rfl rfl)
theorem dX10_readHole_41 : decode cX10_readHole 41 = .ok (.invokevirtual 188, 3) := dk_182 0 188 (dk_at dksX10_readHole_1 19 rfl rfl)
theorem dX10_readHole_44 : decode cX10_readHole 44 = .ok (.iconst 1, 1) := dk_4 (dk_at dksX10_readHole_1 22 rfl rfl)
theorem dX10_readHole_45 : decode cX10_readHole 45 = .ok (.isub, 1) := dk_100 (dk_at dksX10_readHole_1 23 rfl rfl)
theorem dX10_readHole_46 : decode cX10_readHole 46 = .ok (.invokevirtual 167, 3) := dk_182 0 167 (dk_at dksX10_readHole_2 0 rfl rfl)
theorem dX10_readHole_49 : decode cX10_readHole 49 = .ok (.ireturn, 1) := dk_172 (dk_at dksX10_readHole_2 3 rfl rfl)
abbrev cX10_readPlayer : ByteArray := prog_16_method_36_code
def yX10_readPlayer : MethodName := ⟨RX10, "readPlayer", "()V"⟩
def dkwX10_readPlayer_4 : List UInt8 := [4, 100, 182, 0, 174, 79, 42, 180, 0, 31, 16, 6, 92, 46, 4, 96, 79, 177]
abbrev dktX10_readPlayer_4 : List UInt8 := dkwX10_readPlayer_4 ++ []
def dkwX10_readPlayer_3 : List UInt8 := [18, 207, 3, 16, 9, 182, 0, 174, 79, 42, 180, 0, 31, 27, 7, 96, 42, 18, 209, 3, 42, 182, 0, 188]
abbrev dktX10_readPlayer_3 : List UInt8 := dkwX10_readPlayer_3 ++ dktX10_readPlayer_4
def dkwX10_readPlayer_2 : List UInt8 := [180, 0, 31, 27, 5, 96, 42, 18, 205, 3, 16, 99, 182, 0, 174, 79, 42, 180, 0, 31, 27, 6, 96, 42]
abbrev dktX10_readPlayer_2 : List UInt8 := dkwX10_readPlayer_2 ++ dktX10_readPlayer_3
def dkwX10_readPlayer_1 : List UInt8 := [16, 9, 182, 0, 174, 79, 42, 180, 0, 31, 27, 4, 96, 42, 18, 203, 3, 16, 20, 182, 0, 174, 79, 42]
abbrev dktX10_readPlayer_1 : List UInt8 := dkwX10_readPlayer_1 ++ dktX10_readPlayer_2
def dkwX10_readPlayer_0 : List UInt8 := [16, 96, 8, 42, 180, 0, 31, 16, 6, 46, 104, 96, 60, 42, 180, 0, 31, 27, 3, 96, 42, 18, 201, 4]
abbrev dktX10_readPlayer_0 : List UInt8 := dkwX10_readPlayer_0 ++ dktX10_readPlayer_1
theorem dksX10_readPlayer_0 : cX10_readPlayer.data.toList.drop 0 = dktX10_readPlayer_0 := by decide +kernel
theorem dksX10_readPlayer_1 : cX10_readPlayer.data.toList.drop 24 = dktX10_readPlayer_1 := dk_seg dksX10_readPlayer_0 24 rfl rfl
theorem dksX10_readPlayer_2 : cX10_readPlayer.data.toList.drop 48 = dktX10_readPlayer_2 := dk_seg dksX10_readPlayer_1 24 rfl rfl
theorem dksX10_readPlayer_3 : cX10_readPlayer.data.toList.drop 72 = dktX10_readPlayer_3 := dk_seg dksX10_readPlayer_2 24 rfl rfl
theorem dksX10_readPlayer_4 : cX10_readPlayer.data.toList.drop 96 = dktX10_readPlayer_4 := dk_seg dksX10_readPlayer_3 24 rfl rfl
theorem dX10_readPlayer_0 : decode cX10_readPlayer 0 = .ok (.bipush 96, 2) := dk_16 96 (dk_at dksX10_readPlayer_0 0 rfl rfl)
theorem dX10_readPlayer_2 : decode cX10_readPlayer 2 = .ok (.iconst 5, 1) := dk_8 (dk_at dksX10_readPlayer_0 2 rfl rfl)
theorem dX10_readPlayer_3 : decode cX10_readPlayer 3 = .ok (.aload_n 0, 1) := dk_42 (dk_at dksX10_readPlayer_0 3 rfl rfl)
theorem dX10_readPlayer_4 : decode cX10_readPlayer 4 = .ok (.getfield 31, 3) := dk_180 0 31 (dk_at dksX10_readPlayer_0 4 rfl rfl)
theorem dX10_readPlayer_7 : decode cX10_readPlayer 7 = .ok (.bipush 6, 2) := dk_16 6 (dk_at dksX10_readPlayer_0 7 rfl rfl)
theorem dX10_readPlayer_9 : decode cX10_readPlayer 9 = .ok (.iaload, 1) := dk_46 (dk_at dksX10_readPlayer_0 9 rfl rfl)
theorem dX10_readPlayer_10 : decode cX10_readPlayer 10 = .ok (.imul, 1) := dk_104 (dk_at dksX10_readPlayer_0 10 rfl rfl)
theorem dX10_readPlayer_11 : decode cX10_readPlayer 11 = .ok (.iadd, 1) := dk_96 (dk_at dksX10_readPlayer_0 11 rfl rfl)
theorem dX10_readPlayer_12 : decode cX10_readPlayer 12 = .ok (.istore_n 1, 1) := dk_60 (dk_at dksX10_readPlayer_0 12 rfl rfl)
theorem dX10_readPlayer_13 : decode cX10_readPlayer 13 = .ok (.aload_n 0, 1) := dk_42 (dk_at dksX10_readPlayer_0 13 rfl rfl)
theorem dX10_readPlayer_14 : decode cX10_readPlayer 14 = .ok (.getfield 31, 3) := dk_180 0 31 (dk_at dksX10_readPlayer_0 14 rfl rfl)
theorem dX10_readPlayer_17 : decode cX10_readPlayer 17 = .ok (.iload_n 1, 1) := dk_27 (dk_at dksX10_readPlayer_0 17 rfl rfl)
theorem dX10_readPlayer_18 : decode cX10_readPlayer 18 = .ok (.iconst 0, 1) := dk_3 (dk_at dksX10_readPlayer_0 18 rfl rfl)
theorem dX10_readPlayer_19 : decode cX10_readPlayer 19 = .ok (.iadd, 1) := dk_96 (dk_at dksX10_readPlayer_0 19 rfl rfl)
theorem dX10_readPlayer_20 : decode cX10_readPlayer 20 = .ok (.aload_n 0, 1) := dk_42 (dk_at dksX10_readPlayer_0 20 rfl rfl)
theorem dX10_readPlayer_21 : decode cX10_readPlayer 21 = .ok (.ldc 201, 2) := dk_18 201 (dk_at dksX10_readPlayer_0 21 rfl rfl)
theorem dX10_readPlayer_23 : decode cX10_readPlayer 23 = .ok (.iconst 1, 1) := dk_4 (dk_at dksX10_readPlayer_0 23 rfl rfl)
theorem dX10_readPlayer_24 : decode cX10_readPlayer 24 = .ok (.bipush 9, 2) := dk_16 9 (dk_at dksX10_readPlayer_1 0 rfl rfl)
theorem dX10_readPlayer_26 : decode cX10_readPlayer 26 = .ok (.invokevirtual 174, 3) := dk_182 0 174 (dk_at dksX10_readPlayer_1 2 rfl rfl)
theorem dX10_readPlayer_29 : decode cX10_readPlayer 29 = .ok (.iastore, 1) := dk_79 (dk_at dksX10_readPlayer_1 5 rfl rfl)
theorem dX10_readPlayer_30 : decode cX10_readPlayer 30 = .ok (.aload_n 0, 1) := dk_42 (dk_at dksX10_readPlayer_1 6 rfl rfl)
theorem dX10_readPlayer_31 : decode cX10_readPlayer 31 = .ok (.getfield 31, 3) := dk_180 0 31 (dk_at dksX10_readPlayer_1 7 rfl rfl)
theorem dX10_readPlayer_34 : decode cX10_readPlayer 34 = .ok (.iload_n 1, 1) := dk_27 (dk_at dksX10_readPlayer_1 10 rfl rfl)
theorem dX10_readPlayer_35 : decode cX10_readPlayer 35 = .ok (.iconst 1, 1) := dk_4 (dk_at dksX10_readPlayer_1 11 rfl rfl)
theorem dX10_readPlayer_36 : decode cX10_readPlayer 36 = .ok (.iadd, 1) := dk_96 (dk_at dksX10_readPlayer_1 12 rfl rfl)
theorem dX10_readPlayer_37 : decode cX10_readPlayer 37 = .ok (.aload_n 0, 1) := dk_42 (dk_at dksX10_readPlayer_1 13 rfl rfl)
theorem dX10_readPlayer_38 : decode cX10_readPlayer 38 = .ok (.ldc 203, 2) := dk_18 203 (dk_at dksX10_readPlayer_1 14 rfl rfl)
theorem dX10_readPlayer_40 : decode cX10_readPlayer 40 = .ok (.iconst 0, 1) := dk_3 (dk_at dksX10_readPlayer_1 16 rfl rfl)
theorem dX10_readPlayer_41 : decode cX10_readPlayer 41 = .ok (.bipush 20, 2) := dk_16 20 (dk_at dksX10_readPlayer_1 17 rfl rfl)
theorem dX10_readPlayer_43 : decode cX10_readPlayer 43 = .ok (.invokevirtual 174, 3) := dk_182 0 174 (dk_at dksX10_readPlayer_1 19 rfl rfl)
theorem dX10_readPlayer_46 : decode cX10_readPlayer 46 = .ok (.iastore, 1) := dk_79 (dk_at dksX10_readPlayer_1 22 rfl rfl)
theorem dX10_readPlayer_47 : decode cX10_readPlayer 47 = .ok (.aload_n 0, 1) := dk_42 (dk_at dksX10_readPlayer_1 23 rfl rfl)
theorem dX10_readPlayer_48 : decode cX10_readPlayer 48 = .ok (.getfield 31, 3) := dk_180 0 31 (dk_at dksX10_readPlayer_2 0 rfl rfl)
theorem dX10_readPlayer_51 : decode cX10_readPlayer 51 = .ok (.iload_n 1, 1) := dk_27 (dk_at dksX10_readPlayer_2 3 rfl rfl)
theorem dX10_readPlayer_52 : decode cX10_readPlayer 52 = .ok (.iconst 2, 1) := dk_5 (dk_at dksX10_readPlayer_2 4 rfl rfl)
theorem dX10_readPlayer_53 : decode cX10_readPlayer 53 = .ok (.iadd, 1) := dk_96 (dk_at dksX10_readPlayer_2 5 rfl rfl)
theorem dX10_readPlayer_54 : decode cX10_readPlayer 54 = .ok (.aload_n 0, 1) := dk_42 (dk_at dksX10_readPlayer_2 6 rfl rfl)
theorem dX10_readPlayer_55 : decode cX10_readPlayer 55 = .ok (.ldc 205, 2) := dk_18 205 (dk_at dksX10_readPlayer_2 7 rfl rfl)
theorem dX10_readPlayer_57 : decode cX10_readPlayer 57 = .ok (.iconst 0, 1) := dk_3 (dk_at dksX10_readPlayer_2 9 rfl rfl)
theorem dX10_readPlayer_58 : decode cX10_readPlayer 58 = .ok (.bipush 99, 2) := dk_16 99 (dk_at dksX10_readPlayer_2 10 rfl rfl)
theorem dX10_readPlayer_60 : decode cX10_readPlayer 60 = .ok (.invokevirtual 174, 3) := dk_182 0 174 (dk_at dksX10_readPlayer_2 12 rfl rfl)
theorem dX10_readPlayer_63 : decode cX10_readPlayer 63 = .ok (.iastore, 1) := dk_79 (dk_at dksX10_readPlayer_2 15 rfl rfl)
theorem dX10_readPlayer_64 : decode cX10_readPlayer 64 = .ok (.aload_n 0, 1) := dk_42 (dk_at dksX10_readPlayer_2 16 rfl rfl)
theorem dX10_readPlayer_65 : decode cX10_readPlayer 65 = .ok (.getfield 31, 3) := dk_180 0 31 (dk_at dksX10_readPlayer_2 17 rfl rfl)
theorem dX10_readPlayer_68 : decode cX10_readPlayer 68 = .ok (.iload_n 1, 1) := dk_27 (dk_at dksX10_readPlayer_2 20 rfl rfl)
theorem dX10_readPlayer_69 : decode cX10_readPlayer 69 = .ok (.iconst 3, 1) := dk_6 (dk_at dksX10_readPlayer_2 21 rfl rfl)
theorem dX10_readPlayer_70 : decode cX10_readPlayer 70 = .ok (.iadd, 1) := dk_96 (dk_at dksX10_readPlayer_2 22 rfl rfl)
theorem dX10_readPlayer_71 : decode cX10_readPlayer 71 = .ok (.aload_n 0, 1) := dk_42 (dk_at dksX10_readPlayer_2 23 rfl rfl)
theorem dX10_readPlayer_72 : decode cX10_readPlayer 72 = .ok (.ldc 207, 2) := dk_18 207 (dk_at dksX10_readPlayer_3 0 rfl rfl)
theorem dX10_readPlayer_74 : decode cX10_readPlayer 74 = .ok (.iconst 0, 1) := dk_3 (dk_at dksX10_readPlayer_3 2 rfl rfl)
theorem dX10_readPlayer_75 : decode cX10_readPlayer 75 = .ok (.bipush 9, 2) := dk_16 9 (dk_at dksX10_readPlayer_3 3 rfl rfl)
theorem dX10_readPlayer_77 : decode cX10_readPlayer 77 = .ok (.invokevirtual 174, 3) := dk_182 0 174 (dk_at dksX10_readPlayer_3 5 rfl rfl)
theorem dX10_readPlayer_80 : decode cX10_readPlayer 80 = .ok (.iastore, 1) := dk_79 (dk_at dksX10_readPlayer_3 8 rfl rfl)
theorem dX10_readPlayer_81 : decode cX10_readPlayer 81 = .ok (.aload_n 0, 1) := dk_42 (dk_at dksX10_readPlayer_3 9 rfl rfl)
theorem dX10_readPlayer_82 : decode cX10_readPlayer 82 = .ok (.getfield 31, 3) := dk_180 0 31 (dk_at dksX10_readPlayer_3 10 rfl rfl)
theorem dX10_readPlayer_85 : decode cX10_readPlayer 85 = .ok (.iload_n 1, 1) := dk_27 (dk_at dksX10_readPlayer_3 13 rfl rfl)
theorem dX10_readPlayer_86 : decode cX10_readPlayer 86 = .ok (.iconst 4, 1) := dk_7 (dk_at dksX10_readPlayer_3 14 rfl rfl)
theorem dX10_readPlayer_87 : decode cX10_readPlayer 87 = .ok (.iadd, 1) := dk_96 (dk_at dksX10_readPlayer_3 15 rfl rfl)
theorem dX10_readPlayer_88 : decode cX10_readPlayer 88 = .ok (.aload_n 0, 1) := dk_42 (dk_at dksX10_readPlayer_3 16 rfl rfl)
theorem dX10_readPlayer_89 : decode cX10_readPlayer 89 = .ok (.ldc 209, 2) := dk_18 209 (dk_at dksX10_readPlayer_3 17 rfl rfl)
theorem dX10_readPlayer_91 : decode cX10_readPlayer 91 = .ok (.iconst 0, 1) := dk_3 (dk_at dksX10_readPlayer_3 19 rfl rfl)
theorem dX10_readPlayer_92 : decode cX10_readPlayer 92 = .ok (.aload_n 0, 1) := dk_42 (dk_at dksX10_readPlayer_3 20 rfl rfl)
theorem dX10_readPlayer_93 : decode cX10_readPlayer 93 = .ok (.invokevirtual 188, 3) := dk_182 0 188 (dk_at dksX10_readPlayer_3 21 rfl rfl)
theorem dX10_readPlayer_96 : decode cX10_readPlayer 96 = .ok (.iconst 1, 1) := dk_4 (dk_at dksX10_readPlayer_4 0 rfl rfl)
theorem dX10_readPlayer_97 : decode cX10_readPlayer 97 = .ok (.isub, 1) := dk_100 (dk_at dksX10_readPlayer_4 1 rfl rfl)
theorem dX10_readPlayer_98 : decode cX10_readPlayer 98 = .ok (.invokevirtual 174, 3) := dk_182 0 174 (dk_at dksX10_readPlayer_4 2 rfl rfl)
theorem dX10_readPlayer_101 : decode cX10_readPlayer 101 = .ok (.iastore, 1) := dk_79 (dk_at dksX10_readPlayer_4 5 rfl rfl)
theorem dX10_readPlayer_102 : decode cX10_readPlayer 102 = .ok (.aload_n 0, 1) := dk_42 (dk_at dksX10_readPlayer_4 6 rfl rfl)
theorem dX10_readPlayer_103 : decode cX10_readPlayer 103 = .ok (.getfield 31, 3) := dk_180 0 31 (dk_at dksX10_readPlayer_4 7 rfl rfl)
theorem dX10_readPlayer_106 : decode cX10_readPlayer 106 = .ok (.bipush 6, 2) := dk_16 6 (dk_at dksX10_readPlayer_4 10 rfl rfl)
theorem dX10_readPlayer_108 : decode cX10_readPlayer 108 = .ok (.dup2, 1) := dk_92 (dk_at dksX10_readPlayer_4 12 rfl rfl)
theorem dX10_readPlayer_109 : decode cX10_readPlayer 109 = .ok (.iaload, 1) := dk_46 (dk_at dksX10_readPlayer_4 13 rfl rfl)
theorem dX10_readPlayer_110 : decode cX10_readPlayer 110 = .ok (.iconst 1, 1) := dk_4 (dk_at dksX10_readPlayer_4 14 rfl rfl)
theorem dX10_readPlayer_111 : decode cX10_readPlayer 111 = .ok (.iadd, 1) := dk_96 (dk_at dksX10_readPlayer_4 15 rfl rfl)
theorem dX10_readPlayer_112 : decode cX10_readPlayer 112 = .ok (.iastore, 1) := dk_79 (dk_at dksX10_readPlayer_4 16 rfl rfl)
theorem dX10_readPlayer_113 : decode cX10_readPlayer 113 = .ok (.return_, 1) := dk_177 (dk_at dksX10_readPlayer_4 17 rfl rfl)
abbrev cX10_drum : ByteArray := prog_16_method_46_code
def yX10_drum : MethodName := ⟨RX10, "drum", "(II)I"⟩
def dkwX10_drum_1 : List UInt8 := [182, 1, 4, 167, 0, 5, 16, 254, 172]
abbrev dktX10_drum_1 : List UInt8 := dkwX10_drum_1 ++ []
def dkwX10_drum_0 : List UInt8 := [42, 27, 182, 1, 11, 153, 0, 24, 28, 133, 9, 20, 0, 86, 184, 0, 88, 153, 0, 12, 42, 27, 28]
abbrev dktX10_drum_0 : List UInt8 := dkwX10_drum_0 ++ dktX10_drum_1
theorem dksX10_drum_0 : cX10_drum.data.toList.drop 0 = dktX10_drum_0 := by decide +kernel
theorem dksX10_drum_1 : cX10_drum.data.toList.drop 23 = dktX10_drum_1 := dk_seg dksX10_drum_0 23 rfl rfl
theorem dX10_drum_0 : decode cX10_drum 0 = .ok (.aload_n 0, 1) := dk_42 (dk_at dksX10_drum_0 0 rfl rfl)
theorem dX10_drum_1 : decode cX10_drum 1 = .ok (.iload_n 1, 1) := dk_27 (dk_at dksX10_drum_0 1 rfl rfl)
theorem dX10_drum_2 : decode cX10_drum 2 = .ok (.invokevirtual 267, 3) := dk_182 1 11 (dk_at dksX10_drum_0 2 rfl rfl)
theorem dX10_drum_5 : decode cX10_drum 5 = .ok (.ifCond .eq 24, 3) := dk_153 0 24 (dk_at dksX10_drum_0 5 rfl rfl)
theorem dX10_drum_8 : decode cX10_drum 8 = .ok (.iload_n 2, 1) := dk_28 (dk_at dksX10_drum_0 8 rfl rfl)
theorem dX10_drum_9 : decode cX10_drum 9 = .ok (.i2l, 1) := dk_133 (dk_at dksX10_drum_0 9 rfl rfl)
theorem dX10_drum_10 : decode cX10_drum 10 = .ok (.lconst 0, 1) := dk_9 (dk_at dksX10_drum_0 10 rfl rfl)
theorem dX10_drum_11 : decode cX10_drum 11 = .ok (.ldc2_w 86, 3) := dk_20 0 86 (dk_at dksX10_drum_0 11 rfl rfl)
theorem dX10_drum_14 : decode cX10_drum 14 = .ok (.invokestatic 88, 3) := dk_184 0 88 (dk_at dksX10_drum_0 14 rfl rfl)
theorem dX10_drum_17 : decode cX10_drum 17 = .ok (.ifCond .eq 12, 3) := dk_153 0 12 (dk_at dksX10_drum_0 17 rfl rfl)
theorem dX10_drum_20 : decode cX10_drum 20 = .ok (.aload_n 0, 1) := dk_42 (dk_at dksX10_drum_0 20 rfl rfl)
theorem dX10_drum_21 : decode cX10_drum 21 = .ok (.iload_n 1, 1) := dk_27 (dk_at dksX10_drum_0 21 rfl rfl)
theorem dX10_drum_22 : decode cX10_drum 22 = .ok (.iload_n 2, 1) := dk_28 (dk_at dksX10_drum_0 22 rfl rfl)
theorem dX10_drum_23 : decode cX10_drum 23 = .ok (.invokevirtual 260, 3) := dk_182 1 4 (dk_at dksX10_drum_1 0 rfl rfl)
theorem dX10_drum_26 : decode cX10_drum 26 = .ok (.goto 5, 3) := dk_167 0 5 (dk_at dksX10_drum_1 3 rfl rfl)
theorem dX10_drum_29 : decode cX10_drum 29 = .ok (.bipush (-2), 2) := dk_16 254 (dk_at dksX10_drum_1 6 rfl rfl)
theorem dX10_drum_31 : decode cX10_drum 31 = .ok (.ireturn, 1) := dk_172 (dk_at dksX10_drum_1 8 rfl rfl)
abbrev cX10_isComing : ByteArray := prog_16_method_11_code
def yX10_isComing : MethodName := ⟨RX10, "isComing", "(I)Z"⟩
def dkwX10_isComing_0 : List UInt8 := [27, 133, 9, 42, 180, 0, 9, 8, 46, 4, 100, 133, 184, 0, 88, 172]
abbrev dktX10_isComing_0 : List UInt8 := dkwX10_isComing_0 ++ []
theorem dksX10_isComing_0 : cX10_isComing.data.toList.drop 0 = dktX10_isComing_0 := by decide +kernel
theorem dX10_isComing_0 : decode cX10_isComing 0 = .ok (.iload_n 1, 1) := dk_27 (dk_at dksX10_isComing_0 0 rfl rfl)
theorem dX10_isComing_1 : decode cX10_isComing 1 = .ok (.i2l, 1) := dk_133 (dk_at dksX10_isComing_0 1 rfl rfl)
theorem dX10_isComing_2 : decode cX10_isComing 2 = .ok (.lconst 0, 1) := dk_9 (dk_at dksX10_isComing_0 2 rfl rfl)
theorem dX10_isComing_3 : decode cX10_isComing 3 = .ok (.aload_n 0, 1) := dk_42 (dk_at dksX10_isComing_0 3 rfl rfl)
theorem dX10_isComing_4 : decode cX10_isComing 4 = .ok (.getfield 9, 3) := dk_180 0 9 (dk_at dksX10_isComing_0 4 rfl rfl)
theorem dX10_isComing_7 : decode cX10_isComing 7 = .ok (.iconst 5, 1) := dk_8 (dk_at dksX10_isComing_0 7 rfl rfl)
theorem dX10_isComing_8 : decode cX10_isComing 8 = .ok (.iaload, 1) := dk_46 (dk_at dksX10_isComing_0 8 rfl rfl)
theorem dX10_isComing_9 : decode cX10_isComing 9 = .ok (.iconst 1, 1) := dk_4 (dk_at dksX10_isComing_0 9 rfl rfl)
theorem dX10_isComing_10 : decode cX10_isComing 10 = .ok (.isub, 1) := dk_100 (dk_at dksX10_isComing_0 10 rfl rfl)
theorem dX10_isComing_11 : decode cX10_isComing 11 = .ok (.i2l, 1) := dk_133 (dk_at dksX10_isComing_0 11 rfl rfl)
theorem dX10_isComing_12 : decode cX10_isComing 12 = .ok (.invokestatic 88, 3) := dk_184 0 88 (dk_at dksX10_isComing_0 12 rfl rfl)
theorem dX10_isComing_15 : decode cX10_isComing 15 = .ok (.ireturn, 1) := dk_172 (dk_at dksX10_isComing_0 15 rfl rfl)
abbrev cX10_ofComing : ByteArray := prog_16_method_13_code
def yX10_ofComing : MethodName := ⟨RX10, "ofComing", "(II)I"⟩
def dkwX10_ofComing_0 : List UInt8 := [42, 180, 0, 9, 16, 24, 6, 27, 104, 96, 28, 96, 46, 172]
abbrev dktX10_ofComing_0 : List UInt8 := dkwX10_ofComing_0 ++ []
theorem dksX10_ofComing_0 : cX10_ofComing.data.toList.drop 0 = dktX10_ofComing_0 := by decide +kernel
theorem dX10_ofComing_0 : decode cX10_ofComing 0 = .ok (.aload_n 0, 1) := dk_42 (dk_at dksX10_ofComing_0 0 rfl rfl)
theorem dX10_ofComing_1 : decode cX10_ofComing 1 = .ok (.getfield 9, 3) := dk_180 0 9 (dk_at dksX10_ofComing_0 1 rfl rfl)
theorem dX10_ofComing_4 : decode cX10_ofComing 4 = .ok (.bipush 24, 2) := dk_16 24 (dk_at dksX10_ofComing_0 4 rfl rfl)
theorem dX10_ofComing_6 : decode cX10_ofComing 6 = .ok (.iconst 3, 1) := dk_6 (dk_at dksX10_ofComing_0 6 rfl rfl)
theorem dX10_ofComing_7 : decode cX10_ofComing 7 = .ok (.iload_n 1, 1) := dk_27 (dk_at dksX10_ofComing_0 7 rfl rfl)
theorem dX10_ofComing_8 : decode cX10_ofComing 8 = .ok (.imul, 1) := dk_104 (dk_at dksX10_ofComing_0 8 rfl rfl)
theorem dX10_ofComing_9 : decode cX10_ofComing 9 = .ok (.iadd, 1) := dk_96 (dk_at dksX10_ofComing_0 9 rfl rfl)
theorem dX10_ofComing_10 : decode cX10_ofComing 10 = .ok (.iload_n 2, 1) := dk_28 (dk_at dksX10_ofComing_0 10 rfl rfl)
theorem dX10_ofComing_11 : decode cX10_ofComing 11 = .ok (.iadd, 1) := dk_96 (dk_at dksX10_ofComing_0 11 rfl rfl)
theorem dX10_ofComing_12 : decode cX10_ofComing 12 = .ok (.iaload, 1) := dk_46 (dk_at dksX10_ofComing_0 12 rfl rfl)
theorem dX10_ofComing_13 : decode cX10_ofComing 13 = .ok (.ireturn, 1) := dk_172 (dk_at dksX10_ofComing_0 13 rfl rfl)
abbrev cX10_player : ByteArray := prog_16_method_47_code
def yX10_player : MethodName := ⟨RX10, "player", "(II)I"⟩
def dkwX10_player_1 : List UInt8 := [182, 1, 19, 167, 0, 5, 16, 254, 172]
abbrev dktX10_player_1 : List UInt8 := dkwX10_player_1 ++ []
def dkwX10_player_0 : List UInt8 := [42, 27, 182, 1, 14, 153, 0, 24, 28, 133, 9, 20, 1, 17, 184, 0, 88, 153, 0, 12, 42, 27, 28]
abbrev dktX10_player_0 : List UInt8 := dkwX10_player_0 ++ dktX10_player_1
theorem dksX10_player_0 : cX10_player.data.toList.drop 0 = dktX10_player_0 := by decide +kernel
theorem dksX10_player_1 : cX10_player.data.toList.drop 23 = dktX10_player_1 := dk_seg dksX10_player_0 23 rfl rfl
theorem dX10_player_0 : decode cX10_player 0 = .ok (.aload_n 0, 1) := dk_42 (dk_at dksX10_player_0 0 rfl rfl)
theorem dX10_player_1 : decode cX10_player 1 = .ok (.iload_n 1, 1) := dk_27 (dk_at dksX10_player_0 1 rfl rfl)
theorem dX10_player_2 : decode cX10_player 2 = .ok (.invokevirtual 270, 3) := dk_182 1 14 (dk_at dksX10_player_0 2 rfl rfl)
theorem dX10_player_5 : decode cX10_player 5 = .ok (.ifCond .eq 24, 3) := dk_153 0 24 (dk_at dksX10_player_0 5 rfl rfl)
theorem dX10_player_8 : decode cX10_player 8 = .ok (.iload_n 2, 1) := dk_28 (dk_at dksX10_player_0 8 rfl rfl)
theorem dX10_player_9 : decode cX10_player 9 = .ok (.i2l, 1) := dk_133 (dk_at dksX10_player_0 9 rfl rfl)
theorem dX10_player_10 : decode cX10_player 10 = .ok (.lconst 0, 1) := dk_9 (dk_at dksX10_player_0 10 rfl rfl)
theorem dX10_player_11 : decode cX10_player 11 = .ok (.ldc2_w 273, 3) := dk_20 1 17 (dk_at dksX10_player_0 11 rfl rfl)
theorem dX10_player_14 : decode cX10_player 14 = .ok (.invokestatic 88, 3) := dk_184 0 88 (dk_at dksX10_player_0 14 rfl rfl)
theorem dX10_player_17 : decode cX10_player 17 = .ok (.ifCond .eq 12, 3) := dk_153 0 12 (dk_at dksX10_player_0 17 rfl rfl)
theorem dX10_player_20 : decode cX10_player 20 = .ok (.aload_n 0, 1) := dk_42 (dk_at dksX10_player_0 20 rfl rfl)
theorem dX10_player_21 : decode cX10_player 21 = .ok (.iload_n 1, 1) := dk_27 (dk_at dksX10_player_0 21 rfl rfl)
theorem dX10_player_22 : decode cX10_player 22 = .ok (.iload_n 2, 1) := dk_28 (dk_at dksX10_player_0 22 rfl rfl)
theorem dX10_player_23 : decode cX10_player 23 = .ok (.invokevirtual 275, 3) := dk_182 1 19 (dk_at dksX10_player_1 0 rfl rfl)
theorem dX10_player_26 : decode cX10_player 26 = .ok (.goto 5, 3) := dk_167 0 5 (dk_at dksX10_player_1 3 rfl rfl)
theorem dX10_player_29 : decode cX10_player 29 = .ok (.bipush (-2), 2) := dk_16 254 (dk_at dksX10_player_1 6 rfl rfl)
theorem dX10_player_31 : decode cX10_player 31 = .ok (.ireturn, 1) := dk_172 (dk_at dksX10_player_1 8 rfl rfl)
abbrev cX10_isPlayer : ByteArray := prog_16_method_12_code
def yX10_isPlayer : MethodName := ⟨RX10, "isPlayer", "(I)Z"⟩
def dkwX10_isPlayer_0 : List UInt8 := [27, 133, 9, 42, 180, 0, 9, 16, 6, 46, 4, 100, 133, 184, 0, 88, 172]
abbrev dktX10_isPlayer_0 : List UInt8 := dkwX10_isPlayer_0 ++ []
theorem dksX10_isPlayer_0 : cX10_isPlayer.data.toList.drop 0 = dktX10_isPlayer_0 := by decide +kernel
theorem dX10_isPlayer_0 : decode cX10_isPlayer 0 = .ok (.iload_n 1, 1) := dk_27 (dk_at dksX10_isPlayer_0 0 rfl rfl)
theorem dX10_isPlayer_1 : decode cX10_isPlayer 1 = .ok (.i2l, 1) := dk_133 (dk_at dksX10_isPlayer_0 1 rfl rfl)
theorem dX10_isPlayer_2 : decode cX10_isPlayer 2 = .ok (.lconst 0, 1) := dk_9 (dk_at dksX10_isPlayer_0 2 rfl rfl)
theorem dX10_isPlayer_3 : decode cX10_isPlayer 3 = .ok (.aload_n 0, 1) := dk_42 (dk_at dksX10_isPlayer_0 3 rfl rfl)
theorem dX10_isPlayer_4 : decode cX10_isPlayer 4 = .ok (.getfield 9, 3) := dk_180 0 9 (dk_at dksX10_isPlayer_0 4 rfl rfl)
theorem dX10_isPlayer_7 : decode cX10_isPlayer 7 = .ok (.bipush 6, 2) := dk_16 6 (dk_at dksX10_isPlayer_0 7 rfl rfl)
theorem dX10_isPlayer_9 : decode cX10_isPlayer 9 = .ok (.iaload, 1) := dk_46 (dk_at dksX10_isPlayer_0 9 rfl rfl)
theorem dX10_isPlayer_10 : decode cX10_isPlayer 10 = .ok (.iconst 1, 1) := dk_4 (dk_at dksX10_isPlayer_0 10 rfl rfl)
theorem dX10_isPlayer_11 : decode cX10_isPlayer 11 = .ok (.isub, 1) := dk_100 (dk_at dksX10_isPlayer_0 11 rfl rfl)
theorem dX10_isPlayer_12 : decode cX10_isPlayer 12 = .ok (.i2l, 1) := dk_133 (dk_at dksX10_isPlayer_0 12 rfl rfl)
theorem dX10_isPlayer_13 : decode cX10_isPlayer 13 = .ok (.invokestatic 88, 3) := dk_184 0 88 (dk_at dksX10_isPlayer_0 13 rfl rfl)
theorem dX10_isPlayer_16 : decode cX10_isPlayer 16 = .ok (.ireturn, 1) := dk_172 (dk_at dksX10_isPlayer_0 16 rfl rfl)
abbrev cX10_of : ByteArray := prog_16_method_14_code
def yX10_of : MethodName := ⟨RX10, "of", "(II)I"⟩
def dkwX10_of_0 : List UInt8 := [42, 180, 0, 9, 16, 96, 8, 27, 104, 96, 28, 96, 46, 172]
abbrev dktX10_of_0 : List UInt8 := dkwX10_of_0 ++ []
theorem dksX10_of_0 : cX10_of.data.toList.drop 0 = dktX10_of_0 := by decide +kernel
theorem dX10_of_0 : decode cX10_of 0 = .ok (.aload_n 0, 1) := dk_42 (dk_at dksX10_of_0 0 rfl rfl)
theorem dX10_of_1 : decode cX10_of 1 = .ok (.getfield 9, 3) := dk_180 0 9 (dk_at dksX10_of_0 1 rfl rfl)
theorem dX10_of_4 : decode cX10_of 4 = .ok (.bipush 96, 2) := dk_16 96 (dk_at dksX10_of_0 4 rfl rfl)
theorem dX10_of_6 : decode cX10_of 6 = .ok (.iconst 5, 1) := dk_8 (dk_at dksX10_of_0 6 rfl rfl)
theorem dX10_of_7 : decode cX10_of 7 = .ok (.iload_n 1, 1) := dk_27 (dk_at dksX10_of_0 7 rfl rfl)
theorem dX10_of_8 : decode cX10_of 8 = .ok (.imul, 1) := dk_104 (dk_at dksX10_of_0 8 rfl rfl)
theorem dX10_of_9 : decode cX10_of 9 = .ok (.iadd, 1) := dk_96 (dk_at dksX10_of_0 9 rfl rfl)
theorem dX10_of_10 : decode cX10_of 10 = .ok (.iload_n 2, 1) := dk_28 (dk_at dksX10_of_0 10 rfl rfl)
theorem dX10_of_11 : decode cX10_of 11 = .ok (.iadd, 1) := dk_96 (dk_at dksX10_of_0 11 rfl rfl)
theorem dX10_of_12 : decode cX10_of 12 = .ok (.iaload, 1) := dk_46 (dk_at dksX10_of_0 12 rfl rfl)
theorem dX10_of_13 : decode cX10_of 13 = .ok (.ireturn, 1) := dk_172 (dk_at dksX10_of_0 13 rfl rfl)
abbrev cX10_stay : ByteArray := prog_16_method_48_code
def yX10_stay : MethodName := ⟨RX10, "stay", "(I)I"⟩
def dkwX10_stay_0 : List UInt8 := [42, 27, 133, 182, 1, 22, 153, 0, 11, 42, 27, 182, 0, 254, 167, 0, 5, 16, 254, 172]
abbrev dktX10_stay_0 : List UInt8 := dkwX10_stay_0 ++ []
theorem dksX10_stay_0 : cX10_stay.data.toList.drop 0 = dktX10_stay_0 := by decide +kernel
theorem dX10_stay_0 : decode cX10_stay 0 = .ok (.aload_n 0, 1) := dk_42 (dk_at dksX10_stay_0 0 rfl rfl)
theorem dX10_stay_1 : decode cX10_stay 1 = .ok (.iload_n 1, 1) := dk_27 (dk_at dksX10_stay_0 1 rfl rfl)
theorem dX10_stay_2 : decode cX10_stay 2 = .ok (.i2l, 1) := dk_133 (dk_at dksX10_stay_0 2 rfl rfl)
theorem dX10_stay_3 : decode cX10_stay 3 = .ok (.invokevirtual 278, 3) := dk_182 1 22 (dk_at dksX10_stay_0 3 rfl rfl)
theorem dX10_stay_6 : decode cX10_stay 6 = .ok (.ifCond .eq 11, 3) := dk_153 0 11 (dk_at dksX10_stay_0 6 rfl rfl)
theorem dX10_stay_9 : decode cX10_stay 9 = .ok (.aload_n 0, 1) := dk_42 (dk_at dksX10_stay_0 9 rfl rfl)
theorem dX10_stay_10 : decode cX10_stay 10 = .ok (.iload_n 1, 1) := dk_27 (dk_at dksX10_stay_0 10 rfl rfl)
theorem dX10_stay_11 : decode cX10_stay 11 = .ok (.invokevirtual 254, 3) := dk_182 0 254 (dk_at dksX10_stay_0 11 rfl rfl)
theorem dX10_stay_14 : decode cX10_stay 14 = .ok (.goto 5, 3) := dk_167 0 5 (dk_at dksX10_stay_0 14 rfl rfl)
theorem dX10_stay_17 : decode cX10_stay 17 = .ok (.bipush (-2), 2) := dk_16 254 (dk_at dksX10_stay_0 17 rfl rfl)
theorem dX10_stay_19 : decode cX10_stay 19 = .ok (.ireturn, 1) := dk_172 (dk_at dksX10_stay_0 19 rfl rfl)
abbrev cX10_isTick : ByteArray := prog_16_method_10_code
def yX10_isTick : MethodName := ⟨RX10, "isTick", "(J)Z"⟩
def dkwX10_isTick_0 : List UInt8 := [31, 9, 42, 180, 0, 9, 5, 46, 4, 100, 133, 184, 0, 88, 172]
abbrev dktX10_isTick_0 : List UInt8 := dkwX10_isTick_0 ++ []
theorem dksX10_isTick_0 : cX10_isTick.data.toList.drop 0 = dktX10_isTick_0 := by decide +kernel
theorem dX10_isTick_0 : decode cX10_isTick 0 = .ok (.lload_n 1, 1) := dk_31 (dk_at dksX10_isTick_0 0 rfl rfl)
theorem dX10_isTick_1 : decode cX10_isTick 1 = .ok (.lconst 0, 1) := dk_9 (dk_at dksX10_isTick_0 1 rfl rfl)
theorem dX10_isTick_2 : decode cX10_isTick 2 = .ok (.aload_n 0, 1) := dk_42 (dk_at dksX10_isTick_0 2 rfl rfl)
theorem dX10_isTick_3 : decode cX10_isTick 3 = .ok (.getfield 9, 3) := dk_180 0 9 (dk_at dksX10_isTick_0 3 rfl rfl)
theorem dX10_isTick_6 : decode cX10_isTick 6 = .ok (.iconst 2, 1) := dk_5 (dk_at dksX10_isTick_0 6 rfl rfl)
theorem dX10_isTick_7 : decode cX10_isTick 7 = .ok (.iaload, 1) := dk_46 (dk_at dksX10_isTick_0 7 rfl rfl)
theorem dX10_isTick_8 : decode cX10_isTick 8 = .ok (.iconst 1, 1) := dk_4 (dk_at dksX10_isTick_0 8 rfl rfl)
theorem dX10_isTick_9 : decode cX10_isTick 9 = .ok (.isub, 1) := dk_100 (dk_at dksX10_isTick_0 9 rfl rfl)
theorem dX10_isTick_10 : decode cX10_isTick 10 = .ok (.i2l, 1) := dk_133 (dk_at dksX10_isTick_0 10 rfl rfl)
theorem dX10_isTick_11 : decode cX10_isTick 11 = .ok (.invokestatic 88, 3) := dk_184 0 88 (dk_at dksX10_isTick_0 11 rfl rfl)
theorem dX10_isTick_14 : decode cX10_isTick 14 = .ok (.ireturn, 1) := dk_172 (dk_at dksX10_isTick_0 14 rfl rfl)
abbrev cX10_stayIn : ByteArray := prog_16_method_40_code
def yX10_stayIn : MethodName := ⟨RX10, "stayIn", "(I)I"⟩
def dkwX10_stayIn_3 : List UInt8 := [167, 255, 195, 29, 172]
abbrev dktX10_stayIn_3 : List UInt8 := dkwX10_stayIn_3 ++ []
def dkwX10_stayIn_2 : List UInt8 := [167, 0, 21, 21, 5, 61, 42, 180, 0, 9, 16, 12, 5, 21, 4, 104, 96, 4, 96, 46, 62, 132, 4, 1]
abbrev dktX10_stayIn_2 : List UInt8 := dkwX10_stayIn_2 ++ dktX10_stayIn_3
def dkwX10_stayIn_1 : List UInt8 := [16, 12, 5, 21, 4, 104, 96, 46, 54, 5, 21, 5, 27, 163, 0, 30, 21, 5, 28, 162, 0, 6]
abbrev dktX10_stayIn_1 : List UInt8 := dkwX10_stayIn_1 ++ dktX10_stayIn_2
def dkwX10_stayIn_0 : List UInt8 := [2, 61, 16, 7, 62, 3, 54, 4, 21, 4, 42, 180, 0, 9, 7, 46, 162, 0, 56, 42, 180, 0, 9]
abbrev dktX10_stayIn_0 : List UInt8 := dkwX10_stayIn_0 ++ dktX10_stayIn_1
theorem dksX10_stayIn_0 : cX10_stayIn.data.toList.drop 0 = dktX10_stayIn_0 := by decide +kernel
theorem dksX10_stayIn_1 : cX10_stayIn.data.toList.drop 23 = dktX10_stayIn_1 := dk_seg dksX10_stayIn_0 23 rfl rfl
theorem dksX10_stayIn_2 : cX10_stayIn.data.toList.drop 45 = dktX10_stayIn_2 := dk_seg dksX10_stayIn_1 22 rfl rfl
theorem dksX10_stayIn_3 : cX10_stayIn.data.toList.drop 69 = dktX10_stayIn_3 := dk_seg dksX10_stayIn_2 24 rfl rfl
theorem dX10_stayIn_0 : decode cX10_stayIn 0 = .ok (.iconst (-1), 1) := dk_2 (dk_at dksX10_stayIn_0 0 rfl rfl)
theorem dX10_stayIn_1 : decode cX10_stayIn 1 = .ok (.istore_n 2, 1) := dk_61 (dk_at dksX10_stayIn_0 1 rfl rfl)
theorem dX10_stayIn_2 : decode cX10_stayIn 2 = .ok (.bipush 7, 2) := dk_16 7 (dk_at dksX10_stayIn_0 2 rfl rfl)
theorem dX10_stayIn_4 : decode cX10_stayIn 4 = .ok (.istore_n 3, 1) := dk_62 (dk_at dksX10_stayIn_0 4 rfl rfl)
theorem dX10_stayIn_5 : decode cX10_stayIn 5 = .ok (.iconst 0, 1) := dk_3 (dk_at dksX10_stayIn_0 5 rfl rfl)
theorem dX10_stayIn_6 : decode cX10_stayIn 6 = .ok (.istore 4, 2) := dk_54 4 (dk_at dksX10_stayIn_0 6 rfl rfl)
theorem dX10_stayIn_8 : decode cX10_stayIn 8 = .ok (.iload 4, 2) := dk_21 4 (dk_at dksX10_stayIn_0 8 rfl rfl)
theorem dX10_stayIn_10 : decode cX10_stayIn 10 = .ok (.aload_n 0, 1) := dk_42 (dk_at dksX10_stayIn_0 10 rfl rfl)
theorem dX10_stayIn_11 : decode cX10_stayIn 11 = .ok (.getfield 9, 3) := dk_180 0 9 (dk_at dksX10_stayIn_0 11 rfl rfl)
theorem dX10_stayIn_14 : decode cX10_stayIn 14 = .ok (.iconst 4, 1) := dk_7 (dk_at dksX10_stayIn_0 14 rfl rfl)
theorem dX10_stayIn_15 : decode cX10_stayIn 15 = .ok (.iaload, 1) := dk_46 (dk_at dksX10_stayIn_0 15 rfl rfl)
theorem dX10_stayIn_16 : decode cX10_stayIn 16 = .ok (.if_icmp .ge 56, 3) := dk_162 0 56 (dk_at dksX10_stayIn_0 16 rfl rfl)
theorem dX10_stayIn_19 : decode cX10_stayIn 19 = .ok (.aload_n 0, 1) := dk_42 (dk_at dksX10_stayIn_0 19 rfl rfl)
theorem dX10_stayIn_20 : decode cX10_stayIn 20 = .ok (.getfield 9, 3) := dk_180 0 9 (dk_at dksX10_stayIn_0 20 rfl rfl)
theorem dX10_stayIn_23 : decode cX10_stayIn 23 = .ok (.bipush 12, 2) := dk_16 12 (dk_at dksX10_stayIn_1 0 rfl rfl)
theorem dX10_stayIn_25 : decode cX10_stayIn 25 = .ok (.iconst 2, 1) := dk_5 (dk_at dksX10_stayIn_1 2 rfl rfl)
theorem dX10_stayIn_26 : decode cX10_stayIn 26 = .ok (.iload 4, 2) := dk_21 4 (dk_at dksX10_stayIn_1 3 rfl rfl)
theorem dX10_stayIn_28 : decode cX10_stayIn 28 = .ok (.imul, 1) := dk_104 (dk_at dksX10_stayIn_1 5 rfl rfl)
theorem dX10_stayIn_29 : decode cX10_stayIn 29 = .ok (.iadd, 1) := dk_96 (dk_at dksX10_stayIn_1 6 rfl rfl)
theorem dX10_stayIn_30 : decode cX10_stayIn 30 = .ok (.iaload, 1) := dk_46 (dk_at dksX10_stayIn_1 7 rfl rfl)
theorem dX10_stayIn_31 : decode cX10_stayIn 31 = .ok (.istore 5, 2) := dk_54 5 (dk_at dksX10_stayIn_1 8 rfl rfl)
theorem dX10_stayIn_33 : decode cX10_stayIn 33 = .ok (.iload 5, 2) := dk_21 5 (dk_at dksX10_stayIn_1 10 rfl rfl)
theorem dX10_stayIn_35 : decode cX10_stayIn 35 = .ok (.iload_n 1, 1) := dk_27 (dk_at dksX10_stayIn_1 12 rfl rfl)
theorem dX10_stayIn_36 : decode cX10_stayIn 36 = .ok (.if_icmp .gt 30, 3) := dk_163 0 30 (dk_at dksX10_stayIn_1 13 rfl rfl)
theorem dX10_stayIn_39 : decode cX10_stayIn 39 = .ok (.iload 5, 2) := dk_21 5 (dk_at dksX10_stayIn_1 16 rfl rfl)
theorem dX10_stayIn_41 : decode cX10_stayIn 41 = .ok (.iload_n 2, 1) := dk_28 (dk_at dksX10_stayIn_1 18 rfl rfl)
theorem dX10_stayIn_42 : decode cX10_stayIn 42 = .ok (.if_icmp .ge 6, 3) := dk_162 0 6 (dk_at dksX10_stayIn_1 19 rfl rfl)
theorem dX10_stayIn_45 : decode cX10_stayIn 45 = .ok (.goto 21, 3) := dk_167 0 21 (dk_at dksX10_stayIn_2 0 rfl rfl)
theorem dX10_stayIn_48 : decode cX10_stayIn 48 = .ok (.iload 5, 2) := dk_21 5 (dk_at dksX10_stayIn_2 3 rfl rfl)
theorem dX10_stayIn_50 : decode cX10_stayIn 50 = .ok (.istore_n 2, 1) := dk_61 (dk_at dksX10_stayIn_2 5 rfl rfl)
theorem dX10_stayIn_51 : decode cX10_stayIn 51 = .ok (.aload_n 0, 1) := dk_42 (dk_at dksX10_stayIn_2 6 rfl rfl)
theorem dX10_stayIn_52 : decode cX10_stayIn 52 = .ok (.getfield 9, 3) := dk_180 0 9 (dk_at dksX10_stayIn_2 7 rfl rfl)
theorem dX10_stayIn_55 : decode cX10_stayIn 55 = .ok (.bipush 12, 2) := dk_16 12 (dk_at dksX10_stayIn_2 10 rfl rfl)
theorem dX10_stayIn_57 : decode cX10_stayIn 57 = .ok (.iconst 2, 1) := dk_5 (dk_at dksX10_stayIn_2 12 rfl rfl)
theorem dX10_stayIn_58 : decode cX10_stayIn 58 = .ok (.iload 4, 2) := dk_21 4 (dk_at dksX10_stayIn_2 13 rfl rfl)
theorem dX10_stayIn_60 : decode cX10_stayIn 60 = .ok (.imul, 1) := dk_104 (dk_at dksX10_stayIn_2 15 rfl rfl)
theorem dX10_stayIn_61 : decode cX10_stayIn 61 = .ok (.iadd, 1) := dk_96 (dk_at dksX10_stayIn_2 16 rfl rfl)
theorem dX10_stayIn_62 : decode cX10_stayIn 62 = .ok (.iconst 1, 1) := dk_4 (dk_at dksX10_stayIn_2 17 rfl rfl)
theorem dX10_stayIn_63 : decode cX10_stayIn 63 = .ok (.iadd, 1) := dk_96 (dk_at dksX10_stayIn_2 18 rfl rfl)
theorem dX10_stayIn_64 : decode cX10_stayIn 64 = .ok (.iaload, 1) := dk_46 (dk_at dksX10_stayIn_2 19 rfl rfl)
theorem dX10_stayIn_65 : decode cX10_stayIn 65 = .ok (.istore_n 3, 1) := dk_62 (dk_at dksX10_stayIn_2 20 rfl rfl)
theorem dX10_stayIn_66 : decode cX10_stayIn 66 = .ok (.iinc 4 1, 3) := dk_132 4 1 (dk_at dksX10_stayIn_2 21 rfl rfl)
theorem dX10_stayIn_69 : decode cX10_stayIn 69 = .ok (.goto (-61), 3) := dk_167 255 195 (dk_at dksX10_stayIn_3 0 rfl rfl)
theorem dX10_stayIn_72 : decode cX10_stayIn 72 = .ok (.iload_n 3, 1) := dk_29 (dk_at dksX10_stayIn_3 3 rfl rfl)
theorem dX10_stayIn_73 : decode cX10_stayIn 73 = .ok (.ireturn, 1) := dk_172 (dk_at dksX10_stayIn_3 4 rfl rfl)
abbrev cX10_comings : ByteArray := prog_16_method_49_code
def yX10_comings : MethodName := ⟨RX10, "comings", "()I"⟩
def dkwX10_comings_0 : List UInt8 := [42, 182, 1, 26, 154, 0, 6, 16, 254, 172, 42, 182, 1, 29, 42, 180, 0, 248, 172]
abbrev dktX10_comings_0 : List UInt8 := dkwX10_comings_0 ++ []
theorem dksX10_comings_0 : cX10_comings.data.toList.drop 0 = dktX10_comings_0 := by decide +kernel
theorem dX10_comings_0 : decode cX10_comings 0 = .ok (.aload_n 0, 1) := dk_42 (dk_at dksX10_comings_0 0 rfl rfl)
theorem dX10_comings_1 : decode cX10_comings 1 = .ok (.invokevirtual 282, 3) := dk_182 1 26 (dk_at dksX10_comings_0 1 rfl rfl)
theorem dX10_comings_4 : decode cX10_comings 4 = .ok (.ifCond .ne 6, 3) := dk_154 0 6 (dk_at dksX10_comings_0 4 rfl rfl)
theorem dX10_comings_7 : decode cX10_comings 7 = .ok (.bipush (-2), 2) := dk_16 254 (dk_at dksX10_comings_0 7 rfl rfl)
theorem dX10_comings_9 : decode cX10_comings 9 = .ok (.ireturn, 1) := dk_172 (dk_at dksX10_comings_0 9 rfl rfl)
theorem dX10_comings_10 : decode cX10_comings 10 = .ok (.aload_n 0, 1) := dk_42 (dk_at dksX10_comings_0 10 rfl rfl)
theorem dX10_comings_11 : decode cX10_comings 11 = .ok (.invokevirtual 285, 3) := dk_182 1 29 (dk_at dksX10_comings_0 11 rfl rfl)
theorem dX10_comings_14 : decode cX10_comings 14 = .ok (.aload_n 0, 1) := dk_42 (dk_at dksX10_comings_0 14 rfl rfl)
theorem dX10_comings_15 : decode cX10_comings 15 = .ok (.getfield 248, 3) := dk_180 0 248 (dk_at dksX10_comings_0 15 rfl rfl)
theorem dX10_comings_18 : decode cX10_comings 18 = .ok (.ireturn, 1) := dk_172 (dk_at dksX10_comings_0 18 rfl rfl)
abbrev cX10_isBoard : ByteArray := prog_16_method_6_code
def yX10_isBoard : MethodName := ⟨RX10, "isBoard", "()Z"⟩
def dkwX10_isBoard_0 : List UInt8 := [42, 180, 0, 9, 3, 46, 158, 0, 7, 4, 167, 0, 4, 3, 172]
abbrev dktX10_isBoard_0 : List UInt8 := dkwX10_isBoard_0 ++ []
theorem dksX10_isBoard_0 : cX10_isBoard.data.toList.drop 0 = dktX10_isBoard_0 := by decide +kernel
theorem dX10_isBoard_0 : decode cX10_isBoard 0 = .ok (.aload_n 0, 1) := dk_42 (dk_at dksX10_isBoard_0 0 rfl rfl)
theorem dX10_isBoard_1 : decode cX10_isBoard 1 = .ok (.getfield 9, 3) := dk_180 0 9 (dk_at dksX10_isBoard_0 1 rfl rfl)
theorem dX10_isBoard_4 : decode cX10_isBoard 4 = .ok (.iconst 0, 1) := dk_3 (dk_at dksX10_isBoard_0 4 rfl rfl)
theorem dX10_isBoard_5 : decode cX10_isBoard 5 = .ok (.iaload, 1) := dk_46 (dk_at dksX10_isBoard_0 5 rfl rfl)
theorem dX10_isBoard_6 : decode cX10_isBoard 6 = .ok (.ifCond .le 7, 3) := dk_158 0 7 (dk_at dksX10_isBoard_0 6 rfl rfl)
theorem dX10_isBoard_9 : decode cX10_isBoard 9 = .ok (.iconst 1, 1) := dk_4 (dk_at dksX10_isBoard_0 9 rfl rfl)
theorem dX10_isBoard_10 : decode cX10_isBoard 10 = .ok (.goto 4, 3) := dk_167 0 4 (dk_at dksX10_isBoard_0 10 rfl rfl)
theorem dX10_isBoard_13 : decode cX10_isBoard 13 = .ok (.iconst 0, 1) := dk_3 (dk_at dksX10_isBoard_0 13 rfl rfl)
theorem dX10_isBoard_14 : decode cX10_isBoard 14 = .ok (.ireturn, 1) := dk_172 (dk_at dksX10_isBoard_0 14 rfl rfl)
abbrev cX10_lay : ByteArray := prog_16_method_44_code
def yX10_lay : MethodName := ⟨RX10, "lay", "()V"⟩
def dkwX10_lay_2 : List UInt8 := [182, 1, 4, 42, 27, 4, 182, 1, 4, 42, 27, 5, 182, 1, 4, 182, 1, 7, 167, 255, 198, 177]
abbrev dktX10_lay_2 : List UInt8 := dkwX10_lay_2 ++ []
def dkwX10_lay_1 : List UInt8 := [180, 0, 9, 16, 8, 46, 42, 180, 0, 248, 96, 42, 180, 0, 9, 8, 46, 112, 60, 42, 42, 27, 3]
abbrev dktX10_lay_1 : List UInt8 := dkwX10_lay_1 ++ dktX10_lay_2
def dkwX10_lay_0 : List UInt8 := [42, 3, 181, 0, 248, 42, 180, 0, 9, 8, 46, 158, 0, 55, 42, 182, 1, 1, 153, 0, 48, 42]
abbrev dktX10_lay_0 : List UInt8 := dkwX10_lay_0 ++ dktX10_lay_1
theorem dksX10_lay_0 : cX10_lay.data.toList.drop 0 = dktX10_lay_0 := by decide +kernel
theorem dksX10_lay_1 : cX10_lay.data.toList.drop 22 = dktX10_lay_1 := dk_seg dksX10_lay_0 22 rfl rfl
theorem dksX10_lay_2 : cX10_lay.data.toList.drop 45 = dktX10_lay_2 := dk_seg dksX10_lay_1 23 rfl rfl
theorem dX10_lay_0 : decode cX10_lay 0 = .ok (.aload_n 0, 1) := dk_42 (dk_at dksX10_lay_0 0 rfl rfl)
theorem dX10_lay_1 : decode cX10_lay 1 = .ok (.iconst 0, 1) := dk_3 (dk_at dksX10_lay_0 1 rfl rfl)
theorem dX10_lay_2 : decode cX10_lay 2 = .ok (.putfield 248, 3) := dk_181 0 248 (dk_at dksX10_lay_0 2 rfl rfl)
theorem dX10_lay_5 : decode cX10_lay 5 = .ok (.aload_n 0, 1) := dk_42 (dk_at dksX10_lay_0 5 rfl rfl)
theorem dX10_lay_6 : decode cX10_lay 6 = .ok (.getfield 9, 3) := dk_180 0 9 (dk_at dksX10_lay_0 6 rfl rfl)
theorem dX10_lay_9 : decode cX10_lay 9 = .ok (.iconst 5, 1) := dk_8 (dk_at dksX10_lay_0 9 rfl rfl)
theorem dX10_lay_10 : decode cX10_lay 10 = .ok (.iaload, 1) := dk_46 (dk_at dksX10_lay_0 10 rfl rfl)
theorem dX10_lay_11 : decode cX10_lay 11 = .ok (.ifCond .le 55, 3) := dk_158 0 55 (dk_at dksX10_lay_0 11 rfl rfl)
theorem dX10_lay_14 : decode cX10_lay 14 = .ok (.aload_n 0, 1) := dk_42 (dk_at dksX10_lay_0 14 rfl rfl)
theorem dX10_lay_15 : decode cX10_lay 15 = .ok (.invokevirtual 257, 3) := dk_182 1 1 (dk_at dksX10_lay_0 15 rfl rfl)
theorem dX10_lay_18 : decode cX10_lay 18 = .ok (.ifCond .eq 48, 3) := dk_153 0 48 (dk_at dksX10_lay_0 18 rfl rfl)
theorem dX10_lay_21 : decode cX10_lay 21 = .ok (.aload_n 0, 1) := dk_42 (dk_at dksX10_lay_0 21 rfl rfl)
theorem dX10_lay_22 : decode cX10_lay 22 = .ok (.getfield 9, 3) := dk_180 0 9 (dk_at dksX10_lay_1 0 rfl rfl)
theorem dX10_lay_25 : decode cX10_lay 25 = .ok (.bipush 8, 2) := dk_16 8 (dk_at dksX10_lay_1 3 rfl rfl)
theorem dX10_lay_27 : decode cX10_lay 27 = .ok (.iaload, 1) := dk_46 (dk_at dksX10_lay_1 5 rfl rfl)
theorem dX10_lay_28 : decode cX10_lay 28 = .ok (.aload_n 0, 1) := dk_42 (dk_at dksX10_lay_1 6 rfl rfl)
theorem dX10_lay_29 : decode cX10_lay 29 = .ok (.getfield 248, 3) := dk_180 0 248 (dk_at dksX10_lay_1 7 rfl rfl)
theorem dX10_lay_32 : decode cX10_lay 32 = .ok (.iadd, 1) := dk_96 (dk_at dksX10_lay_1 10 rfl rfl)
theorem dX10_lay_33 : decode cX10_lay 33 = .ok (.aload_n 0, 1) := dk_42 (dk_at dksX10_lay_1 11 rfl rfl)
theorem dX10_lay_34 : decode cX10_lay 34 = .ok (.getfield 9, 3) := dk_180 0 9 (dk_at dksX10_lay_1 12 rfl rfl)
theorem dX10_lay_37 : decode cX10_lay 37 = .ok (.iconst 5, 1) := dk_8 (dk_at dksX10_lay_1 15 rfl rfl)
theorem dX10_lay_38 : decode cX10_lay 38 = .ok (.iaload, 1) := dk_46 (dk_at dksX10_lay_1 16 rfl rfl)
theorem dX10_lay_39 : decode cX10_lay 39 = .ok (.irem, 1) := dk_112 (dk_at dksX10_lay_1 17 rfl rfl)
theorem dX10_lay_40 : decode cX10_lay 40 = .ok (.istore_n 1, 1) := dk_60 (dk_at dksX10_lay_1 18 rfl rfl)
theorem dX10_lay_41 : decode cX10_lay 41 = .ok (.aload_n 0, 1) := dk_42 (dk_at dksX10_lay_1 19 rfl rfl)
theorem dX10_lay_42 : decode cX10_lay 42 = .ok (.aload_n 0, 1) := dk_42 (dk_at dksX10_lay_1 20 rfl rfl)
theorem dX10_lay_43 : decode cX10_lay 43 = .ok (.iload_n 1, 1) := dk_27 (dk_at dksX10_lay_1 21 rfl rfl)
theorem dX10_lay_44 : decode cX10_lay 44 = .ok (.iconst 0, 1) := dk_3 (dk_at dksX10_lay_1 22 rfl rfl)
theorem dX10_lay_45 : decode cX10_lay 45 = .ok (.invokevirtual 260, 3) := dk_182 1 4 (dk_at dksX10_lay_2 0 rfl rfl)
theorem dX10_lay_48 : decode cX10_lay 48 = .ok (.aload_n 0, 1) := dk_42 (dk_at dksX10_lay_2 3 rfl rfl)
theorem dX10_lay_49 : decode cX10_lay 49 = .ok (.iload_n 1, 1) := dk_27 (dk_at dksX10_lay_2 4 rfl rfl)
theorem dX10_lay_50 : decode cX10_lay 50 = .ok (.iconst 1, 1) := dk_4 (dk_at dksX10_lay_2 5 rfl rfl)
theorem dX10_lay_51 : decode cX10_lay 51 = .ok (.invokevirtual 260, 3) := dk_182 1 4 (dk_at dksX10_lay_2 6 rfl rfl)
theorem dX10_lay_54 : decode cX10_lay 54 = .ok (.aload_n 0, 1) := dk_42 (dk_at dksX10_lay_2 9 rfl rfl)
theorem dX10_lay_55 : decode cX10_lay 55 = .ok (.iload_n 1, 1) := dk_27 (dk_at dksX10_lay_2 10 rfl rfl)
theorem dX10_lay_56 : decode cX10_lay 56 = .ok (.iconst 2, 1) := dk_5 (dk_at dksX10_lay_2 11 rfl rfl)
theorem dX10_lay_57 : decode cX10_lay 57 = .ok (.invokevirtual 260, 3) := dk_182 1 4 (dk_at dksX10_lay_2 12 rfl rfl)
theorem dX10_lay_60 : decode cX10_lay 60 = .ok (.invokevirtual 263, 3) := dk_182 1 7 (dk_at dksX10_lay_2 15 rfl rfl)
theorem dX10_lay_63 : decode cX10_lay 63 = .ok (.goto (-58), 3) := dk_167 255 198 (dk_at dksX10_lay_2 18 rfl rfl)
theorem dX10_lay_66 : decode cX10_lay 66 = .ok (.return_, 1) := dk_177 (dk_at dksX10_lay_2 21 rfl rfl)
abbrev cX10_mayCome : ByteArray := prog_16_method_42_code
def yX10_mayCome : MethodName := ⟨RX10, "mayCome", "()Z"⟩
def dkwX10_mayCome_1 : List UInt8 := [180, 0, 9, 5, 46, 4, 100, 163, 0, 7, 4, 167, 0, 4, 3, 172]
abbrev dktX10_mayCome_1 : List UInt8 := dkwX10_mayCome_1 ++ []
def dkwX10_mayCome_0 : List UInt8 := [42, 182, 0, 251, 60, 42, 180, 0, 248, 16, 60, 162, 0, 27, 27, 42, 27, 182, 0, 254, 96, 4, 100, 42]
abbrev dktX10_mayCome_0 : List UInt8 := dkwX10_mayCome_0 ++ dktX10_mayCome_1
theorem dksX10_mayCome_0 : cX10_mayCome.data.toList.drop 0 = dktX10_mayCome_0 := by decide +kernel
theorem dksX10_mayCome_1 : cX10_mayCome.data.toList.drop 24 = dktX10_mayCome_1 := dk_seg dksX10_mayCome_0 24 rfl rfl
theorem dX10_mayCome_0 : decode cX10_mayCome 0 = .ok (.aload_n 0, 1) := dk_42 (dk_at dksX10_mayCome_0 0 rfl rfl)
theorem dX10_mayCome_1 : decode cX10_mayCome 1 = .ok (.invokevirtual 251, 3) := dk_182 0 251 (dk_at dksX10_mayCome_0 1 rfl rfl)
theorem dX10_mayCome_4 : decode cX10_mayCome 4 = .ok (.istore_n 1, 1) := dk_60 (dk_at dksX10_mayCome_0 4 rfl rfl)
theorem dX10_mayCome_5 : decode cX10_mayCome 5 = .ok (.aload_n 0, 1) := dk_42 (dk_at dksX10_mayCome_0 5 rfl rfl)
theorem dX10_mayCome_6 : decode cX10_mayCome 6 = .ok (.getfield 248, 3) := dk_180 0 248 (dk_at dksX10_mayCome_0 6 rfl rfl)
theorem dX10_mayCome_9 : decode cX10_mayCome 9 = .ok (.bipush 60, 2) := dk_16 60 (dk_at dksX10_mayCome_0 9 rfl rfl)
theorem dX10_mayCome_11 : decode cX10_mayCome 11 = .ok (.if_icmp .ge 27, 3) := dk_162 0 27 (dk_at dksX10_mayCome_0 11 rfl rfl)
theorem dX10_mayCome_14 : decode cX10_mayCome 14 = .ok (.iload_n 1, 1) := dk_27 (dk_at dksX10_mayCome_0 14 rfl rfl)
theorem dX10_mayCome_15 : decode cX10_mayCome 15 = .ok (.aload_n 0, 1) := dk_42 (dk_at dksX10_mayCome_0 15 rfl rfl)
theorem dX10_mayCome_16 : decode cX10_mayCome 16 = .ok (.iload_n 1, 1) := dk_27 (dk_at dksX10_mayCome_0 16 rfl rfl)
theorem dX10_mayCome_17 : decode cX10_mayCome 17 = .ok (.invokevirtual 254, 3) := dk_182 0 254 (dk_at dksX10_mayCome_0 17 rfl rfl)
theorem dX10_mayCome_20 : decode cX10_mayCome 20 = .ok (.iadd, 1) := dk_96 (dk_at dksX10_mayCome_0 20 rfl rfl)
theorem dX10_mayCome_21 : decode cX10_mayCome 21 = .ok (.iconst 1, 1) := dk_4 (dk_at dksX10_mayCome_0 21 rfl rfl)
theorem dX10_mayCome_22 : decode cX10_mayCome 22 = .ok (.isub, 1) := dk_100 (dk_at dksX10_mayCome_0 22 rfl rfl)
theorem dX10_mayCome_23 : decode cX10_mayCome 23 = .ok (.aload_n 0, 1) := dk_42 (dk_at dksX10_mayCome_0 23 rfl rfl)
theorem dX10_mayCome_24 : decode cX10_mayCome 24 = .ok (.getfield 9, 3) := dk_180 0 9 (dk_at dksX10_mayCome_1 0 rfl rfl)
theorem dX10_mayCome_27 : decode cX10_mayCome 27 = .ok (.iconst 2, 1) := dk_5 (dk_at dksX10_mayCome_1 3 rfl rfl)
theorem dX10_mayCome_28 : decode cX10_mayCome 28 = .ok (.iaload, 1) := dk_46 (dk_at dksX10_mayCome_1 4 rfl rfl)
theorem dX10_mayCome_29 : decode cX10_mayCome 29 = .ok (.iconst 1, 1) := dk_4 (dk_at dksX10_mayCome_1 5 rfl rfl)
theorem dX10_mayCome_30 : decode cX10_mayCome 30 = .ok (.isub, 1) := dk_100 (dk_at dksX10_mayCome_1 6 rfl rfl)
theorem dX10_mayCome_31 : decode cX10_mayCome 31 = .ok (.if_icmp .gt 7, 3) := dk_163 0 7 (dk_at dksX10_mayCome_1 7 rfl rfl)
theorem dX10_mayCome_34 : decode cX10_mayCome 34 = .ok (.iconst 1, 1) := dk_4 (dk_at dksX10_mayCome_1 10 rfl rfl)
theorem dX10_mayCome_35 : decode cX10_mayCome 35 = .ok (.goto 4, 3) := dk_167 0 4 (dk_at dksX10_mayCome_1 11 rfl rfl)
theorem dX10_mayCome_38 : decode cX10_mayCome 38 = .ok (.iconst 0, 1) := dk_3 (dk_at dksX10_mayCome_1 14 rfl rfl)
theorem dX10_mayCome_39 : decode cX10_mayCome 39 = .ok (.ireturn, 1) := dk_172 (dk_at dksX10_mayCome_1 15 rfl rfl)
abbrev cX10_nextTick : ByteArray := prog_16_method_41_code
def yX10_nextTick : MethodName := ⟨RX10, "nextTick", "()I"⟩
def dkwX10_nextTick_1 : List UInt8 := [180, 0, 9, 6, 46, 96, 4, 96, 172]
abbrev dktX10_nextTick_1 : List UInt8 := dkwX10_nextTick_1 ++ []
def dkwX10_nextTick_0 : List UInt8 := [42, 180, 0, 248, 154, 0, 7, 3, 167, 0, 23, 42, 180, 0, 40, 42, 180, 0, 248, 4, 100, 46, 42]
abbrev dktX10_nextTick_0 : List UInt8 := dkwX10_nextTick_0 ++ dktX10_nextTick_1
theorem dksX10_nextTick_0 : cX10_nextTick.data.toList.drop 0 = dktX10_nextTick_0 := by decide +kernel
theorem dksX10_nextTick_1 : cX10_nextTick.data.toList.drop 23 = dktX10_nextTick_1 := dk_seg dksX10_nextTick_0 23 rfl rfl
theorem dX10_nextTick_0 : decode cX10_nextTick 0 = .ok (.aload_n 0, 1) := dk_42 (dk_at dksX10_nextTick_0 0 rfl rfl)
theorem dX10_nextTick_1 : decode cX10_nextTick 1 = .ok (.getfield 248, 3) := dk_180 0 248 (dk_at dksX10_nextTick_0 1 rfl rfl)
theorem dX10_nextTick_4 : decode cX10_nextTick 4 = .ok (.ifCond .ne 7, 3) := dk_154 0 7 (dk_at dksX10_nextTick_0 4 rfl rfl)
theorem dX10_nextTick_7 : decode cX10_nextTick 7 = .ok (.iconst 0, 1) := dk_3 (dk_at dksX10_nextTick_0 7 rfl rfl)
theorem dX10_nextTick_8 : decode cX10_nextTick 8 = .ok (.goto 23, 3) := dk_167 0 23 (dk_at dksX10_nextTick_0 8 rfl rfl)
theorem dX10_nextTick_11 : decode cX10_nextTick 11 = .ok (.aload_n 0, 1) := dk_42 (dk_at dksX10_nextTick_0 11 rfl rfl)
theorem dX10_nextTick_12 : decode cX10_nextTick 12 = .ok (.getfield 40, 3) := dk_180 0 40 (dk_at dksX10_nextTick_0 12 rfl rfl)
theorem dX10_nextTick_15 : decode cX10_nextTick 15 = .ok (.aload_n 0, 1) := dk_42 (dk_at dksX10_nextTick_0 15 rfl rfl)
theorem dX10_nextTick_16 : decode cX10_nextTick 16 = .ok (.getfield 248, 3) := dk_180 0 248 (dk_at dksX10_nextTick_0 16 rfl rfl)
theorem dX10_nextTick_19 : decode cX10_nextTick 19 = .ok (.iconst 1, 1) := dk_4 (dk_at dksX10_nextTick_0 19 rfl rfl)
theorem dX10_nextTick_20 : decode cX10_nextTick 20 = .ok (.isub, 1) := dk_100 (dk_at dksX10_nextTick_0 20 rfl rfl)
theorem dX10_nextTick_21 : decode cX10_nextTick 21 = .ok (.iaload, 1) := dk_46 (dk_at dksX10_nextTick_0 21 rfl rfl)
theorem dX10_nextTick_22 : decode cX10_nextTick 22 = .ok (.aload_n 0, 1) := dk_42 (dk_at dksX10_nextTick_0 22 rfl rfl)
theorem dX10_nextTick_23 : decode cX10_nextTick 23 = .ok (.getfield 9, 3) := dk_180 0 9 (dk_at dksX10_nextTick_1 0 rfl rfl)
theorem dX10_nextTick_26 : decode cX10_nextTick 26 = .ok (.iconst 3, 1) := dk_6 (dk_at dksX10_nextTick_1 3 rfl rfl)
theorem dX10_nextTick_27 : decode cX10_nextTick 27 = .ok (.iaload, 1) := dk_46 (dk_at dksX10_nextTick_1 4 rfl rfl)
theorem dX10_nextTick_28 : decode cX10_nextTick 28 = .ok (.iadd, 1) := dk_96 (dk_at dksX10_nextTick_1 5 rfl rfl)
theorem dX10_nextTick_29 : decode cX10_nextTick 29 = .ok (.iconst 1, 1) := dk_4 (dk_at dksX10_nextTick_1 6 rfl rfl)
theorem dX10_nextTick_30 : decode cX10_nextTick 30 = .ok (.iadd, 1) := dk_96 (dk_at dksX10_nextTick_1 7 rfl rfl)
theorem dX10_nextTick_31 : decode cX10_nextTick 31 = .ok (.ireturn, 1) := dk_172 (dk_at dksX10_nextTick_1 8 rfl rfl)
abbrev cX10_come : ByteArray := prog_16_method_43_code
def yX10_come : MethodName := ⟨RX10, "come", "(III)V"⟩
def dkwX10_come_3 : List UInt8 := [182, 0, 254, 96, 4, 100, 79, 42, 89, 180, 0, 248, 4, 96, 181, 0, 248, 177]
abbrev dktX10_come_3 : List UInt8 := dkwX10_come_3 ++ []
def dkwX10_come_2 : List UInt8 := [42, 180, 0, 37, 42, 180, 0, 248, 21, 4, 79, 42, 180, 0, 40, 42, 180, 0, 248, 21, 4, 42, 21, 4]
abbrev dktX10_come_2 : List UInt8 := dkwX10_come_2 ++ dktX10_come_3
def dkwX10_come_1 : List UInt8 := [6, 42, 180, 0, 248, 104, 4, 96, 28, 79, 42, 180, 0, 34, 6, 42, 180, 0, 248, 104, 5, 96, 29, 79]
abbrev dktX10_come_1 : List UInt8 := dkwX10_come_1 ++ dktX10_come_2
def dkwX10_come_0 : List UInt8 := [42, 182, 0, 251, 54, 4, 42, 180, 0, 34, 6, 42, 180, 0, 248, 104, 3, 96, 27, 79, 42, 180, 0, 34]
abbrev dktX10_come_0 : List UInt8 := dkwX10_come_0 ++ dktX10_come_1
theorem dksX10_come_0 : cX10_come.data.toList.drop 0 = dktX10_come_0 := by decide +kernel
theorem dksX10_come_1 : cX10_come.data.toList.drop 24 = dktX10_come_1 := dk_seg dksX10_come_0 24 rfl rfl
theorem dksX10_come_2 : cX10_come.data.toList.drop 48 = dktX10_come_2 := dk_seg dksX10_come_1 24 rfl rfl
theorem dksX10_come_3 : cX10_come.data.toList.drop 72 = dktX10_come_3 := dk_seg dksX10_come_2 24 rfl rfl
theorem dX10_come_0 : decode cX10_come 0 = .ok (.aload_n 0, 1) := dk_42 (dk_at dksX10_come_0 0 rfl rfl)
theorem dX10_come_1 : decode cX10_come 1 = .ok (.invokevirtual 251, 3) := dk_182 0 251 (dk_at dksX10_come_0 1 rfl rfl)
theorem dX10_come_4 : decode cX10_come 4 = .ok (.istore 4, 2) := dk_54 4 (dk_at dksX10_come_0 4 rfl rfl)
theorem dX10_come_6 : decode cX10_come 6 = .ok (.aload_n 0, 1) := dk_42 (dk_at dksX10_come_0 6 rfl rfl)
theorem dX10_come_7 : decode cX10_come 7 = .ok (.getfield 34, 3) := dk_180 0 34 (dk_at dksX10_come_0 7 rfl rfl)
theorem dX10_come_10 : decode cX10_come 10 = .ok (.iconst 3, 1) := dk_6 (dk_at dksX10_come_0 10 rfl rfl)
theorem dX10_come_11 : decode cX10_come 11 = .ok (.aload_n 0, 1) := dk_42 (dk_at dksX10_come_0 11 rfl rfl)
theorem dX10_come_12 : decode cX10_come 12 = .ok (.getfield 248, 3) := dk_180 0 248 (dk_at dksX10_come_0 12 rfl rfl)
theorem dX10_come_15 : decode cX10_come 15 = .ok (.imul, 1) := dk_104 (dk_at dksX10_come_0 15 rfl rfl)
theorem dX10_come_16 : decode cX10_come 16 = .ok (.iconst 0, 1) := dk_3 (dk_at dksX10_come_0 16 rfl rfl)
theorem dX10_come_17 : decode cX10_come 17 = .ok (.iadd, 1) := dk_96 (dk_at dksX10_come_0 17 rfl rfl)
theorem dX10_come_18 : decode cX10_come 18 = .ok (.iload_n 1, 1) := dk_27 (dk_at dksX10_come_0 18 rfl rfl)
theorem dX10_come_19 : decode cX10_come 19 = .ok (.iastore, 1) := dk_79 (dk_at dksX10_come_0 19 rfl rfl)
theorem dX10_come_20 : decode cX10_come 20 = .ok (.aload_n 0, 1) := dk_42 (dk_at dksX10_come_0 20 rfl rfl)
theorem dX10_come_21 : decode cX10_come 21 = .ok (.getfield 34, 3) := dk_180 0 34 (dk_at dksX10_come_0 21 rfl rfl)
theorem dX10_come_24 : decode cX10_come 24 = .ok (.iconst 3, 1) := dk_6 (dk_at dksX10_come_1 0 rfl rfl)
theorem dX10_come_25 : decode cX10_come 25 = .ok (.aload_n 0, 1) := dk_42 (dk_at dksX10_come_1 1 rfl rfl)
theorem dX10_come_26 : decode cX10_come 26 = .ok (.getfield 248, 3) := dk_180 0 248 (dk_at dksX10_come_1 2 rfl rfl)
theorem dX10_come_29 : decode cX10_come 29 = .ok (.imul, 1) := dk_104 (dk_at dksX10_come_1 5 rfl rfl)
theorem dX10_come_30 : decode cX10_come 30 = .ok (.iconst 1, 1) := dk_4 (dk_at dksX10_come_1 6 rfl rfl)
theorem dX10_come_31 : decode cX10_come 31 = .ok (.iadd, 1) := dk_96 (dk_at dksX10_come_1 7 rfl rfl)
theorem dX10_come_32 : decode cX10_come 32 = .ok (.iload_n 2, 1) := dk_28 (dk_at dksX10_come_1 8 rfl rfl)
theorem dX10_come_33 : decode cX10_come 33 = .ok (.iastore, 1) := dk_79 (dk_at dksX10_come_1 9 rfl rfl)
theorem dX10_come_34 : decode cX10_come 34 = .ok (.aload_n 0, 1) := dk_42 (dk_at dksX10_come_1 10 rfl rfl)
theorem dX10_come_35 : decode cX10_come 35 = .ok (.getfield 34, 3) := dk_180 0 34 (dk_at dksX10_come_1 11 rfl rfl)
theorem dX10_come_38 : decode cX10_come 38 = .ok (.iconst 3, 1) := dk_6 (dk_at dksX10_come_1 14 rfl rfl)
theorem dX10_come_39 : decode cX10_come 39 = .ok (.aload_n 0, 1) := dk_42 (dk_at dksX10_come_1 15 rfl rfl)
theorem dX10_come_40 : decode cX10_come 40 = .ok (.getfield 248, 3) := dk_180 0 248 (dk_at dksX10_come_1 16 rfl rfl)
theorem dX10_come_43 : decode cX10_come 43 = .ok (.imul, 1) := dk_104 (dk_at dksX10_come_1 19 rfl rfl)
theorem dX10_come_44 : decode cX10_come 44 = .ok (.iconst 2, 1) := dk_5 (dk_at dksX10_come_1 20 rfl rfl)
theorem dX10_come_45 : decode cX10_come 45 = .ok (.iadd, 1) := dk_96 (dk_at dksX10_come_1 21 rfl rfl)
theorem dX10_come_46 : decode cX10_come 46 = .ok (.iload_n 3, 1) := dk_29 (dk_at dksX10_come_1 22 rfl rfl)
theorem dX10_come_47 : decode cX10_come 47 = .ok (.iastore, 1) := dk_79 (dk_at dksX10_come_1 23 rfl rfl)
theorem dX10_come_48 : decode cX10_come 48 = .ok (.aload_n 0, 1) := dk_42 (dk_at dksX10_come_2 0 rfl rfl)
theorem dX10_come_49 : decode cX10_come 49 = .ok (.getfield 37, 3) := dk_180 0 37 (dk_at dksX10_come_2 1 rfl rfl)
theorem dX10_come_52 : decode cX10_come 52 = .ok (.aload_n 0, 1) := dk_42 (dk_at dksX10_come_2 4 rfl rfl)
theorem dX10_come_53 : decode cX10_come 53 = .ok (.getfield 248, 3) := dk_180 0 248 (dk_at dksX10_come_2 5 rfl rfl)
theorem dX10_come_56 : decode cX10_come 56 = .ok (.iload 4, 2) := dk_21 4 (dk_at dksX10_come_2 8 rfl rfl)
theorem dX10_come_58 : decode cX10_come 58 = .ok (.iastore, 1) := dk_79 (dk_at dksX10_come_2 10 rfl rfl)
theorem dX10_come_59 : decode cX10_come 59 = .ok (.aload_n 0, 1) := dk_42 (dk_at dksX10_come_2 11 rfl rfl)
theorem dX10_come_60 : decode cX10_come 60 = .ok (.getfield 40, 3) := dk_180 0 40 (dk_at dksX10_come_2 12 rfl rfl)
theorem dX10_come_63 : decode cX10_come 63 = .ok (.aload_n 0, 1) := dk_42 (dk_at dksX10_come_2 15 rfl rfl)
theorem dX10_come_64 : decode cX10_come 64 = .ok (.getfield 248, 3) := dk_180 0 248 (dk_at dksX10_come_2 16 rfl rfl)
theorem dX10_come_67 : decode cX10_come 67 = .ok (.iload 4, 2) := dk_21 4 (dk_at dksX10_come_2 19 rfl rfl)
theorem dX10_come_69 : decode cX10_come 69 = .ok (.aload_n 0, 1) := dk_42 (dk_at dksX10_come_2 21 rfl rfl)
theorem dX10_come_70 : decode cX10_come 70 = .ok (.iload 4, 2) := dk_21 4 (dk_at dksX10_come_2 22 rfl rfl)
theorem dX10_come_72 : decode cX10_come 72 = .ok (.invokevirtual 254, 3) := dk_182 0 254 (dk_at dksX10_come_3 0 rfl rfl)
theorem dX10_come_75 : decode cX10_come 75 = .ok (.iadd, 1) := dk_96 (dk_at dksX10_come_3 3 rfl rfl)
theorem dX10_come_76 : decode cX10_come 76 = .ok (.iconst 1, 1) := dk_4 (dk_at dksX10_come_3 4 rfl rfl)
theorem dX10_come_77 : decode cX10_come 77 = .ok (.isub, 1) := dk_100 (dk_at dksX10_come_3 5 rfl rfl)
theorem dX10_come_78 : decode cX10_come 78 = .ok (.iastore, 1) := dk_79 (dk_at dksX10_come_3 6 rfl rfl)
theorem dX10_come_79 : decode cX10_come 79 = .ok (.aload_n 0, 1) := dk_42 (dk_at dksX10_come_3 7 rfl rfl)
theorem dX10_come_80 : decode cX10_come 80 = .ok (.dup, 1) := dk_89 (dk_at dksX10_come_3 8 rfl rfl)
theorem dX10_come_81 : decode cX10_come 81 = .ok (.getfield 248, 3) := dk_180 0 248 (dk_at dksX10_come_3 9 rfl rfl)
theorem dX10_come_84 : decode cX10_come 84 = .ok (.iconst 1, 1) := dk_4 (dk_at dksX10_come_3 12 rfl rfl)
theorem dX10_come_85 : decode cX10_come 85 = .ok (.iadd, 1) := dk_96 (dk_at dksX10_come_3 13 rfl rfl)
theorem dX10_come_86 : decode cX10_come 86 = .ok (.putfield 248, 3) := dk_181 0 248 (dk_at dksX10_come_3 14 rfl rfl)
theorem dX10_come_89 : decode cX10_come 89 = .ok (.return_, 1) := dk_177 (dk_at dksX10_come_3 17 rfl rfl)
abbrev cX10_comes : ByteArray := prog_16_method_51_code
def yX10_comes : MethodName := ⟨RX10, "comes", "(II)I"⟩
def dkwX10_comes_2 : List UInt8 := [167, 0, 23, 28, 6, 160, 0, 12, 42, 180, 0, 37, 27, 46, 167, 0, 9, 42, 180, 0, 40, 27, 46, 172]
abbrev dktX10_comes_2 : List UInt8 := dkwX10_comes_2 ++ []
def dkwX10_comes_1 : List UInt8 := [182, 1, 29, 42, 27, 182, 1, 32, 154, 0, 5, 2, 172, 28, 6, 162, 0, 12, 42, 27, 28, 182, 1, 35]
abbrev dktX10_comes_1 : List UInt8 := dkwX10_comes_1 ++ dktX10_comes_2
def dkwX10_comes_0 : List UInt8 := [42, 182, 1, 26, 153, 0, 15, 28, 133, 9, 20, 1, 17, 184, 0, 88, 154, 0, 6, 16, 254, 172, 42]
abbrev dktX10_comes_0 : List UInt8 := dkwX10_comes_0 ++ dktX10_comes_1
theorem dksX10_comes_0 : cX10_comes.data.toList.drop 0 = dktX10_comes_0 := by decide +kernel
theorem dksX10_comes_1 : cX10_comes.data.toList.drop 23 = dktX10_comes_1 := dk_seg dksX10_comes_0 23 rfl rfl
theorem dksX10_comes_2 : cX10_comes.data.toList.drop 47 = dktX10_comes_2 := dk_seg dksX10_comes_1 24 rfl rfl
theorem dX10_comes_0 : decode cX10_comes 0 = .ok (.aload_n 0, 1) := dk_42 (dk_at dksX10_comes_0 0 rfl rfl)
theorem dX10_comes_1 : decode cX10_comes 1 = .ok (.invokevirtual 282, 3) := dk_182 1 26 (dk_at dksX10_comes_0 1 rfl rfl)
theorem dX10_comes_4 : decode cX10_comes 4 = .ok (.ifCond .eq 15, 3) := dk_153 0 15 (dk_at dksX10_comes_0 4 rfl rfl)
theorem dX10_comes_7 : decode cX10_comes 7 = .ok (.iload_n 2, 1) := dk_28 (dk_at dksX10_comes_0 7 rfl rfl)
theorem dX10_comes_8 : decode cX10_comes 8 = .ok (.i2l, 1) := dk_133 (dk_at dksX10_comes_0 8 rfl rfl)
theorem dX10_comes_9 : decode cX10_comes 9 = .ok (.lconst 0, 1) := dk_9 (dk_at dksX10_comes_0 9 rfl rfl)
theorem dX10_comes_10 : decode cX10_comes 10 = .ok (.ldc2_w 273, 3) := dk_20 1 17 (dk_at dksX10_comes_0 10 rfl rfl)
theorem dX10_comes_13 : decode cX10_comes 13 = .ok (.invokestatic 88, 3) := dk_184 0 88 (dk_at dksX10_comes_0 13 rfl rfl)
theorem dX10_comes_16 : decode cX10_comes 16 = .ok (.ifCond .ne 6, 3) := dk_154 0 6 (dk_at dksX10_comes_0 16 rfl rfl)
theorem dX10_comes_19 : decode cX10_comes 19 = .ok (.bipush (-2), 2) := dk_16 254 (dk_at dksX10_comes_0 19 rfl rfl)
theorem dX10_comes_21 : decode cX10_comes 21 = .ok (.ireturn, 1) := dk_172 (dk_at dksX10_comes_0 21 rfl rfl)
theorem dX10_comes_22 : decode cX10_comes 22 = .ok (.aload_n 0, 1) := dk_42 (dk_at dksX10_comes_0 22 rfl rfl)
theorem dX10_comes_23 : decode cX10_comes 23 = .ok (.invokevirtual 285, 3) := dk_182 1 29 (dk_at dksX10_comes_1 0 rfl rfl)
theorem dX10_comes_26 : decode cX10_comes 26 = .ok (.aload_n 0, 1) := dk_42 (dk_at dksX10_comes_1 3 rfl rfl)
theorem dX10_comes_27 : decode cX10_comes 27 = .ok (.iload_n 1, 1) := dk_27 (dk_at dksX10_comes_1 4 rfl rfl)
theorem dX10_comes_28 : decode cX10_comes 28 = .ok (.invokevirtual 288, 3) := dk_182 1 32 (dk_at dksX10_comes_1 5 rfl rfl)
theorem dX10_comes_31 : decode cX10_comes 31 = .ok (.ifCond .ne 5, 3) := dk_154 0 5 (dk_at dksX10_comes_1 8 rfl rfl)
theorem dX10_comes_34 : decode cX10_comes 34 = .ok (.iconst (-1), 1) := dk_2 (dk_at dksX10_comes_1 11 rfl rfl)
theorem dX10_comes_35 : decode cX10_comes 35 = .ok (.ireturn, 1) := dk_172 (dk_at dksX10_comes_1 12 rfl rfl)
theorem dX10_comes_36 : decode cX10_comes 36 = .ok (.iload_n 2, 1) := dk_28 (dk_at dksX10_comes_1 13 rfl rfl)
theorem dX10_comes_37 : decode cX10_comes 37 = .ok (.iconst 3, 1) := dk_6 (dk_at dksX10_comes_1 14 rfl rfl)
theorem dX10_comes_38 : decode cX10_comes 38 = .ok (.if_icmp .ge 12, 3) := dk_162 0 12 (dk_at dksX10_comes_1 15 rfl rfl)
theorem dX10_comes_41 : decode cX10_comes 41 = .ok (.aload_n 0, 1) := dk_42 (dk_at dksX10_comes_1 18 rfl rfl)
theorem dX10_comes_42 : decode cX10_comes 42 = .ok (.iload_n 1, 1) := dk_27 (dk_at dksX10_comes_1 19 rfl rfl)
theorem dX10_comes_43 : decode cX10_comes 43 = .ok (.iload_n 2, 1) := dk_28 (dk_at dksX10_comes_1 20 rfl rfl)
theorem dX10_comes_44 : decode cX10_comes 44 = .ok (.invokevirtual 291, 3) := dk_182 1 35 (dk_at dksX10_comes_1 21 rfl rfl)
theorem dX10_comes_47 : decode cX10_comes 47 = .ok (.goto 23, 3) := dk_167 0 23 (dk_at dksX10_comes_2 0 rfl rfl)
theorem dX10_comes_50 : decode cX10_comes 50 = .ok (.iload_n 2, 1) := dk_28 (dk_at dksX10_comes_2 3 rfl rfl)
theorem dX10_comes_51 : decode cX10_comes 51 = .ok (.iconst 3, 1) := dk_6 (dk_at dksX10_comes_2 4 rfl rfl)
theorem dX10_comes_52 : decode cX10_comes 52 = .ok (.if_icmp .ne 12, 3) := dk_160 0 12 (dk_at dksX10_comes_2 5 rfl rfl)
theorem dX10_comes_55 : decode cX10_comes 55 = .ok (.aload_n 0, 1) := dk_42 (dk_at dksX10_comes_2 8 rfl rfl)
theorem dX10_comes_56 : decode cX10_comes 56 = .ok (.getfield 37, 3) := dk_180 0 37 (dk_at dksX10_comes_2 9 rfl rfl)
theorem dX10_comes_59 : decode cX10_comes 59 = .ok (.iload_n 1, 1) := dk_27 (dk_at dksX10_comes_2 12 rfl rfl)
theorem dX10_comes_60 : decode cX10_comes 60 = .ok (.iaload, 1) := dk_46 (dk_at dksX10_comes_2 13 rfl rfl)
theorem dX10_comes_61 : decode cX10_comes 61 = .ok (.goto 9, 3) := dk_167 0 9 (dk_at dksX10_comes_2 14 rfl rfl)
theorem dX10_comes_64 : decode cX10_comes 64 = .ok (.aload_n 0, 1) := dk_42 (dk_at dksX10_comes_2 17 rfl rfl)
theorem dX10_comes_65 : decode cX10_comes 65 = .ok (.getfield 40, 3) := dk_180 0 40 (dk_at dksX10_comes_2 18 rfl rfl)
theorem dX10_comes_68 : decode cX10_comes 68 = .ok (.iload_n 1, 1) := dk_27 (dk_at dksX10_comes_2 21 rfl rfl)
theorem dX10_comes_69 : decode cX10_comes 69 = .ok (.iaload, 1) := dk_46 (dk_at dksX10_comes_2 22 rfl rfl)
theorem dX10_comes_70 : decode cX10_comes 70 = .ok (.ireturn, 1) := dk_172 (dk_at dksX10_comes_2 23 rfl rfl)
abbrev cX10_isInGame : ByteArray := prog_16_method_50_code
def yX10_isInGame : MethodName := ⟨RX10, "isInGame", "(I)Z"⟩
def dkwX10_isInGame_0 : List UInt8 := [27, 133, 9, 42, 180, 0, 248, 4, 100, 133, 184, 0, 88, 172]
abbrev dktX10_isInGame_0 : List UInt8 := dkwX10_isInGame_0 ++ []
theorem dksX10_isInGame_0 : cX10_isInGame.data.toList.drop 0 = dktX10_isInGame_0 := by decide +kernel
theorem dX10_isInGame_0 : decode cX10_isInGame 0 = .ok (.iload_n 1, 1) := dk_27 (dk_at dksX10_isInGame_0 0 rfl rfl)
theorem dX10_isInGame_1 : decode cX10_isInGame 1 = .ok (.i2l, 1) := dk_133 (dk_at dksX10_isInGame_0 1 rfl rfl)
theorem dX10_isInGame_2 : decode cX10_isInGame 2 = .ok (.lconst 0, 1) := dk_9 (dk_at dksX10_isInGame_0 2 rfl rfl)
theorem dX10_isInGame_3 : decode cX10_isInGame 3 = .ok (.aload_n 0, 1) := dk_42 (dk_at dksX10_isInGame_0 3 rfl rfl)
theorem dX10_isInGame_4 : decode cX10_isInGame 4 = .ok (.getfield 248, 3) := dk_180 0 248 (dk_at dksX10_isInGame_0 4 rfl rfl)
theorem dX10_isInGame_7 : decode cX10_isInGame 7 = .ok (.iconst 1, 1) := dk_4 (dk_at dksX10_isInGame_0 7 rfl rfl)
theorem dX10_isInGame_8 : decode cX10_isInGame 8 = .ok (.isub, 1) := dk_100 (dk_at dksX10_isInGame_0 8 rfl rfl)
theorem dX10_isInGame_9 : decode cX10_isInGame 9 = .ok (.i2l, 1) := dk_133 (dk_at dksX10_isInGame_0 9 rfl rfl)
theorem dX10_isInGame_10 : decode cX10_isInGame 10 = .ok (.invokestatic 88, 3) := dk_184 0 88 (dk_at dksX10_isInGame_0 10 rfl rfl)
theorem dX10_isInGame_13 : decode cX10_isInGame 13 = .ok (.ireturn, 1) := dk_172 (dk_at dksX10_isInGame_0 13 rfl rfl)
abbrev cX10_inGame : ByteArray := prog_16_method_45_code
def yX10_inGame : MethodName := ⟨RX10, "inGame", "(II)I"⟩
def dkwX10_inGame_0 : List UInt8 := [42, 180, 0, 34, 6, 27, 104, 28, 96, 46, 172]
abbrev dktX10_inGame_0 : List UInt8 := dkwX10_inGame_0 ++ []
theorem dksX10_inGame_0 : cX10_inGame.data.toList.drop 0 = dktX10_inGame_0 := by decide +kernel
theorem dX10_inGame_0 : decode cX10_inGame 0 = .ok (.aload_n 0, 1) := dk_42 (dk_at dksX10_inGame_0 0 rfl rfl)
theorem dX10_inGame_1 : decode cX10_inGame 1 = .ok (.getfield 34, 3) := dk_180 0 34 (dk_at dksX10_inGame_0 1 rfl rfl)
theorem dX10_inGame_4 : decode cX10_inGame 4 = .ok (.iconst 3, 1) := dk_6 (dk_at dksX10_inGame_0 4 rfl rfl)
theorem dX10_inGame_5 : decode cX10_inGame 5 = .ok (.iload_n 1, 1) := dk_27 (dk_at dksX10_inGame_0 5 rfl rfl)
theorem dX10_inGame_6 : decode cX10_inGame 6 = .ok (.imul, 1) := dk_104 (dk_at dksX10_inGame_0 6 rfl rfl)
theorem dX10_inGame_7 : decode cX10_inGame 7 = .ok (.iload_n 2, 1) := dk_28 (dk_at dksX10_inGame_0 7 rfl rfl)
theorem dX10_inGame_8 : decode cX10_inGame 8 = .ok (.iadd, 1) := dk_96 (dk_at dksX10_inGame_0 8 rfl rfl)
theorem dX10_inGame_9 : decode cX10_inGame 9 = .ok (.iaload, 1) := dk_46 (dk_at dksX10_inGame_0 9 rfl rfl)
theorem dX10_inGame_10 : decode cX10_inGame 10 = .ok (.ireturn, 1) := dk_172 (dk_at dksX10_inGame_0 10 rfl rfl)
abbrev cX10_up : ByteArray := prog_16_method_53_code
def yX10_up : MethodName := ⟨RX10, "up", "(I)I"⟩
def dkwX10_up_0 : List UInt8 := [42, 27, 133, 182, 1, 22, 154, 0, 6, 16, 254, 172, 42, 182, 1, 29, 42, 27, 182, 1, 38, 172]
abbrev dktX10_up_0 : List UInt8 := dkwX10_up_0 ++ []
theorem dksX10_up_0 : cX10_up.data.toList.drop 0 = dktX10_up_0 := by decide +kernel
theorem dX10_up_0 : decode cX10_up 0 = .ok (.aload_n 0, 1) := dk_42 (dk_at dksX10_up_0 0 rfl rfl)
theorem dX10_up_1 : decode cX10_up 1 = .ok (.iload_n 1, 1) := dk_27 (dk_at dksX10_up_0 1 rfl rfl)
theorem dX10_up_2 : decode cX10_up 2 = .ok (.i2l, 1) := dk_133 (dk_at dksX10_up_0 2 rfl rfl)
theorem dX10_up_3 : decode cX10_up 3 = .ok (.invokevirtual 278, 3) := dk_182 1 22 (dk_at dksX10_up_0 3 rfl rfl)
theorem dX10_up_6 : decode cX10_up 6 = .ok (.ifCond .ne 6, 3) := dk_154 0 6 (dk_at dksX10_up_0 6 rfl rfl)
theorem dX10_up_9 : decode cX10_up 9 = .ok (.bipush (-2), 2) := dk_16 254 (dk_at dksX10_up_0 9 rfl rfl)
theorem dX10_up_11 : decode cX10_up 11 = .ok (.ireturn, 1) := dk_172 (dk_at dksX10_up_0 11 rfl rfl)
theorem dX10_up_12 : decode cX10_up 12 = .ok (.aload_n 0, 1) := dk_42 (dk_at dksX10_up_0 12 rfl rfl)
theorem dX10_up_13 : decode cX10_up 13 = .ok (.invokevirtual 285, 3) := dk_182 1 29 (dk_at dksX10_up_0 13 rfl rfl)
theorem dX10_up_16 : decode cX10_up 16 = .ok (.aload_n 0, 1) := dk_42 (dk_at dksX10_up_0 16 rfl rfl)
theorem dX10_up_17 : decode cX10_up 17 = .ok (.iload_n 1, 1) := dk_27 (dk_at dksX10_up_0 17 rfl rfl)
theorem dX10_up_18 : decode cX10_up 18 = .ok (.invokevirtual 294, 3) := dk_182 1 38 (dk_at dksX10_up_0 18 rfl rfl)
theorem dX10_up_21 : decode cX10_up 21 = .ok (.ireturn, 1) := dk_172 (dk_at dksX10_up_0 21 rfl rfl)
abbrev cX10_upIn : ByteArray := prog_16_method_52_code
def yX10_upIn : MethodName := ⟨RX10, "upIn", "(I)I"⟩
def dkwX10_upIn_3 : List UInt8 := [132, 3, 1, 167, 255, 188, 28, 172]
abbrev dktX10_upIn_3 : List UInt8 := dkwX10_upIn_3 ++ []
def dkwX10_upIn_2 : List UInt8 := [128, 61, 42, 29, 4, 182, 1, 35, 2, 159, 0, 14, 28, 4, 42, 29, 4, 182, 1, 35, 120, 128, 61]
abbrev dktX10_upIn_2 : List UInt8 := dkwX10_upIn_2 ++ dktX10_upIn_3
def dkwX10_upIn_1 : List UInt8 := [180, 0, 40, 29, 46, 133, 184, 0, 88, 154, 0, 6, 167, 0, 35, 28, 4, 42, 29, 3, 182, 1, 35, 120]
abbrev dktX10_upIn_1 : List UInt8 := dkwX10_upIn_1 ++ dktX10_upIn_2
def dkwX10_upIn_0 : List UInt8 := [3, 61, 3, 62, 29, 42, 180, 0, 248, 162, 0, 66, 27, 133, 42, 180, 0, 37, 29, 46, 133, 42]
abbrev dktX10_upIn_0 : List UInt8 := dkwX10_upIn_0 ++ dktX10_upIn_1
theorem dksX10_upIn_0 : cX10_upIn.data.toList.drop 0 = dktX10_upIn_0 := by decide +kernel
theorem dksX10_upIn_1 : cX10_upIn.data.toList.drop 22 = dktX10_upIn_1 := dk_seg dksX10_upIn_0 22 rfl rfl
theorem dksX10_upIn_2 : cX10_upIn.data.toList.drop 46 = dktX10_upIn_2 := dk_seg dksX10_upIn_1 24 rfl rfl
theorem dksX10_upIn_3 : cX10_upIn.data.toList.drop 69 = dktX10_upIn_3 := dk_seg dksX10_upIn_2 23 rfl rfl
theorem dX10_upIn_0 : decode cX10_upIn 0 = .ok (.iconst 0, 1) := dk_3 (dk_at dksX10_upIn_0 0 rfl rfl)
theorem dX10_upIn_1 : decode cX10_upIn 1 = .ok (.istore_n 2, 1) := dk_61 (dk_at dksX10_upIn_0 1 rfl rfl)
theorem dX10_upIn_2 : decode cX10_upIn 2 = .ok (.iconst 0, 1) := dk_3 (dk_at dksX10_upIn_0 2 rfl rfl)
theorem dX10_upIn_3 : decode cX10_upIn 3 = .ok (.istore_n 3, 1) := dk_62 (dk_at dksX10_upIn_0 3 rfl rfl)
theorem dX10_upIn_4 : decode cX10_upIn 4 = .ok (.iload_n 3, 1) := dk_29 (dk_at dksX10_upIn_0 4 rfl rfl)
theorem dX10_upIn_5 : decode cX10_upIn 5 = .ok (.aload_n 0, 1) := dk_42 (dk_at dksX10_upIn_0 5 rfl rfl)
theorem dX10_upIn_6 : decode cX10_upIn 6 = .ok (.getfield 248, 3) := dk_180 0 248 (dk_at dksX10_upIn_0 6 rfl rfl)
theorem dX10_upIn_9 : decode cX10_upIn 9 = .ok (.if_icmp .ge 66, 3) := dk_162 0 66 (dk_at dksX10_upIn_0 9 rfl rfl)
theorem dX10_upIn_12 : decode cX10_upIn 12 = .ok (.iload_n 1, 1) := dk_27 (dk_at dksX10_upIn_0 12 rfl rfl)
theorem dX10_upIn_13 : decode cX10_upIn 13 = .ok (.i2l, 1) := dk_133 (dk_at dksX10_upIn_0 13 rfl rfl)
theorem dX10_upIn_14 : decode cX10_upIn 14 = .ok (.aload_n 0, 1) := dk_42 (dk_at dksX10_upIn_0 14 rfl rfl)
theorem dX10_upIn_15 : decode cX10_upIn 15 = .ok (.getfield 37, 3) := dk_180 0 37 (dk_at dksX10_upIn_0 15 rfl rfl)
theorem dX10_upIn_18 : decode cX10_upIn 18 = .ok (.iload_n 3, 1) := dk_29 (dk_at dksX10_upIn_0 18 rfl rfl)
theorem dX10_upIn_19 : decode cX10_upIn 19 = .ok (.iaload, 1) := dk_46 (dk_at dksX10_upIn_0 19 rfl rfl)
theorem dX10_upIn_20 : decode cX10_upIn 20 = .ok (.i2l, 1) := dk_133 (dk_at dksX10_upIn_0 20 rfl rfl)
theorem dX10_upIn_21 : decode cX10_upIn 21 = .ok (.aload_n 0, 1) := dk_42 (dk_at dksX10_upIn_0 21 rfl rfl)
theorem dX10_upIn_22 : decode cX10_upIn 22 = .ok (.getfield 40, 3) := dk_180 0 40 (dk_at dksX10_upIn_1 0 rfl rfl)
theorem dX10_upIn_25 : decode cX10_upIn 25 = .ok (.iload_n 3, 1) := dk_29 (dk_at dksX10_upIn_1 3 rfl rfl)
theorem dX10_upIn_26 : decode cX10_upIn 26 = .ok (.iaload, 1) := dk_46 (dk_at dksX10_upIn_1 4 rfl rfl)
theorem dX10_upIn_27 : decode cX10_upIn 27 = .ok (.i2l, 1) := dk_133 (dk_at dksX10_upIn_1 5 rfl rfl)
theorem dX10_upIn_28 : decode cX10_upIn 28 = .ok (.invokestatic 88, 3) := dk_184 0 88 (dk_at dksX10_upIn_1 6 rfl rfl)
theorem dX10_upIn_31 : decode cX10_upIn 31 = .ok (.ifCond .ne 6, 3) := dk_154 0 6 (dk_at dksX10_upIn_1 9 rfl rfl)
theorem dX10_upIn_34 : decode cX10_upIn 34 = .ok (.goto 35, 3) := dk_167 0 35 (dk_at dksX10_upIn_1 12 rfl rfl)
theorem dX10_upIn_37 : decode cX10_upIn 37 = .ok (.iload_n 2, 1) := dk_28 (dk_at dksX10_upIn_1 15 rfl rfl)
theorem dX10_upIn_38 : decode cX10_upIn 38 = .ok (.iconst 1, 1) := dk_4 (dk_at dksX10_upIn_1 16 rfl rfl)
theorem dX10_upIn_39 : decode cX10_upIn 39 = .ok (.aload_n 0, 1) := dk_42 (dk_at dksX10_upIn_1 17 rfl rfl)
theorem dX10_upIn_40 : decode cX10_upIn 40 = .ok (.iload_n 3, 1) := dk_29 (dk_at dksX10_upIn_1 18 rfl rfl)
theorem dX10_upIn_41 : decode cX10_upIn 41 = .ok (.iconst 0, 1) := dk_3 (dk_at dksX10_upIn_1 19 rfl rfl)
theorem dX10_upIn_42 : decode cX10_upIn 42 = .ok (.invokevirtual 291, 3) := dk_182 1 35 (dk_at dksX10_upIn_1 20 rfl rfl)
theorem dX10_upIn_45 : decode cX10_upIn 45 = .ok (.ishl, 1) := dk_120 (dk_at dksX10_upIn_1 23 rfl rfl)
theorem dX10_upIn_46 : decode cX10_upIn 46 = .ok (.ior, 1) := dk_128 (dk_at dksX10_upIn_2 0 rfl rfl)
theorem dX10_upIn_47 : decode cX10_upIn 47 = .ok (.istore_n 2, 1) := dk_61 (dk_at dksX10_upIn_2 1 rfl rfl)
theorem dX10_upIn_48 : decode cX10_upIn 48 = .ok (.aload_n 0, 1) := dk_42 (dk_at dksX10_upIn_2 2 rfl rfl)
theorem dX10_upIn_49 : decode cX10_upIn 49 = .ok (.iload_n 3, 1) := dk_29 (dk_at dksX10_upIn_2 3 rfl rfl)
theorem dX10_upIn_50 : decode cX10_upIn 50 = .ok (.iconst 1, 1) := dk_4 (dk_at dksX10_upIn_2 4 rfl rfl)
theorem dX10_upIn_51 : decode cX10_upIn 51 = .ok (.invokevirtual 291, 3) := dk_182 1 35 (dk_at dksX10_upIn_2 5 rfl rfl)
theorem dX10_upIn_54 : decode cX10_upIn 54 = .ok (.iconst (-1), 1) := dk_2 (dk_at dksX10_upIn_2 8 rfl rfl)
theorem dX10_upIn_55 : decode cX10_upIn 55 = .ok (.if_icmp .eq 14, 3) := dk_159 0 14 (dk_at dksX10_upIn_2 9 rfl rfl)
theorem dX10_upIn_58 : decode cX10_upIn 58 = .ok (.iload_n 2, 1) := dk_28 (dk_at dksX10_upIn_2 12 rfl rfl)
theorem dX10_upIn_59 : decode cX10_upIn 59 = .ok (.iconst 1, 1) := dk_4 (dk_at dksX10_upIn_2 13 rfl rfl)
theorem dX10_upIn_60 : decode cX10_upIn 60 = .ok (.aload_n 0, 1) := dk_42 (dk_at dksX10_upIn_2 14 rfl rfl)
theorem dX10_upIn_61 : decode cX10_upIn 61 = .ok (.iload_n 3, 1) := dk_29 (dk_at dksX10_upIn_2 15 rfl rfl)
theorem dX10_upIn_62 : decode cX10_upIn 62 = .ok (.iconst 1, 1) := dk_4 (dk_at dksX10_upIn_2 16 rfl rfl)
theorem dX10_upIn_63 : decode cX10_upIn 63 = .ok (.invokevirtual 291, 3) := dk_182 1 35 (dk_at dksX10_upIn_2 17 rfl rfl)
theorem dX10_upIn_66 : decode cX10_upIn 66 = .ok (.ishl, 1) := dk_120 (dk_at dksX10_upIn_2 20 rfl rfl)
theorem dX10_upIn_67 : decode cX10_upIn 67 = .ok (.ior, 1) := dk_128 (dk_at dksX10_upIn_2 21 rfl rfl)
theorem dX10_upIn_68 : decode cX10_upIn 68 = .ok (.istore_n 2, 1) := dk_61 (dk_at dksX10_upIn_2 22 rfl rfl)
theorem dX10_upIn_69 : decode cX10_upIn 69 = .ok (.iinc 3 1, 3) := dk_132 3 1 (dk_at dksX10_upIn_3 0 rfl rfl)
theorem dX10_upIn_72 : decode cX10_upIn 72 = .ok (.goto (-68), 3) := dk_167 255 188 (dk_at dksX10_upIn_3 3 rfl rfl)
theorem dX10_upIn_75 : decode cX10_upIn 75 = .ok (.iload_n 2, 1) := dk_28 (dk_at dksX10_upIn_3 6 rfl rfl)
theorem dX10_upIn_76 : decode cX10_upIn 76 = .ok (.ireturn, 1) := dk_172 (dk_at dksX10_upIn_3 7 rfl rfl)
abbrev cX10_calm : ByteArray := prog_16_method_54_code
def yX10_calm : MethodName := ⟨RX10, "calm", "()I"⟩
def dkwX10_calm_2 : List UInt8 := [167, 255, 227, 27, 172]
abbrev dktX10_calm_2 : List UInt8 := dkwX10_calm_2 ++ []
def dkwX10_calm_1 : List UInt8 := [46, 162, 0, 25, 27, 42, 28, 182, 1, 38, 154, 0, 7, 4, 167, 0, 4, 3, 96, 60, 132, 2, 1]
abbrev dktX10_calm_1 : List UInt8 := dkwX10_calm_1 ++ dktX10_calm_2
def dkwX10_calm_0 : List UInt8 := [42, 182, 1, 26, 154, 0, 6, 16, 254, 172, 42, 182, 1, 29, 3, 60, 3, 61, 28, 42, 180, 0, 9, 5]
abbrev dktX10_calm_0 : List UInt8 := dkwX10_calm_0 ++ dktX10_calm_1
theorem dksX10_calm_0 : cX10_calm.data.toList.drop 0 = dktX10_calm_0 := by decide +kernel
theorem dksX10_calm_1 : cX10_calm.data.toList.drop 24 = dktX10_calm_1 := dk_seg dksX10_calm_0 24 rfl rfl
theorem dksX10_calm_2 : cX10_calm.data.toList.drop 47 = dktX10_calm_2 := dk_seg dksX10_calm_1 23 rfl rfl
theorem dX10_calm_0 : decode cX10_calm 0 = .ok (.aload_n 0, 1) := dk_42 (dk_at dksX10_calm_0 0 rfl rfl)
theorem dX10_calm_1 : decode cX10_calm 1 = .ok (.invokevirtual 282, 3) := dk_182 1 26 (dk_at dksX10_calm_0 1 rfl rfl)
theorem dX10_calm_4 : decode cX10_calm 4 = .ok (.ifCond .ne 6, 3) := dk_154 0 6 (dk_at dksX10_calm_0 4 rfl rfl)
theorem dX10_calm_7 : decode cX10_calm 7 = .ok (.bipush (-2), 2) := dk_16 254 (dk_at dksX10_calm_0 7 rfl rfl)
theorem dX10_calm_9 : decode cX10_calm 9 = .ok (.ireturn, 1) := dk_172 (dk_at dksX10_calm_0 9 rfl rfl)
theorem dX10_calm_10 : decode cX10_calm 10 = .ok (.aload_n 0, 1) := dk_42 (dk_at dksX10_calm_0 10 rfl rfl)
theorem dX10_calm_11 : decode cX10_calm 11 = .ok (.invokevirtual 285, 3) := dk_182 1 29 (dk_at dksX10_calm_0 11 rfl rfl)
theorem dX10_calm_14 : decode cX10_calm 14 = .ok (.iconst 0, 1) := dk_3 (dk_at dksX10_calm_0 14 rfl rfl)
theorem dX10_calm_15 : decode cX10_calm 15 = .ok (.istore_n 1, 1) := dk_60 (dk_at dksX10_calm_0 15 rfl rfl)
theorem dX10_calm_16 : decode cX10_calm 16 = .ok (.iconst 0, 1) := dk_3 (dk_at dksX10_calm_0 16 rfl rfl)
theorem dX10_calm_17 : decode cX10_calm 17 = .ok (.istore_n 2, 1) := dk_61 (dk_at dksX10_calm_0 17 rfl rfl)
theorem dX10_calm_18 : decode cX10_calm 18 = .ok (.iload_n 2, 1) := dk_28 (dk_at dksX10_calm_0 18 rfl rfl)
theorem dX10_calm_19 : decode cX10_calm 19 = .ok (.aload_n 0, 1) := dk_42 (dk_at dksX10_calm_0 19 rfl rfl)
theorem dX10_calm_20 : decode cX10_calm 20 = .ok (.getfield 9, 3) := dk_180 0 9 (dk_at dksX10_calm_0 20 rfl rfl)
theorem dX10_calm_23 : decode cX10_calm 23 = .ok (.iconst 2, 1) := dk_5 (dk_at dksX10_calm_0 23 rfl rfl)
theorem dX10_calm_24 : decode cX10_calm 24 = .ok (.iaload, 1) := dk_46 (dk_at dksX10_calm_1 0 rfl rfl)
theorem dX10_calm_25 : decode cX10_calm 25 = .ok (.if_icmp .ge 25, 3) := dk_162 0 25 (dk_at dksX10_calm_1 1 rfl rfl)
theorem dX10_calm_28 : decode cX10_calm 28 = .ok (.iload_n 1, 1) := dk_27 (dk_at dksX10_calm_1 4 rfl rfl)
theorem dX10_calm_29 : decode cX10_calm 29 = .ok (.aload_n 0, 1) := dk_42 (dk_at dksX10_calm_1 5 rfl rfl)
theorem dX10_calm_30 : decode cX10_calm 30 = .ok (.iload_n 2, 1) := dk_28 (dk_at dksX10_calm_1 6 rfl rfl)
theorem dX10_calm_31 : decode cX10_calm 31 = .ok (.invokevirtual 294, 3) := dk_182 1 38 (dk_at dksX10_calm_1 7 rfl rfl)
theorem dX10_calm_34 : decode cX10_calm 34 = .ok (.ifCond .ne 7, 3) := dk_154 0 7 (dk_at dksX10_calm_1 10 rfl rfl)
theorem dX10_calm_37 : decode cX10_calm 37 = .ok (.iconst 1, 1) := dk_4 (dk_at dksX10_calm_1 13 rfl rfl)
theorem dX10_calm_38 : decode cX10_calm 38 = .ok (.goto 4, 3) := dk_167 0 4 (dk_at dksX10_calm_1 14 rfl rfl)
theorem dX10_calm_41 : decode cX10_calm 41 = .ok (.iconst 0, 1) := dk_3 (dk_at dksX10_calm_1 17 rfl rfl)
theorem dX10_calm_42 : decode cX10_calm 42 = .ok (.iadd, 1) := dk_96 (dk_at dksX10_calm_1 18 rfl rfl)
theorem dX10_calm_43 : decode cX10_calm 43 = .ok (.istore_n 1, 1) := dk_60 (dk_at dksX10_calm_1 19 rfl rfl)
theorem dX10_calm_44 : decode cX10_calm 44 = .ok (.iinc 2 1, 3) := dk_132 2 1 (dk_at dksX10_calm_1 20 rfl rfl)
theorem dX10_calm_47 : decode cX10_calm 47 = .ok (.goto (-29), 3) := dk_167 255 227 (dk_at dksX10_calm_2 0 rfl rfl)
theorem dX10_calm_50 : decode cX10_calm 50 = .ok (.iload_n 1, 1) := dk_27 (dk_at dksX10_calm_2 3 rfl rfl)
theorem dX10_calm_51 : decode cX10_calm 51 = .ok (.ireturn, 1) := dk_172 (dk_at dksX10_calm_2 4 rfl rfl)
abbrev cX10_steps : ByteArray := prog_16_method_56_code
def yX10_steps : MethodName := ⟨RX10, "steps", "(II)I"⟩
def dkwX10_steps_1 : List UInt8 := [167, 0, 5, 16, 254, 172]
abbrev dktX10_steps_1 : List UInt8 := dkwX10_steps_1 ++ []
def dkwX10_steps_0 : List UInt8 := [42, 27, 133, 182, 1, 44, 153, 0, 21, 42, 28, 133, 182, 1, 44, 153, 0, 12, 42, 27, 28, 182, 1, 47]
abbrev dktX10_steps_0 : List UInt8 := dkwX10_steps_0 ++ dktX10_steps_1
theorem dksX10_steps_0 : cX10_steps.data.toList.drop 0 = dktX10_steps_0 := by decide +kernel
theorem dksX10_steps_1 : cX10_steps.data.toList.drop 24 = dktX10_steps_1 := dk_seg dksX10_steps_0 24 rfl rfl
theorem dX10_steps_0 : decode cX10_steps 0 = .ok (.aload_n 0, 1) := dk_42 (dk_at dksX10_steps_0 0 rfl rfl)
theorem dX10_steps_1 : decode cX10_steps 1 = .ok (.iload_n 1, 1) := dk_27 (dk_at dksX10_steps_0 1 rfl rfl)
theorem dX10_steps_2 : decode cX10_steps 2 = .ok (.i2l, 1) := dk_133 (dk_at dksX10_steps_0 2 rfl rfl)
theorem dX10_steps_3 : decode cX10_steps 3 = .ok (.invokevirtual 300, 3) := dk_182 1 44 (dk_at dksX10_steps_0 3 rfl rfl)
theorem dX10_steps_6 : decode cX10_steps 6 = .ok (.ifCond .eq 21, 3) := dk_153 0 21 (dk_at dksX10_steps_0 6 rfl rfl)
theorem dX10_steps_9 : decode cX10_steps 9 = .ok (.aload_n 0, 1) := dk_42 (dk_at dksX10_steps_0 9 rfl rfl)
theorem dX10_steps_10 : decode cX10_steps 10 = .ok (.iload_n 2, 1) := dk_28 (dk_at dksX10_steps_0 10 rfl rfl)
theorem dX10_steps_11 : decode cX10_steps 11 = .ok (.i2l, 1) := dk_133 (dk_at dksX10_steps_0 11 rfl rfl)
theorem dX10_steps_12 : decode cX10_steps 12 = .ok (.invokevirtual 300, 3) := dk_182 1 44 (dk_at dksX10_steps_0 12 rfl rfl)
theorem dX10_steps_15 : decode cX10_steps 15 = .ok (.ifCond .eq 12, 3) := dk_153 0 12 (dk_at dksX10_steps_0 15 rfl rfl)
theorem dX10_steps_18 : decode cX10_steps 18 = .ok (.aload_n 0, 1) := dk_42 (dk_at dksX10_steps_0 18 rfl rfl)
theorem dX10_steps_19 : decode cX10_steps 19 = .ok (.iload_n 1, 1) := dk_27 (dk_at dksX10_steps_0 19 rfl rfl)
theorem dX10_steps_20 : decode cX10_steps 20 = .ok (.iload_n 2, 1) := dk_28 (dk_at dksX10_steps_0 20 rfl rfl)
theorem dX10_steps_21 : decode cX10_steps 21 = .ok (.invokevirtual 303, 3) := dk_182 1 47 (dk_at dksX10_steps_0 21 rfl rfl)
theorem dX10_steps_24 : decode cX10_steps 24 = .ok (.goto 5, 3) := dk_167 0 5 (dk_at dksX10_steps_1 0 rfl rfl)
theorem dX10_steps_27 : decode cX10_steps 27 = .ok (.bipush (-2), 2) := dk_16 254 (dk_at dksX10_steps_1 3 rfl rfl)
theorem dX10_steps_29 : decode cX10_steps 29 = .ok (.ireturn, 1) := dk_172 (dk_at dksX10_steps_1 5 rfl rfl)
abbrev cX10_isHole : ByteArray := prog_16_method_8_code
def yX10_isHole : MethodName := ⟨RX10, "isHole", "(J)Z"⟩
def dkwX10_isHole_0 : List UInt8 := [31, 9, 42, 182, 0, 92, 4, 100, 133, 184, 0, 88, 172]
abbrev dktX10_isHole_0 : List UInt8 := dkwX10_isHole_0 ++ []
theorem dksX10_isHole_0 : cX10_isHole.data.toList.drop 0 = dktX10_isHole_0 := by decide +kernel
theorem dX10_isHole_0 : decode cX10_isHole 0 = .ok (.lload_n 1, 1) := dk_31 (dk_at dksX10_isHole_0 0 rfl rfl)
theorem dX10_isHole_1 : decode cX10_isHole 1 = .ok (.lconst 0, 1) := dk_9 (dk_at dksX10_isHole_0 1 rfl rfl)
theorem dX10_isHole_2 : decode cX10_isHole 2 = .ok (.aload_n 0, 1) := dk_42 (dk_at dksX10_isHole_0 2 rfl rfl)
theorem dX10_isHole_3 : decode cX10_isHole 3 = .ok (.invokevirtual 92, 3) := dk_182 0 92 (dk_at dksX10_isHole_0 3 rfl rfl)
theorem dX10_isHole_6 : decode cX10_isHole 6 = .ok (.iconst 1, 1) := dk_4 (dk_at dksX10_isHole_0 6 rfl rfl)
theorem dX10_isHole_7 : decode cX10_isHole 7 = .ok (.isub, 1) := dk_100 (dk_at dksX10_isHole_0 7 rfl rfl)
theorem dX10_isHole_8 : decode cX10_isHole 8 = .ok (.i2l, 1) := dk_133 (dk_at dksX10_isHole_0 8 rfl rfl)
theorem dX10_isHole_9 : decode cX10_isHole 9 = .ok (.invokestatic 88, 3) := dk_184 0 88 (dk_at dksX10_isHole_0 9 rfl rfl)
theorem dX10_isHole_12 : decode cX10_isHole 12 = .ok (.ireturn, 1) := dk_172 (dk_at dksX10_isHole_0 12 rfl rfl)
abbrev cX10_holes : ByteArray := prog_16_method_7_code
def yX10_holes : MethodName := ⟨RX10, "holes", "()I"⟩
def dkwX10_holes_0 : List UInt8 := [42, 180, 0, 9, 3, 46, 42, 180, 0, 9, 4, 46, 104, 172]
abbrev dktX10_holes_0 : List UInt8 := dkwX10_holes_0 ++ []
theorem dksX10_holes_0 : cX10_holes.data.toList.drop 0 = dktX10_holes_0 := by decide +kernel
theorem dX10_holes_0 : decode cX10_holes 0 = .ok (.aload_n 0, 1) := dk_42 (dk_at dksX10_holes_0 0 rfl rfl)
theorem dX10_holes_1 : decode cX10_holes 1 = .ok (.getfield 9, 3) := dk_180 0 9 (dk_at dksX10_holes_0 1 rfl rfl)
theorem dX10_holes_4 : decode cX10_holes 4 = .ok (.iconst 0, 1) := dk_3 (dk_at dksX10_holes_0 4 rfl rfl)
theorem dX10_holes_5 : decode cX10_holes 5 = .ok (.iaload, 1) := dk_46 (dk_at dksX10_holes_0 5 rfl rfl)
theorem dX10_holes_6 : decode cX10_holes 6 = .ok (.aload_n 0, 1) := dk_42 (dk_at dksX10_holes_0 6 rfl rfl)
theorem dX10_holes_7 : decode cX10_holes 7 = .ok (.getfield 9, 3) := dk_180 0 9 (dk_at dksX10_holes_0 7 rfl rfl)
theorem dX10_holes_10 : decode cX10_holes 10 = .ok (.iconst 1, 1) := dk_4 (dk_at dksX10_holes_0 10 rfl rfl)
theorem dX10_holes_11 : decode cX10_holes 11 = .ok (.iaload, 1) := dk_46 (dk_at dksX10_holes_0 11 rfl rfl)
theorem dX10_holes_12 : decode cX10_holes 12 = .ok (.imul, 1) := dk_104 (dk_at dksX10_holes_0 12 rfl rfl)
theorem dX10_holes_13 : decode cX10_holes 13 = .ok (.ireturn, 1) := dk_172 (dk_at dksX10_holes_0 13 rfl rfl)
abbrev cX10_stepsOf : ByteArray := prog_16_method_55_code
def yX10_stepsOf : MethodName := ⟨RX10, "stepsOf", "(II)I"⟩
def dkwX10_stepsOf_1 : List UInt8 := [180, 0, 9, 3, 46, 108, 28, 42, 180, 0, 9, 3, 46, 108, 100, 184, 1, 41, 96, 172]
abbrev dktX10_stepsOf_1 : List UInt8 := dkwX10_stepsOf_1 ++ []
def dkwX10_stepsOf_0 : List UInt8 := [27, 42, 180, 0, 9, 3, 46, 112, 28, 42, 180, 0, 9, 3, 46, 112, 100, 184, 1, 41, 27, 42]
abbrev dktX10_stepsOf_0 : List UInt8 := dkwX10_stepsOf_0 ++ dktX10_stepsOf_1
theorem dksX10_stepsOf_0 : cX10_stepsOf.data.toList.drop 0 = dktX10_stepsOf_0 := by decide +kernel
theorem dksX10_stepsOf_1 : cX10_stepsOf.data.toList.drop 22 = dktX10_stepsOf_1 := dk_seg dksX10_stepsOf_0 22 rfl rfl
theorem dX10_stepsOf_0 : decode cX10_stepsOf 0 = .ok (.iload_n 1, 1) := dk_27 (dk_at dksX10_stepsOf_0 0 rfl rfl)
theorem dX10_stepsOf_1 : decode cX10_stepsOf 1 = .ok (.aload_n 0, 1) := dk_42 (dk_at dksX10_stepsOf_0 1 rfl rfl)
theorem dX10_stepsOf_2 : decode cX10_stepsOf 2 = .ok (.getfield 9, 3) := dk_180 0 9 (dk_at dksX10_stepsOf_0 2 rfl rfl)
theorem dX10_stepsOf_5 : decode cX10_stepsOf 5 = .ok (.iconst 0, 1) := dk_3 (dk_at dksX10_stepsOf_0 5 rfl rfl)
theorem dX10_stepsOf_6 : decode cX10_stepsOf 6 = .ok (.iaload, 1) := dk_46 (dk_at dksX10_stepsOf_0 6 rfl rfl)
theorem dX10_stepsOf_7 : decode cX10_stepsOf 7 = .ok (.irem, 1) := dk_112 (dk_at dksX10_stepsOf_0 7 rfl rfl)
theorem dX10_stepsOf_8 : decode cX10_stepsOf 8 = .ok (.iload_n 2, 1) := dk_28 (dk_at dksX10_stepsOf_0 8 rfl rfl)
theorem dX10_stepsOf_9 : decode cX10_stepsOf 9 = .ok (.aload_n 0, 1) := dk_42 (dk_at dksX10_stepsOf_0 9 rfl rfl)
theorem dX10_stepsOf_10 : decode cX10_stepsOf 10 = .ok (.getfield 9, 3) := dk_180 0 9 (dk_at dksX10_stepsOf_0 10 rfl rfl)
theorem dX10_stepsOf_13 : decode cX10_stepsOf 13 = .ok (.iconst 0, 1) := dk_3 (dk_at dksX10_stepsOf_0 13 rfl rfl)
theorem dX10_stepsOf_14 : decode cX10_stepsOf 14 = .ok (.iaload, 1) := dk_46 (dk_at dksX10_stepsOf_0 14 rfl rfl)
theorem dX10_stepsOf_15 : decode cX10_stepsOf 15 = .ok (.irem, 1) := dk_112 (dk_at dksX10_stepsOf_0 15 rfl rfl)
theorem dX10_stepsOf_16 : decode cX10_stepsOf 16 = .ok (.isub, 1) := dk_100 (dk_at dksX10_stepsOf_0 16 rfl rfl)
theorem dX10_stepsOf_17 : decode cX10_stepsOf 17 = .ok (.invokestatic 297, 3) := dk_184 1 41 (dk_at dksX10_stepsOf_0 17 rfl rfl)
theorem dX10_stepsOf_20 : decode cX10_stepsOf 20 = .ok (.iload_n 1, 1) := dk_27 (dk_at dksX10_stepsOf_0 20 rfl rfl)
theorem dX10_stepsOf_21 : decode cX10_stepsOf 21 = .ok (.aload_n 0, 1) := dk_42 (dk_at dksX10_stepsOf_0 21 rfl rfl)
theorem dX10_stepsOf_22 : decode cX10_stepsOf 22 = .ok (.getfield 9, 3) := dk_180 0 9 (dk_at dksX10_stepsOf_1 0 rfl rfl)
theorem dX10_stepsOf_25 : decode cX10_stepsOf 25 = .ok (.iconst 0, 1) := dk_3 (dk_at dksX10_stepsOf_1 3 rfl rfl)
theorem dX10_stepsOf_26 : decode cX10_stepsOf 26 = .ok (.iaload, 1) := dk_46 (dk_at dksX10_stepsOf_1 4 rfl rfl)
theorem dX10_stepsOf_27 : decode cX10_stepsOf 27 = .ok (.idiv, 1) := dk_108 (dk_at dksX10_stepsOf_1 5 rfl rfl)
theorem dX10_stepsOf_28 : decode cX10_stepsOf 28 = .ok (.iload_n 2, 1) := dk_28 (dk_at dksX10_stepsOf_1 6 rfl rfl)
theorem dX10_stepsOf_29 : decode cX10_stepsOf 29 = .ok (.aload_n 0, 1) := dk_42 (dk_at dksX10_stepsOf_1 7 rfl rfl)
theorem dX10_stepsOf_30 : decode cX10_stepsOf 30 = .ok (.getfield 9, 3) := dk_180 0 9 (dk_at dksX10_stepsOf_1 8 rfl rfl)
theorem dX10_stepsOf_33 : decode cX10_stepsOf 33 = .ok (.iconst 0, 1) := dk_3 (dk_at dksX10_stepsOf_1 11 rfl rfl)
theorem dX10_stepsOf_34 : decode cX10_stepsOf 34 = .ok (.iaload, 1) := dk_46 (dk_at dksX10_stepsOf_1 12 rfl rfl)
theorem dX10_stepsOf_35 : decode cX10_stepsOf 35 = .ok (.idiv, 1) := dk_108 (dk_at dksX10_stepsOf_1 13 rfl rfl)
theorem dX10_stepsOf_36 : decode cX10_stepsOf 36 = .ok (.isub, 1) := dk_100 (dk_at dksX10_stepsOf_1 14 rfl rfl)
theorem dX10_stepsOf_37 : decode cX10_stepsOf 37 = .ok (.invokestatic 297, 3) := dk_184 1 41 (dk_at dksX10_stepsOf_1 15 rfl rfl)
theorem dX10_stepsOf_40 : decode cX10_stepsOf 40 = .ok (.iadd, 1) := dk_96 (dk_at dksX10_stepsOf_1 18 rfl rfl)
theorem dX10_stepsOf_41 : decode cX10_stepsOf 41 = .ok (.ireturn, 1) := dk_172 (dk_at dksX10_stepsOf_1 19 rfl rfl)
abbrev cX10_pace : ByteArray := prog_16_method_58_code
def yX10_pace : MethodName := ⟨RX10, "pace", "(II)I"⟩
def dkwX10_pace_1 : List UInt8 := [167, 0, 5, 16, 254, 172]
abbrev dktX10_pace_1 : List UInt8 := dkwX10_pace_1 ++ []
def dkwX10_pace_0 : List UInt8 := [42, 27, 182, 1, 14, 153, 0, 21, 42, 28, 133, 182, 1, 22, 153, 0, 12, 42, 27, 28, 182, 1, 50]
abbrev dktX10_pace_0 : List UInt8 := dkwX10_pace_0 ++ dktX10_pace_1
theorem dksX10_pace_0 : cX10_pace.data.toList.drop 0 = dktX10_pace_0 := by decide +kernel
theorem dksX10_pace_1 : cX10_pace.data.toList.drop 23 = dktX10_pace_1 := dk_seg dksX10_pace_0 23 rfl rfl
theorem dX10_pace_0 : decode cX10_pace 0 = .ok (.aload_n 0, 1) := dk_42 (dk_at dksX10_pace_0 0 rfl rfl)
theorem dX10_pace_1 : decode cX10_pace 1 = .ok (.iload_n 1, 1) := dk_27 (dk_at dksX10_pace_0 1 rfl rfl)
theorem dX10_pace_2 : decode cX10_pace 2 = .ok (.invokevirtual 270, 3) := dk_182 1 14 (dk_at dksX10_pace_0 2 rfl rfl)
theorem dX10_pace_5 : decode cX10_pace 5 = .ok (.ifCond .eq 21, 3) := dk_153 0 21 (dk_at dksX10_pace_0 5 rfl rfl)
theorem dX10_pace_8 : decode cX10_pace 8 = .ok (.aload_n 0, 1) := dk_42 (dk_at dksX10_pace_0 8 rfl rfl)
theorem dX10_pace_9 : decode cX10_pace 9 = .ok (.iload_n 2, 1) := dk_28 (dk_at dksX10_pace_0 9 rfl rfl)
theorem dX10_pace_10 : decode cX10_pace 10 = .ok (.i2l, 1) := dk_133 (dk_at dksX10_pace_0 10 rfl rfl)
theorem dX10_pace_11 : decode cX10_pace 11 = .ok (.invokevirtual 278, 3) := dk_182 1 22 (dk_at dksX10_pace_0 11 rfl rfl)
theorem dX10_pace_14 : decode cX10_pace 14 = .ok (.ifCond .eq 12, 3) := dk_153 0 12 (dk_at dksX10_pace_0 14 rfl rfl)
theorem dX10_pace_17 : decode cX10_pace 17 = .ok (.aload_n 0, 1) := dk_42 (dk_at dksX10_pace_0 17 rfl rfl)
theorem dX10_pace_18 : decode cX10_pace 18 = .ok (.iload_n 1, 1) := dk_27 (dk_at dksX10_pace_0 18 rfl rfl)
theorem dX10_pace_19 : decode cX10_pace 19 = .ok (.iload_n 2, 1) := dk_28 (dk_at dksX10_pace_0 19 rfl rfl)
theorem dX10_pace_20 : decode cX10_pace 20 = .ok (.invokevirtual 306, 3) := dk_182 1 50 (dk_at dksX10_pace_0 20 rfl rfl)
theorem dX10_pace_23 : decode cX10_pace 23 = .ok (.goto 5, 3) := dk_167 0 5 (dk_at dksX10_pace_1 0 rfl rfl)
theorem dX10_pace_26 : decode cX10_pace 26 = .ok (.bipush (-2), 2) := dk_16 254 (dk_at dksX10_pace_1 3 rfl rfl)
theorem dX10_pace_28 : decode cX10_pace 28 = .ok (.ireturn, 1) := dk_172 (dk_at dksX10_pace_1 5 rfl rfl)
abbrev cX10_paceIn : ByteArray := prog_16_method_57_code
def yX10_paceIn : MethodName := ⟨RX10, "paceIn", "(II)I"⟩
def dkwX10_paceIn_1 : List UInt8 := [182, 1, 19, 108, 96, 172]
abbrev dktX10_paceIn_1 : List UInt8 := dkwX10_paceIn_1 ++ []
def dkwX10_paceIn_0 : List UInt8 := [42, 27, 3, 182, 1, 19, 42, 27, 5, 182, 1, 19, 154, 0, 7, 3, 167, 0, 11, 28, 42, 27, 5]
abbrev dktX10_paceIn_0 : List UInt8 := dkwX10_paceIn_0 ++ dktX10_paceIn_1
theorem dksX10_paceIn_0 : cX10_paceIn.data.toList.drop 0 = dktX10_paceIn_0 := by decide +kernel
theorem dksX10_paceIn_1 : cX10_paceIn.data.toList.drop 23 = dktX10_paceIn_1 := dk_seg dksX10_paceIn_0 23 rfl rfl
theorem dX10_paceIn_0 : decode cX10_paceIn 0 = .ok (.aload_n 0, 1) := dk_42 (dk_at dksX10_paceIn_0 0 rfl rfl)
theorem dX10_paceIn_1 : decode cX10_paceIn 1 = .ok (.iload_n 1, 1) := dk_27 (dk_at dksX10_paceIn_0 1 rfl rfl)
theorem dX10_paceIn_2 : decode cX10_paceIn 2 = .ok (.iconst 0, 1) := dk_3 (dk_at dksX10_paceIn_0 2 rfl rfl)
theorem dX10_paceIn_3 : decode cX10_paceIn 3 = .ok (.invokevirtual 275, 3) := dk_182 1 19 (dk_at dksX10_paceIn_0 3 rfl rfl)
theorem dX10_paceIn_6 : decode cX10_paceIn 6 = .ok (.aload_n 0, 1) := dk_42 (dk_at dksX10_paceIn_0 6 rfl rfl)
theorem dX10_paceIn_7 : decode cX10_paceIn 7 = .ok (.iload_n 1, 1) := dk_27 (dk_at dksX10_paceIn_0 7 rfl rfl)
theorem dX10_paceIn_8 : decode cX10_paceIn 8 = .ok (.iconst 2, 1) := dk_5 (dk_at dksX10_paceIn_0 8 rfl rfl)
theorem dX10_paceIn_9 : decode cX10_paceIn 9 = .ok (.invokevirtual 275, 3) := dk_182 1 19 (dk_at dksX10_paceIn_0 9 rfl rfl)
theorem dX10_paceIn_12 : decode cX10_paceIn 12 = .ok (.ifCond .ne 7, 3) := dk_154 0 7 (dk_at dksX10_paceIn_0 12 rfl rfl)
theorem dX10_paceIn_15 : decode cX10_paceIn 15 = .ok (.iconst 0, 1) := dk_3 (dk_at dksX10_paceIn_0 15 rfl rfl)
theorem dX10_paceIn_16 : decode cX10_paceIn 16 = .ok (.goto 11, 3) := dk_167 0 11 (dk_at dksX10_paceIn_0 16 rfl rfl)
theorem dX10_paceIn_19 : decode cX10_paceIn 19 = .ok (.iload_n 2, 1) := dk_28 (dk_at dksX10_paceIn_0 19 rfl rfl)
theorem dX10_paceIn_20 : decode cX10_paceIn 20 = .ok (.aload_n 0, 1) := dk_42 (dk_at dksX10_paceIn_0 20 rfl rfl)
theorem dX10_paceIn_21 : decode cX10_paceIn 21 = .ok (.iload_n 1, 1) := dk_27 (dk_at dksX10_paceIn_0 21 rfl rfl)
theorem dX10_paceIn_22 : decode cX10_paceIn 22 = .ok (.iconst 2, 1) := dk_5 (dk_at dksX10_paceIn_0 22 rfl rfl)
theorem dX10_paceIn_23 : decode cX10_paceIn 23 = .ok (.invokevirtual 275, 3) := dk_182 1 19 (dk_at dksX10_paceIn_1 0 rfl rfl)
theorem dX10_paceIn_26 : decode cX10_paceIn 26 = .ok (.idiv, 1) := dk_108 (dk_at dksX10_paceIn_1 3 rfl rfl)
theorem dX10_paceIn_27 : decode cX10_paceIn 27 = .ok (.iadd, 1) := dk_96 (dk_at dksX10_paceIn_1 4 rfl rfl)
theorem dX10_paceIn_28 : decode cX10_paceIn 28 = .ok (.ireturn, 1) := dk_172 (dk_at dksX10_paceIn_1 5 rfl rfl)
abbrev cX10_aware : ByteArray := prog_16_method_61_code
def yX10_aware : MethodName := ⟨RX10, "aware", "(II)I"⟩
def dkwX10_aware_1 : List UInt8 := [182, 1, 32, 153, 0, 11, 42, 28, 182, 1, 75, 167, 0, 4, 2, 172]
abbrev dktX10_aware_1 : List UInt8 := dkwX10_aware_1 ++ []
def dkwX10_aware_0 : List UInt8 := [42, 27, 182, 1, 14, 154, 0, 6, 16, 254, 172, 42, 182, 1, 29, 42, 27, 182, 1, 72, 42, 28]
abbrev dktX10_aware_0 : List UInt8 := dkwX10_aware_0 ++ dktX10_aware_1
theorem dksX10_aware_0 : cX10_aware.data.toList.drop 0 = dktX10_aware_0 := by decide +kernel
theorem dksX10_aware_1 : cX10_aware.data.toList.drop 22 = dktX10_aware_1 := dk_seg dksX10_aware_0 22 rfl rfl
theorem dX10_aware_0 : decode cX10_aware 0 = .ok (.aload_n 0, 1) := dk_42 (dk_at dksX10_aware_0 0 rfl rfl)
theorem dX10_aware_1 : decode cX10_aware 1 = .ok (.iload_n 1, 1) := dk_27 (dk_at dksX10_aware_0 1 rfl rfl)
theorem dX10_aware_2 : decode cX10_aware 2 = .ok (.invokevirtual 270, 3) := dk_182 1 14 (dk_at dksX10_aware_0 2 rfl rfl)
theorem dX10_aware_5 : decode cX10_aware 5 = .ok (.ifCond .ne 6, 3) := dk_154 0 6 (dk_at dksX10_aware_0 5 rfl rfl)
theorem dX10_aware_8 : decode cX10_aware 8 = .ok (.bipush (-2), 2) := dk_16 254 (dk_at dksX10_aware_0 8 rfl rfl)
theorem dX10_aware_10 : decode cX10_aware 10 = .ok (.ireturn, 1) := dk_172 (dk_at dksX10_aware_0 10 rfl rfl)
theorem dX10_aware_11 : decode cX10_aware 11 = .ok (.aload_n 0, 1) := dk_42 (dk_at dksX10_aware_0 11 rfl rfl)
theorem dX10_aware_12 : decode cX10_aware 12 = .ok (.invokevirtual 285, 3) := dk_182 1 29 (dk_at dksX10_aware_0 12 rfl rfl)
theorem dX10_aware_15 : decode cX10_aware 15 = .ok (.aload_n 0, 1) := dk_42 (dk_at dksX10_aware_0 15 rfl rfl)
theorem dX10_aware_16 : decode cX10_aware 16 = .ok (.iload_n 1, 1) := dk_27 (dk_at dksX10_aware_0 16 rfl rfl)
theorem dX10_aware_17 : decode cX10_aware 17 = .ok (.invokevirtual 328, 3) := dk_182 1 72 (dk_at dksX10_aware_0 17 rfl rfl)
theorem dX10_aware_20 : decode cX10_aware 20 = .ok (.aload_n 0, 1) := dk_42 (dk_at dksX10_aware_0 20 rfl rfl)
theorem dX10_aware_21 : decode cX10_aware 21 = .ok (.iload_n 2, 1) := dk_28 (dk_at dksX10_aware_0 21 rfl rfl)
theorem dX10_aware_22 : decode cX10_aware 22 = .ok (.invokevirtual 288, 3) := dk_182 1 32 (dk_at dksX10_aware_1 0 rfl rfl)
theorem dX10_aware_25 : decode cX10_aware 25 = .ok (.ifCond .eq 11, 3) := dk_153 0 11 (dk_at dksX10_aware_1 3 rfl rfl)
theorem dX10_aware_28 : decode cX10_aware 28 = .ok (.aload_n 0, 1) := dk_42 (dk_at dksX10_aware_1 6 rfl rfl)
theorem dX10_aware_29 : decode cX10_aware 29 = .ok (.iload_n 2, 1) := dk_28 (dk_at dksX10_aware_1 7 rfl rfl)
theorem dX10_aware_30 : decode cX10_aware 30 = .ok (.invokevirtual 331, 3) := dk_182 1 75 (dk_at dksX10_aware_1 8 rfl rfl)
theorem dX10_aware_33 : decode cX10_aware 33 = .ok (.goto 4, 3) := dk_167 0 4 (dk_at dksX10_aware_1 11 rfl rfl)
theorem dX10_aware_36 : decode cX10_aware 36 = .ok (.iconst (-1), 1) := dk_2 (dk_at dksX10_aware_1 14 rfl rfl)
theorem dX10_aware_37 : decode cX10_aware 37 = .ok (.ireturn, 1) := dk_172 (dk_at dksX10_aware_1 15 rfl rfl)
abbrev cX10_asTold : ByteArray := prog_16_method_59_code
def yX10_asTold : MethodName := ⟨RX10, "asTold", "(I)V"⟩
def dkwX10_asTold_2 : List UInt8 := [181, 1, 68, 177]
abbrev dktX10_asTold_2 : List UInt8 := dkwX10_asTold_2 ++ []
def dkwX10_asTold_1 : List UInt8 := [181, 1, 59, 42, 42, 27, 7, 182, 1, 19, 181, 1, 62, 42, 17, 15, 255, 181, 1, 65, 42, 3]
abbrev dktX10_asTold_1 : List UInt8 := dkwX10_asTold_1 ++ dktX10_asTold_2
def dkwX10_asTold_0 : List UInt8 := [42, 27, 181, 1, 53, 42, 42, 27, 4, 182, 1, 19, 181, 1, 56, 42, 42, 27, 6, 182, 1, 19]
abbrev dktX10_asTold_0 : List UInt8 := dkwX10_asTold_0 ++ dktX10_asTold_1
theorem dksX10_asTold_0 : cX10_asTold.data.toList.drop 0 = dktX10_asTold_0 := by decide +kernel
theorem dksX10_asTold_1 : cX10_asTold.data.toList.drop 22 = dktX10_asTold_1 := dk_seg dksX10_asTold_0 22 rfl rfl
theorem dksX10_asTold_2 : cX10_asTold.data.toList.drop 44 = dktX10_asTold_2 := dk_seg dksX10_asTold_1 22 rfl rfl
theorem dX10_asTold_0 : decode cX10_asTold 0 = .ok (.aload_n 0, 1) := dk_42 (dk_at dksX10_asTold_0 0 rfl rfl)
theorem dX10_asTold_1 : decode cX10_asTold 1 = .ok (.iload_n 1, 1) := dk_27 (dk_at dksX10_asTold_0 1 rfl rfl)
theorem dX10_asTold_2 : decode cX10_asTold 2 = .ok (.putfield 309, 3) := dk_181 1 53 (dk_at dksX10_asTold_0 2 rfl rfl)
theorem dX10_asTold_5 : decode cX10_asTold 5 = .ok (.aload_n 0, 1) := dk_42 (dk_at dksX10_asTold_0 5 rfl rfl)
theorem dX10_asTold_6 : decode cX10_asTold 6 = .ok (.aload_n 0, 1) := dk_42 (dk_at dksX10_asTold_0 6 rfl rfl)
theorem dX10_asTold_7 : decode cX10_asTold 7 = .ok (.iload_n 1, 1) := dk_27 (dk_at dksX10_asTold_0 7 rfl rfl)
theorem dX10_asTold_8 : decode cX10_asTold 8 = .ok (.iconst 1, 1) := dk_4 (dk_at dksX10_asTold_0 8 rfl rfl)
theorem dX10_asTold_9 : decode cX10_asTold 9 = .ok (.invokevirtual 275, 3) := dk_182 1 19 (dk_at dksX10_asTold_0 9 rfl rfl)
theorem dX10_asTold_12 : decode cX10_asTold 12 = .ok (.putfield 312, 3) := dk_181 1 56 (dk_at dksX10_asTold_0 12 rfl rfl)
theorem dX10_asTold_15 : decode cX10_asTold 15 = .ok (.aload_n 0, 1) := dk_42 (dk_at dksX10_asTold_0 15 rfl rfl)
theorem dX10_asTold_16 : decode cX10_asTold 16 = .ok (.aload_n 0, 1) := dk_42 (dk_at dksX10_asTold_0 16 rfl rfl)
theorem dX10_asTold_17 : decode cX10_asTold 17 = .ok (.iload_n 1, 1) := dk_27 (dk_at dksX10_asTold_0 17 rfl rfl)
theorem dX10_asTold_18 : decode cX10_asTold 18 = .ok (.iconst 3, 1) := dk_6 (dk_at dksX10_asTold_0 18 rfl rfl)
theorem dX10_asTold_19 : decode cX10_asTold 19 = .ok (.invokevirtual 275, 3) := dk_182 1 19 (dk_at dksX10_asTold_0 19 rfl rfl)
theorem dX10_asTold_22 : decode cX10_asTold 22 = .ok (.putfield 315, 3) := dk_181 1 59 (dk_at dksX10_asTold_1 0 rfl rfl)
theorem dX10_asTold_25 : decode cX10_asTold 25 = .ok (.aload_n 0, 1) := dk_42 (dk_at dksX10_asTold_1 3 rfl rfl)
theorem dX10_asTold_26 : decode cX10_asTold 26 = .ok (.aload_n 0, 1) := dk_42 (dk_at dksX10_asTold_1 4 rfl rfl)
theorem dX10_asTold_27 : decode cX10_asTold 27 = .ok (.iload_n 1, 1) := dk_27 (dk_at dksX10_asTold_1 5 rfl rfl)
theorem dX10_asTold_28 : decode cX10_asTold 28 = .ok (.iconst 4, 1) := dk_7 (dk_at dksX10_asTold_1 6 rfl rfl)
theorem dX10_asTold_29 : decode cX10_asTold 29 = .ok (.invokevirtual 275, 3) := dk_182 1 19 (dk_at dksX10_asTold_1 7 rfl rfl)
theorem dX10_asTold_32 : decode cX10_asTold 32 = .ok (.putfield 318, 3) := dk_181 1 62 (dk_at dksX10_asTold_1 10 rfl rfl)
theorem dX10_asTold_35 : decode cX10_asTold 35 = .ok (.aload_n 0, 1) := dk_42 (dk_at dksX10_asTold_1 13 rfl rfl)
theorem dX10_asTold_36 : decode cX10_asTold 36 = .ok (.sipush 4095, 3) := dk_17 15 255 (dk_at dksX10_asTold_1 14 rfl rfl)
theorem dX10_asTold_39 : decode cX10_asTold 39 = .ok (.putfield 321, 3) := dk_181 1 65 (dk_at dksX10_asTold_1 17 rfl rfl)
theorem dX10_asTold_42 : decode cX10_asTold 42 = .ok (.aload_n 0, 1) := dk_42 (dk_at dksX10_asTold_1 20 rfl rfl)
theorem dX10_asTold_43 : decode cX10_asTold 43 = .ok (.iconst 0, 1) := dk_3 (dk_at dksX10_asTold_1 21 rfl rfl)
theorem dX10_asTold_44 : decode cX10_asTold 44 = .ok (.putfield 324, 3) := dk_181 1 68 (dk_at dksX10_asTold_2 0 rfl rfl)
theorem dX10_asTold_47 : decode cX10_asTold 47 = .ok (.return_, 1) := dk_177 (dk_at dksX10_asTold_2 3 rfl rfl)
abbrev cX10_awareOf : ByteArray := prog_16_method_60_code
def yX10_awareOf : MethodName := ⟨RX10, "awareOf", "(I)I"⟩
def dkwX10_awareOf_2 : List UInt8 := [172]
abbrev dktX10_awareOf_2 : List UInt8 := dkwX10_awareOf_2 ++ []
def dkwX10_awareOf_1 : List UInt8 := [180, 1, 59, 162, 0, 7, 3, 167, 0, 14, 42, 180, 0, 37, 27, 42, 180, 1, 59, 100, 46, 184, 0, 127]
abbrev dktX10_awareOf_1 : List UInt8 := dkwX10_awareOf_1 ++ dktX10_awareOf_2
def dkwX10_awareOf_0 : List UInt8 := [42, 180, 0, 37, 27, 46, 42, 180, 1, 56, 96, 61, 42, 180, 1, 59, 154, 0, 5, 28, 172, 28, 27, 42]
abbrev dktX10_awareOf_0 : List UInt8 := dkwX10_awareOf_0 ++ dktX10_awareOf_1
theorem dksX10_awareOf_0 : cX10_awareOf.data.toList.drop 0 = dktX10_awareOf_0 := by decide +kernel
theorem dksX10_awareOf_1 : cX10_awareOf.data.toList.drop 24 = dktX10_awareOf_1 := dk_seg dksX10_awareOf_0 24 rfl rfl
theorem dksX10_awareOf_2 : cX10_awareOf.data.toList.drop 48 = dktX10_awareOf_2 := dk_seg dksX10_awareOf_1 24 rfl rfl
theorem dX10_awareOf_0 : decode cX10_awareOf 0 = .ok (.aload_n 0, 1) := dk_42 (dk_at dksX10_awareOf_0 0 rfl rfl)
theorem dX10_awareOf_1 : decode cX10_awareOf 1 = .ok (.getfield 37, 3) := dk_180 0 37 (dk_at dksX10_awareOf_0 1 rfl rfl)
theorem dX10_awareOf_4 : decode cX10_awareOf 4 = .ok (.iload_n 1, 1) := dk_27 (dk_at dksX10_awareOf_0 4 rfl rfl)
theorem dX10_awareOf_5 : decode cX10_awareOf 5 = .ok (.iaload, 1) := dk_46 (dk_at dksX10_awareOf_0 5 rfl rfl)
theorem dX10_awareOf_6 : decode cX10_awareOf 6 = .ok (.aload_n 0, 1) := dk_42 (dk_at dksX10_awareOf_0 6 rfl rfl)
theorem dX10_awareOf_7 : decode cX10_awareOf 7 = .ok (.getfield 312, 3) := dk_180 1 56 (dk_at dksX10_awareOf_0 7 rfl rfl)
theorem dX10_awareOf_10 : decode cX10_awareOf 10 = .ok (.iadd, 1) := dk_96 (dk_at dksX10_awareOf_0 10 rfl rfl)
theorem dX10_awareOf_11 : decode cX10_awareOf 11 = .ok (.istore_n 2, 1) := dk_61 (dk_at dksX10_awareOf_0 11 rfl rfl)
theorem dX10_awareOf_12 : decode cX10_awareOf 12 = .ok (.aload_n 0, 1) := dk_42 (dk_at dksX10_awareOf_0 12 rfl rfl)
theorem dX10_awareOf_13 : decode cX10_awareOf 13 = .ok (.getfield 315, 3) := dk_180 1 59 (dk_at dksX10_awareOf_0 13 rfl rfl)
theorem dX10_awareOf_16 : decode cX10_awareOf 16 = .ok (.ifCond .ne 5, 3) := dk_154 0 5 (dk_at dksX10_awareOf_0 16 rfl rfl)
theorem dX10_awareOf_19 : decode cX10_awareOf 19 = .ok (.iload_n 2, 1) := dk_28 (dk_at dksX10_awareOf_0 19 rfl rfl)
theorem dX10_awareOf_20 : decode cX10_awareOf 20 = .ok (.ireturn, 1) := dk_172 (dk_at dksX10_awareOf_0 20 rfl rfl)
theorem dX10_awareOf_21 : decode cX10_awareOf 21 = .ok (.iload_n 2, 1) := dk_28 (dk_at dksX10_awareOf_0 21 rfl rfl)
theorem dX10_awareOf_22 : decode cX10_awareOf 22 = .ok (.iload_n 1, 1) := dk_27 (dk_at dksX10_awareOf_0 22 rfl rfl)
theorem dX10_awareOf_23 : decode cX10_awareOf 23 = .ok (.aload_n 0, 1) := dk_42 (dk_at dksX10_awareOf_0 23 rfl rfl)
theorem dX10_awareOf_24 : decode cX10_awareOf 24 = .ok (.getfield 315, 3) := dk_180 1 59 (dk_at dksX10_awareOf_1 0 rfl rfl)
theorem dX10_awareOf_27 : decode cX10_awareOf 27 = .ok (.if_icmp .ge 7, 3) := dk_162 0 7 (dk_at dksX10_awareOf_1 3 rfl rfl)
theorem dX10_awareOf_30 : decode cX10_awareOf 30 = .ok (.iconst 0, 1) := dk_3 (dk_at dksX10_awareOf_1 6 rfl rfl)
theorem dX10_awareOf_31 : decode cX10_awareOf 31 = .ok (.goto 14, 3) := dk_167 0 14 (dk_at dksX10_awareOf_1 7 rfl rfl)
theorem dX10_awareOf_34 : decode cX10_awareOf 34 = .ok (.aload_n 0, 1) := dk_42 (dk_at dksX10_awareOf_1 10 rfl rfl)
theorem dX10_awareOf_35 : decode cX10_awareOf 35 = .ok (.getfield 37, 3) := dk_180 0 37 (dk_at dksX10_awareOf_1 11 rfl rfl)
theorem dX10_awareOf_38 : decode cX10_awareOf 38 = .ok (.iload_n 1, 1) := dk_27 (dk_at dksX10_awareOf_1 14 rfl rfl)
theorem dX10_awareOf_39 : decode cX10_awareOf 39 = .ok (.aload_n 0, 1) := dk_42 (dk_at dksX10_awareOf_1 15 rfl rfl)
theorem dX10_awareOf_40 : decode cX10_awareOf 40 = .ok (.getfield 315, 3) := dk_180 1 59 (dk_at dksX10_awareOf_1 16 rfl rfl)
theorem dX10_awareOf_43 : decode cX10_awareOf 43 = .ok (.isub, 1) := dk_100 (dk_at dksX10_awareOf_1 19 rfl rfl)
theorem dX10_awareOf_44 : decode cX10_awareOf 44 = .ok (.iaload, 1) := dk_46 (dk_at dksX10_awareOf_1 20 rfl rfl)
theorem dX10_awareOf_45 : decode cX10_awareOf 45 = .ok (.invokestatic 127, 3) := dk_184 0 127 (dk_at dksX10_awareOf_1 21 rfl rfl)
theorem dX10_awareOf_48 : decode cX10_awareOf 48 = .ok (.ireturn, 1) := dk_172 (dk_at dksX10_awareOf_2 0 rfl rfl)
abbrev cX10_hits : ByteArray := prog_16_method_67_code
def yX10_hits : MethodName := ⟨RX10, "hits", "(I)I"⟩
def dkwX10_hits_0 : List UInt8 := [42, 27, 182, 1, 14, 154, 0, 6, 16, 254, 172, 42, 27, 182, 1, 109, 42, 180, 1, 90, 172]
abbrev dktX10_hits_0 : List UInt8 := dkwX10_hits_0 ++ []
theorem dksX10_hits_0 : cX10_hits.data.toList.drop 0 = dktX10_hits_0 := by decide +kernel
theorem dX10_hits_0 : decode cX10_hits 0 = .ok (.aload_n 0, 1) := dk_42 (dk_at dksX10_hits_0 0 rfl rfl)
theorem dX10_hits_1 : decode cX10_hits 1 = .ok (.iload_n 1, 1) := dk_27 (dk_at dksX10_hits_0 1 rfl rfl)
theorem dX10_hits_2 : decode cX10_hits 2 = .ok (.invokevirtual 270, 3) := dk_182 1 14 (dk_at dksX10_hits_0 2 rfl rfl)
theorem dX10_hits_5 : decode cX10_hits 5 = .ok (.ifCond .ne 6, 3) := dk_154 0 6 (dk_at dksX10_hits_0 5 rfl rfl)
theorem dX10_hits_8 : decode cX10_hits 8 = .ok (.bipush (-2), 2) := dk_16 254 (dk_at dksX10_hits_0 8 rfl rfl)
theorem dX10_hits_10 : decode cX10_hits 10 = .ok (.ireturn, 1) := dk_172 (dk_at dksX10_hits_0 10 rfl rfl)
theorem dX10_hits_11 : decode cX10_hits 11 = .ok (.aload_n 0, 1) := dk_42 (dk_at dksX10_hits_0 11 rfl rfl)
theorem dX10_hits_12 : decode cX10_hits 12 = .ok (.iload_n 1, 1) := dk_27 (dk_at dksX10_hits_0 12 rfl rfl)
theorem dX10_hits_13 : decode cX10_hits 13 = .ok (.invokevirtual 365, 3) := dk_182 1 109 (dk_at dksX10_hits_0 13 rfl rfl)
theorem dX10_hits_16 : decode cX10_hits 16 = .ok (.aload_n 0, 1) := dk_42 (dk_at dksX10_hits_0 16 rfl rfl)
theorem dX10_hits_17 : decode cX10_hits 17 = .ok (.getfield 346, 3) := dk_180 1 90 (dk_at dksX10_hits_0 17 rfl rfl)
theorem dX10_hits_20 : decode cX10_hits 20 = .ok (.ireturn, 1) := dk_172 (dk_at dksX10_hits_0 20 rfl rfl)
abbrev cX10_runAsTold : ByteArray := prog_16_method_66_code
def yX10_runAsTold : MethodName := ⟨RX10, "runAsTold", "(I)V"⟩
def dkwX10_runAsTold_0 : List UInt8 := [42, 182, 1, 29, 42, 27, 182, 1, 72, 42, 182, 1, 106, 177]
abbrev dktX10_runAsTold_0 : List UInt8 := dkwX10_runAsTold_0 ++ []
theorem dksX10_runAsTold_0 : cX10_runAsTold.data.toList.drop 0 = dktX10_runAsTold_0 := by decide +kernel
theorem dX10_runAsTold_0 : decode cX10_runAsTold 0 = .ok (.aload_n 0, 1) := dk_42 (dk_at dksX10_runAsTold_0 0 rfl rfl)
theorem dX10_runAsTold_1 : decode cX10_runAsTold 1 = .ok (.invokevirtual 285, 3) := dk_182 1 29 (dk_at dksX10_runAsTold_0 1 rfl rfl)
theorem dX10_runAsTold_4 : decode cX10_runAsTold 4 = .ok (.aload_n 0, 1) := dk_42 (dk_at dksX10_runAsTold_0 4 rfl rfl)
theorem dX10_runAsTold_5 : decode cX10_runAsTold 5 = .ok (.iload_n 1, 1) := dk_27 (dk_at dksX10_runAsTold_0 5 rfl rfl)
theorem dX10_runAsTold_6 : decode cX10_runAsTold 6 = .ok (.invokevirtual 328, 3) := dk_182 1 72 (dk_at dksX10_runAsTold_0 6 rfl rfl)
theorem dX10_runAsTold_9 : decode cX10_runAsTold 9 = .ok (.aload_n 0, 1) := dk_42 (dk_at dksX10_runAsTold_0 9 rfl rfl)
theorem dX10_runAsTold_10 : decode cX10_runAsTold 10 = .ok (.invokevirtual 362, 3) := dk_182 1 106 (dk_at dksX10_runAsTold_0 10 rfl rfl)
theorem dX10_runAsTold_13 : decode cX10_runAsTold 13 = .ok (.return_, 1) := dk_177 (dk_at dksX10_runAsTold_0 13 rfl rfl)
abbrev cX10_run : ByteArray := prog_16_method_65_code
def yX10_run : MethodName := ⟨RX10, "run", "()V"⟩
def dkwX10_run_3 : List UInt8 := [182, 1, 103, 132, 1, 1, 167, 255, 210, 177]
abbrev dktX10_run_3 : List UInt8 := dkwX10_run_3 ++ []
def dkwX10_run_2 : List UInt8 := [180, 0, 46, 27, 2, 79, 42, 27, 5, 182, 1, 35, 153, 0, 10, 42, 180, 1, 68, 153, 0, 8, 42, 27]
abbrev dktX10_run_2 : List UInt8 := dkwX10_run_2 ++ dktX10_run_3
def dkwX10_run_1 : List UInt8 := [180, 1, 62, 181, 1, 84, 3, 60, 27, 42, 180, 0, 248, 162, 0, 44, 42, 180, 0, 43, 27, 3, 79, 42]
abbrev dktX10_run_1 : List UInt8 := dkwX10_run_1 ++ dktX10_run_2
def dkwX10_run_0 : List UInt8 := [42, 3, 181, 1, 90, 42, 3, 181, 1, 93, 42, 3, 181, 1, 87, 42, 3, 181, 1, 78, 42, 42]
abbrev dktX10_run_0 : List UInt8 := dkwX10_run_0 ++ dktX10_run_1
theorem dksX10_run_0 : cX10_run.data.toList.drop 0 = dktX10_run_0 := by decide +kernel
theorem dksX10_run_1 : cX10_run.data.toList.drop 22 = dktX10_run_1 := dk_seg dksX10_run_0 22 rfl rfl
theorem dksX10_run_2 : cX10_run.data.toList.drop 46 = dktX10_run_2 := dk_seg dksX10_run_1 24 rfl rfl
theorem dksX10_run_3 : cX10_run.data.toList.drop 70 = dktX10_run_3 := dk_seg dksX10_run_2 24 rfl rfl
theorem dX10_run_0 : decode cX10_run 0 = .ok (.aload_n 0, 1) := dk_42 (dk_at dksX10_run_0 0 rfl rfl)
theorem dX10_run_1 : decode cX10_run 1 = .ok (.iconst 0, 1) := dk_3 (dk_at dksX10_run_0 1 rfl rfl)
theorem dX10_run_2 : decode cX10_run 2 = .ok (.putfield 346, 3) := dk_181 1 90 (dk_at dksX10_run_0 2 rfl rfl)
theorem dX10_run_5 : decode cX10_run 5 = .ok (.aload_n 0, 1) := dk_42 (dk_at dksX10_run_0 5 rfl rfl)
theorem dX10_run_6 : decode cX10_run 6 = .ok (.iconst 0, 1) := dk_3 (dk_at dksX10_run_0 6 rfl rfl)
theorem dX10_run_7 : decode cX10_run 7 = .ok (.putfield 349, 3) := dk_181 1 93 (dk_at dksX10_run_0 7 rfl rfl)
theorem dX10_run_10 : decode cX10_run 10 = .ok (.aload_n 0, 1) := dk_42 (dk_at dksX10_run_0 10 rfl rfl)
theorem dX10_run_11 : decode cX10_run 11 = .ok (.iconst 0, 1) := dk_3 (dk_at dksX10_run_0 11 rfl rfl)
theorem dX10_run_12 : decode cX10_run 12 = .ok (.putfield 343, 3) := dk_181 1 87 (dk_at dksX10_run_0 12 rfl rfl)
theorem dX10_run_15 : decode cX10_run 15 = .ok (.aload_n 0, 1) := dk_42 (dk_at dksX10_run_0 15 rfl rfl)
theorem dX10_run_16 : decode cX10_run 16 = .ok (.iconst 0, 1) := dk_3 (dk_at dksX10_run_0 16 rfl rfl)
theorem dX10_run_17 : decode cX10_run 17 = .ok (.putfield 334, 3) := dk_181 1 78 (dk_at dksX10_run_0 17 rfl rfl)
theorem dX10_run_20 : decode cX10_run 20 = .ok (.aload_n 0, 1) := dk_42 (dk_at dksX10_run_0 20 rfl rfl)
theorem dX10_run_21 : decode cX10_run 21 = .ok (.aload_n 0, 1) := dk_42 (dk_at dksX10_run_0 21 rfl rfl)
theorem dX10_run_22 : decode cX10_run 22 = .ok (.getfield 318, 3) := dk_180 1 62 (dk_at dksX10_run_1 0 rfl rfl)
theorem dX10_run_25 : decode cX10_run 25 = .ok (.putfield 340, 3) := dk_181 1 84 (dk_at dksX10_run_1 3 rfl rfl)
theorem dX10_run_28 : decode cX10_run 28 = .ok (.iconst 0, 1) := dk_3 (dk_at dksX10_run_1 6 rfl rfl)
theorem dX10_run_29 : decode cX10_run 29 = .ok (.istore_n 1, 1) := dk_60 (dk_at dksX10_run_1 7 rfl rfl)
theorem dX10_run_30 : decode cX10_run 30 = .ok (.iload_n 1, 1) := dk_27 (dk_at dksX10_run_1 8 rfl rfl)
theorem dX10_run_31 : decode cX10_run 31 = .ok (.aload_n 0, 1) := dk_42 (dk_at dksX10_run_1 9 rfl rfl)
theorem dX10_run_32 : decode cX10_run 32 = .ok (.getfield 248, 3) := dk_180 0 248 (dk_at dksX10_run_1 10 rfl rfl)
theorem dX10_run_35 : decode cX10_run 35 = .ok (.if_icmp .ge 44, 3) := dk_162 0 44 (dk_at dksX10_run_1 13 rfl rfl)
theorem dX10_run_38 : decode cX10_run 38 = .ok (.aload_n 0, 1) := dk_42 (dk_at dksX10_run_1 16 rfl rfl)
theorem dX10_run_39 : decode cX10_run 39 = .ok (.getfield 43, 3) := dk_180 0 43 (dk_at dksX10_run_1 17 rfl rfl)
theorem dX10_run_42 : decode cX10_run 42 = .ok (.iload_n 1, 1) := dk_27 (dk_at dksX10_run_1 20 rfl rfl)
theorem dX10_run_43 : decode cX10_run 43 = .ok (.iconst 0, 1) := dk_3 (dk_at dksX10_run_1 21 rfl rfl)
theorem dX10_run_44 : decode cX10_run 44 = .ok (.iastore, 1) := dk_79 (dk_at dksX10_run_1 22 rfl rfl)
theorem dX10_run_45 : decode cX10_run 45 = .ok (.aload_n 0, 1) := dk_42 (dk_at dksX10_run_1 23 rfl rfl)
theorem dX10_run_46 : decode cX10_run 46 = .ok (.getfield 46, 3) := dk_180 0 46 (dk_at dksX10_run_2 0 rfl rfl)
theorem dX10_run_49 : decode cX10_run 49 = .ok (.iload_n 1, 1) := dk_27 (dk_at dksX10_run_2 3 rfl rfl)
theorem dX10_run_50 : decode cX10_run 50 = .ok (.iconst (-1), 1) := dk_2 (dk_at dksX10_run_2 4 rfl rfl)
theorem dX10_run_51 : decode cX10_run 51 = .ok (.iastore, 1) := dk_79 (dk_at dksX10_run_2 5 rfl rfl)
theorem dX10_run_52 : decode cX10_run 52 = .ok (.aload_n 0, 1) := dk_42 (dk_at dksX10_run_2 6 rfl rfl)
theorem dX10_run_53 : decode cX10_run 53 = .ok (.iload_n 1, 1) := dk_27 (dk_at dksX10_run_2 7 rfl rfl)
theorem dX10_run_54 : decode cX10_run 54 = .ok (.iconst 2, 1) := dk_5 (dk_at dksX10_run_2 8 rfl rfl)
theorem dX10_run_55 : decode cX10_run 55 = .ok (.invokevirtual 291, 3) := dk_182 1 35 (dk_at dksX10_run_2 9 rfl rfl)
theorem dX10_run_58 : decode cX10_run 58 = .ok (.ifCond .eq 10, 3) := dk_153 0 10 (dk_at dksX10_run_2 12 rfl rfl)
theorem dX10_run_61 : decode cX10_run 61 = .ok (.aload_n 0, 1) := dk_42 (dk_at dksX10_run_2 15 rfl rfl)
theorem dX10_run_62 : decode cX10_run 62 = .ok (.getfield 324, 3) := dk_180 1 68 (dk_at dksX10_run_2 16 rfl rfl)
theorem dX10_run_65 : decode cX10_run 65 = .ok (.ifCond .eq 8, 3) := dk_153 0 8 (dk_at dksX10_run_2 19 rfl rfl)
theorem dX10_run_68 : decode cX10_run 68 = .ok (.aload_n 0, 1) := dk_42 (dk_at dksX10_run_2 22 rfl rfl)
theorem dX10_run_69 : decode cX10_run 69 = .ok (.iload_n 1, 1) := dk_27 (dk_at dksX10_run_2 23 rfl rfl)
theorem dX10_run_70 : decode cX10_run 70 = .ok (.invokevirtual 359, 3) := dk_182 1 103 (dk_at dksX10_run_3 0 rfl rfl)
theorem dX10_run_73 : decode cX10_run 73 = .ok (.iinc 1 1, 3) := dk_132 1 1 (dk_at dksX10_run_3 3 rfl rfl)
theorem dX10_run_76 : decode cX10_run 76 = .ok (.goto (-46), 3) := dk_167 255 210 (dk_at dksX10_run_3 6 rfl rfl)
theorem dX10_run_79 : decode cX10_run 79 = .ok (.return_, 1) := dk_177 (dk_at dksX10_run_3 9 rfl rfl)
abbrev cX10_goesFor : ByteArray := prog_16_method_64_code
def yX10_goesFor : MethodName := ⟨RX10, "goesFor", "(I)V"⟩
def dkwX10_goesFor_5 : List UInt8 := [167, 0, 4, 28, 182, 1, 99, 87, 177]
abbrev dktX10_goesFor_5 : List UInt8 := dkwX10_goesFor_5 ++ []
def dkwX10_goesFor_4 : List UInt8 := [21, 4, 153, 0, 7, 28, 167, 0, 4, 29, 182, 1, 99, 153, 0, 19, 42, 27, 21, 4, 153, 0, 7, 29]
abbrev dktX10_goesFor_4 : List UInt8 := dkwX10_goesFor_4 ++ dktX10_goesFor_5
def dkwX10_goesFor_3 : List UInt8 := [182, 1, 47, 42, 42, 180, 1, 84, 29, 182, 1, 47, 163, 0, 7, 4, 167, 0, 4, 3, 54, 4, 42, 27]
abbrev dktX10_goesFor_3 : List UInt8 := dkwX10_goesFor_3 ++ dktX10_goesFor_4
def dkwX10_goesFor_2 : List UInt8 := [42, 29, 182, 1, 96, 153, 0, 10, 42, 27, 29, 182, 1, 99, 87, 177, 42, 42, 180, 1, 84, 28]
abbrev dktX10_goesFor_2 : List UInt8 := dkwX10_goesFor_2 ++ dktX10_goesFor_3
def dkwX10_goesFor_1 : List UInt8 := [182, 1, 96, 154, 0, 37, 42, 28, 182, 1, 96, 153, 0, 13, 42, 27, 28, 182, 1, 99, 87, 167, 0, 18]
abbrev dktX10_goesFor_1 : List UInt8 := dkwX10_goesFor_1 ++ dktX10_goesFor_2
def dkwX10_goesFor_0 : List UInt8 := [42, 27, 3, 182, 1, 35, 61, 42, 27, 4, 182, 1, 35, 62, 42, 28, 182, 1, 96, 153, 0, 11, 42, 29]
abbrev dktX10_goesFor_0 : List UInt8 := dkwX10_goesFor_0 ++ dktX10_goesFor_1
theorem dksX10_goesFor_0 : cX10_goesFor.data.toList.drop 0 = dktX10_goesFor_0 := by decide +kernel
theorem dksX10_goesFor_1 : cX10_goesFor.data.toList.drop 24 = dktX10_goesFor_1 := dk_seg dksX10_goesFor_0 24 rfl rfl
theorem dksX10_goesFor_2 : cX10_goesFor.data.toList.drop 48 = dktX10_goesFor_2 := dk_seg dksX10_goesFor_1 24 rfl rfl
theorem dksX10_goesFor_3 : cX10_goesFor.data.toList.drop 70 = dktX10_goesFor_3 := dk_seg dksX10_goesFor_2 22 rfl rfl
theorem dksX10_goesFor_4 : cX10_goesFor.data.toList.drop 94 = dktX10_goesFor_4 := dk_seg dksX10_goesFor_3 24 rfl rfl
theorem dksX10_goesFor_5 : cX10_goesFor.data.toList.drop 118 = dktX10_goesFor_5 := dk_seg dksX10_goesFor_4 24 rfl rfl
theorem dX10_goesFor_0 : decode cX10_goesFor 0 = .ok (.aload_n 0, 1) := dk_42 (dk_at dksX10_goesFor_0 0 rfl rfl)
theorem dX10_goesFor_1 : decode cX10_goesFor 1 = .ok (.iload_n 1, 1) := dk_27 (dk_at dksX10_goesFor_0 1 rfl rfl)
theorem dX10_goesFor_2 : decode cX10_goesFor 2 = .ok (.iconst 0, 1) := dk_3 (dk_at dksX10_goesFor_0 2 rfl rfl)
theorem dX10_goesFor_3 : decode cX10_goesFor 3 = .ok (.invokevirtual 291, 3) := dk_182 1 35 (dk_at dksX10_goesFor_0 3 rfl rfl)
theorem dX10_goesFor_6 : decode cX10_goesFor 6 = .ok (.istore_n 2, 1) := dk_61 (dk_at dksX10_goesFor_0 6 rfl rfl)
theorem dX10_goesFor_7 : decode cX10_goesFor 7 = .ok (.aload_n 0, 1) := dk_42 (dk_at dksX10_goesFor_0 7 rfl rfl)
theorem dX10_goesFor_8 : decode cX10_goesFor 8 = .ok (.iload_n 1, 1) := dk_27 (dk_at dksX10_goesFor_0 8 rfl rfl)
theorem dX10_goesFor_9 : decode cX10_goesFor 9 = .ok (.iconst 1, 1) := dk_4 (dk_at dksX10_goesFor_0 9 rfl rfl)
theorem dX10_goesFor_10 : decode cX10_goesFor 10 = .ok (.invokevirtual 291, 3) := dk_182 1 35 (dk_at dksX10_goesFor_0 10 rfl rfl)
theorem dX10_goesFor_13 : decode cX10_goesFor 13 = .ok (.istore_n 3, 1) := dk_62 (dk_at dksX10_goesFor_0 13 rfl rfl)
theorem dX10_goesFor_14 : decode cX10_goesFor 14 = .ok (.aload_n 0, 1) := dk_42 (dk_at dksX10_goesFor_0 14 rfl rfl)
theorem dX10_goesFor_15 : decode cX10_goesFor 15 = .ok (.iload_n 2, 1) := dk_28 (dk_at dksX10_goesFor_0 15 rfl rfl)
theorem dX10_goesFor_16 : decode cX10_goesFor 16 = .ok (.invokevirtual 352, 3) := dk_182 1 96 (dk_at dksX10_goesFor_0 16 rfl rfl)
theorem dX10_goesFor_19 : decode cX10_goesFor 19 = .ok (.ifCond .eq 11, 3) := dk_153 0 11 (dk_at dksX10_goesFor_0 19 rfl rfl)
theorem dX10_goesFor_22 : decode cX10_goesFor 22 = .ok (.aload_n 0, 1) := dk_42 (dk_at dksX10_goesFor_0 22 rfl rfl)
theorem dX10_goesFor_23 : decode cX10_goesFor 23 = .ok (.iload_n 3, 1) := dk_29 (dk_at dksX10_goesFor_0 23 rfl rfl)
theorem dX10_goesFor_24 : decode cX10_goesFor 24 = .ok (.invokevirtual 352, 3) := dk_182 1 96 (dk_at dksX10_goesFor_1 0 rfl rfl)
theorem dX10_goesFor_27 : decode cX10_goesFor 27 = .ok (.ifCond .ne 37, 3) := dk_154 0 37 (dk_at dksX10_goesFor_1 3 rfl rfl)
theorem dX10_goesFor_30 : decode cX10_goesFor 30 = .ok (.aload_n 0, 1) := dk_42 (dk_at dksX10_goesFor_1 6 rfl rfl)
theorem dX10_goesFor_31 : decode cX10_goesFor 31 = .ok (.iload_n 2, 1) := dk_28 (dk_at dksX10_goesFor_1 7 rfl rfl)
theorem dX10_goesFor_32 : decode cX10_goesFor 32 = .ok (.invokevirtual 352, 3) := dk_182 1 96 (dk_at dksX10_goesFor_1 8 rfl rfl)
theorem dX10_goesFor_35 : decode cX10_goesFor 35 = .ok (.ifCond .eq 13, 3) := dk_153 0 13 (dk_at dksX10_goesFor_1 11 rfl rfl)
theorem dX10_goesFor_38 : decode cX10_goesFor 38 = .ok (.aload_n 0, 1) := dk_42 (dk_at dksX10_goesFor_1 14 rfl rfl)
theorem dX10_goesFor_39 : decode cX10_goesFor 39 = .ok (.iload_n 1, 1) := dk_27 (dk_at dksX10_goesFor_1 15 rfl rfl)
theorem dX10_goesFor_40 : decode cX10_goesFor 40 = .ok (.iload_n 2, 1) := dk_28 (dk_at dksX10_goesFor_1 16 rfl rfl)
theorem dX10_goesFor_41 : decode cX10_goesFor 41 = .ok (.invokevirtual 355, 3) := dk_182 1 99 (dk_at dksX10_goesFor_1 17 rfl rfl)
theorem dX10_goesFor_44 : decode cX10_goesFor 44 = .ok (.pop, 1) := dk_87 (dk_at dksX10_goesFor_1 20 rfl rfl)
theorem dX10_goesFor_45 : decode cX10_goesFor 45 = .ok (.goto 18, 3) := dk_167 0 18 (dk_at dksX10_goesFor_1 21 rfl rfl)
theorem dX10_goesFor_48 : decode cX10_goesFor 48 = .ok (.aload_n 0, 1) := dk_42 (dk_at dksX10_goesFor_2 0 rfl rfl)
theorem dX10_goesFor_49 : decode cX10_goesFor 49 = .ok (.iload_n 3, 1) := dk_29 (dk_at dksX10_goesFor_2 1 rfl rfl)
theorem dX10_goesFor_50 : decode cX10_goesFor 50 = .ok (.invokevirtual 352, 3) := dk_182 1 96 (dk_at dksX10_goesFor_2 2 rfl rfl)
theorem dX10_goesFor_53 : decode cX10_goesFor 53 = .ok (.ifCond .eq 10, 3) := dk_153 0 10 (dk_at dksX10_goesFor_2 5 rfl rfl)
theorem dX10_goesFor_56 : decode cX10_goesFor 56 = .ok (.aload_n 0, 1) := dk_42 (dk_at dksX10_goesFor_2 8 rfl rfl)
theorem dX10_goesFor_57 : decode cX10_goesFor 57 = .ok (.iload_n 1, 1) := dk_27 (dk_at dksX10_goesFor_2 9 rfl rfl)
theorem dX10_goesFor_58 : decode cX10_goesFor 58 = .ok (.iload_n 3, 1) := dk_29 (dk_at dksX10_goesFor_2 10 rfl rfl)
theorem dX10_goesFor_59 : decode cX10_goesFor 59 = .ok (.invokevirtual 355, 3) := dk_182 1 99 (dk_at dksX10_goesFor_2 11 rfl rfl)
theorem dX10_goesFor_62 : decode cX10_goesFor 62 = .ok (.pop, 1) := dk_87 (dk_at dksX10_goesFor_2 14 rfl rfl)
theorem dX10_goesFor_63 : decode cX10_goesFor 63 = .ok (.return_, 1) := dk_177 (dk_at dksX10_goesFor_2 15 rfl rfl)
theorem dX10_goesFor_64 : decode cX10_goesFor 64 = .ok (.aload_n 0, 1) := dk_42 (dk_at dksX10_goesFor_2 16 rfl rfl)
theorem dX10_goesFor_65 : decode cX10_goesFor 65 = .ok (.aload_n 0, 1) := dk_42 (dk_at dksX10_goesFor_2 17 rfl rfl)
theorem dX10_goesFor_66 : decode cX10_goesFor 66 = .ok (.getfield 340, 3) := dk_180 1 84 (dk_at dksX10_goesFor_2 18 rfl rfl)
theorem dX10_goesFor_69 : decode cX10_goesFor 69 = .ok (.iload_n 2, 1) := dk_28 (dk_at dksX10_goesFor_2 21 rfl rfl)
theorem dX10_goesFor_70 : decode cX10_goesFor 70 = .ok (.invokevirtual 303, 3) := dk_182 1 47 (dk_at dksX10_goesFor_3 0 rfl rfl)
theorem dX10_goesFor_73 : decode cX10_goesFor 73 = .ok (.aload_n 0, 1) := dk_42 (dk_at dksX10_goesFor_3 3 rfl rfl)
theorem dX10_goesFor_74 : decode cX10_goesFor 74 = .ok (.aload_n 0, 1) := dk_42 (dk_at dksX10_goesFor_3 4 rfl rfl)
theorem dX10_goesFor_75 : decode cX10_goesFor 75 = .ok (.getfield 340, 3) := dk_180 1 84 (dk_at dksX10_goesFor_3 5 rfl rfl)
theorem dX10_goesFor_78 : decode cX10_goesFor 78 = .ok (.iload_n 3, 1) := dk_29 (dk_at dksX10_goesFor_3 8 rfl rfl)
theorem dX10_goesFor_79 : decode cX10_goesFor 79 = .ok (.invokevirtual 303, 3) := dk_182 1 47 (dk_at dksX10_goesFor_3 9 rfl rfl)
theorem dX10_goesFor_82 : decode cX10_goesFor 82 = .ok (.if_icmp .gt 7, 3) := dk_163 0 7 (dk_at dksX10_goesFor_3 12 rfl rfl)
theorem dX10_goesFor_85 : decode cX10_goesFor 85 = .ok (.iconst 1, 1) := dk_4 (dk_at dksX10_goesFor_3 15 rfl rfl)
theorem dX10_goesFor_86 : decode cX10_goesFor 86 = .ok (.goto 4, 3) := dk_167 0 4 (dk_at dksX10_goesFor_3 16 rfl rfl)
theorem dX10_goesFor_89 : decode cX10_goesFor 89 = .ok (.iconst 0, 1) := dk_3 (dk_at dksX10_goesFor_3 19 rfl rfl)
theorem dX10_goesFor_90 : decode cX10_goesFor 90 = .ok (.istore 4, 2) := dk_54 4 (dk_at dksX10_goesFor_3 20 rfl rfl)
theorem dX10_goesFor_92 : decode cX10_goesFor 92 = .ok (.aload_n 0, 1) := dk_42 (dk_at dksX10_goesFor_3 22 rfl rfl)
theorem dX10_goesFor_93 : decode cX10_goesFor 93 = .ok (.iload_n 1, 1) := dk_27 (dk_at dksX10_goesFor_3 23 rfl rfl)
theorem dX10_goesFor_94 : decode cX10_goesFor 94 = .ok (.iload 4, 2) := dk_21 4 (dk_at dksX10_goesFor_4 0 rfl rfl)
theorem dX10_goesFor_96 : decode cX10_goesFor 96 = .ok (.ifCond .eq 7, 3) := dk_153 0 7 (dk_at dksX10_goesFor_4 2 rfl rfl)
theorem dX10_goesFor_99 : decode cX10_goesFor 99 = .ok (.iload_n 2, 1) := dk_28 (dk_at dksX10_goesFor_4 5 rfl rfl)
theorem dX10_goesFor_100 : decode cX10_goesFor 100 = .ok (.goto 4, 3) := dk_167 0 4 (dk_at dksX10_goesFor_4 6 rfl rfl)
theorem dX10_goesFor_103 : decode cX10_goesFor 103 = .ok (.iload_n 3, 1) := dk_29 (dk_at dksX10_goesFor_4 9 rfl rfl)
theorem dX10_goesFor_104 : decode cX10_goesFor 104 = .ok (.invokevirtual 355, 3) := dk_182 1 99 (dk_at dksX10_goesFor_4 10 rfl rfl)
theorem dX10_goesFor_107 : decode cX10_goesFor 107 = .ok (.ifCond .eq 19, 3) := dk_153 0 19 (dk_at dksX10_goesFor_4 13 rfl rfl)
theorem dX10_goesFor_110 : decode cX10_goesFor 110 = .ok (.aload_n 0, 1) := dk_42 (dk_at dksX10_goesFor_4 16 rfl rfl)
theorem dX10_goesFor_111 : decode cX10_goesFor 111 = .ok (.iload_n 1, 1) := dk_27 (dk_at dksX10_goesFor_4 17 rfl rfl)
theorem dX10_goesFor_112 : decode cX10_goesFor 112 = .ok (.iload 4, 2) := dk_21 4 (dk_at dksX10_goesFor_4 18 rfl rfl)
theorem dX10_goesFor_114 : decode cX10_goesFor 114 = .ok (.ifCond .eq 7, 3) := dk_153 0 7 (dk_at dksX10_goesFor_4 20 rfl rfl)
theorem dX10_goesFor_117 : decode cX10_goesFor 117 = .ok (.iload_n 3, 1) := dk_29 (dk_at dksX10_goesFor_4 23 rfl rfl)
theorem dX10_goesFor_118 : decode cX10_goesFor 118 = .ok (.goto 4, 3) := dk_167 0 4 (dk_at dksX10_goesFor_5 0 rfl rfl)
theorem dX10_goesFor_121 : decode cX10_goesFor 121 = .ok (.iload_n 2, 1) := dk_28 (dk_at dksX10_goesFor_5 3 rfl rfl)
theorem dX10_goesFor_122 : decode cX10_goesFor 122 = .ok (.invokevirtual 355, 3) := dk_182 1 99 (dk_at dksX10_goesFor_5 4 rfl rfl)
theorem dX10_goesFor_125 : decode cX10_goesFor 125 = .ok (.pop, 1) := dk_87 (dk_at dksX10_goesFor_5 7 rfl rfl)
theorem dX10_goesFor_126 : decode cX10_goesFor 126 = .ok (.return_, 1) := dk_177 (dk_at dksX10_goesFor_5 8 rfl rfl)
abbrev cX10_isHis : ByteArray := prog_16_method_63_code
def yX10_isHis : MethodName := ⟨RX10, "isHis", "(I)Z"⟩
def dkwX10_isHis_0 : List UInt8 := [27, 2, 159, 0, 19, 42, 180, 1, 65, 27, 122, 4, 126, 4, 160, 0, 7, 4, 167, 0, 4, 3, 172]
abbrev dktX10_isHis_0 : List UInt8 := dkwX10_isHis_0 ++ []
theorem dksX10_isHis_0 : cX10_isHis.data.toList.drop 0 = dktX10_isHis_0 := by decide +kernel
theorem dX10_isHis_0 : decode cX10_isHis 0 = .ok (.iload_n 1, 1) := dk_27 (dk_at dksX10_isHis_0 0 rfl rfl)
theorem dX10_isHis_1 : decode cX10_isHis 1 = .ok (.iconst (-1), 1) := dk_2 (dk_at dksX10_isHis_0 1 rfl rfl)
theorem dX10_isHis_2 : decode cX10_isHis 2 = .ok (.if_icmp .eq 19, 3) := dk_159 0 19 (dk_at dksX10_isHis_0 2 rfl rfl)
theorem dX10_isHis_5 : decode cX10_isHis 5 = .ok (.aload_n 0, 1) := dk_42 (dk_at dksX10_isHis_0 5 rfl rfl)
theorem dX10_isHis_6 : decode cX10_isHis 6 = .ok (.getfield 321, 3) := dk_180 1 65 (dk_at dksX10_isHis_0 6 rfl rfl)
theorem dX10_isHis_9 : decode cX10_isHis 9 = .ok (.iload_n 1, 1) := dk_27 (dk_at dksX10_isHis_0 9 rfl rfl)
theorem dX10_isHis_10 : decode cX10_isHis 10 = .ok (.ishr, 1) := dk_122 (dk_at dksX10_isHis_0 10 rfl rfl)
theorem dX10_isHis_11 : decode cX10_isHis 11 = .ok (.iconst 1, 1) := dk_4 (dk_at dksX10_isHis_0 11 rfl rfl)
theorem dX10_isHis_12 : decode cX10_isHis 12 = .ok (.iand, 1) := dk_126 (dk_at dksX10_isHis_0 12 rfl rfl)
theorem dX10_isHis_13 : decode cX10_isHis 13 = .ok (.iconst 1, 1) := dk_4 (dk_at dksX10_isHis_0 13 rfl rfl)
theorem dX10_isHis_14 : decode cX10_isHis 14 = .ok (.if_icmp .ne 7, 3) := dk_160 0 7 (dk_at dksX10_isHis_0 14 rfl rfl)
theorem dX10_isHis_17 : decode cX10_isHis 17 = .ok (.iconst 1, 1) := dk_4 (dk_at dksX10_isHis_0 17 rfl rfl)
theorem dX10_isHis_18 : decode cX10_isHis 18 = .ok (.goto 4, 3) := dk_167 0 4 (dk_at dksX10_isHis_0 18 rfl rfl)
theorem dX10_isHis_21 : decode cX10_isHis 21 = .ok (.iconst 0, 1) := dk_3 (dk_at dksX10_isHis_0 21 rfl rfl)
theorem dX10_isHis_22 : decode cX10_isHis 22 = .ok (.ireturn, 1) := dk_172 (dk_at dksX10_isHis_0 22 rfl rfl)
abbrev cX10_goes : ByteArray := prog_16_method_62_code
def yX10_goes : MethodName := ⟨RX10, "goes", "(II)Z"⟩
def dkwX10_goes_6 : List UInt8 := [181, 1, 90, 42, 89, 180, 1, 93, 42, 27, 5, 182, 1, 35, 96, 181, 1, 93, 4, 172]
abbrev dktX10_goes_6 : List UInt8 := dkwX10_goes_6 ++ []
def dkwX10_goes_5 : List UInt8 := [180, 1, 90, 21, 5, 79, 42, 180, 0, 52, 42, 180, 1, 90, 28, 79, 42, 89, 180, 1, 90, 4, 96]
abbrev dktX10_goes_5 : List UInt8 := dkwX10_goes_5 ++ dktX10_goes_6
def dkwX10_goes_4 : List UInt8 := [42, 180, 0, 43, 27, 92, 46, 4, 96, 79, 42, 180, 0, 46, 27, 21, 5, 79, 42, 180, 0, 49, 42]
abbrev dktX10_goes_4 : List UInt8 := dkwX10_goes_4 ++ dktX10_goes_5
def dkwX10_goes_3 : List UInt8 := [180, 1, 84, 28, 182, 1, 47, 96, 181, 1, 87, 42, 28, 181, 1, 84, 42, 21, 5, 4, 96, 181, 1, 78]
abbrev dktX10_goes_3 : List UInt8 := dkwX10_goes_3 ++ dktX10_goes_4
def dkwX10_goes_2 : List UInt8 := [54, 5, 21, 5, 42, 180, 0, 40, 27, 46, 164, 0, 5, 3, 172, 42, 89, 180, 1, 87, 42, 42]
abbrev dktX10_goes_2 : List UInt8 := dkwX10_goes_2 ++ dktX10_goes_3
def dkwX10_goes_1 : List UInt8 := [42, 180, 1, 53, 29, 182, 1, 50, 104, 96, 54, 4, 21, 4, 42, 180, 0, 37, 27, 46, 184, 1, 81]
abbrev dktX10_goes_1 : List UInt8 := dkwX10_goes_1 ++ dktX10_goes_2
def dkwX10_goes_0 : List UInt8 := [42, 180, 1, 78, 42, 27, 182, 1, 75, 184, 1, 81, 62, 29, 42, 42, 180, 1, 84, 28, 182, 1, 47, 42]
abbrev dktX10_goes_0 : List UInt8 := dkwX10_goes_0 ++ dktX10_goes_1
theorem dksX10_goes_0 : cX10_goes.data.toList.drop 0 = dktX10_goes_0 := by decide +kernel
theorem dksX10_goes_1 : cX10_goes.data.toList.drop 24 = dktX10_goes_1 := dk_seg dksX10_goes_0 24 rfl rfl
theorem dksX10_goes_2 : cX10_goes.data.toList.drop 47 = dktX10_goes_2 := dk_seg dksX10_goes_1 23 rfl rfl
theorem dksX10_goes_3 : cX10_goes.data.toList.drop 69 = dktX10_goes_3 := dk_seg dksX10_goes_2 22 rfl rfl
theorem dksX10_goes_4 : cX10_goes.data.toList.drop 93 = dktX10_goes_4 := dk_seg dksX10_goes_3 24 rfl rfl
theorem dksX10_goes_5 : cX10_goes.data.toList.drop 116 = dktX10_goes_5 := dk_seg dksX10_goes_4 23 rfl rfl
theorem dksX10_goes_6 : cX10_goes.data.toList.drop 139 = dktX10_goes_6 := dk_seg dksX10_goes_5 23 rfl rfl
theorem dX10_goes_0 : decode cX10_goes 0 = .ok (.aload_n 0, 1) := dk_42 (dk_at dksX10_goes_0 0 rfl rfl)
theorem dX10_goes_1 : decode cX10_goes 1 = .ok (.getfield 334, 3) := dk_180 1 78 (dk_at dksX10_goes_0 1 rfl rfl)
theorem dX10_goes_4 : decode cX10_goes 4 = .ok (.aload_n 0, 1) := dk_42 (dk_at dksX10_goes_0 4 rfl rfl)
theorem dX10_goes_5 : decode cX10_goes 5 = .ok (.iload_n 1, 1) := dk_27 (dk_at dksX10_goes_0 5 rfl rfl)
theorem dX10_goes_6 : decode cX10_goes 6 = .ok (.invokevirtual 331, 3) := dk_182 1 75 (dk_at dksX10_goes_0 6 rfl rfl)
theorem dX10_goes_9 : decode cX10_goes 9 = .ok (.invokestatic 337, 3) := dk_184 1 81 (dk_at dksX10_goes_0 9 rfl rfl)
theorem dX10_goes_12 : decode cX10_goes 12 = .ok (.istore_n 3, 1) := dk_62 (dk_at dksX10_goes_0 12 rfl rfl)
theorem dX10_goes_13 : decode cX10_goes 13 = .ok (.iload_n 3, 1) := dk_29 (dk_at dksX10_goes_0 13 rfl rfl)
theorem dX10_goes_14 : decode cX10_goes 14 = .ok (.aload_n 0, 1) := dk_42 (dk_at dksX10_goes_0 14 rfl rfl)
theorem dX10_goes_15 : decode cX10_goes 15 = .ok (.aload_n 0, 1) := dk_42 (dk_at dksX10_goes_0 15 rfl rfl)
theorem dX10_goes_16 : decode cX10_goes 16 = .ok (.getfield 340, 3) := dk_180 1 84 (dk_at dksX10_goes_0 16 rfl rfl)
theorem dX10_goes_19 : decode cX10_goes 19 = .ok (.iload_n 2, 1) := dk_28 (dk_at dksX10_goes_0 19 rfl rfl)
theorem dX10_goes_20 : decode cX10_goes 20 = .ok (.invokevirtual 303, 3) := dk_182 1 47 (dk_at dksX10_goes_0 20 rfl rfl)
theorem dX10_goes_23 : decode cX10_goes 23 = .ok (.aload_n 0, 1) := dk_42 (dk_at dksX10_goes_0 23 rfl rfl)
theorem dX10_goes_24 : decode cX10_goes 24 = .ok (.aload_n 0, 1) := dk_42 (dk_at dksX10_goes_1 0 rfl rfl)
theorem dX10_goes_25 : decode cX10_goes 25 = .ok (.getfield 309, 3) := dk_180 1 53 (dk_at dksX10_goes_1 1 rfl rfl)
theorem dX10_goes_28 : decode cX10_goes 28 = .ok (.iload_n 3, 1) := dk_29 (dk_at dksX10_goes_1 4 rfl rfl)
theorem dX10_goes_29 : decode cX10_goes 29 = .ok (.invokevirtual 306, 3) := dk_182 1 50 (dk_at dksX10_goes_1 5 rfl rfl)
theorem dX10_goes_32 : decode cX10_goes 32 = .ok (.imul, 1) := dk_104 (dk_at dksX10_goes_1 8 rfl rfl)
theorem dX10_goes_33 : decode cX10_goes 33 = .ok (.iadd, 1) := dk_96 (dk_at dksX10_goes_1 9 rfl rfl)
theorem dX10_goes_34 : decode cX10_goes 34 = .ok (.istore 4, 2) := dk_54 4 (dk_at dksX10_goes_1 10 rfl rfl)
theorem dX10_goes_36 : decode cX10_goes 36 = .ok (.iload 4, 2) := dk_21 4 (dk_at dksX10_goes_1 12 rfl rfl)
theorem dX10_goes_38 : decode cX10_goes 38 = .ok (.aload_n 0, 1) := dk_42 (dk_at dksX10_goes_1 14 rfl rfl)
theorem dX10_goes_39 : decode cX10_goes 39 = .ok (.getfield 37, 3) := dk_180 0 37 (dk_at dksX10_goes_1 15 rfl rfl)
theorem dX10_goes_42 : decode cX10_goes 42 = .ok (.iload_n 1, 1) := dk_27 (dk_at dksX10_goes_1 18 rfl rfl)
theorem dX10_goes_43 : decode cX10_goes 43 = .ok (.iaload, 1) := dk_46 (dk_at dksX10_goes_1 19 rfl rfl)
theorem dX10_goes_44 : decode cX10_goes 44 = .ok (.invokestatic 337, 3) := dk_184 1 81 (dk_at dksX10_goes_1 20 rfl rfl)
theorem dX10_goes_47 : decode cX10_goes 47 = .ok (.istore 5, 2) := dk_54 5 (dk_at dksX10_goes_2 0 rfl rfl)
theorem dX10_goes_49 : decode cX10_goes 49 = .ok (.iload 5, 2) := dk_21 5 (dk_at dksX10_goes_2 2 rfl rfl)
theorem dX10_goes_51 : decode cX10_goes 51 = .ok (.aload_n 0, 1) := dk_42 (dk_at dksX10_goes_2 4 rfl rfl)
theorem dX10_goes_52 : decode cX10_goes 52 = .ok (.getfield 40, 3) := dk_180 0 40 (dk_at dksX10_goes_2 5 rfl rfl)
theorem dX10_goes_55 : decode cX10_goes 55 = .ok (.iload_n 1, 1) := dk_27 (dk_at dksX10_goes_2 8 rfl rfl)
theorem dX10_goes_56 : decode cX10_goes 56 = .ok (.iaload, 1) := dk_46 (dk_at dksX10_goes_2 9 rfl rfl)
theorem dX10_goes_57 : decode cX10_goes 57 = .ok (.if_icmp .le 5, 3) := dk_164 0 5 (dk_at dksX10_goes_2 10 rfl rfl)
theorem dX10_goes_60 : decode cX10_goes 60 = .ok (.iconst 0, 1) := dk_3 (dk_at dksX10_goes_2 13 rfl rfl)
theorem dX10_goes_61 : decode cX10_goes 61 = .ok (.ireturn, 1) := dk_172 (dk_at dksX10_goes_2 14 rfl rfl)
theorem dX10_goes_62 : decode cX10_goes 62 = .ok (.aload_n 0, 1) := dk_42 (dk_at dksX10_goes_2 15 rfl rfl)
theorem dX10_goes_63 : decode cX10_goes 63 = .ok (.dup, 1) := dk_89 (dk_at dksX10_goes_2 16 rfl rfl)
theorem dX10_goes_64 : decode cX10_goes 64 = .ok (.getfield 343, 3) := dk_180 1 87 (dk_at dksX10_goes_2 17 rfl rfl)
theorem dX10_goes_67 : decode cX10_goes 67 = .ok (.aload_n 0, 1) := dk_42 (dk_at dksX10_goes_2 20 rfl rfl)
theorem dX10_goes_68 : decode cX10_goes 68 = .ok (.aload_n 0, 1) := dk_42 (dk_at dksX10_goes_2 21 rfl rfl)
theorem dX10_goes_69 : decode cX10_goes 69 = .ok (.getfield 340, 3) := dk_180 1 84 (dk_at dksX10_goes_3 0 rfl rfl)
theorem dX10_goes_72 : decode cX10_goes 72 = .ok (.iload_n 2, 1) := dk_28 (dk_at dksX10_goes_3 3 rfl rfl)
theorem dX10_goes_73 : decode cX10_goes 73 = .ok (.invokevirtual 303, 3) := dk_182 1 47 (dk_at dksX10_goes_3 4 rfl rfl)
theorem dX10_goes_76 : decode cX10_goes 76 = .ok (.iadd, 1) := dk_96 (dk_at dksX10_goes_3 7 rfl rfl)
theorem dX10_goes_77 : decode cX10_goes 77 = .ok (.putfield 343, 3) := dk_181 1 87 (dk_at dksX10_goes_3 8 rfl rfl)
theorem dX10_goes_80 : decode cX10_goes 80 = .ok (.aload_n 0, 1) := dk_42 (dk_at dksX10_goes_3 11 rfl rfl)
theorem dX10_goes_81 : decode cX10_goes 81 = .ok (.iload_n 2, 1) := dk_28 (dk_at dksX10_goes_3 12 rfl rfl)
theorem dX10_goes_82 : decode cX10_goes 82 = .ok (.putfield 340, 3) := dk_181 1 84 (dk_at dksX10_goes_3 13 rfl rfl)
theorem dX10_goes_85 : decode cX10_goes 85 = .ok (.aload_n 0, 1) := dk_42 (dk_at dksX10_goes_3 16 rfl rfl)
theorem dX10_goes_86 : decode cX10_goes 86 = .ok (.iload 5, 2) := dk_21 5 (dk_at dksX10_goes_3 17 rfl rfl)
theorem dX10_goes_88 : decode cX10_goes 88 = .ok (.iconst 1, 1) := dk_4 (dk_at dksX10_goes_3 19 rfl rfl)
theorem dX10_goes_89 : decode cX10_goes 89 = .ok (.iadd, 1) := dk_96 (dk_at dksX10_goes_3 20 rfl rfl)
theorem dX10_goes_90 : decode cX10_goes 90 = .ok (.putfield 334, 3) := dk_181 1 78 (dk_at dksX10_goes_3 21 rfl rfl)
theorem dX10_goes_93 : decode cX10_goes 93 = .ok (.aload_n 0, 1) := dk_42 (dk_at dksX10_goes_4 0 rfl rfl)
theorem dX10_goes_94 : decode cX10_goes 94 = .ok (.getfield 43, 3) := dk_180 0 43 (dk_at dksX10_goes_4 1 rfl rfl)
theorem dX10_goes_97 : decode cX10_goes 97 = .ok (.iload_n 1, 1) := dk_27 (dk_at dksX10_goes_4 4 rfl rfl)
theorem dX10_goes_98 : decode cX10_goes 98 = .ok (.dup2, 1) := dk_92 (dk_at dksX10_goes_4 5 rfl rfl)
theorem dX10_goes_99 : decode cX10_goes 99 = .ok (.iaload, 1) := dk_46 (dk_at dksX10_goes_4 6 rfl rfl)
theorem dX10_goes_100 : decode cX10_goes 100 = .ok (.iconst 1, 1) := dk_4 (dk_at dksX10_goes_4 7 rfl rfl)
theorem dX10_goes_101 : decode cX10_goes 101 = .ok (.iadd, 1) := dk_96 (dk_at dksX10_goes_4 8 rfl rfl)
theorem dX10_goes_102 : decode cX10_goes 102 = .ok (.iastore, 1) := dk_79 (dk_at dksX10_goes_4 9 rfl rfl)
theorem dX10_goes_103 : decode cX10_goes 103 = .ok (.aload_n 0, 1) := dk_42 (dk_at dksX10_goes_4 10 rfl rfl)
theorem dX10_goes_104 : decode cX10_goes 104 = .ok (.getfield 46, 3) := dk_180 0 46 (dk_at dksX10_goes_4 11 rfl rfl)
theorem dX10_goes_107 : decode cX10_goes 107 = .ok (.iload_n 1, 1) := dk_27 (dk_at dksX10_goes_4 14 rfl rfl)
theorem dX10_goes_108 : decode cX10_goes 108 = .ok (.iload 5, 2) := dk_21 5 (dk_at dksX10_goes_4 15 rfl rfl)
theorem dX10_goes_110 : decode cX10_goes 110 = .ok (.iastore, 1) := dk_79 (dk_at dksX10_goes_4 17 rfl rfl)
theorem dX10_goes_111 : decode cX10_goes 111 = .ok (.aload_n 0, 1) := dk_42 (dk_at dksX10_goes_4 18 rfl rfl)
theorem dX10_goes_112 : decode cX10_goes 112 = .ok (.getfield 49, 3) := dk_180 0 49 (dk_at dksX10_goes_4 19 rfl rfl)
theorem dX10_goes_115 : decode cX10_goes 115 = .ok (.aload_n 0, 1) := dk_42 (dk_at dksX10_goes_4 22 rfl rfl)
theorem dX10_goes_116 : decode cX10_goes 116 = .ok (.getfield 346, 3) := dk_180 1 90 (dk_at dksX10_goes_5 0 rfl rfl)
theorem dX10_goes_119 : decode cX10_goes 119 = .ok (.iload 5, 2) := dk_21 5 (dk_at dksX10_goes_5 3 rfl rfl)
theorem dX10_goes_121 : decode cX10_goes 121 = .ok (.iastore, 1) := dk_79 (dk_at dksX10_goes_5 5 rfl rfl)
theorem dX10_goes_122 : decode cX10_goes 122 = .ok (.aload_n 0, 1) := dk_42 (dk_at dksX10_goes_5 6 rfl rfl)
theorem dX10_goes_123 : decode cX10_goes 123 = .ok (.getfield 52, 3) := dk_180 0 52 (dk_at dksX10_goes_5 7 rfl rfl)
theorem dX10_goes_126 : decode cX10_goes 126 = .ok (.aload_n 0, 1) := dk_42 (dk_at dksX10_goes_5 10 rfl rfl)
theorem dX10_goes_127 : decode cX10_goes 127 = .ok (.getfield 346, 3) := dk_180 1 90 (dk_at dksX10_goes_5 11 rfl rfl)
theorem dX10_goes_130 : decode cX10_goes 130 = .ok (.iload_n 2, 1) := dk_28 (dk_at dksX10_goes_5 14 rfl rfl)
theorem dX10_goes_131 : decode cX10_goes 131 = .ok (.iastore, 1) := dk_79 (dk_at dksX10_goes_5 15 rfl rfl)
theorem dX10_goes_132 : decode cX10_goes 132 = .ok (.aload_n 0, 1) := dk_42 (dk_at dksX10_goes_5 16 rfl rfl)
theorem dX10_goes_133 : decode cX10_goes 133 = .ok (.dup, 1) := dk_89 (dk_at dksX10_goes_5 17 rfl rfl)
theorem dX10_goes_134 : decode cX10_goes 134 = .ok (.getfield 346, 3) := dk_180 1 90 (dk_at dksX10_goes_5 18 rfl rfl)
theorem dX10_goes_137 : decode cX10_goes 137 = .ok (.iconst 1, 1) := dk_4 (dk_at dksX10_goes_5 21 rfl rfl)
theorem dX10_goes_138 : decode cX10_goes 138 = .ok (.iadd, 1) := dk_96 (dk_at dksX10_goes_5 22 rfl rfl)
theorem dX10_goes_139 : decode cX10_goes 139 = .ok (.putfield 346, 3) := dk_181 1 90 (dk_at dksX10_goes_6 0 rfl rfl)
theorem dX10_goes_142 : decode cX10_goes 142 = .ok (.aload_n 0, 1) := dk_42 (dk_at dksX10_goes_6 3 rfl rfl)
theorem dX10_goes_143 : decode cX10_goes 143 = .ok (.dup, 1) := dk_89 (dk_at dksX10_goes_6 4 rfl rfl)
theorem dX10_goes_144 : decode cX10_goes 144 = .ok (.getfield 349, 3) := dk_180 1 93 (dk_at dksX10_goes_6 5 rfl rfl)
theorem dX10_goes_147 : decode cX10_goes 147 = .ok (.aload_n 0, 1) := dk_42 (dk_at dksX10_goes_6 8 rfl rfl)
theorem dX10_goes_148 : decode cX10_goes 148 = .ok (.iload_n 1, 1) := dk_27 (dk_at dksX10_goes_6 9 rfl rfl)
theorem dX10_goes_149 : decode cX10_goes 149 = .ok (.iconst 2, 1) := dk_5 (dk_at dksX10_goes_6 10 rfl rfl)
theorem dX10_goes_150 : decode cX10_goes 150 = .ok (.invokevirtual 291, 3) := dk_182 1 35 (dk_at dksX10_goes_6 11 rfl rfl)
theorem dX10_goes_153 : decode cX10_goes 153 = .ok (.iadd, 1) := dk_96 (dk_at dksX10_goes_6 14 rfl rfl)
theorem dX10_goes_154 : decode cX10_goes 154 = .ok (.putfield 349, 3) := dk_181 1 93 (dk_at dksX10_goes_6 15 rfl rfl)
theorem dX10_goes_157 : decode cX10_goes 157 = .ok (.iconst 1, 1) := dk_4 (dk_at dksX10_goes_6 18 rfl rfl)
theorem dX10_goes_158 : decode cX10_goes 158 = .ok (.ireturn, 1) := dk_172 (dk_at dksX10_goes_6 19 rfl rfl)
abbrev cX10_hit : ByteArray := prog_16_method_68_code
def yX10_hit : MethodName := ⟨RX10, "hit", "(II)I"⟩
def dkwX10_hit_1 : List UInt8 := [42, 180, 0, 46, 28, 46, 167, 0, 4, 2, 172]
abbrev dktX10_hit_1 : List UInt8 := dkwX10_hit_1 ++ []
def dkwX10_hit_0 : List UInt8 := [42, 27, 182, 1, 14, 154, 0, 6, 16, 254, 172, 42, 27, 182, 1, 109, 42, 28, 182, 1, 32, 153, 0, 12]
abbrev dktX10_hit_0 : List UInt8 := dkwX10_hit_0 ++ dktX10_hit_1
theorem dksX10_hit_0 : cX10_hit.data.toList.drop 0 = dktX10_hit_0 := by decide +kernel
theorem dksX10_hit_1 : cX10_hit.data.toList.drop 24 = dktX10_hit_1 := dk_seg dksX10_hit_0 24 rfl rfl
theorem dX10_hit_0 : decode cX10_hit 0 = .ok (.aload_n 0, 1) := dk_42 (dk_at dksX10_hit_0 0 rfl rfl)
theorem dX10_hit_1 : decode cX10_hit 1 = .ok (.iload_n 1, 1) := dk_27 (dk_at dksX10_hit_0 1 rfl rfl)
theorem dX10_hit_2 : decode cX10_hit 2 = .ok (.invokevirtual 270, 3) := dk_182 1 14 (dk_at dksX10_hit_0 2 rfl rfl)
theorem dX10_hit_5 : decode cX10_hit 5 = .ok (.ifCond .ne 6, 3) := dk_154 0 6 (dk_at dksX10_hit_0 5 rfl rfl)
theorem dX10_hit_8 : decode cX10_hit 8 = .ok (.bipush (-2), 2) := dk_16 254 (dk_at dksX10_hit_0 8 rfl rfl)
theorem dX10_hit_10 : decode cX10_hit 10 = .ok (.ireturn, 1) := dk_172 (dk_at dksX10_hit_0 10 rfl rfl)
theorem dX10_hit_11 : decode cX10_hit 11 = .ok (.aload_n 0, 1) := dk_42 (dk_at dksX10_hit_0 11 rfl rfl)
theorem dX10_hit_12 : decode cX10_hit 12 = .ok (.iload_n 1, 1) := dk_27 (dk_at dksX10_hit_0 12 rfl rfl)
theorem dX10_hit_13 : decode cX10_hit 13 = .ok (.invokevirtual 365, 3) := dk_182 1 109 (dk_at dksX10_hit_0 13 rfl rfl)
theorem dX10_hit_16 : decode cX10_hit 16 = .ok (.aload_n 0, 1) := dk_42 (dk_at dksX10_hit_0 16 rfl rfl)
theorem dX10_hit_17 : decode cX10_hit 17 = .ok (.iload_n 2, 1) := dk_28 (dk_at dksX10_hit_0 17 rfl rfl)
theorem dX10_hit_18 : decode cX10_hit 18 = .ok (.invokevirtual 288, 3) := dk_182 1 32 (dk_at dksX10_hit_0 18 rfl rfl)
theorem dX10_hit_21 : decode cX10_hit 21 = .ok (.ifCond .eq 12, 3) := dk_153 0 12 (dk_at dksX10_hit_0 21 rfl rfl)
theorem dX10_hit_24 : decode cX10_hit 24 = .ok (.aload_n 0, 1) := dk_42 (dk_at dksX10_hit_1 0 rfl rfl)
theorem dX10_hit_25 : decode cX10_hit 25 = .ok (.getfield 46, 3) := dk_180 0 46 (dk_at dksX10_hit_1 1 rfl rfl)
theorem dX10_hit_28 : decode cX10_hit 28 = .ok (.iload_n 2, 1) := dk_28 (dk_at dksX10_hit_1 4 rfl rfl)
theorem dX10_hit_29 : decode cX10_hit 29 = .ok (.iaload, 1) := dk_46 (dk_at dksX10_hit_1 5 rfl rfl)
theorem dX10_hit_30 : decode cX10_hit 30 = .ok (.goto 4, 3) := dk_167 0 4 (dk_at dksX10_hit_1 6 rfl rfl)
theorem dX10_hit_33 : decode cX10_hit 33 = .ok (.iconst (-1), 1) := dk_2 (dk_at dksX10_hit_1 9 rfl rfl)
theorem dX10_hit_34 : decode cX10_hit 34 = .ok (.ireturn, 1) := dk_172 (dk_at dksX10_hit_1 10 rfl rfl)
abbrev cX10_twice : ByteArray := prog_16_method_69_code
def yX10_twice : MethodName := ⟨RX10, "twice", "(II)I"⟩
def dkwX10_twice_1 : List UInt8 := [42, 180, 0, 43, 28, 46, 167, 0, 4, 2, 172]
abbrev dktX10_twice_1 : List UInt8 := dkwX10_twice_1 ++ []
def dkwX10_twice_0 : List UInt8 := [42, 27, 182, 1, 14, 154, 0, 6, 16, 254, 172, 42, 27, 182, 1, 109, 42, 28, 182, 1, 32, 153, 0, 12]
abbrev dktX10_twice_0 : List UInt8 := dkwX10_twice_0 ++ dktX10_twice_1
theorem dksX10_twice_0 : cX10_twice.data.toList.drop 0 = dktX10_twice_0 := by decide +kernel
theorem dksX10_twice_1 : cX10_twice.data.toList.drop 24 = dktX10_twice_1 := dk_seg dksX10_twice_0 24 rfl rfl
theorem dX10_twice_0 : decode cX10_twice 0 = .ok (.aload_n 0, 1) := dk_42 (dk_at dksX10_twice_0 0 rfl rfl)
theorem dX10_twice_1 : decode cX10_twice 1 = .ok (.iload_n 1, 1) := dk_27 (dk_at dksX10_twice_0 1 rfl rfl)
theorem dX10_twice_2 : decode cX10_twice 2 = .ok (.invokevirtual 270, 3) := dk_182 1 14 (dk_at dksX10_twice_0 2 rfl rfl)
theorem dX10_twice_5 : decode cX10_twice 5 = .ok (.ifCond .ne 6, 3) := dk_154 0 6 (dk_at dksX10_twice_0 5 rfl rfl)
theorem dX10_twice_8 : decode cX10_twice 8 = .ok (.bipush (-2), 2) := dk_16 254 (dk_at dksX10_twice_0 8 rfl rfl)
theorem dX10_twice_10 : decode cX10_twice 10 = .ok (.ireturn, 1) := dk_172 (dk_at dksX10_twice_0 10 rfl rfl)
theorem dX10_twice_11 : decode cX10_twice 11 = .ok (.aload_n 0, 1) := dk_42 (dk_at dksX10_twice_0 11 rfl rfl)
theorem dX10_twice_12 : decode cX10_twice 12 = .ok (.iload_n 1, 1) := dk_27 (dk_at dksX10_twice_0 12 rfl rfl)
theorem dX10_twice_13 : decode cX10_twice 13 = .ok (.invokevirtual 365, 3) := dk_182 1 109 (dk_at dksX10_twice_0 13 rfl rfl)
theorem dX10_twice_16 : decode cX10_twice 16 = .ok (.aload_n 0, 1) := dk_42 (dk_at dksX10_twice_0 16 rfl rfl)
theorem dX10_twice_17 : decode cX10_twice 17 = .ok (.iload_n 2, 1) := dk_28 (dk_at dksX10_twice_0 17 rfl rfl)
theorem dX10_twice_18 : decode cX10_twice 18 = .ok (.invokevirtual 288, 3) := dk_182 1 32 (dk_at dksX10_twice_0 18 rfl rfl)
theorem dX10_twice_21 : decode cX10_twice 21 = .ok (.ifCond .eq 12, 3) := dk_153 0 12 (dk_at dksX10_twice_0 21 rfl rfl)
theorem dX10_twice_24 : decode cX10_twice 24 = .ok (.aload_n 0, 1) := dk_42 (dk_at dksX10_twice_1 0 rfl rfl)
theorem dX10_twice_25 : decode cX10_twice 25 = .ok (.getfield 43, 3) := dk_180 0 43 (dk_at dksX10_twice_1 1 rfl rfl)
theorem dX10_twice_28 : decode cX10_twice 28 = .ok (.iload_n 2, 1) := dk_28 (dk_at dksX10_twice_1 4 rfl rfl)
theorem dX10_twice_29 : decode cX10_twice 29 = .ok (.iaload, 1) := dk_46 (dk_at dksX10_twice_1 5 rfl rfl)
theorem dX10_twice_30 : decode cX10_twice 30 = .ok (.goto 4, 3) := dk_167 0 4 (dk_at dksX10_twice_1 6 rfl rfl)
theorem dX10_twice_33 : decode cX10_twice 33 = .ok (.iconst (-1), 1) := dk_2 (dk_at dksX10_twice_1 9 rfl rfl)
theorem dX10_twice_34 : decode cX10_twice 34 = .ok (.ireturn, 1) := dk_172 (dk_at dksX10_twice_1 10 rfl rfl)
abbrev cX10_where : ByteArray := prog_16_method_70_code
def yX10_where : MethodName := ⟨RX10, "where", "(II)I"⟩
def dkwX10_where_3 : List UInt8 := [167, 255, 221, 29, 172]
abbrev dktX10_where_3 : List UInt8 := dkwX10_where_3 ++ []
def dkwX10_where_2 : List UInt8 := [21, 4, 46, 28, 163, 0, 13, 42, 180, 0, 52, 21, 4, 46, 167, 0, 4, 29, 62, 132, 4, 1]
abbrev dktX10_where_2 : List UInt8 := dkwX10_where_2 ++ dktX10_where_3
def dkwX10_where_1 : List UInt8 := [182, 1, 109, 42, 180, 1, 62, 62, 3, 54, 4, 21, 4, 42, 180, 1, 90, 162, 0, 32, 42, 180, 0, 49]
abbrev dktX10_where_1 : List UInt8 := dkwX10_where_1 ++ dktX10_where_2
def dkwX10_where_0 : List UInt8 := [42, 27, 182, 1, 14, 153, 0, 12, 42, 28, 133, 182, 1, 22, 154, 0, 6, 16, 254, 172, 42, 27]
abbrev dktX10_where_0 : List UInt8 := dkwX10_where_0 ++ dktX10_where_1
theorem dksX10_where_0 : cX10_where.data.toList.drop 0 = dktX10_where_0 := by decide +kernel
theorem dksX10_where_1 : cX10_where.data.toList.drop 22 = dktX10_where_1 := dk_seg dksX10_where_0 22 rfl rfl
theorem dksX10_where_2 : cX10_where.data.toList.drop 46 = dktX10_where_2 := dk_seg dksX10_where_1 24 rfl rfl
theorem dksX10_where_3 : cX10_where.data.toList.drop 68 = dktX10_where_3 := dk_seg dksX10_where_2 22 rfl rfl
theorem dX10_where_0 : decode cX10_where 0 = .ok (.aload_n 0, 1) := dk_42 (dk_at dksX10_where_0 0 rfl rfl)
theorem dX10_where_1 : decode cX10_where 1 = .ok (.iload_n 1, 1) := dk_27 (dk_at dksX10_where_0 1 rfl rfl)
theorem dX10_where_2 : decode cX10_where 2 = .ok (.invokevirtual 270, 3) := dk_182 1 14 (dk_at dksX10_where_0 2 rfl rfl)
theorem dX10_where_5 : decode cX10_where 5 = .ok (.ifCond .eq 12, 3) := dk_153 0 12 (dk_at dksX10_where_0 5 rfl rfl)
theorem dX10_where_8 : decode cX10_where 8 = .ok (.aload_n 0, 1) := dk_42 (dk_at dksX10_where_0 8 rfl rfl)
theorem dX10_where_9 : decode cX10_where 9 = .ok (.iload_n 2, 1) := dk_28 (dk_at dksX10_where_0 9 rfl rfl)
theorem dX10_where_10 : decode cX10_where 10 = .ok (.i2l, 1) := dk_133 (dk_at dksX10_where_0 10 rfl rfl)
theorem dX10_where_11 : decode cX10_where 11 = .ok (.invokevirtual 278, 3) := dk_182 1 22 (dk_at dksX10_where_0 11 rfl rfl)
theorem dX10_where_14 : decode cX10_where 14 = .ok (.ifCond .ne 6, 3) := dk_154 0 6 (dk_at dksX10_where_0 14 rfl rfl)
theorem dX10_where_17 : decode cX10_where 17 = .ok (.bipush (-2), 2) := dk_16 254 (dk_at dksX10_where_0 17 rfl rfl)
theorem dX10_where_19 : decode cX10_where 19 = .ok (.ireturn, 1) := dk_172 (dk_at dksX10_where_0 19 rfl rfl)
theorem dX10_where_20 : decode cX10_where 20 = .ok (.aload_n 0, 1) := dk_42 (dk_at dksX10_where_0 20 rfl rfl)
theorem dX10_where_21 : decode cX10_where 21 = .ok (.iload_n 1, 1) := dk_27 (dk_at dksX10_where_0 21 rfl rfl)
theorem dX10_where_22 : decode cX10_where 22 = .ok (.invokevirtual 365, 3) := dk_182 1 109 (dk_at dksX10_where_1 0 rfl rfl)
theorem dX10_where_25 : decode cX10_where 25 = .ok (.aload_n 0, 1) := dk_42 (dk_at dksX10_where_1 3 rfl rfl)
theorem dX10_where_26 : decode cX10_where 26 = .ok (.getfield 318, 3) := dk_180 1 62 (dk_at dksX10_where_1 4 rfl rfl)
theorem dX10_where_29 : decode cX10_where 29 = .ok (.istore_n 3, 1) := dk_62 (dk_at dksX10_where_1 7 rfl rfl)
theorem dX10_where_30 : decode cX10_where 30 = .ok (.iconst 0, 1) := dk_3 (dk_at dksX10_where_1 8 rfl rfl)
theorem dX10_where_31 : decode cX10_where 31 = .ok (.istore 4, 2) := dk_54 4 (dk_at dksX10_where_1 9 rfl rfl)
theorem dX10_where_33 : decode cX10_where 33 = .ok (.iload 4, 2) := dk_21 4 (dk_at dksX10_where_1 11 rfl rfl)
theorem dX10_where_35 : decode cX10_where 35 = .ok (.aload_n 0, 1) := dk_42 (dk_at dksX10_where_1 13 rfl rfl)
theorem dX10_where_36 : decode cX10_where 36 = .ok (.getfield 346, 3) := dk_180 1 90 (dk_at dksX10_where_1 14 rfl rfl)
theorem dX10_where_39 : decode cX10_where 39 = .ok (.if_icmp .ge 32, 3) := dk_162 0 32 (dk_at dksX10_where_1 17 rfl rfl)
theorem dX10_where_42 : decode cX10_where 42 = .ok (.aload_n 0, 1) := dk_42 (dk_at dksX10_where_1 20 rfl rfl)
theorem dX10_where_43 : decode cX10_where 43 = .ok (.getfield 49, 3) := dk_180 0 49 (dk_at dksX10_where_1 21 rfl rfl)
theorem dX10_where_46 : decode cX10_where 46 = .ok (.iload 4, 2) := dk_21 4 (dk_at dksX10_where_2 0 rfl rfl)
theorem dX10_where_48 : decode cX10_where 48 = .ok (.iaload, 1) := dk_46 (dk_at dksX10_where_2 2 rfl rfl)
theorem dX10_where_49 : decode cX10_where 49 = .ok (.iload_n 2, 1) := dk_28 (dk_at dksX10_where_2 3 rfl rfl)
theorem dX10_where_50 : decode cX10_where 50 = .ok (.if_icmp .gt 13, 3) := dk_163 0 13 (dk_at dksX10_where_2 4 rfl rfl)
theorem dX10_where_53 : decode cX10_where 53 = .ok (.aload_n 0, 1) := dk_42 (dk_at dksX10_where_2 7 rfl rfl)
theorem dX10_where_54 : decode cX10_where 54 = .ok (.getfield 52, 3) := dk_180 0 52 (dk_at dksX10_where_2 8 rfl rfl)
theorem dX10_where_57 : decode cX10_where 57 = .ok (.iload 4, 2) := dk_21 4 (dk_at dksX10_where_2 11 rfl rfl)
theorem dX10_where_59 : decode cX10_where 59 = .ok (.iaload, 1) := dk_46 (dk_at dksX10_where_2 13 rfl rfl)
theorem dX10_where_60 : decode cX10_where 60 = .ok (.goto 4, 3) := dk_167 0 4 (dk_at dksX10_where_2 14 rfl rfl)
theorem dX10_where_63 : decode cX10_where 63 = .ok (.iload_n 3, 1) := dk_29 (dk_at dksX10_where_2 17 rfl rfl)
theorem dX10_where_64 : decode cX10_where 64 = .ok (.istore_n 3, 1) := dk_62 (dk_at dksX10_where_2 18 rfl rfl)
theorem dX10_where_65 : decode cX10_where 65 = .ok (.iinc 4 1, 3) := dk_132 4 1 (dk_at dksX10_where_2 19 rfl rfl)
theorem dX10_where_68 : decode cX10_where 68 = .ok (.goto (-35), 3) := dk_167 255 221 (dk_at dksX10_where_3 0 rfl rfl)
theorem dX10_where_71 : decode cX10_where 71 = .ok (.iload_n 3, 1) := dk_29 (dk_at dksX10_where_3 3 rfl rfl)
theorem dX10_where_72 : decode cX10_where 72 = .ok (.ireturn, 1) := dk_172 (dk_at dksX10_where_3 4 rfl rfl)
abbrev cX10_missed : ByteArray := prog_16_method_71_code
def yX10_missed : MethodName := ⟨RX10, "missed", "(I)I"⟩
def dkwX10_missed_2 : List UInt8 := [2, 160, 0, 7, 4, 167, 0, 4, 5, 162, 0, 5, 28, 172, 132, 2, 1, 167, 255, 210, 2, 172]
abbrev dktX10_missed_2 : List UInt8 := dkwX10_missed_2 ++ []
def dkwX10_missed_1 : List UInt8 := [162, 0, 44, 42, 28, 5, 182, 1, 35, 154, 0, 29, 42, 180, 0, 43, 28, 46, 42, 28, 4, 182, 1, 35]
abbrev dktX10_missed_1 : List UInt8 := dkwX10_missed_1 ++ dktX10_missed_2
def dkwX10_missed_0 : List UInt8 := [42, 27, 182, 1, 14, 154, 0, 6, 16, 254, 172, 42, 27, 182, 1, 109, 3, 61, 28, 42, 180, 0, 248]
abbrev dktX10_missed_0 : List UInt8 := dkwX10_missed_0 ++ dktX10_missed_1
theorem dksX10_missed_0 : cX10_missed.data.toList.drop 0 = dktX10_missed_0 := by decide +kernel
theorem dksX10_missed_1 : cX10_missed.data.toList.drop 23 = dktX10_missed_1 := dk_seg dksX10_missed_0 23 rfl rfl
theorem dksX10_missed_2 : cX10_missed.data.toList.drop 47 = dktX10_missed_2 := dk_seg dksX10_missed_1 24 rfl rfl
theorem dX10_missed_0 : decode cX10_missed 0 = .ok (.aload_n 0, 1) := dk_42 (dk_at dksX10_missed_0 0 rfl rfl)
theorem dX10_missed_1 : decode cX10_missed 1 = .ok (.iload_n 1, 1) := dk_27 (dk_at dksX10_missed_0 1 rfl rfl)
theorem dX10_missed_2 : decode cX10_missed 2 = .ok (.invokevirtual 270, 3) := dk_182 1 14 (dk_at dksX10_missed_0 2 rfl rfl)
theorem dX10_missed_5 : decode cX10_missed 5 = .ok (.ifCond .ne 6, 3) := dk_154 0 6 (dk_at dksX10_missed_0 5 rfl rfl)
theorem dX10_missed_8 : decode cX10_missed 8 = .ok (.bipush (-2), 2) := dk_16 254 (dk_at dksX10_missed_0 8 rfl rfl)
theorem dX10_missed_10 : decode cX10_missed 10 = .ok (.ireturn, 1) := dk_172 (dk_at dksX10_missed_0 10 rfl rfl)
theorem dX10_missed_11 : decode cX10_missed 11 = .ok (.aload_n 0, 1) := dk_42 (dk_at dksX10_missed_0 11 rfl rfl)
theorem dX10_missed_12 : decode cX10_missed 12 = .ok (.iload_n 1, 1) := dk_27 (dk_at dksX10_missed_0 12 rfl rfl)
theorem dX10_missed_13 : decode cX10_missed 13 = .ok (.invokevirtual 365, 3) := dk_182 1 109 (dk_at dksX10_missed_0 13 rfl rfl)
theorem dX10_missed_16 : decode cX10_missed 16 = .ok (.iconst 0, 1) := dk_3 (dk_at dksX10_missed_0 16 rfl rfl)
theorem dX10_missed_17 : decode cX10_missed 17 = .ok (.istore_n 2, 1) := dk_61 (dk_at dksX10_missed_0 17 rfl rfl)
theorem dX10_missed_18 : decode cX10_missed 18 = .ok (.iload_n 2, 1) := dk_28 (dk_at dksX10_missed_0 18 rfl rfl)
theorem dX10_missed_19 : decode cX10_missed 19 = .ok (.aload_n 0, 1) := dk_42 (dk_at dksX10_missed_0 19 rfl rfl)
theorem dX10_missed_20 : decode cX10_missed 20 = .ok (.getfield 248, 3) := dk_180 0 248 (dk_at dksX10_missed_0 20 rfl rfl)
theorem dX10_missed_23 : decode cX10_missed 23 = .ok (.if_icmp .ge 44, 3) := dk_162 0 44 (dk_at dksX10_missed_1 0 rfl rfl)
theorem dX10_missed_26 : decode cX10_missed 26 = .ok (.aload_n 0, 1) := dk_42 (dk_at dksX10_missed_1 3 rfl rfl)
theorem dX10_missed_27 : decode cX10_missed 27 = .ok (.iload_n 2, 1) := dk_28 (dk_at dksX10_missed_1 4 rfl rfl)
theorem dX10_missed_28 : decode cX10_missed 28 = .ok (.iconst 2, 1) := dk_5 (dk_at dksX10_missed_1 5 rfl rfl)
theorem dX10_missed_29 : decode cX10_missed 29 = .ok (.invokevirtual 291, 3) := dk_182 1 35 (dk_at dksX10_missed_1 6 rfl rfl)
theorem dX10_missed_32 : decode cX10_missed 32 = .ok (.ifCond .ne 29, 3) := dk_154 0 29 (dk_at dksX10_missed_1 9 rfl rfl)
theorem dX10_missed_35 : decode cX10_missed 35 = .ok (.aload_n 0, 1) := dk_42 (dk_at dksX10_missed_1 12 rfl rfl)
theorem dX10_missed_36 : decode cX10_missed 36 = .ok (.getfield 43, 3) := dk_180 0 43 (dk_at dksX10_missed_1 13 rfl rfl)
theorem dX10_missed_39 : decode cX10_missed 39 = .ok (.iload_n 2, 1) := dk_28 (dk_at dksX10_missed_1 16 rfl rfl)
theorem dX10_missed_40 : decode cX10_missed 40 = .ok (.iaload, 1) := dk_46 (dk_at dksX10_missed_1 17 rfl rfl)
theorem dX10_missed_41 : decode cX10_missed 41 = .ok (.aload_n 0, 1) := dk_42 (dk_at dksX10_missed_1 18 rfl rfl)
theorem dX10_missed_42 : decode cX10_missed 42 = .ok (.iload_n 2, 1) := dk_28 (dk_at dksX10_missed_1 19 rfl rfl)
theorem dX10_missed_43 : decode cX10_missed 43 = .ok (.iconst 1, 1) := dk_4 (dk_at dksX10_missed_1 20 rfl rfl)
theorem dX10_missed_44 : decode cX10_missed 44 = .ok (.invokevirtual 291, 3) := dk_182 1 35 (dk_at dksX10_missed_1 21 rfl rfl)
theorem dX10_missed_47 : decode cX10_missed 47 = .ok (.iconst (-1), 1) := dk_2 (dk_at dksX10_missed_2 0 rfl rfl)
theorem dX10_missed_48 : decode cX10_missed 48 = .ok (.if_icmp .ne 7, 3) := dk_160 0 7 (dk_at dksX10_missed_2 1 rfl rfl)
theorem dX10_missed_51 : decode cX10_missed 51 = .ok (.iconst 1, 1) := dk_4 (dk_at dksX10_missed_2 4 rfl rfl)
theorem dX10_missed_52 : decode cX10_missed 52 = .ok (.goto 4, 3) := dk_167 0 4 (dk_at dksX10_missed_2 5 rfl rfl)
theorem dX10_missed_55 : decode cX10_missed 55 = .ok (.iconst 2, 1) := dk_5 (dk_at dksX10_missed_2 8 rfl rfl)
theorem dX10_missed_56 : decode cX10_missed 56 = .ok (.if_icmp .ge 5, 3) := dk_162 0 5 (dk_at dksX10_missed_2 9 rfl rfl)
theorem dX10_missed_59 : decode cX10_missed 59 = .ok (.iload_n 2, 1) := dk_28 (dk_at dksX10_missed_2 12 rfl rfl)
theorem dX10_missed_60 : decode cX10_missed 60 = .ok (.ireturn, 1) := dk_172 (dk_at dksX10_missed_2 13 rfl rfl)
theorem dX10_missed_61 : decode cX10_missed 61 = .ok (.iinc 2 1, 3) := dk_132 2 1 (dk_at dksX10_missed_2 14 rfl rfl)
theorem dX10_missed_64 : decode cX10_missed 64 = .ok (.goto (-46), 3) := dk_167 255 210 (dk_at dksX10_missed_2 17 rfl rfl)
theorem dX10_missed_67 : decode cX10_missed 67 = .ok (.iconst (-1), 1) := dk_2 (dk_at dksX10_missed_2 20 rfl rfl)
theorem dX10_missed_68 : decode cX10_missed 68 = .ok (.ireturn, 1) := dk_172 (dk_at dksX10_missed_2 21 rfl rfl)
abbrev cX10_walked : ByteArray := prog_16_method_72_code
def yX10_walked : MethodName := ⟨RX10, "walked", "(I)I"⟩
def dkwX10_walked_0 : List UInt8 := [42, 27, 182, 1, 14, 154, 0, 6, 16, 254, 172, 42, 27, 182, 1, 109, 42, 180, 1, 87, 172]
abbrev dktX10_walked_0 : List UInt8 := dkwX10_walked_0 ++ []
theorem dksX10_walked_0 : cX10_walked.data.toList.drop 0 = dktX10_walked_0 := by decide +kernel
theorem dX10_walked_0 : decode cX10_walked 0 = .ok (.aload_n 0, 1) := dk_42 (dk_at dksX10_walked_0 0 rfl rfl)
theorem dX10_walked_1 : decode cX10_walked 1 = .ok (.iload_n 1, 1) := dk_27 (dk_at dksX10_walked_0 1 rfl rfl)
theorem dX10_walked_2 : decode cX10_walked 2 = .ok (.invokevirtual 270, 3) := dk_182 1 14 (dk_at dksX10_walked_0 2 rfl rfl)
theorem dX10_walked_5 : decode cX10_walked 5 = .ok (.ifCond .ne 6, 3) := dk_154 0 6 (dk_at dksX10_walked_0 5 rfl rfl)
theorem dX10_walked_8 : decode cX10_walked 8 = .ok (.bipush (-2), 2) := dk_16 254 (dk_at dksX10_walked_0 8 rfl rfl)
theorem dX10_walked_10 : decode cX10_walked 10 = .ok (.ireturn, 1) := dk_172 (dk_at dksX10_walked_0 10 rfl rfl)
theorem dX10_walked_11 : decode cX10_walked 11 = .ok (.aload_n 0, 1) := dk_42 (dk_at dksX10_walked_0 11 rfl rfl)
theorem dX10_walked_12 : decode cX10_walked 12 = .ok (.iload_n 1, 1) := dk_27 (dk_at dksX10_walked_0 12 rfl rfl)
theorem dX10_walked_13 : decode cX10_walked 13 = .ok (.invokevirtual 365, 3) := dk_182 1 109 (dk_at dksX10_walked_0 13 rfl rfl)
theorem dX10_walked_16 : decode cX10_walked 16 = .ok (.aload_n 0, 1) := dk_42 (dk_at dksX10_walked_0 16 rfl rfl)
theorem dX10_walked_17 : decode cX10_walked 17 = .ok (.getfield 343, 3) := dk_180 1 87 (dk_at dksX10_walked_0 17 rfl rfl)
theorem dX10_walked_20 : decode cX10_walked 20 = .ok (.ireturn, 1) := dk_172 (dk_at dksX10_walked_0 20 rfl rfl)
abbrev cX10_best : ByteArray := prog_16_method_78_code
def yX10_best : MethodName := ⟨RX10, "best", "(I)I"⟩
def dkwX10_best_0 : List UInt8 := [42, 27, 182, 1, 14, 153, 0, 13, 42, 27, 16, 60, 182, 1, 126, 167, 0, 5, 16, 254, 172]
abbrev dktX10_best_0 : List UInt8 := dkwX10_best_0 ++ []
theorem dksX10_best_0 : cX10_best.data.toList.drop 0 = dktX10_best_0 := by decide +kernel
theorem dX10_best_0 : decode cX10_best 0 = .ok (.aload_n 0, 1) := dk_42 (dk_at dksX10_best_0 0 rfl rfl)
theorem dX10_best_1 : decode cX10_best 1 = .ok (.iload_n 1, 1) := dk_27 (dk_at dksX10_best_0 1 rfl rfl)
theorem dX10_best_2 : decode cX10_best 2 = .ok (.invokevirtual 270, 3) := dk_182 1 14 (dk_at dksX10_best_0 2 rfl rfl)
theorem dX10_best_5 : decode cX10_best 5 = .ok (.ifCond .eq 13, 3) := dk_153 0 13 (dk_at dksX10_best_0 5 rfl rfl)
theorem dX10_best_8 : decode cX10_best 8 = .ok (.aload_n 0, 1) := dk_42 (dk_at dksX10_best_0 8 rfl rfl)
theorem dX10_best_9 : decode cX10_best 9 = .ok (.iload_n 1, 1) := dk_27 (dk_at dksX10_best_0 9 rfl rfl)
theorem dX10_best_10 : decode cX10_best 10 = .ok (.bipush 60, 2) := dk_16 60 (dk_at dksX10_best_0 10 rfl rfl)
theorem dX10_best_12 : decode cX10_best 12 = .ok (.invokevirtual 382, 3) := dk_182 1 126 (dk_at dksX10_best_0 12 rfl rfl)
theorem dX10_best_15 : decode cX10_best 15 = .ok (.goto 5, 3) := dk_167 0 5 (dk_at dksX10_best_0 15 rfl rfl)
theorem dX10_best_18 : decode cX10_best 18 = .ok (.bipush (-2), 2) := dk_16 254 (dk_at dksX10_best_0 18 rfl rfl)
theorem dX10_best_20 : decode cX10_best 20 = .ok (.ireturn, 1) := dk_172 (dk_at dksX10_best_0 20 rfl rfl)
abbrev cX10_bestOf : ByteArray := prog_16_method_77_code
def yX10_bestOf : MethodName := ⟨RX10, "bestOf", "(II)I"⟩
def dkwX10_bestOf_9 : List UInt8 := [167, 0, 4, 29, 62, 132, 5, 1, 167, 255, 217, 132, 4, 1, 167, 255, 199, 29, 172]
abbrev dktX10_bestOf_9 : List UInt8 := dkwX10_bestOf_9 ++ []
def dkwX10_bestOf_8 : List UInt8 := [180, 0, 55, 21, 4, 21, 5, 184, 1, 112, 46, 19, 1, 115, 162, 0, 12, 29, 21, 5, 184, 1, 81]
abbrev dktX10_bestOf_8 : List UInt8 := dkwX10_bestOf_8 ++ dktX10_bestOf_9
def dkwX10_bestOf_7 : List UInt8 := [54, 4, 21, 4, 42, 182, 0, 92, 162, 0, 54, 3, 54, 5, 21, 5, 16, 121, 162, 0, 38, 42]
abbrev dktX10_bestOf_7 : List UInt8 := dkwX10_bestOf_7 ++ dktX10_bestOf_8
def dkwX10_bestOf_6 : List UInt8 := [42, 29, 4, 182, 1, 35, 42, 29, 3, 182, 1, 35, 182, 1, 123, 132, 3, 1, 167, 255, 150, 3, 62, 3]
abbrev dktX10_bestOf_6 : List UInt8 := dkwX10_bestOf_6 ++ dktX10_bestOf_7
def dkwX10_bestOf_5 : List UInt8 := [182, 1, 35, 42, 29, 4, 182, 1, 35, 182, 1, 123, 42, 29, 4, 182, 1, 35, 2, 159, 0, 20, 42, 29]
abbrev dktX10_bestOf_5 : List UInt8 := dkwX10_bestOf_5 ++ dktX10_bestOf_6
def dkwX10_bestOf_4 : List UInt8 := [180, 0, 58, 21, 4, 42, 180, 0, 55, 21, 4, 46, 79, 132, 4, 1, 167, 255, 229, 42, 29, 42, 29, 3]
abbrev dktX10_bestOf_4 : List UInt8 := dkwX10_bestOf_4 ++ dktX10_bestOf_5
def dkwX10_bestOf_3 : List UInt8 := [182, 1, 35, 4, 160, 0, 6, 167, 0, 80, 3, 54, 4, 21, 4, 42, 180, 0, 55, 190, 162, 0, 23, 42]
abbrev dktX10_bestOf_3 : List UInt8 := dkwX10_bestOf_3 ++ dktX10_bestOf_4
def dkwX10_bestOf_2 : List UInt8 := [184, 1, 112, 3, 79, 3, 62, 29, 42, 180, 0, 248, 162, 0, 104, 29, 28, 162, 0, 99, 42, 29, 5]
abbrev dktX10_bestOf_2 : List UInt8 := dkwX10_bestOf_2 ++ dktX10_bestOf_3
def dkwX10_bestOf_1 : List UInt8 := [29, 19, 1, 115, 79, 132, 3, 1, 167, 255, 235, 42, 180, 0, 55, 42, 27, 7, 182, 1, 19, 3]
abbrev dktX10_bestOf_1 : List UInt8 := dkwX10_bestOf_1 ++ dktX10_bestOf_2
def dkwX10_bestOf_0 : List UInt8 := [42, 182, 1, 29, 42, 27, 181, 1, 53, 3, 62, 29, 42, 180, 0, 55, 190, 162, 0, 18, 42, 180, 0, 55]
abbrev dktX10_bestOf_0 : List UInt8 := dkwX10_bestOf_0 ++ dktX10_bestOf_1
theorem dksX10_bestOf_0 : cX10_bestOf.data.toList.drop 0 = dktX10_bestOf_0 := by decide +kernel
theorem dksX10_bestOf_1 : cX10_bestOf.data.toList.drop 24 = dktX10_bestOf_1 := dk_seg dksX10_bestOf_0 24 rfl rfl
theorem dksX10_bestOf_2 : cX10_bestOf.data.toList.drop 46 = dktX10_bestOf_2 := dk_seg dksX10_bestOf_1 22 rfl rfl
theorem dksX10_bestOf_3 : cX10_bestOf.data.toList.drop 69 = dktX10_bestOf_3 := dk_seg dksX10_bestOf_2 23 rfl rfl
theorem dksX10_bestOf_4 : cX10_bestOf.data.toList.drop 93 = dktX10_bestOf_4 := dk_seg dksX10_bestOf_3 24 rfl rfl
theorem dksX10_bestOf_5 : cX10_bestOf.data.toList.drop 117 = dktX10_bestOf_5 := dk_seg dksX10_bestOf_4 24 rfl rfl
theorem dksX10_bestOf_6 : cX10_bestOf.data.toList.drop 141 = dktX10_bestOf_6 := dk_seg dksX10_bestOf_5 24 rfl rfl
theorem dksX10_bestOf_7 : cX10_bestOf.data.toList.drop 165 = dktX10_bestOf_7 := dk_seg dksX10_bestOf_6 24 rfl rfl
theorem dksX10_bestOf_8 : cX10_bestOf.data.toList.drop 187 = dktX10_bestOf_8 := dk_seg dksX10_bestOf_7 22 rfl rfl
theorem dksX10_bestOf_9 : cX10_bestOf.data.toList.drop 210 = dktX10_bestOf_9 := dk_seg dksX10_bestOf_8 23 rfl rfl
theorem dX10_bestOf_0 : decode cX10_bestOf 0 = .ok (.aload_n 0, 1) := dk_42 (dk_at dksX10_bestOf_0 0 rfl rfl)
theorem dX10_bestOf_1 : decode cX10_bestOf 1 = .ok (.invokevirtual 285, 3) := dk_182 1 29 (dk_at dksX10_bestOf_0 1 rfl rfl)
theorem dX10_bestOf_4 : decode cX10_bestOf 4 = .ok (.aload_n 0, 1) := dk_42 (dk_at dksX10_bestOf_0 4 rfl rfl)
theorem dX10_bestOf_5 : decode cX10_bestOf 5 = .ok (.iload_n 1, 1) := dk_27 (dk_at dksX10_bestOf_0 5 rfl rfl)
theorem dX10_bestOf_6 : decode cX10_bestOf 6 = .ok (.putfield 309, 3) := dk_181 1 53 (dk_at dksX10_bestOf_0 6 rfl rfl)
theorem dX10_bestOf_9 : decode cX10_bestOf 9 = .ok (.iconst 0, 1) := dk_3 (dk_at dksX10_bestOf_0 9 rfl rfl)
theorem dX10_bestOf_10 : decode cX10_bestOf 10 = .ok (.istore_n 3, 1) := dk_62 (dk_at dksX10_bestOf_0 10 rfl rfl)
theorem dX10_bestOf_11 : decode cX10_bestOf 11 = .ok (.iload_n 3, 1) := dk_29 (dk_at dksX10_bestOf_0 11 rfl rfl)
theorem dX10_bestOf_12 : decode cX10_bestOf 12 = .ok (.aload_n 0, 1) := dk_42 (dk_at dksX10_bestOf_0 12 rfl rfl)
theorem dX10_bestOf_13 : decode cX10_bestOf 13 = .ok (.getfield 55, 3) := dk_180 0 55 (dk_at dksX10_bestOf_0 13 rfl rfl)
theorem dX10_bestOf_16 : decode cX10_bestOf 16 = .ok (.arraylength, 1) := dk_190 (dk_at dksX10_bestOf_0 16 rfl rfl)
theorem dX10_bestOf_17 : decode cX10_bestOf 17 = .ok (.if_icmp .ge 18, 3) := dk_162 0 18 (dk_at dksX10_bestOf_0 17 rfl rfl)
theorem dX10_bestOf_20 : decode cX10_bestOf 20 = .ok (.aload_n 0, 1) := dk_42 (dk_at dksX10_bestOf_0 20 rfl rfl)
theorem dX10_bestOf_21 : decode cX10_bestOf 21 = .ok (.getfield 55, 3) := dk_180 0 55 (dk_at dksX10_bestOf_0 21 rfl rfl)
theorem dX10_bestOf_24 : decode cX10_bestOf 24 = .ok (.iload_n 3, 1) := dk_29 (dk_at dksX10_bestOf_1 0 rfl rfl)
theorem dX10_bestOf_25 : decode cX10_bestOf 25 = .ok (.ldc_w 371, 3) := dk_19 1 115 (dk_at dksX10_bestOf_1 1 rfl rfl)
theorem dX10_bestOf_28 : decode cX10_bestOf 28 = .ok (.iastore, 1) := dk_79 (dk_at dksX10_bestOf_1 4 rfl rfl)
theorem dX10_bestOf_29 : decode cX10_bestOf 29 = .ok (.iinc 3 1, 3) := dk_132 3 1 (dk_at dksX10_bestOf_1 5 rfl rfl)
theorem dX10_bestOf_32 : decode cX10_bestOf 32 = .ok (.goto (-21), 3) := dk_167 255 235 (dk_at dksX10_bestOf_1 8 rfl rfl)
theorem dX10_bestOf_35 : decode cX10_bestOf 35 = .ok (.aload_n 0, 1) := dk_42 (dk_at dksX10_bestOf_1 11 rfl rfl)
theorem dX10_bestOf_36 : decode cX10_bestOf 36 = .ok (.getfield 55, 3) := dk_180 0 55 (dk_at dksX10_bestOf_1 12 rfl rfl)
theorem dX10_bestOf_39 : decode cX10_bestOf 39 = .ok (.aload_n 0, 1) := dk_42 (dk_at dksX10_bestOf_1 15 rfl rfl)
theorem dX10_bestOf_40 : decode cX10_bestOf 40 = .ok (.iload_n 1, 1) := dk_27 (dk_at dksX10_bestOf_1 16 rfl rfl)
theorem dX10_bestOf_41 : decode cX10_bestOf 41 = .ok (.iconst 4, 1) := dk_7 (dk_at dksX10_bestOf_1 17 rfl rfl)
theorem dX10_bestOf_42 : decode cX10_bestOf 42 = .ok (.invokevirtual 275, 3) := dk_182 1 19 (dk_at dksX10_bestOf_1 18 rfl rfl)
theorem dX10_bestOf_45 : decode cX10_bestOf 45 = .ok (.iconst 0, 1) := dk_3 (dk_at dksX10_bestOf_1 21 rfl rfl)
theorem dX10_bestOf_46 : decode cX10_bestOf 46 = .ok (.invokestatic 368, 3) := dk_184 1 112 (dk_at dksX10_bestOf_2 0 rfl rfl)
theorem dX10_bestOf_49 : decode cX10_bestOf 49 = .ok (.iconst 0, 1) := dk_3 (dk_at dksX10_bestOf_2 3 rfl rfl)
theorem dX10_bestOf_50 : decode cX10_bestOf 50 = .ok (.iastore, 1) := dk_79 (dk_at dksX10_bestOf_2 4 rfl rfl)
theorem dX10_bestOf_51 : decode cX10_bestOf 51 = .ok (.iconst 0, 1) := dk_3 (dk_at dksX10_bestOf_2 5 rfl rfl)
theorem dX10_bestOf_52 : decode cX10_bestOf 52 = .ok (.istore_n 3, 1) := dk_62 (dk_at dksX10_bestOf_2 6 rfl rfl)
theorem dX10_bestOf_53 : decode cX10_bestOf 53 = .ok (.iload_n 3, 1) := dk_29 (dk_at dksX10_bestOf_2 7 rfl rfl)
theorem dX10_bestOf_54 : decode cX10_bestOf 54 = .ok (.aload_n 0, 1) := dk_42 (dk_at dksX10_bestOf_2 8 rfl rfl)
theorem dX10_bestOf_55 : decode cX10_bestOf 55 = .ok (.getfield 248, 3) := dk_180 0 248 (dk_at dksX10_bestOf_2 9 rfl rfl)
theorem dX10_bestOf_58 : decode cX10_bestOf 58 = .ok (.if_icmp .ge 104, 3) := dk_162 0 104 (dk_at dksX10_bestOf_2 12 rfl rfl)
theorem dX10_bestOf_61 : decode cX10_bestOf 61 = .ok (.iload_n 3, 1) := dk_29 (dk_at dksX10_bestOf_2 15 rfl rfl)
theorem dX10_bestOf_62 : decode cX10_bestOf 62 = .ok (.iload_n 2, 1) := dk_28 (dk_at dksX10_bestOf_2 16 rfl rfl)
theorem dX10_bestOf_63 : decode cX10_bestOf 63 = .ok (.if_icmp .ge 99, 3) := dk_162 0 99 (dk_at dksX10_bestOf_2 17 rfl rfl)
theorem dX10_bestOf_66 : decode cX10_bestOf 66 = .ok (.aload_n 0, 1) := dk_42 (dk_at dksX10_bestOf_2 20 rfl rfl)
theorem dX10_bestOf_67 : decode cX10_bestOf 67 = .ok (.iload_n 3, 1) := dk_29 (dk_at dksX10_bestOf_2 21 rfl rfl)
theorem dX10_bestOf_68 : decode cX10_bestOf 68 = .ok (.iconst 2, 1) := dk_5 (dk_at dksX10_bestOf_2 22 rfl rfl)
theorem dX10_bestOf_69 : decode cX10_bestOf 69 = .ok (.invokevirtual 291, 3) := dk_182 1 35 (dk_at dksX10_bestOf_3 0 rfl rfl)
theorem dX10_bestOf_72 : decode cX10_bestOf 72 = .ok (.iconst 1, 1) := dk_4 (dk_at dksX10_bestOf_3 3 rfl rfl)
theorem dX10_bestOf_73 : decode cX10_bestOf 73 = .ok (.if_icmp .ne 6, 3) := dk_160 0 6 (dk_at dksX10_bestOf_3 4 rfl rfl)
theorem dX10_bestOf_76 : decode cX10_bestOf 76 = .ok (.goto 80, 3) := dk_167 0 80 (dk_at dksX10_bestOf_3 7 rfl rfl)
theorem dX10_bestOf_79 : decode cX10_bestOf 79 = .ok (.iconst 0, 1) := dk_3 (dk_at dksX10_bestOf_3 10 rfl rfl)
theorem dX10_bestOf_80 : decode cX10_bestOf 80 = .ok (.istore 4, 2) := dk_54 4 (dk_at dksX10_bestOf_3 11 rfl rfl)
theorem dX10_bestOf_82 : decode cX10_bestOf 82 = .ok (.iload 4, 2) := dk_21 4 (dk_at dksX10_bestOf_3 13 rfl rfl)
theorem dX10_bestOf_84 : decode cX10_bestOf 84 = .ok (.aload_n 0, 1) := dk_42 (dk_at dksX10_bestOf_3 15 rfl rfl)
theorem dX10_bestOf_85 : decode cX10_bestOf 85 = .ok (.getfield 55, 3) := dk_180 0 55 (dk_at dksX10_bestOf_3 16 rfl rfl)
theorem dX10_bestOf_88 : decode cX10_bestOf 88 = .ok (.arraylength, 1) := dk_190 (dk_at dksX10_bestOf_3 19 rfl rfl)
theorem dX10_bestOf_89 : decode cX10_bestOf 89 = .ok (.if_icmp .ge 23, 3) := dk_162 0 23 (dk_at dksX10_bestOf_3 20 rfl rfl)
theorem dX10_bestOf_92 : decode cX10_bestOf 92 = .ok (.aload_n 0, 1) := dk_42 (dk_at dksX10_bestOf_3 23 rfl rfl)
theorem dX10_bestOf_93 : decode cX10_bestOf 93 = .ok (.getfield 58, 3) := dk_180 0 58 (dk_at dksX10_bestOf_4 0 rfl rfl)
theorem dX10_bestOf_96 : decode cX10_bestOf 96 = .ok (.iload 4, 2) := dk_21 4 (dk_at dksX10_bestOf_4 3 rfl rfl)
theorem dX10_bestOf_98 : decode cX10_bestOf 98 = .ok (.aload_n 0, 1) := dk_42 (dk_at dksX10_bestOf_4 5 rfl rfl)
theorem dX10_bestOf_99 : decode cX10_bestOf 99 = .ok (.getfield 55, 3) := dk_180 0 55 (dk_at dksX10_bestOf_4 6 rfl rfl)
theorem dX10_bestOf_102 : decode cX10_bestOf 102 = .ok (.iload 4, 2) := dk_21 4 (dk_at dksX10_bestOf_4 9 rfl rfl)
theorem dX10_bestOf_104 : decode cX10_bestOf 104 = .ok (.iaload, 1) := dk_46 (dk_at dksX10_bestOf_4 11 rfl rfl)
theorem dX10_bestOf_105 : decode cX10_bestOf 105 = .ok (.iastore, 1) := dk_79 (dk_at dksX10_bestOf_4 12 rfl rfl)
theorem dX10_bestOf_106 : decode cX10_bestOf 106 = .ok (.iinc 4 1, 3) := dk_132 4 1 (dk_at dksX10_bestOf_4 13 rfl rfl)
theorem dX10_bestOf_109 : decode cX10_bestOf 109 = .ok (.goto (-27), 3) := dk_167 255 229 (dk_at dksX10_bestOf_4 16 rfl rfl)
theorem dX10_bestOf_112 : decode cX10_bestOf 112 = .ok (.aload_n 0, 1) := dk_42 (dk_at dksX10_bestOf_4 19 rfl rfl)
theorem dX10_bestOf_113 : decode cX10_bestOf 113 = .ok (.iload_n 3, 1) := dk_29 (dk_at dksX10_bestOf_4 20 rfl rfl)
theorem dX10_bestOf_114 : decode cX10_bestOf 114 = .ok (.aload_n 0, 1) := dk_42 (dk_at dksX10_bestOf_4 21 rfl rfl)
theorem dX10_bestOf_115 : decode cX10_bestOf 115 = .ok (.iload_n 3, 1) := dk_29 (dk_at dksX10_bestOf_4 22 rfl rfl)
theorem dX10_bestOf_116 : decode cX10_bestOf 116 = .ok (.iconst 0, 1) := dk_3 (dk_at dksX10_bestOf_4 23 rfl rfl)
theorem dX10_bestOf_117 : decode cX10_bestOf 117 = .ok (.invokevirtual 291, 3) := dk_182 1 35 (dk_at dksX10_bestOf_5 0 rfl rfl)
theorem dX10_bestOf_120 : decode cX10_bestOf 120 = .ok (.aload_n 0, 1) := dk_42 (dk_at dksX10_bestOf_5 3 rfl rfl)
theorem dX10_bestOf_121 : decode cX10_bestOf 121 = .ok (.iload_n 3, 1) := dk_29 (dk_at dksX10_bestOf_5 4 rfl rfl)
theorem dX10_bestOf_122 : decode cX10_bestOf 122 = .ok (.iconst 1, 1) := dk_4 (dk_at dksX10_bestOf_5 5 rfl rfl)
theorem dX10_bestOf_123 : decode cX10_bestOf 123 = .ok (.invokevirtual 291, 3) := dk_182 1 35 (dk_at dksX10_bestOf_5 6 rfl rfl)
theorem dX10_bestOf_126 : decode cX10_bestOf 126 = .ok (.invokevirtual 379, 3) := dk_182 1 123 (dk_at dksX10_bestOf_5 9 rfl rfl)
theorem dX10_bestOf_129 : decode cX10_bestOf 129 = .ok (.aload_n 0, 1) := dk_42 (dk_at dksX10_bestOf_5 12 rfl rfl)
theorem dX10_bestOf_130 : decode cX10_bestOf 130 = .ok (.iload_n 3, 1) := dk_29 (dk_at dksX10_bestOf_5 13 rfl rfl)
theorem dX10_bestOf_131 : decode cX10_bestOf 131 = .ok (.iconst 1, 1) := dk_4 (dk_at dksX10_bestOf_5 14 rfl rfl)
theorem dX10_bestOf_132 : decode cX10_bestOf 132 = .ok (.invokevirtual 291, 3) := dk_182 1 35 (dk_at dksX10_bestOf_5 15 rfl rfl)
theorem dX10_bestOf_135 : decode cX10_bestOf 135 = .ok (.iconst (-1), 1) := dk_2 (dk_at dksX10_bestOf_5 18 rfl rfl)
theorem dX10_bestOf_136 : decode cX10_bestOf 136 = .ok (.if_icmp .eq 20, 3) := dk_159 0 20 (dk_at dksX10_bestOf_5 19 rfl rfl)
theorem dX10_bestOf_139 : decode cX10_bestOf 139 = .ok (.aload_n 0, 1) := dk_42 (dk_at dksX10_bestOf_5 22 rfl rfl)
theorem dX10_bestOf_140 : decode cX10_bestOf 140 = .ok (.iload_n 3, 1) := dk_29 (dk_at dksX10_bestOf_5 23 rfl rfl)
theorem dX10_bestOf_141 : decode cX10_bestOf 141 = .ok (.aload_n 0, 1) := dk_42 (dk_at dksX10_bestOf_6 0 rfl rfl)
theorem dX10_bestOf_142 : decode cX10_bestOf 142 = .ok (.iload_n 3, 1) := dk_29 (dk_at dksX10_bestOf_6 1 rfl rfl)
theorem dX10_bestOf_143 : decode cX10_bestOf 143 = .ok (.iconst 1, 1) := dk_4 (dk_at dksX10_bestOf_6 2 rfl rfl)
theorem dX10_bestOf_144 : decode cX10_bestOf 144 = .ok (.invokevirtual 291, 3) := dk_182 1 35 (dk_at dksX10_bestOf_6 3 rfl rfl)
theorem dX10_bestOf_147 : decode cX10_bestOf 147 = .ok (.aload_n 0, 1) := dk_42 (dk_at dksX10_bestOf_6 6 rfl rfl)
theorem dX10_bestOf_148 : decode cX10_bestOf 148 = .ok (.iload_n 3, 1) := dk_29 (dk_at dksX10_bestOf_6 7 rfl rfl)
theorem dX10_bestOf_149 : decode cX10_bestOf 149 = .ok (.iconst 0, 1) := dk_3 (dk_at dksX10_bestOf_6 8 rfl rfl)
theorem dX10_bestOf_150 : decode cX10_bestOf 150 = .ok (.invokevirtual 291, 3) := dk_182 1 35 (dk_at dksX10_bestOf_6 9 rfl rfl)
theorem dX10_bestOf_153 : decode cX10_bestOf 153 = .ok (.invokevirtual 379, 3) := dk_182 1 123 (dk_at dksX10_bestOf_6 12 rfl rfl)
theorem dX10_bestOf_156 : decode cX10_bestOf 156 = .ok (.iinc 3 1, 3) := dk_132 3 1 (dk_at dksX10_bestOf_6 15 rfl rfl)
theorem dX10_bestOf_159 : decode cX10_bestOf 159 = .ok (.goto (-106), 3) := dk_167 255 150 (dk_at dksX10_bestOf_6 18 rfl rfl)
theorem dX10_bestOf_162 : decode cX10_bestOf 162 = .ok (.iconst 0, 1) := dk_3 (dk_at dksX10_bestOf_6 21 rfl rfl)
theorem dX10_bestOf_163 : decode cX10_bestOf 163 = .ok (.istore_n 3, 1) := dk_62 (dk_at dksX10_bestOf_6 22 rfl rfl)
theorem dX10_bestOf_164 : decode cX10_bestOf 164 = .ok (.iconst 0, 1) := dk_3 (dk_at dksX10_bestOf_6 23 rfl rfl)
theorem dX10_bestOf_165 : decode cX10_bestOf 165 = .ok (.istore 4, 2) := dk_54 4 (dk_at dksX10_bestOf_7 0 rfl rfl)
theorem dX10_bestOf_167 : decode cX10_bestOf 167 = .ok (.iload 4, 2) := dk_21 4 (dk_at dksX10_bestOf_7 2 rfl rfl)
theorem dX10_bestOf_169 : decode cX10_bestOf 169 = .ok (.aload_n 0, 1) := dk_42 (dk_at dksX10_bestOf_7 4 rfl rfl)
theorem dX10_bestOf_170 : decode cX10_bestOf 170 = .ok (.invokevirtual 92, 3) := dk_182 0 92 (dk_at dksX10_bestOf_7 5 rfl rfl)
theorem dX10_bestOf_173 : decode cX10_bestOf 173 = .ok (.if_icmp .ge 54, 3) := dk_162 0 54 (dk_at dksX10_bestOf_7 8 rfl rfl)
theorem dX10_bestOf_176 : decode cX10_bestOf 176 = .ok (.iconst 0, 1) := dk_3 (dk_at dksX10_bestOf_7 11 rfl rfl)
theorem dX10_bestOf_177 : decode cX10_bestOf 177 = .ok (.istore 5, 2) := dk_54 5 (dk_at dksX10_bestOf_7 12 rfl rfl)
theorem dX10_bestOf_179 : decode cX10_bestOf 179 = .ok (.iload 5, 2) := dk_21 5 (dk_at dksX10_bestOf_7 14 rfl rfl)
theorem dX10_bestOf_181 : decode cX10_bestOf 181 = .ok (.bipush 121, 2) := dk_16 121 (dk_at dksX10_bestOf_7 16 rfl rfl)
theorem dX10_bestOf_183 : decode cX10_bestOf 183 = .ok (.if_icmp .ge 38, 3) := dk_162 0 38 (dk_at dksX10_bestOf_7 18 rfl rfl)
theorem dX10_bestOf_186 : decode cX10_bestOf 186 = .ok (.aload_n 0, 1) := dk_42 (dk_at dksX10_bestOf_7 21 rfl rfl)
theorem dX10_bestOf_187 : decode cX10_bestOf 187 = .ok (.getfield 55, 3) := dk_180 0 55 (dk_at dksX10_bestOf_8 0 rfl rfl)
theorem dX10_bestOf_190 : decode cX10_bestOf 190 = .ok (.iload 4, 2) := dk_21 4 (dk_at dksX10_bestOf_8 3 rfl rfl)
theorem dX10_bestOf_192 : decode cX10_bestOf 192 = .ok (.iload 5, 2) := dk_21 5 (dk_at dksX10_bestOf_8 5 rfl rfl)
theorem dX10_bestOf_194 : decode cX10_bestOf 194 = .ok (.invokestatic 368, 3) := dk_184 1 112 (dk_at dksX10_bestOf_8 7 rfl rfl)
theorem dX10_bestOf_197 : decode cX10_bestOf 197 = .ok (.iaload, 1) := dk_46 (dk_at dksX10_bestOf_8 10 rfl rfl)
theorem dX10_bestOf_198 : decode cX10_bestOf 198 = .ok (.ldc_w 371, 3) := dk_19 1 115 (dk_at dksX10_bestOf_8 11 rfl rfl)
theorem dX10_bestOf_201 : decode cX10_bestOf 201 = .ok (.if_icmp .ge 12, 3) := dk_162 0 12 (dk_at dksX10_bestOf_8 14 rfl rfl)
theorem dX10_bestOf_204 : decode cX10_bestOf 204 = .ok (.iload_n 3, 1) := dk_29 (dk_at dksX10_bestOf_8 17 rfl rfl)
theorem dX10_bestOf_205 : decode cX10_bestOf 205 = .ok (.iload 5, 2) := dk_21 5 (dk_at dksX10_bestOf_8 18 rfl rfl)
theorem dX10_bestOf_207 : decode cX10_bestOf 207 = .ok (.invokestatic 337, 3) := dk_184 1 81 (dk_at dksX10_bestOf_8 20 rfl rfl)
theorem dX10_bestOf_210 : decode cX10_bestOf 210 = .ok (.goto 4, 3) := dk_167 0 4 (dk_at dksX10_bestOf_9 0 rfl rfl)
theorem dX10_bestOf_213 : decode cX10_bestOf 213 = .ok (.iload_n 3, 1) := dk_29 (dk_at dksX10_bestOf_9 3 rfl rfl)
theorem dX10_bestOf_214 : decode cX10_bestOf 214 = .ok (.istore_n 3, 1) := dk_62 (dk_at dksX10_bestOf_9 4 rfl rfl)
theorem dX10_bestOf_215 : decode cX10_bestOf 215 = .ok (.iinc 5 1, 3) := dk_132 5 1 (dk_at dksX10_bestOf_9 5 rfl rfl)
theorem dX10_bestOf_218 : decode cX10_bestOf 218 = .ok (.goto (-39), 3) := dk_167 255 217 (dk_at dksX10_bestOf_9 8 rfl rfl)
theorem dX10_bestOf_221 : decode cX10_bestOf 221 = .ok (.iinc 4 1, 3) := dk_132 4 1 (dk_at dksX10_bestOf_9 11 rfl rfl)
theorem dX10_bestOf_224 : decode cX10_bestOf 224 = .ok (.goto (-57), 3) := dk_167 255 199 (dk_at dksX10_bestOf_9 14 rfl rfl)
theorem dX10_bestOf_227 : decode cX10_bestOf 227 = .ok (.iload_n 3, 1) := dk_29 (dk_at dksX10_bestOf_9 17 rfl rfl)
theorem dX10_bestOf_228 : decode cX10_bestOf 228 = .ok (.ireturn, 1) := dk_172 (dk_at dksX10_bestOf_9 18 rfl rfl)
abbrev cX10_cell : ByteArray := prog_16_method_73_code
def yX10_cell : MethodName := ⟨RX10, "cell", "(II)I"⟩
def dkwX10_cell_0 : List UInt8 := [16, 121, 26, 104, 27, 96, 172]
abbrev dktX10_cell_0 : List UInt8 := dkwX10_cell_0 ++ []
theorem dksX10_cell_0 : cX10_cell.data.toList.drop 0 = dktX10_cell_0 := by decide +kernel
theorem dX10_cell_0 : decode cX10_cell 0 = .ok (.bipush 121, 2) := dk_16 121 (dk_at dksX10_cell_0 0 rfl rfl)
theorem dX10_cell_2 : decode cX10_cell 2 = .ok (.iload_n 0, 1) := dk_26 (dk_at dksX10_cell_0 2 rfl rfl)
theorem dX10_cell_3 : decode cX10_cell 3 = .ok (.imul, 1) := dk_104 (dk_at dksX10_cell_0 3 rfl rfl)
theorem dX10_cell_4 : decode cX10_cell 4 = .ok (.iload_n 1, 1) := dk_27 (dk_at dksX10_cell_0 4 rfl rfl)
theorem dX10_cell_5 : decode cX10_cell 5 = .ok (.iadd, 1) := dk_96 (dk_at dksX10_cell_0 5 rfl rfl)
theorem dX10_cell_6 : decode cX10_cell 6 = .ok (.ireturn, 1) := dk_172 (dk_at dksX10_cell_0 6 rfl rfl)
abbrev cX10_mayHit : ByteArray := prog_16_method_76_code
def yX10_mayHit : MethodName := ⟨RX10, "mayHit", "(III)V"⟩
def dkwX10_mayHit_3 : List UInt8 := [21, 6, 29, 182, 1, 116, 182, 1, 120, 132, 5, 1, 167, 255, 188, 132, 4, 1, 167, 255, 170, 177]
abbrev dktX10_mayHit_3 : List UInt8 := dkwX10_mayHit_3 ++ []
def dkwX10_mayHit_2 : List UInt8 := [21, 5, 4, 96, 21, 6, 182, 1, 120, 29, 2, 159, 0, 21, 42, 29, 21, 5, 5, 96, 42, 27, 28]
abbrev dktX10_mayHit_2 : List UInt8 := dkwX10_mayHit_2 ++ dktX10_mayHit_3
def dkwX10_mayHit_1 : List UInt8 := [42, 27, 21, 4, 42, 180, 0, 58, 21, 4, 21, 5, 184, 1, 112, 46, 28, 182, 1, 116, 54, 6, 42, 28]
abbrev dktX10_mayHit_1 : List UInt8 := dkwX10_mayHit_1 ++ dktX10_mayHit_2
def dkwX10_mayHit_0 : List UInt8 := [3, 54, 4, 21, 4, 42, 182, 0, 92, 162, 0, 83, 3, 54, 5, 21, 5, 5, 96, 16, 121, 162, 0, 65]
abbrev dktX10_mayHit_0 : List UInt8 := dkwX10_mayHit_0 ++ dktX10_mayHit_1
theorem dksX10_mayHit_0 : cX10_mayHit.data.toList.drop 0 = dktX10_mayHit_0 := by decide +kernel
theorem dksX10_mayHit_1 : cX10_mayHit.data.toList.drop 24 = dktX10_mayHit_1 := dk_seg dksX10_mayHit_0 24 rfl rfl
theorem dksX10_mayHit_2 : cX10_mayHit.data.toList.drop 48 = dktX10_mayHit_2 := dk_seg dksX10_mayHit_1 24 rfl rfl
theorem dksX10_mayHit_3 : cX10_mayHit.data.toList.drop 71 = dktX10_mayHit_3 := dk_seg dksX10_mayHit_2 23 rfl rfl
theorem dX10_mayHit_0 : decode cX10_mayHit 0 = .ok (.iconst 0, 1) := dk_3 (dk_at dksX10_mayHit_0 0 rfl rfl)
theorem dX10_mayHit_1 : decode cX10_mayHit 1 = .ok (.istore 4, 2) := dk_54 4 (dk_at dksX10_mayHit_0 1 rfl rfl)
theorem dX10_mayHit_3 : decode cX10_mayHit 3 = .ok (.iload 4, 2) := dk_21 4 (dk_at dksX10_mayHit_0 3 rfl rfl)
theorem dX10_mayHit_5 : decode cX10_mayHit 5 = .ok (.aload_n 0, 1) := dk_42 (dk_at dksX10_mayHit_0 5 rfl rfl)
theorem dX10_mayHit_6 : decode cX10_mayHit 6 = .ok (.invokevirtual 92, 3) := dk_182 0 92 (dk_at dksX10_mayHit_0 6 rfl rfl)
theorem dX10_mayHit_9 : decode cX10_mayHit 9 = .ok (.if_icmp .ge 83, 3) := dk_162 0 83 (dk_at dksX10_mayHit_0 9 rfl rfl)
theorem dX10_mayHit_12 : decode cX10_mayHit 12 = .ok (.iconst 0, 1) := dk_3 (dk_at dksX10_mayHit_0 12 rfl rfl)
theorem dX10_mayHit_13 : decode cX10_mayHit 13 = .ok (.istore 5, 2) := dk_54 5 (dk_at dksX10_mayHit_0 13 rfl rfl)
theorem dX10_mayHit_15 : decode cX10_mayHit 15 = .ok (.iload 5, 2) := dk_21 5 (dk_at dksX10_mayHit_0 15 rfl rfl)
theorem dX10_mayHit_17 : decode cX10_mayHit 17 = .ok (.iconst 2, 1) := dk_5 (dk_at dksX10_mayHit_0 17 rfl rfl)
theorem dX10_mayHit_18 : decode cX10_mayHit 18 = .ok (.iadd, 1) := dk_96 (dk_at dksX10_mayHit_0 18 rfl rfl)
theorem dX10_mayHit_19 : decode cX10_mayHit 19 = .ok (.bipush 121, 2) := dk_16 121 (dk_at dksX10_mayHit_0 19 rfl rfl)
theorem dX10_mayHit_21 : decode cX10_mayHit 21 = .ok (.if_icmp .ge 65, 3) := dk_162 0 65 (dk_at dksX10_mayHit_0 21 rfl rfl)
theorem dX10_mayHit_24 : decode cX10_mayHit 24 = .ok (.aload_n 0, 1) := dk_42 (dk_at dksX10_mayHit_1 0 rfl rfl)
theorem dX10_mayHit_25 : decode cX10_mayHit 25 = .ok (.iload_n 1, 1) := dk_27 (dk_at dksX10_mayHit_1 1 rfl rfl)
theorem dX10_mayHit_26 : decode cX10_mayHit 26 = .ok (.iload 4, 2) := dk_21 4 (dk_at dksX10_mayHit_1 2 rfl rfl)
theorem dX10_mayHit_28 : decode cX10_mayHit 28 = .ok (.aload_n 0, 1) := dk_42 (dk_at dksX10_mayHit_1 4 rfl rfl)
theorem dX10_mayHit_29 : decode cX10_mayHit 29 = .ok (.getfield 58, 3) := dk_180 0 58 (dk_at dksX10_mayHit_1 5 rfl rfl)
theorem dX10_mayHit_32 : decode cX10_mayHit 32 = .ok (.iload 4, 2) := dk_21 4 (dk_at dksX10_mayHit_1 8 rfl rfl)
theorem dX10_mayHit_34 : decode cX10_mayHit 34 = .ok (.iload 5, 2) := dk_21 5 (dk_at dksX10_mayHit_1 10 rfl rfl)
theorem dX10_mayHit_36 : decode cX10_mayHit 36 = .ok (.invokestatic 368, 3) := dk_184 1 112 (dk_at dksX10_mayHit_1 12 rfl rfl)
theorem dX10_mayHit_39 : decode cX10_mayHit 39 = .ok (.iaload, 1) := dk_46 (dk_at dksX10_mayHit_1 15 rfl rfl)
theorem dX10_mayHit_40 : decode cX10_mayHit 40 = .ok (.iload_n 2, 1) := dk_28 (dk_at dksX10_mayHit_1 16 rfl rfl)
theorem dX10_mayHit_41 : decode cX10_mayHit 41 = .ok (.invokevirtual 372, 3) := dk_182 1 116 (dk_at dksX10_mayHit_1 17 rfl rfl)
theorem dX10_mayHit_44 : decode cX10_mayHit 44 = .ok (.istore 6, 2) := dk_54 6 (dk_at dksX10_mayHit_1 20 rfl rfl)
theorem dX10_mayHit_46 : decode cX10_mayHit 46 = .ok (.aload_n 0, 1) := dk_42 (dk_at dksX10_mayHit_1 22 rfl rfl)
theorem dX10_mayHit_47 : decode cX10_mayHit 47 = .ok (.iload_n 2, 1) := dk_28 (dk_at dksX10_mayHit_1 23 rfl rfl)
theorem dX10_mayHit_48 : decode cX10_mayHit 48 = .ok (.iload 5, 2) := dk_21 5 (dk_at dksX10_mayHit_2 0 rfl rfl)
theorem dX10_mayHit_50 : decode cX10_mayHit 50 = .ok (.iconst 1, 1) := dk_4 (dk_at dksX10_mayHit_2 2 rfl rfl)
theorem dX10_mayHit_51 : decode cX10_mayHit 51 = .ok (.iadd, 1) := dk_96 (dk_at dksX10_mayHit_2 3 rfl rfl)
theorem dX10_mayHit_52 : decode cX10_mayHit 52 = .ok (.iload 6, 2) := dk_21 6 (dk_at dksX10_mayHit_2 4 rfl rfl)
theorem dX10_mayHit_54 : decode cX10_mayHit 54 = .ok (.invokevirtual 376, 3) := dk_182 1 120 (dk_at dksX10_mayHit_2 6 rfl rfl)
theorem dX10_mayHit_57 : decode cX10_mayHit 57 = .ok (.iload_n 3, 1) := dk_29 (dk_at dksX10_mayHit_2 9 rfl rfl)
theorem dX10_mayHit_58 : decode cX10_mayHit 58 = .ok (.iconst (-1), 1) := dk_2 (dk_at dksX10_mayHit_2 10 rfl rfl)
theorem dX10_mayHit_59 : decode cX10_mayHit 59 = .ok (.if_icmp .eq 21, 3) := dk_159 0 21 (dk_at dksX10_mayHit_2 11 rfl rfl)
theorem dX10_mayHit_62 : decode cX10_mayHit 62 = .ok (.aload_n 0, 1) := dk_42 (dk_at dksX10_mayHit_2 14 rfl rfl)
theorem dX10_mayHit_63 : decode cX10_mayHit 63 = .ok (.iload_n 3, 1) := dk_29 (dk_at dksX10_mayHit_2 15 rfl rfl)
theorem dX10_mayHit_64 : decode cX10_mayHit 64 = .ok (.iload 5, 2) := dk_21 5 (dk_at dksX10_mayHit_2 16 rfl rfl)
theorem dX10_mayHit_66 : decode cX10_mayHit 66 = .ok (.iconst 2, 1) := dk_5 (dk_at dksX10_mayHit_2 18 rfl rfl)
theorem dX10_mayHit_67 : decode cX10_mayHit 67 = .ok (.iadd, 1) := dk_96 (dk_at dksX10_mayHit_2 19 rfl rfl)
theorem dX10_mayHit_68 : decode cX10_mayHit 68 = .ok (.aload_n 0, 1) := dk_42 (dk_at dksX10_mayHit_2 20 rfl rfl)
theorem dX10_mayHit_69 : decode cX10_mayHit 69 = .ok (.iload_n 1, 1) := dk_27 (dk_at dksX10_mayHit_2 21 rfl rfl)
theorem dX10_mayHit_70 : decode cX10_mayHit 70 = .ok (.iload_n 2, 1) := dk_28 (dk_at dksX10_mayHit_2 22 rfl rfl)
theorem dX10_mayHit_71 : decode cX10_mayHit 71 = .ok (.iload 6, 2) := dk_21 6 (dk_at dksX10_mayHit_3 0 rfl rfl)
theorem dX10_mayHit_73 : decode cX10_mayHit 73 = .ok (.iload_n 3, 1) := dk_29 (dk_at dksX10_mayHit_3 2 rfl rfl)
theorem dX10_mayHit_74 : decode cX10_mayHit 74 = .ok (.invokevirtual 372, 3) := dk_182 1 116 (dk_at dksX10_mayHit_3 3 rfl rfl)
theorem dX10_mayHit_77 : decode cX10_mayHit 77 = .ok (.invokevirtual 376, 3) := dk_182 1 120 (dk_at dksX10_mayHit_3 6 rfl rfl)
theorem dX10_mayHit_80 : decode cX10_mayHit 80 = .ok (.iinc 5 1, 3) := dk_132 5 1 (dk_at dksX10_mayHit_3 9 rfl rfl)
theorem dX10_mayHit_83 : decode cX10_mayHit 83 = .ok (.goto (-68), 3) := dk_167 255 188 (dk_at dksX10_mayHit_3 12 rfl rfl)
theorem dX10_mayHit_86 : decode cX10_mayHit 86 = .ok (.iinc 4 1, 3) := dk_132 4 1 (dk_at dksX10_mayHit_3 15 rfl rfl)
theorem dX10_mayHit_89 : decode cX10_mayHit 89 = .ok (.goto (-86), 3) := dk_167 255 170 (dk_at dksX10_mayHit_3 18 rfl rfl)
theorem dX10_mayHit_92 : decode cX10_mayHit 92 = .ok (.return_, 1) := dk_177 (dk_at dksX10_mayHit_3 21 rfl rfl)
abbrev cX10_behind : ByteArray := prog_16_method_75_code
def yX10_behind : MethodName := ⟨RX10, "behind", "(IIII)I"⟩
def dkwX10_behind_2 : List UInt8 := [180, 0, 40, 27, 46, 164, 0, 9, 19, 1, 115, 167, 0, 7, 21, 5, 4, 96, 172]
abbrev dktX10_behind_2 : List UInt8 := dkwX10_behind_2 ++ []
def dkwX10_behind_1 : List UInt8 := [182, 1, 47, 42, 42, 180, 1, 53, 29, 182, 1, 50, 104, 96, 184, 1, 81, 54, 5, 21, 5, 42]
abbrev dktX10_behind_1 : List UInt8 := dkwX10_behind_1 ++ dktX10_behind_2
def dkwX10_behind_0 : List UInt8 := [29, 19, 1, 115, 160, 0, 7, 19, 1, 115, 172, 42, 180, 0, 37, 27, 46, 29, 42, 28, 21, 4]
abbrev dktX10_behind_0 : List UInt8 := dkwX10_behind_0 ++ dktX10_behind_1
theorem dksX10_behind_0 : cX10_behind.data.toList.drop 0 = dktX10_behind_0 := by decide +kernel
theorem dksX10_behind_1 : cX10_behind.data.toList.drop 22 = dktX10_behind_1 := dk_seg dksX10_behind_0 22 rfl rfl
theorem dksX10_behind_2 : cX10_behind.data.toList.drop 44 = dktX10_behind_2 := dk_seg dksX10_behind_1 22 rfl rfl
theorem dX10_behind_0 : decode cX10_behind 0 = .ok (.iload_n 3, 1) := dk_29 (dk_at dksX10_behind_0 0 rfl rfl)
theorem dX10_behind_1 : decode cX10_behind 1 = .ok (.ldc_w 371, 3) := dk_19 1 115 (dk_at dksX10_behind_0 1 rfl rfl)
theorem dX10_behind_4 : decode cX10_behind 4 = .ok (.if_icmp .ne 7, 3) := dk_160 0 7 (dk_at dksX10_behind_0 4 rfl rfl)
theorem dX10_behind_7 : decode cX10_behind 7 = .ok (.ldc_w 371, 3) := dk_19 1 115 (dk_at dksX10_behind_0 7 rfl rfl)
theorem dX10_behind_10 : decode cX10_behind 10 = .ok (.ireturn, 1) := dk_172 (dk_at dksX10_behind_0 10 rfl rfl)
theorem dX10_behind_11 : decode cX10_behind 11 = .ok (.aload_n 0, 1) := dk_42 (dk_at dksX10_behind_0 11 rfl rfl)
theorem dX10_behind_12 : decode cX10_behind 12 = .ok (.getfield 37, 3) := dk_180 0 37 (dk_at dksX10_behind_0 12 rfl rfl)
theorem dX10_behind_15 : decode cX10_behind 15 = .ok (.iload_n 1, 1) := dk_27 (dk_at dksX10_behind_0 15 rfl rfl)
theorem dX10_behind_16 : decode cX10_behind 16 = .ok (.iaload, 1) := dk_46 (dk_at dksX10_behind_0 16 rfl rfl)
theorem dX10_behind_17 : decode cX10_behind 17 = .ok (.iload_n 3, 1) := dk_29 (dk_at dksX10_behind_0 17 rfl rfl)
theorem dX10_behind_18 : decode cX10_behind 18 = .ok (.aload_n 0, 1) := dk_42 (dk_at dksX10_behind_0 18 rfl rfl)
theorem dX10_behind_19 : decode cX10_behind 19 = .ok (.iload_n 2, 1) := dk_28 (dk_at dksX10_behind_0 19 rfl rfl)
theorem dX10_behind_20 : decode cX10_behind 20 = .ok (.iload 4, 2) := dk_21 4 (dk_at dksX10_behind_0 20 rfl rfl)
theorem dX10_behind_22 : decode cX10_behind 22 = .ok (.invokevirtual 303, 3) := dk_182 1 47 (dk_at dksX10_behind_1 0 rfl rfl)
theorem dX10_behind_25 : decode cX10_behind 25 = .ok (.aload_n 0, 1) := dk_42 (dk_at dksX10_behind_1 3 rfl rfl)
theorem dX10_behind_26 : decode cX10_behind 26 = .ok (.aload_n 0, 1) := dk_42 (dk_at dksX10_behind_1 4 rfl rfl)
theorem dX10_behind_27 : decode cX10_behind 27 = .ok (.getfield 309, 3) := dk_180 1 53 (dk_at dksX10_behind_1 5 rfl rfl)
theorem dX10_behind_30 : decode cX10_behind 30 = .ok (.iload_n 3, 1) := dk_29 (dk_at dksX10_behind_1 8 rfl rfl)
theorem dX10_behind_31 : decode cX10_behind 31 = .ok (.invokevirtual 306, 3) := dk_182 1 50 (dk_at dksX10_behind_1 9 rfl rfl)
theorem dX10_behind_34 : decode cX10_behind 34 = .ok (.imul, 1) := dk_104 (dk_at dksX10_behind_1 12 rfl rfl)
theorem dX10_behind_35 : decode cX10_behind 35 = .ok (.iadd, 1) := dk_96 (dk_at dksX10_behind_1 13 rfl rfl)
theorem dX10_behind_36 : decode cX10_behind 36 = .ok (.invokestatic 337, 3) := dk_184 1 81 (dk_at dksX10_behind_1 14 rfl rfl)
theorem dX10_behind_39 : decode cX10_behind 39 = .ok (.istore 5, 2) := dk_54 5 (dk_at dksX10_behind_1 17 rfl rfl)
theorem dX10_behind_41 : decode cX10_behind 41 = .ok (.iload 5, 2) := dk_21 5 (dk_at dksX10_behind_1 19 rfl rfl)
theorem dX10_behind_43 : decode cX10_behind 43 = .ok (.aload_n 0, 1) := dk_42 (dk_at dksX10_behind_1 21 rfl rfl)
theorem dX10_behind_44 : decode cX10_behind 44 = .ok (.getfield 40, 3) := dk_180 0 40 (dk_at dksX10_behind_2 0 rfl rfl)
theorem dX10_behind_47 : decode cX10_behind 47 = .ok (.iload_n 1, 1) := dk_27 (dk_at dksX10_behind_2 3 rfl rfl)
theorem dX10_behind_48 : decode cX10_behind 48 = .ok (.iaload, 1) := dk_46 (dk_at dksX10_behind_2 4 rfl rfl)
theorem dX10_behind_49 : decode cX10_behind 49 = .ok (.if_icmp .le 9, 3) := dk_164 0 9 (dk_at dksX10_behind_2 5 rfl rfl)
theorem dX10_behind_52 : decode cX10_behind 52 = .ok (.ldc_w 371, 3) := dk_19 1 115 (dk_at dksX10_behind_2 8 rfl rfl)
theorem dX10_behind_55 : decode cX10_behind 55 = .ok (.goto 7, 3) := dk_167 0 7 (dk_at dksX10_behind_2 11 rfl rfl)
theorem dX10_behind_58 : decode cX10_behind 58 = .ok (.iload 5, 2) := dk_21 5 (dk_at dksX10_behind_2 14 rfl rfl)
theorem dX10_behind_60 : decode cX10_behind 60 = .ok (.iconst 1, 1) := dk_4 (dk_at dksX10_behind_2 16 rfl rfl)
theorem dX10_behind_61 : decode cX10_behind 61 = .ok (.iadd, 1) := dk_96 (dk_at dksX10_behind_2 17 rfl rfl)
theorem dX10_behind_62 : decode cX10_behind 62 = .ok (.ireturn, 1) := dk_172 (dk_at dksX10_behind_2 18 rfl rfl)
abbrev cX10_sooner : ByteArray := prog_16_method_74_code
def yX10_sooner : MethodName := ⟨RX10, "sooner", "(III)V"⟩
def dkwX10_sooner_1 : List UInt8 := [177]
abbrev dktX10_sooner_1 : List UInt8 := dkwX10_sooner_1 ++ []
def dkwX10_sooner_0 : List UInt8 := [42, 180, 0, 55, 27, 28, 184, 1, 112, 42, 180, 0, 55, 27, 28, 184, 1, 112, 46, 29, 184, 0, 127, 79]
abbrev dktX10_sooner_0 : List UInt8 := dkwX10_sooner_0 ++ dktX10_sooner_1
theorem dksX10_sooner_0 : cX10_sooner.data.toList.drop 0 = dktX10_sooner_0 := by decide +kernel
theorem dksX10_sooner_1 : cX10_sooner.data.toList.drop 24 = dktX10_sooner_1 := dk_seg dksX10_sooner_0 24 rfl rfl
theorem dX10_sooner_0 : decode cX10_sooner 0 = .ok (.aload_n 0, 1) := dk_42 (dk_at dksX10_sooner_0 0 rfl rfl)
theorem dX10_sooner_1 : decode cX10_sooner 1 = .ok (.getfield 55, 3) := dk_180 0 55 (dk_at dksX10_sooner_0 1 rfl rfl)
theorem dX10_sooner_4 : decode cX10_sooner 4 = .ok (.iload_n 1, 1) := dk_27 (dk_at dksX10_sooner_0 4 rfl rfl)
theorem dX10_sooner_5 : decode cX10_sooner 5 = .ok (.iload_n 2, 1) := dk_28 (dk_at dksX10_sooner_0 5 rfl rfl)
theorem dX10_sooner_6 : decode cX10_sooner 6 = .ok (.invokestatic 368, 3) := dk_184 1 112 (dk_at dksX10_sooner_0 6 rfl rfl)
theorem dX10_sooner_9 : decode cX10_sooner 9 = .ok (.aload_n 0, 1) := dk_42 (dk_at dksX10_sooner_0 9 rfl rfl)
theorem dX10_sooner_10 : decode cX10_sooner 10 = .ok (.getfield 55, 3) := dk_180 0 55 (dk_at dksX10_sooner_0 10 rfl rfl)
theorem dX10_sooner_13 : decode cX10_sooner 13 = .ok (.iload_n 1, 1) := dk_27 (dk_at dksX10_sooner_0 13 rfl rfl)
theorem dX10_sooner_14 : decode cX10_sooner 14 = .ok (.iload_n 2, 1) := dk_28 (dk_at dksX10_sooner_0 14 rfl rfl)
theorem dX10_sooner_15 : decode cX10_sooner 15 = .ok (.invokestatic 368, 3) := dk_184 1 112 (dk_at dksX10_sooner_0 15 rfl rfl)
theorem dX10_sooner_18 : decode cX10_sooner 18 = .ok (.iaload, 1) := dk_46 (dk_at dksX10_sooner_0 18 rfl rfl)
theorem dX10_sooner_19 : decode cX10_sooner 19 = .ok (.iload_n 3, 1) := dk_29 (dk_at dksX10_sooner_0 19 rfl rfl)
theorem dX10_sooner_20 : decode cX10_sooner 20 = .ok (.invokestatic 127, 3) := dk_184 0 127 (dk_at dksX10_sooner_0 20 rfl rfl)
theorem dX10_sooner_23 : decode cX10_sooner 23 = .ok (.iastore, 1) := dk_79 (dk_at dksX10_sooner_0 23 rfl rfl)
theorem dX10_sooner_24 : decode cX10_sooner 24 = .ok (.return_, 1) := dk_177 (dk_at dksX10_sooner_1 0 rfl rfl)
abbrev cX10_ahead : ByteArray := prog_16_method_79_code
def yX10_ahead : MethodName := ⟨RX10, "ahead", "(II)I"⟩
def dkwX10_ahead_1 : List UInt8 := [182, 1, 126, 167, 0, 5, 16, 254, 172]
abbrev dktX10_ahead_1 : List UInt8 := dkwX10_ahead_1 ++ []
def dkwX10_ahead_0 : List UInt8 := [42, 27, 182, 1, 14, 153, 0, 24, 28, 133, 9, 20, 1, 129, 184, 0, 88, 153, 0, 12, 42, 27, 28]
abbrev dktX10_ahead_0 : List UInt8 := dkwX10_ahead_0 ++ dktX10_ahead_1
theorem dksX10_ahead_0 : cX10_ahead.data.toList.drop 0 = dktX10_ahead_0 := by decide +kernel
theorem dksX10_ahead_1 : cX10_ahead.data.toList.drop 23 = dktX10_ahead_1 := dk_seg dksX10_ahead_0 23 rfl rfl
theorem dX10_ahead_0 : decode cX10_ahead 0 = .ok (.aload_n 0, 1) := dk_42 (dk_at dksX10_ahead_0 0 rfl rfl)
theorem dX10_ahead_1 : decode cX10_ahead 1 = .ok (.iload_n 1, 1) := dk_27 (dk_at dksX10_ahead_0 1 rfl rfl)
theorem dX10_ahead_2 : decode cX10_ahead 2 = .ok (.invokevirtual 270, 3) := dk_182 1 14 (dk_at dksX10_ahead_0 2 rfl rfl)
theorem dX10_ahead_5 : decode cX10_ahead 5 = .ok (.ifCond .eq 24, 3) := dk_153 0 24 (dk_at dksX10_ahead_0 5 rfl rfl)
theorem dX10_ahead_8 : decode cX10_ahead 8 = .ok (.iload_n 2, 1) := dk_28 (dk_at dksX10_ahead_0 8 rfl rfl)
theorem dX10_ahead_9 : decode cX10_ahead 9 = .ok (.i2l, 1) := dk_133 (dk_at dksX10_ahead_0 9 rfl rfl)
theorem dX10_ahead_10 : decode cX10_ahead 10 = .ok (.lconst 0, 1) := dk_9 (dk_at dksX10_ahead_0 10 rfl rfl)
theorem dX10_ahead_11 : decode cX10_ahead 11 = .ok (.ldc2_w 385, 3) := dk_20 1 129 (dk_at dksX10_ahead_0 11 rfl rfl)
theorem dX10_ahead_14 : decode cX10_ahead 14 = .ok (.invokestatic 88, 3) := dk_184 0 88 (dk_at dksX10_ahead_0 14 rfl rfl)
theorem dX10_ahead_17 : decode cX10_ahead 17 = .ok (.ifCond .eq 12, 3) := dk_153 0 12 (dk_at dksX10_ahead_0 17 rfl rfl)
theorem dX10_ahead_20 : decode cX10_ahead 20 = .ok (.aload_n 0, 1) := dk_42 (dk_at dksX10_ahead_0 20 rfl rfl)
theorem dX10_ahead_21 : decode cX10_ahead 21 = .ok (.iload_n 1, 1) := dk_27 (dk_at dksX10_ahead_0 21 rfl rfl)
theorem dX10_ahead_22 : decode cX10_ahead 22 = .ok (.iload_n 2, 1) := dk_28 (dk_at dksX10_ahead_0 22 rfl rfl)
theorem dX10_ahead_23 : decode cX10_ahead 23 = .ok (.invokevirtual 382, 3) := dk_182 1 126 (dk_at dksX10_ahead_1 0 rfl rfl)
theorem dX10_ahead_26 : decode cX10_ahead 26 = .ok (.goto 5, 3) := dk_167 0 5 (dk_at dksX10_ahead_1 3 rfl rfl)
theorem dX10_ahead_29 : decode cX10_ahead 29 = .ok (.bipush (-2), 2) := dk_16 254 (dk_at dksX10_ahead_1 6 rfl rfl)
theorem dX10_ahead_31 : decode cX10_ahead 31 = .ok (.ireturn, 1) := dk_172 (dk_at dksX10_ahead_1 8 rfl rfl)
abbrev cX10_learns : ByteArray := prog_16_method_81_code
def yX10_learns : MethodName := ⟨RX10, "learns", "(II)I"⟩
def dkwX10_learns_1 : List UInt8 := [182, 1, 29, 42, 27, 28, 182, 1, 133, 172]
abbrev dktX10_learns_1 : List UInt8 := dkwX10_learns_1 ++ []
def dkwX10_learns_0 : List UInt8 := [42, 27, 182, 1, 14, 153, 0, 15, 28, 133, 9, 20, 1, 131, 184, 0, 88, 154, 0, 6, 16, 254, 172, 42]
abbrev dktX10_learns_0 : List UInt8 := dkwX10_learns_0 ++ dktX10_learns_1
theorem dksX10_learns_0 : cX10_learns.data.toList.drop 0 = dktX10_learns_0 := by decide +kernel
theorem dksX10_learns_1 : cX10_learns.data.toList.drop 24 = dktX10_learns_1 := dk_seg dksX10_learns_0 24 rfl rfl
theorem dX10_learns_0 : decode cX10_learns 0 = .ok (.aload_n 0, 1) := dk_42 (dk_at dksX10_learns_0 0 rfl rfl)
theorem dX10_learns_1 : decode cX10_learns 1 = .ok (.iload_n 1, 1) := dk_27 (dk_at dksX10_learns_0 1 rfl rfl)
theorem dX10_learns_2 : decode cX10_learns 2 = .ok (.invokevirtual 270, 3) := dk_182 1 14 (dk_at dksX10_learns_0 2 rfl rfl)
theorem dX10_learns_5 : decode cX10_learns 5 = .ok (.ifCond .eq 15, 3) := dk_153 0 15 (dk_at dksX10_learns_0 5 rfl rfl)
theorem dX10_learns_8 : decode cX10_learns 8 = .ok (.iload_n 2, 1) := dk_28 (dk_at dksX10_learns_0 8 rfl rfl)
theorem dX10_learns_9 : decode cX10_learns 9 = .ok (.i2l, 1) := dk_133 (dk_at dksX10_learns_0 9 rfl rfl)
theorem dX10_learns_10 : decode cX10_learns 10 = .ok (.lconst 0, 1) := dk_9 (dk_at dksX10_learns_0 10 rfl rfl)
theorem dX10_learns_11 : decode cX10_learns 11 = .ok (.ldc2_w 387, 3) := dk_20 1 131 (dk_at dksX10_learns_0 11 rfl rfl)
theorem dX10_learns_14 : decode cX10_learns 14 = .ok (.invokestatic 88, 3) := dk_184 0 88 (dk_at dksX10_learns_0 14 rfl rfl)
theorem dX10_learns_17 : decode cX10_learns 17 = .ok (.ifCond .ne 6, 3) := dk_154 0 6 (dk_at dksX10_learns_0 17 rfl rfl)
theorem dX10_learns_20 : decode cX10_learns 20 = .ok (.bipush (-2), 2) := dk_16 254 (dk_at dksX10_learns_0 20 rfl rfl)
theorem dX10_learns_22 : decode cX10_learns 22 = .ok (.ireturn, 1) := dk_172 (dk_at dksX10_learns_0 22 rfl rfl)
theorem dX10_learns_23 : decode cX10_learns 23 = .ok (.aload_n 0, 1) := dk_42 (dk_at dksX10_learns_0 23 rfl rfl)
theorem dX10_learns_24 : decode cX10_learns 24 = .ok (.invokevirtual 285, 3) := dk_182 1 29 (dk_at dksX10_learns_1 0 rfl rfl)
theorem dX10_learns_27 : decode cX10_learns 27 = .ok (.aload_n 0, 1) := dk_42 (dk_at dksX10_learns_1 3 rfl rfl)
theorem dX10_learns_28 : decode cX10_learns 28 = .ok (.iload_n 1, 1) := dk_27 (dk_at dksX10_learns_1 4 rfl rfl)
theorem dX10_learns_29 : decode cX10_learns 29 = .ok (.iload_n 2, 1) := dk_28 (dk_at dksX10_learns_1 5 rfl rfl)
theorem dX10_learns_30 : decode cX10_learns 30 = .ok (.invokevirtual 389, 3) := dk_182 1 133 (dk_at dksX10_learns_1 6 rfl rfl)
theorem dX10_learns_33 : decode cX10_learns 33 = .ok (.ireturn, 1) := dk_172 (dk_at dksX10_learns_1 9 rfl rfl)
abbrev cX10_learnsBy : ByteArray := prog_16_method_80_code
def yX10_learnsBy : MethodName := ⟨RX10, "learnsBy", "(II)I"⟩
def dkwX10_learnsBy_0 : List UInt8 := [42, 27, 182, 1, 72, 42, 28, 181, 1, 59, 42, 182, 1, 106, 42, 180, 1, 90, 172]
abbrev dktX10_learnsBy_0 : List UInt8 := dkwX10_learnsBy_0 ++ []
theorem dksX10_learnsBy_0 : cX10_learnsBy.data.toList.drop 0 = dktX10_learnsBy_0 := by decide +kernel
theorem dX10_learnsBy_0 : decode cX10_learnsBy 0 = .ok (.aload_n 0, 1) := dk_42 (dk_at dksX10_learnsBy_0 0 rfl rfl)
theorem dX10_learnsBy_1 : decode cX10_learnsBy 1 = .ok (.iload_n 1, 1) := dk_27 (dk_at dksX10_learnsBy_0 1 rfl rfl)
theorem dX10_learnsBy_2 : decode cX10_learnsBy 2 = .ok (.invokevirtual 328, 3) := dk_182 1 72 (dk_at dksX10_learnsBy_0 2 rfl rfl)
theorem dX10_learnsBy_5 : decode cX10_learnsBy 5 = .ok (.aload_n 0, 1) := dk_42 (dk_at dksX10_learnsBy_0 5 rfl rfl)
theorem dX10_learnsBy_6 : decode cX10_learnsBy 6 = .ok (.iload_n 2, 1) := dk_28 (dk_at dksX10_learnsBy_0 6 rfl rfl)
theorem dX10_learnsBy_7 : decode cX10_learnsBy 7 = .ok (.putfield 315, 3) := dk_181 1 59 (dk_at dksX10_learnsBy_0 7 rfl rfl)
theorem dX10_learnsBy_10 : decode cX10_learnsBy 10 = .ok (.aload_n 0, 1) := dk_42 (dk_at dksX10_learnsBy_0 10 rfl rfl)
theorem dX10_learnsBy_11 : decode cX10_learnsBy 11 = .ok (.invokevirtual 362, 3) := dk_182 1 106 (dk_at dksX10_learnsBy_0 11 rfl rfl)
theorem dX10_learnsBy_14 : decode cX10_learnsBy 14 = .ok (.aload_n 0, 1) := dk_42 (dk_at dksX10_learnsBy_0 14 rfl rfl)
theorem dX10_learnsBy_15 : decode cX10_learnsBy 15 = .ok (.getfield 346, 3) := dk_180 1 90 (dk_at dksX10_learnsBy_0 15 rfl rfl)
theorem dX10_learnsBy_18 : decode cX10_learnsBy 18 = .ok (.ireturn, 1) := dk_172 (dk_at dksX10_learnsBy_0 18 rfl rfl)
abbrev cX10_enough : ByteArray := prog_16_method_82_code
def yX10_enough : MethodName := ⟨RX10, "enough", "(I)I"⟩
def dkwX10_enough_2 : List UInt8 := [132, 3, 1, 167, 255, 226, 28, 172]
abbrev dktX10_enough_2 : List UInt8 := dkwX10_enough_2 ++ []
def dkwX10_enough_1 : List UInt8 := [162, 0, 30, 42, 27, 29, 182, 1, 133, 42, 27, 28, 182, 1, 133, 164, 0, 7, 29, 167, 0, 4, 28, 61]
abbrev dktX10_enough_1 : List UInt8 := dkwX10_enough_1 ++ dktX10_enough_2
def dkwX10_enough_0 : List UInt8 := [42, 27, 182, 1, 14, 154, 0, 6, 16, 254, 172, 42, 182, 1, 29, 3, 61, 4, 62, 29, 16, 10]
abbrev dktX10_enough_0 : List UInt8 := dkwX10_enough_0 ++ dktX10_enough_1
theorem dksX10_enough_0 : cX10_enough.data.toList.drop 0 = dktX10_enough_0 := by decide +kernel
theorem dksX10_enough_1 : cX10_enough.data.toList.drop 22 = dktX10_enough_1 := dk_seg dksX10_enough_0 22 rfl rfl
theorem dksX10_enough_2 : cX10_enough.data.toList.drop 46 = dktX10_enough_2 := dk_seg dksX10_enough_1 24 rfl rfl
theorem dX10_enough_0 : decode cX10_enough 0 = .ok (.aload_n 0, 1) := dk_42 (dk_at dksX10_enough_0 0 rfl rfl)
theorem dX10_enough_1 : decode cX10_enough 1 = .ok (.iload_n 1, 1) := dk_27 (dk_at dksX10_enough_0 1 rfl rfl)
theorem dX10_enough_2 : decode cX10_enough 2 = .ok (.invokevirtual 270, 3) := dk_182 1 14 (dk_at dksX10_enough_0 2 rfl rfl)
theorem dX10_enough_5 : decode cX10_enough 5 = .ok (.ifCond .ne 6, 3) := dk_154 0 6 (dk_at dksX10_enough_0 5 rfl rfl)
theorem dX10_enough_8 : decode cX10_enough 8 = .ok (.bipush (-2), 2) := dk_16 254 (dk_at dksX10_enough_0 8 rfl rfl)
theorem dX10_enough_10 : decode cX10_enough 10 = .ok (.ireturn, 1) := dk_172 (dk_at dksX10_enough_0 10 rfl rfl)
theorem dX10_enough_11 : decode cX10_enough 11 = .ok (.aload_n 0, 1) := dk_42 (dk_at dksX10_enough_0 11 rfl rfl)
theorem dX10_enough_12 : decode cX10_enough 12 = .ok (.invokevirtual 285, 3) := dk_182 1 29 (dk_at dksX10_enough_0 12 rfl rfl)
theorem dX10_enough_15 : decode cX10_enough 15 = .ok (.iconst 0, 1) := dk_3 (dk_at dksX10_enough_0 15 rfl rfl)
theorem dX10_enough_16 : decode cX10_enough 16 = .ok (.istore_n 2, 1) := dk_61 (dk_at dksX10_enough_0 16 rfl rfl)
theorem dX10_enough_17 : decode cX10_enough 17 = .ok (.iconst 1, 1) := dk_4 (dk_at dksX10_enough_0 17 rfl rfl)
theorem dX10_enough_18 : decode cX10_enough 18 = .ok (.istore_n 3, 1) := dk_62 (dk_at dksX10_enough_0 18 rfl rfl)
theorem dX10_enough_19 : decode cX10_enough 19 = .ok (.iload_n 3, 1) := dk_29 (dk_at dksX10_enough_0 19 rfl rfl)
theorem dX10_enough_20 : decode cX10_enough 20 = .ok (.bipush 10, 2) := dk_16 10 (dk_at dksX10_enough_0 20 rfl rfl)
theorem dX10_enough_22 : decode cX10_enough 22 = .ok (.if_icmp .ge 30, 3) := dk_162 0 30 (dk_at dksX10_enough_1 0 rfl rfl)
theorem dX10_enough_25 : decode cX10_enough 25 = .ok (.aload_n 0, 1) := dk_42 (dk_at dksX10_enough_1 3 rfl rfl)
theorem dX10_enough_26 : decode cX10_enough 26 = .ok (.iload_n 1, 1) := dk_27 (dk_at dksX10_enough_1 4 rfl rfl)
theorem dX10_enough_27 : decode cX10_enough 27 = .ok (.iload_n 3, 1) := dk_29 (dk_at dksX10_enough_1 5 rfl rfl)
theorem dX10_enough_28 : decode cX10_enough 28 = .ok (.invokevirtual 389, 3) := dk_182 1 133 (dk_at dksX10_enough_1 6 rfl rfl)
theorem dX10_enough_31 : decode cX10_enough 31 = .ok (.aload_n 0, 1) := dk_42 (dk_at dksX10_enough_1 9 rfl rfl)
theorem dX10_enough_32 : decode cX10_enough 32 = .ok (.iload_n 1, 1) := dk_27 (dk_at dksX10_enough_1 10 rfl rfl)
theorem dX10_enough_33 : decode cX10_enough 33 = .ok (.iload_n 2, 1) := dk_28 (dk_at dksX10_enough_1 11 rfl rfl)
theorem dX10_enough_34 : decode cX10_enough 34 = .ok (.invokevirtual 389, 3) := dk_182 1 133 (dk_at dksX10_enough_1 12 rfl rfl)
theorem dX10_enough_37 : decode cX10_enough 37 = .ok (.if_icmp .le 7, 3) := dk_164 0 7 (dk_at dksX10_enough_1 15 rfl rfl)
theorem dX10_enough_40 : decode cX10_enough 40 = .ok (.iload_n 3, 1) := dk_29 (dk_at dksX10_enough_1 18 rfl rfl)
theorem dX10_enough_41 : decode cX10_enough 41 = .ok (.goto 4, 3) := dk_167 0 4 (dk_at dksX10_enough_1 19 rfl rfl)
theorem dX10_enough_44 : decode cX10_enough 44 = .ok (.iload_n 2, 1) := dk_28 (dk_at dksX10_enough_1 22 rfl rfl)
theorem dX10_enough_45 : decode cX10_enough 45 = .ok (.istore_n 2, 1) := dk_61 (dk_at dksX10_enough_1 23 rfl rfl)
theorem dX10_enough_46 : decode cX10_enough 46 = .ok (.iinc 3 1, 3) := dk_132 3 1 (dk_at dksX10_enough_2 0 rfl rfl)
theorem dX10_enough_49 : decode cX10_enough 49 = .ok (.goto (-30), 3) := dk_167 255 226 (dk_at dksX10_enough_2 3 rfl rfl)
theorem dX10_enough_52 : decode cX10_enough 52 = .ok (.iload_n 2, 1) := dk_28 (dk_at dksX10_enough_2 6 rfl rfl)
theorem dX10_enough_53 : decode cX10_enough 53 = .ok (.ireturn, 1) := dk_172 (dk_at dksX10_enough_2 7 rfl rfl)
abbrev cX10_waits : ByteArray := prog_16_method_84_code
def yX10_waits : MethodName := ⟨RX10, "waits", "(II)I"⟩
def dkwX10_waits_3 : List UInt8 := [154, 0, 7, 29, 167, 0, 9, 42, 27, 29, 182, 1, 136, 172]
abbrev dktX10_waits_3 : List UInt8 := dkwX10_waits_3 ++ []
def dkwX10_waits_2 : List UInt8 := [42, 27, 29, 182, 1, 136, 164, 0, 8, 21, 4, 167, 0, 4, 29, 62, 132, 4, 1, 167, 255, 221, 28]
abbrev dktX10_waits_2 : List UInt8 := dkwX10_waits_2 ++ dktX10_waits_3
def dkwX10_waits_1 : List UInt8 := [182, 1, 29, 3, 62, 4, 54, 4, 21, 4, 42, 182, 0, 92, 162, 0, 32, 42, 27, 21, 4, 182, 1, 136]
abbrev dktX10_waits_1 : List UInt8 := dkwX10_waits_1 ++ dktX10_waits_2
def dkwX10_waits_0 : List UInt8 := [42, 27, 182, 1, 14, 153, 0, 13, 28, 133, 9, 10, 184, 0, 88, 154, 0, 6, 16, 254, 172, 42]
abbrev dktX10_waits_0 : List UInt8 := dkwX10_waits_0 ++ dktX10_waits_1
theorem dksX10_waits_0 : cX10_waits.data.toList.drop 0 = dktX10_waits_0 := by decide +kernel
theorem dksX10_waits_1 : cX10_waits.data.toList.drop 22 = dktX10_waits_1 := dk_seg dksX10_waits_0 22 rfl rfl
theorem dksX10_waits_2 : cX10_waits.data.toList.drop 46 = dktX10_waits_2 := dk_seg dksX10_waits_1 24 rfl rfl
theorem dksX10_waits_3 : cX10_waits.data.toList.drop 69 = dktX10_waits_3 := dk_seg dksX10_waits_2 23 rfl rfl
theorem dX10_waits_0 : decode cX10_waits 0 = .ok (.aload_n 0, 1) := dk_42 (dk_at dksX10_waits_0 0 rfl rfl)
theorem dX10_waits_1 : decode cX10_waits 1 = .ok (.iload_n 1, 1) := dk_27 (dk_at dksX10_waits_0 1 rfl rfl)
theorem dX10_waits_2 : decode cX10_waits 2 = .ok (.invokevirtual 270, 3) := dk_182 1 14 (dk_at dksX10_waits_0 2 rfl rfl)
theorem dX10_waits_5 : decode cX10_waits 5 = .ok (.ifCond .eq 13, 3) := dk_153 0 13 (dk_at dksX10_waits_0 5 rfl rfl)
theorem dX10_waits_8 : decode cX10_waits 8 = .ok (.iload_n 2, 1) := dk_28 (dk_at dksX10_waits_0 8 rfl rfl)
theorem dX10_waits_9 : decode cX10_waits 9 = .ok (.i2l, 1) := dk_133 (dk_at dksX10_waits_0 9 rfl rfl)
theorem dX10_waits_10 : decode cX10_waits 10 = .ok (.lconst 0, 1) := dk_9 (dk_at dksX10_waits_0 10 rfl rfl)
theorem dX10_waits_11 : decode cX10_waits 11 = .ok (.lconst 1, 1) := dk_10 (dk_at dksX10_waits_0 11 rfl rfl)
theorem dX10_waits_12 : decode cX10_waits 12 = .ok (.invokestatic 88, 3) := dk_184 0 88 (dk_at dksX10_waits_0 12 rfl rfl)
theorem dX10_waits_15 : decode cX10_waits 15 = .ok (.ifCond .ne 6, 3) := dk_154 0 6 (dk_at dksX10_waits_0 15 rfl rfl)
theorem dX10_waits_18 : decode cX10_waits 18 = .ok (.bipush (-2), 2) := dk_16 254 (dk_at dksX10_waits_0 18 rfl rfl)
theorem dX10_waits_20 : decode cX10_waits 20 = .ok (.ireturn, 1) := dk_172 (dk_at dksX10_waits_0 20 rfl rfl)
theorem dX10_waits_21 : decode cX10_waits 21 = .ok (.aload_n 0, 1) := dk_42 (dk_at dksX10_waits_0 21 rfl rfl)
theorem dX10_waits_22 : decode cX10_waits 22 = .ok (.invokevirtual 285, 3) := dk_182 1 29 (dk_at dksX10_waits_1 0 rfl rfl)
theorem dX10_waits_25 : decode cX10_waits 25 = .ok (.iconst 0, 1) := dk_3 (dk_at dksX10_waits_1 3 rfl rfl)
theorem dX10_waits_26 : decode cX10_waits 26 = .ok (.istore_n 3, 1) := dk_62 (dk_at dksX10_waits_1 4 rfl rfl)
theorem dX10_waits_27 : decode cX10_waits 27 = .ok (.iconst 1, 1) := dk_4 (dk_at dksX10_waits_1 5 rfl rfl)
theorem dX10_waits_28 : decode cX10_waits 28 = .ok (.istore 4, 2) := dk_54 4 (dk_at dksX10_waits_1 6 rfl rfl)
theorem dX10_waits_30 : decode cX10_waits 30 = .ok (.iload 4, 2) := dk_21 4 (dk_at dksX10_waits_1 8 rfl rfl)
theorem dX10_waits_32 : decode cX10_waits 32 = .ok (.aload_n 0, 1) := dk_42 (dk_at dksX10_waits_1 10 rfl rfl)
theorem dX10_waits_33 : decode cX10_waits 33 = .ok (.invokevirtual 92, 3) := dk_182 0 92 (dk_at dksX10_waits_1 11 rfl rfl)
theorem dX10_waits_36 : decode cX10_waits 36 = .ok (.if_icmp .ge 32, 3) := dk_162 0 32 (dk_at dksX10_waits_1 14 rfl rfl)
theorem dX10_waits_39 : decode cX10_waits 39 = .ok (.aload_n 0, 1) := dk_42 (dk_at dksX10_waits_1 17 rfl rfl)
theorem dX10_waits_40 : decode cX10_waits 40 = .ok (.iload_n 1, 1) := dk_27 (dk_at dksX10_waits_1 18 rfl rfl)
theorem dX10_waits_41 : decode cX10_waits 41 = .ok (.iload 4, 2) := dk_21 4 (dk_at dksX10_waits_1 19 rfl rfl)
theorem dX10_waits_43 : decode cX10_waits 43 = .ok (.invokevirtual 392, 3) := dk_182 1 136 (dk_at dksX10_waits_1 21 rfl rfl)
theorem dX10_waits_46 : decode cX10_waits 46 = .ok (.aload_n 0, 1) := dk_42 (dk_at dksX10_waits_2 0 rfl rfl)
theorem dX10_waits_47 : decode cX10_waits 47 = .ok (.iload_n 1, 1) := dk_27 (dk_at dksX10_waits_2 1 rfl rfl)
theorem dX10_waits_48 : decode cX10_waits 48 = .ok (.iload_n 3, 1) := dk_29 (dk_at dksX10_waits_2 2 rfl rfl)
theorem dX10_waits_49 : decode cX10_waits 49 = .ok (.invokevirtual 392, 3) := dk_182 1 136 (dk_at dksX10_waits_2 3 rfl rfl)
theorem dX10_waits_52 : decode cX10_waits 52 = .ok (.if_icmp .le 8, 3) := dk_164 0 8 (dk_at dksX10_waits_2 6 rfl rfl)
theorem dX10_waits_55 : decode cX10_waits 55 = .ok (.iload 4, 2) := dk_21 4 (dk_at dksX10_waits_2 9 rfl rfl)
theorem dX10_waits_57 : decode cX10_waits 57 = .ok (.goto 4, 3) := dk_167 0 4 (dk_at dksX10_waits_2 11 rfl rfl)
theorem dX10_waits_60 : decode cX10_waits 60 = .ok (.iload_n 3, 1) := dk_29 (dk_at dksX10_waits_2 14 rfl rfl)
theorem dX10_waits_61 : decode cX10_waits 61 = .ok (.istore_n 3, 1) := dk_62 (dk_at dksX10_waits_2 15 rfl rfl)
theorem dX10_waits_62 : decode cX10_waits 62 = .ok (.iinc 4 1, 3) := dk_132 4 1 (dk_at dksX10_waits_2 16 rfl rfl)
theorem dX10_waits_65 : decode cX10_waits 65 = .ok (.goto (-35), 3) := dk_167 255 221 (dk_at dksX10_waits_2 19 rfl rfl)
theorem dX10_waits_68 : decode cX10_waits 68 = .ok (.iload_n 2, 1) := dk_28 (dk_at dksX10_waits_2 22 rfl rfl)
theorem dX10_waits_69 : decode cX10_waits 69 = .ok (.ifCond .ne 7, 3) := dk_154 0 7 (dk_at dksX10_waits_3 0 rfl rfl)
theorem dX10_waits_72 : decode cX10_waits 72 = .ok (.iload_n 3, 1) := dk_29 (dk_at dksX10_waits_3 3 rfl rfl)
theorem dX10_waits_73 : decode cX10_waits 73 = .ok (.goto 9, 3) := dk_167 0 9 (dk_at dksX10_waits_3 4 rfl rfl)
theorem dX10_waits_76 : decode cX10_waits 76 = .ok (.aload_n 0, 1) := dk_42 (dk_at dksX10_waits_3 7 rfl rfl)
theorem dX10_waits_77 : decode cX10_waits 77 = .ok (.iload_n 1, 1) := dk_27 (dk_at dksX10_waits_3 8 rfl rfl)
theorem dX10_waits_78 : decode cX10_waits 78 = .ok (.iload_n 3, 1) := dk_29 (dk_at dksX10_waits_3 9 rfl rfl)
theorem dX10_waits_79 : decode cX10_waits 79 = .ok (.invokevirtual 392, 3) := dk_182 1 136 (dk_at dksX10_waits_3 10 rfl rfl)
theorem dX10_waits_82 : decode cX10_waits 82 = .ok (.ireturn, 1) := dk_172 (dk_at dksX10_waits_3 13 rfl rfl)
abbrev cX10_waitingAt : ByteArray := prog_16_method_83_code
def yX10_waitingAt : MethodName := ⟨RX10, "waitingAt", "(II)I"⟩
def dkwX10_waitingAt_0 : List UInt8 := [42, 27, 182, 1, 72, 42, 28, 181, 1, 62, 42, 182, 1, 106, 42, 180, 1, 90, 172]
abbrev dktX10_waitingAt_0 : List UInt8 := dkwX10_waitingAt_0 ++ []
theorem dksX10_waitingAt_0 : cX10_waitingAt.data.toList.drop 0 = dktX10_waitingAt_0 := by decide +kernel
theorem dX10_waitingAt_0 : decode cX10_waitingAt 0 = .ok (.aload_n 0, 1) := dk_42 (dk_at dksX10_waitingAt_0 0 rfl rfl)
theorem dX10_waitingAt_1 : decode cX10_waitingAt 1 = .ok (.iload_n 1, 1) := dk_27 (dk_at dksX10_waitingAt_0 1 rfl rfl)
theorem dX10_waitingAt_2 : decode cX10_waitingAt 2 = .ok (.invokevirtual 328, 3) := dk_182 1 72 (dk_at dksX10_waitingAt_0 2 rfl rfl)
theorem dX10_waitingAt_5 : decode cX10_waitingAt 5 = .ok (.aload_n 0, 1) := dk_42 (dk_at dksX10_waitingAt_0 5 rfl rfl)
theorem dX10_waitingAt_6 : decode cX10_waitingAt 6 = .ok (.iload_n 2, 1) := dk_28 (dk_at dksX10_waitingAt_0 6 rfl rfl)
theorem dX10_waitingAt_7 : decode cX10_waitingAt 7 = .ok (.putfield 318, 3) := dk_181 1 62 (dk_at dksX10_waitingAt_0 7 rfl rfl)
theorem dX10_waitingAt_10 : decode cX10_waitingAt 10 = .ok (.aload_n 0, 1) := dk_42 (dk_at dksX10_waitingAt_0 10 rfl rfl)
theorem dX10_waitingAt_11 : decode cX10_waitingAt 11 = .ok (.invokevirtual 362, 3) := dk_182 1 106 (dk_at dksX10_waitingAt_0 11 rfl rfl)
theorem dX10_waitingAt_14 : decode cX10_waitingAt 14 = .ok (.aload_n 0, 1) := dk_42 (dk_at dksX10_waitingAt_0 14 rfl rfl)
theorem dX10_waitingAt_15 : decode cX10_waitingAt 15 = .ok (.getfield 346, 3) := dk_180 1 90 (dk_at dksX10_waitingAt_0 15 rfl rfl)
theorem dX10_waitingAt_18 : decode cX10_waitingAt 18 = .ok (.ireturn, 1) := dk_172 (dk_at dksX10_waitingAt_0 18 rfl rfl)
abbrev cX10_mean : ByteArray := prog_16_method_88_code
def yX10_mean : MethodName := ⟨RX10, "mean", "(II)I"⟩
def dkwX10_mean_2 : List UInt8 := [167, 0, 4, 29, 21, 4, 29, 184, 1, 148, 108, 172]
abbrev dktX10_mean_2 : List UInt8 := dkwX10_mean_2 ++ []
def dkwX10_mean_1 : List UInt8 := [182, 1, 142, 62, 29, 154, 0, 5, 2, 172, 42, 27, 182, 1, 145, 54, 4, 28, 154, 0, 8, 21, 4]
abbrev dktX10_mean_1 : List UInt8 := dkwX10_mean_1 ++ dktX10_mean_2
def dkwX10_mean_0 : List UInt8 := [42, 27, 133, 182, 1, 44, 153, 0, 13, 28, 133, 9, 10, 184, 0, 88, 154, 0, 6, 16, 254, 172, 42]
abbrev dktX10_mean_0 : List UInt8 := dkwX10_mean_0 ++ dktX10_mean_1
theorem dksX10_mean_0 : cX10_mean.data.toList.drop 0 = dktX10_mean_0 := by decide +kernel
theorem dksX10_mean_1 : cX10_mean.data.toList.drop 23 = dktX10_mean_1 := dk_seg dksX10_mean_0 23 rfl rfl
theorem dksX10_mean_2 : cX10_mean.data.toList.drop 46 = dktX10_mean_2 := dk_seg dksX10_mean_1 23 rfl rfl
theorem dX10_mean_0 : decode cX10_mean 0 = .ok (.aload_n 0, 1) := dk_42 (dk_at dksX10_mean_0 0 rfl rfl)
theorem dX10_mean_1 : decode cX10_mean 1 = .ok (.iload_n 1, 1) := dk_27 (dk_at dksX10_mean_0 1 rfl rfl)
theorem dX10_mean_2 : decode cX10_mean 2 = .ok (.i2l, 1) := dk_133 (dk_at dksX10_mean_0 2 rfl rfl)
theorem dX10_mean_3 : decode cX10_mean 3 = .ok (.invokevirtual 300, 3) := dk_182 1 44 (dk_at dksX10_mean_0 3 rfl rfl)
theorem dX10_mean_6 : decode cX10_mean 6 = .ok (.ifCond .eq 13, 3) := dk_153 0 13 (dk_at dksX10_mean_0 6 rfl rfl)
theorem dX10_mean_9 : decode cX10_mean 9 = .ok (.iload_n 2, 1) := dk_28 (dk_at dksX10_mean_0 9 rfl rfl)
theorem dX10_mean_10 : decode cX10_mean 10 = .ok (.i2l, 1) := dk_133 (dk_at dksX10_mean_0 10 rfl rfl)
theorem dX10_mean_11 : decode cX10_mean 11 = .ok (.lconst 0, 1) := dk_9 (dk_at dksX10_mean_0 11 rfl rfl)
theorem dX10_mean_12 : decode cX10_mean 12 = .ok (.lconst 1, 1) := dk_10 (dk_at dksX10_mean_0 12 rfl rfl)
theorem dX10_mean_13 : decode cX10_mean 13 = .ok (.invokestatic 88, 3) := dk_184 0 88 (dk_at dksX10_mean_0 13 rfl rfl)
theorem dX10_mean_16 : decode cX10_mean 16 = .ok (.ifCond .ne 6, 3) := dk_154 0 6 (dk_at dksX10_mean_0 16 rfl rfl)
theorem dX10_mean_19 : decode cX10_mean 19 = .ok (.bipush (-2), 2) := dk_16 254 (dk_at dksX10_mean_0 19 rfl rfl)
theorem dX10_mean_21 : decode cX10_mean 21 = .ok (.ireturn, 1) := dk_172 (dk_at dksX10_mean_0 21 rfl rfl)
theorem dX10_mean_22 : decode cX10_mean 22 = .ok (.aload_n 0, 1) := dk_42 (dk_at dksX10_mean_0 22 rfl rfl)
theorem dX10_mean_23 : decode cX10_mean 23 = .ok (.invokevirtual 398, 3) := dk_182 1 142 (dk_at dksX10_mean_1 0 rfl rfl)
theorem dX10_mean_26 : decode cX10_mean 26 = .ok (.istore_n 3, 1) := dk_62 (dk_at dksX10_mean_1 3 rfl rfl)
theorem dX10_mean_27 : decode cX10_mean 27 = .ok (.iload_n 3, 1) := dk_29 (dk_at dksX10_mean_1 4 rfl rfl)
theorem dX10_mean_28 : decode cX10_mean 28 = .ok (.ifCond .ne 5, 3) := dk_154 0 5 (dk_at dksX10_mean_1 5 rfl rfl)
theorem dX10_mean_31 : decode cX10_mean 31 = .ok (.iconst (-1), 1) := dk_2 (dk_at dksX10_mean_1 8 rfl rfl)
theorem dX10_mean_32 : decode cX10_mean 32 = .ok (.ireturn, 1) := dk_172 (dk_at dksX10_mean_1 9 rfl rfl)
theorem dX10_mean_33 : decode cX10_mean 33 = .ok (.aload_n 0, 1) := dk_42 (dk_at dksX10_mean_1 10 rfl rfl)
theorem dX10_mean_34 : decode cX10_mean 34 = .ok (.iload_n 1, 1) := dk_27 (dk_at dksX10_mean_1 11 rfl rfl)
theorem dX10_mean_35 : decode cX10_mean 35 = .ok (.invokevirtual 401, 3) := dk_182 1 145 (dk_at dksX10_mean_1 12 rfl rfl)
theorem dX10_mean_38 : decode cX10_mean 38 = .ok (.istore 4, 2) := dk_54 4 (dk_at dksX10_mean_1 15 rfl rfl)
theorem dX10_mean_40 : decode cX10_mean 40 = .ok (.iload_n 2, 1) := dk_28 (dk_at dksX10_mean_1 17 rfl rfl)
theorem dX10_mean_41 : decode cX10_mean 41 = .ok (.ifCond .ne 8, 3) := dk_154 0 8 (dk_at dksX10_mean_1 18 rfl rfl)
theorem dX10_mean_44 : decode cX10_mean 44 = .ok (.iload 4, 2) := dk_21 4 (dk_at dksX10_mean_1 21 rfl rfl)
theorem dX10_mean_46 : decode cX10_mean 46 = .ok (.goto 4, 3) := dk_167 0 4 (dk_at dksX10_mean_2 0 rfl rfl)
theorem dX10_mean_49 : decode cX10_mean 49 = .ok (.iload_n 3, 1) := dk_29 (dk_at dksX10_mean_2 3 rfl rfl)
theorem dX10_mean_50 : decode cX10_mean 50 = .ok (.iload 4, 2) := dk_21 4 (dk_at dksX10_mean_2 4 rfl rfl)
theorem dX10_mean_52 : decode cX10_mean 52 = .ok (.iload_n 3, 1) := dk_29 (dk_at dksX10_mean_2 6 rfl rfl)
theorem dX10_mean_53 : decode cX10_mean 53 = .ok (.invokestatic 404, 3) := dk_184 1 148 (dk_at dksX10_mean_2 7 rfl rfl)
theorem dX10_mean_56 : decode cX10_mean 56 = .ok (.idiv, 1) := dk_108 (dk_at dksX10_mean_2 10 rfl rfl)
theorem dX10_mean_57 : decode cX10_mean 57 = .ok (.ireturn, 1) := dk_172 (dk_at dksX10_mean_2 11 rfl rfl)
abbrev cX10_openHoles : ByteArray := prog_16_method_85_code
def yX10_openHoles : MethodName := ⟨RX10, "openHoles", "()I"⟩
def dkwX10_openHoles_1 : List UInt8 := [167, 0, 4, 4, 96, 60, 132, 2, 1, 167, 255, 229, 27, 172]
abbrev dktX10_openHoles_1 : List UInt8 := dkwX10_openHoles_1 ++ []
def dkwX10_openHoles_0 : List UInt8 := [3, 60, 3, 61, 28, 42, 182, 0, 92, 162, 0, 25, 27, 42, 28, 182, 1, 139, 153, 0, 7, 3]
abbrev dktX10_openHoles_0 : List UInt8 := dkwX10_openHoles_0 ++ dktX10_openHoles_1
theorem dksX10_openHoles_0 : cX10_openHoles.data.toList.drop 0 = dktX10_openHoles_0 := by decide +kernel
theorem dksX10_openHoles_1 : cX10_openHoles.data.toList.drop 22 = dktX10_openHoles_1 := dk_seg dksX10_openHoles_0 22 rfl rfl
theorem dX10_openHoles_0 : decode cX10_openHoles 0 = .ok (.iconst 0, 1) := dk_3 (dk_at dksX10_openHoles_0 0 rfl rfl)
theorem dX10_openHoles_1 : decode cX10_openHoles 1 = .ok (.istore_n 1, 1) := dk_60 (dk_at dksX10_openHoles_0 1 rfl rfl)
theorem dX10_openHoles_2 : decode cX10_openHoles 2 = .ok (.iconst 0, 1) := dk_3 (dk_at dksX10_openHoles_0 2 rfl rfl)
theorem dX10_openHoles_3 : decode cX10_openHoles 3 = .ok (.istore_n 2, 1) := dk_61 (dk_at dksX10_openHoles_0 3 rfl rfl)
theorem dX10_openHoles_4 : decode cX10_openHoles 4 = .ok (.iload_n 2, 1) := dk_28 (dk_at dksX10_openHoles_0 4 rfl rfl)
theorem dX10_openHoles_5 : decode cX10_openHoles 5 = .ok (.aload_n 0, 1) := dk_42 (dk_at dksX10_openHoles_0 5 rfl rfl)
theorem dX10_openHoles_6 : decode cX10_openHoles 6 = .ok (.invokevirtual 92, 3) := dk_182 0 92 (dk_at dksX10_openHoles_0 6 rfl rfl)
theorem dX10_openHoles_9 : decode cX10_openHoles 9 = .ok (.if_icmp .ge 25, 3) := dk_162 0 25 (dk_at dksX10_openHoles_0 9 rfl rfl)
theorem dX10_openHoles_12 : decode cX10_openHoles 12 = .ok (.iload_n 1, 1) := dk_27 (dk_at dksX10_openHoles_0 12 rfl rfl)
theorem dX10_openHoles_13 : decode cX10_openHoles 13 = .ok (.aload_n 0, 1) := dk_42 (dk_at dksX10_openHoles_0 13 rfl rfl)
theorem dX10_openHoles_14 : decode cX10_openHoles 14 = .ok (.iload_n 2, 1) := dk_28 (dk_at dksX10_openHoles_0 14 rfl rfl)
theorem dX10_openHoles_15 : decode cX10_openHoles 15 = .ok (.invokevirtual 395, 3) := dk_182 1 139 (dk_at dksX10_openHoles_0 15 rfl rfl)
theorem dX10_openHoles_18 : decode cX10_openHoles 18 = .ok (.ifCond .eq 7, 3) := dk_153 0 7 (dk_at dksX10_openHoles_0 18 rfl rfl)
theorem dX10_openHoles_21 : decode cX10_openHoles 21 = .ok (.iconst 0, 1) := dk_3 (dk_at dksX10_openHoles_0 21 rfl rfl)
theorem dX10_openHoles_22 : decode cX10_openHoles 22 = .ok (.goto 4, 3) := dk_167 0 4 (dk_at dksX10_openHoles_1 0 rfl rfl)
theorem dX10_openHoles_25 : decode cX10_openHoles 25 = .ok (.iconst 1, 1) := dk_4 (dk_at dksX10_openHoles_1 3 rfl rfl)
theorem dX10_openHoles_26 : decode cX10_openHoles 26 = .ok (.iadd, 1) := dk_96 (dk_at dksX10_openHoles_1 4 rfl rfl)
theorem dX10_openHoles_27 : decode cX10_openHoles 27 = .ok (.istore_n 1, 1) := dk_60 (dk_at dksX10_openHoles_1 5 rfl rfl)
theorem dX10_openHoles_28 : decode cX10_openHoles 28 = .ok (.iinc 2 1, 3) := dk_132 2 1 (dk_at dksX10_openHoles_1 6 rfl rfl)
theorem dX10_openHoles_31 : decode cX10_openHoles 31 = .ok (.goto (-27), 3) := dk_167 255 229 (dk_at dksX10_openHoles_1 9 rfl rfl)
theorem dX10_openHoles_34 : decode cX10_openHoles 34 = .ok (.iload_n 1, 1) := dk_27 (dk_at dksX10_openHoles_1 12 rfl rfl)
theorem dX10_openHoles_35 : decode cX10_openHoles 35 = .ok (.ireturn, 1) := dk_172 (dk_at dksX10_openHoles_1 13 rfl rfl)
abbrev cX10_isShut : ByteArray := prog_16_method_9_code
def yX10_isShut : MethodName := ⟨RX10, "isShut", "(I)Z"⟩
def dkwX10_isShut_0 : List UInt8 := [42, 180, 0, 9, 16, 7, 46, 27, 122, 4, 126, 4, 160, 0, 7, 4, 167, 0, 4, 3, 172]
abbrev dktX10_isShut_0 : List UInt8 := dkwX10_isShut_0 ++ []
theorem dksX10_isShut_0 : cX10_isShut.data.toList.drop 0 = dktX10_isShut_0 := by decide +kernel
theorem dX10_isShut_0 : decode cX10_isShut 0 = .ok (.aload_n 0, 1) := dk_42 (dk_at dksX10_isShut_0 0 rfl rfl)
theorem dX10_isShut_1 : decode cX10_isShut 1 = .ok (.getfield 9, 3) := dk_180 0 9 (dk_at dksX10_isShut_0 1 rfl rfl)
theorem dX10_isShut_4 : decode cX10_isShut 4 = .ok (.bipush 7, 2) := dk_16 7 (dk_at dksX10_isShut_0 4 rfl rfl)
theorem dX10_isShut_6 : decode cX10_isShut 6 = .ok (.iaload, 1) := dk_46 (dk_at dksX10_isShut_0 6 rfl rfl)
theorem dX10_isShut_7 : decode cX10_isShut 7 = .ok (.iload_n 1, 1) := dk_27 (dk_at dksX10_isShut_0 7 rfl rfl)
theorem dX10_isShut_8 : decode cX10_isShut 8 = .ok (.ishr, 1) := dk_122 (dk_at dksX10_isShut_0 8 rfl rfl)
theorem dX10_isShut_9 : decode cX10_isShut 9 = .ok (.iconst 1, 1) := dk_4 (dk_at dksX10_isShut_0 9 rfl rfl)
theorem dX10_isShut_10 : decode cX10_isShut 10 = .ok (.iand, 1) := dk_126 (dk_at dksX10_isShut_0 10 rfl rfl)
theorem dX10_isShut_11 : decode cX10_isShut 11 = .ok (.iconst 1, 1) := dk_4 (dk_at dksX10_isShut_0 11 rfl rfl)
theorem dX10_isShut_12 : decode cX10_isShut 12 = .ok (.if_icmp .ne 7, 3) := dk_160 0 7 (dk_at dksX10_isShut_0 12 rfl rfl)
theorem dX10_isShut_15 : decode cX10_isShut 15 = .ok (.iconst 1, 1) := dk_4 (dk_at dksX10_isShut_0 15 rfl rfl)
theorem dX10_isShut_16 : decode cX10_isShut 16 = .ok (.goto 4, 3) := dk_167 0 4 (dk_at dksX10_isShut_0 16 rfl rfl)
theorem dX10_isShut_19 : decode cX10_isShut 19 = .ok (.iconst 0, 1) := dk_3 (dk_at dksX10_isShut_0 19 rfl rfl)
theorem dX10_isShut_20 : decode cX10_isShut 20 = .ok (.ireturn, 1) := dk_172 (dk_at dksX10_isShut_0 20 rfl rfl)
abbrev cX10_stepsToAll : ByteArray := prog_16_method_86_code
def yX10_stepsToAll : MethodName := ⟨RX10, "stepsToAll", "(I)I"⟩
def dkwX10_stepsToAll_1 : List UInt8 := [167, 0, 9, 42, 27, 29, 182, 1, 47, 96, 61, 132, 3, 1, 167, 255, 224, 28, 172]
abbrev dktX10_stepsToAll_1 : List UInt8 := dkwX10_stepsToAll_1 ++ []
def dkwX10_stepsToAll_0 : List UInt8 := [3, 61, 3, 62, 29, 42, 182, 0, 92, 162, 0, 30, 28, 42, 29, 182, 1, 139, 153, 0, 7, 3]
abbrev dktX10_stepsToAll_0 : List UInt8 := dkwX10_stepsToAll_0 ++ dktX10_stepsToAll_1
theorem dksX10_stepsToAll_0 : cX10_stepsToAll.data.toList.drop 0 = dktX10_stepsToAll_0 := by decide +kernel
theorem dksX10_stepsToAll_1 : cX10_stepsToAll.data.toList.drop 22 = dktX10_stepsToAll_1 := dk_seg dksX10_stepsToAll_0 22 rfl rfl
theorem dX10_stepsToAll_0 : decode cX10_stepsToAll 0 = .ok (.iconst 0, 1) := dk_3 (dk_at dksX10_stepsToAll_0 0 rfl rfl)
theorem dX10_stepsToAll_1 : decode cX10_stepsToAll 1 = .ok (.istore_n 2, 1) := dk_61 (dk_at dksX10_stepsToAll_0 1 rfl rfl)
theorem dX10_stepsToAll_2 : decode cX10_stepsToAll 2 = .ok (.iconst 0, 1) := dk_3 (dk_at dksX10_stepsToAll_0 2 rfl rfl)
theorem dX10_stepsToAll_3 : decode cX10_stepsToAll 3 = .ok (.istore_n 3, 1) := dk_62 (dk_at dksX10_stepsToAll_0 3 rfl rfl)
theorem dX10_stepsToAll_4 : decode cX10_stepsToAll 4 = .ok (.iload_n 3, 1) := dk_29 (dk_at dksX10_stepsToAll_0 4 rfl rfl)
theorem dX10_stepsToAll_5 : decode cX10_stepsToAll 5 = .ok (.aload_n 0, 1) := dk_42 (dk_at dksX10_stepsToAll_0 5 rfl rfl)
theorem dX10_stepsToAll_6 : decode cX10_stepsToAll 6 = .ok (.invokevirtual 92, 3) := dk_182 0 92 (dk_at dksX10_stepsToAll_0 6 rfl rfl)
theorem dX10_stepsToAll_9 : decode cX10_stepsToAll 9 = .ok (.if_icmp .ge 30, 3) := dk_162 0 30 (dk_at dksX10_stepsToAll_0 9 rfl rfl)
theorem dX10_stepsToAll_12 : decode cX10_stepsToAll 12 = .ok (.iload_n 2, 1) := dk_28 (dk_at dksX10_stepsToAll_0 12 rfl rfl)
theorem dX10_stepsToAll_13 : decode cX10_stepsToAll 13 = .ok (.aload_n 0, 1) := dk_42 (dk_at dksX10_stepsToAll_0 13 rfl rfl)
theorem dX10_stepsToAll_14 : decode cX10_stepsToAll 14 = .ok (.iload_n 3, 1) := dk_29 (dk_at dksX10_stepsToAll_0 14 rfl rfl)
theorem dX10_stepsToAll_15 : decode cX10_stepsToAll 15 = .ok (.invokevirtual 395, 3) := dk_182 1 139 (dk_at dksX10_stepsToAll_0 15 rfl rfl)
theorem dX10_stepsToAll_18 : decode cX10_stepsToAll 18 = .ok (.ifCond .eq 7, 3) := dk_153 0 7 (dk_at dksX10_stepsToAll_0 18 rfl rfl)
theorem dX10_stepsToAll_21 : decode cX10_stepsToAll 21 = .ok (.iconst 0, 1) := dk_3 (dk_at dksX10_stepsToAll_0 21 rfl rfl)
theorem dX10_stepsToAll_22 : decode cX10_stepsToAll 22 = .ok (.goto 9, 3) := dk_167 0 9 (dk_at dksX10_stepsToAll_1 0 rfl rfl)
theorem dX10_stepsToAll_25 : decode cX10_stepsToAll 25 = .ok (.aload_n 0, 1) := dk_42 (dk_at dksX10_stepsToAll_1 3 rfl rfl)
theorem dX10_stepsToAll_26 : decode cX10_stepsToAll 26 = .ok (.iload_n 1, 1) := dk_27 (dk_at dksX10_stepsToAll_1 4 rfl rfl)
theorem dX10_stepsToAll_27 : decode cX10_stepsToAll 27 = .ok (.iload_n 3, 1) := dk_29 (dk_at dksX10_stepsToAll_1 5 rfl rfl)
theorem dX10_stepsToAll_28 : decode cX10_stepsToAll 28 = .ok (.invokevirtual 303, 3) := dk_182 1 47 (dk_at dksX10_stepsToAll_1 6 rfl rfl)
theorem dX10_stepsToAll_31 : decode cX10_stepsToAll 31 = .ok (.iadd, 1) := dk_96 (dk_at dksX10_stepsToAll_1 9 rfl rfl)
theorem dX10_stepsToAll_32 : decode cX10_stepsToAll 32 = .ok (.istore_n 2, 1) := dk_61 (dk_at dksX10_stepsToAll_1 10 rfl rfl)
theorem dX10_stepsToAll_33 : decode cX10_stepsToAll 33 = .ok (.iinc 3 1, 3) := dk_132 3 1 (dk_at dksX10_stepsToAll_1 11 rfl rfl)
theorem dX10_stepsToAll_36 : decode cX10_stepsToAll 36 = .ok (.goto (-32), 3) := dk_167 255 224 (dk_at dksX10_stepsToAll_1 14 rfl rfl)
theorem dX10_stepsToAll_39 : decode cX10_stepsToAll 39 = .ok (.iload_n 2, 1) := dk_28 (dk_at dksX10_stepsToAll_1 17 rfl rfl)
theorem dX10_stepsToAll_40 : decode cX10_stepsToAll 40 = .ok (.ireturn, 1) := dk_172 (dk_at dksX10_stepsToAll_1 18 rfl rfl)
abbrev cX10_divisor : ByteArray := prog_16_method_87_code
def yX10_divisor : MethodName := ⟨RX10, "divisor", "(II)I"⟩
def dkwX10_divisor_0 : List UInt8 := [26, 61, 27, 62, 29, 153, 0, 16, 28, 29, 112, 54, 4, 29, 61, 21, 4, 62, 167, 255, 242, 28, 172]
abbrev dktX10_divisor_0 : List UInt8 := dkwX10_divisor_0 ++ []
theorem dksX10_divisor_0 : cX10_divisor.data.toList.drop 0 = dktX10_divisor_0 := by decide +kernel
theorem dX10_divisor_0 : decode cX10_divisor 0 = .ok (.iload_n 0, 1) := dk_26 (dk_at dksX10_divisor_0 0 rfl rfl)
theorem dX10_divisor_1 : decode cX10_divisor 1 = .ok (.istore_n 2, 1) := dk_61 (dk_at dksX10_divisor_0 1 rfl rfl)
theorem dX10_divisor_2 : decode cX10_divisor 2 = .ok (.iload_n 1, 1) := dk_27 (dk_at dksX10_divisor_0 2 rfl rfl)
theorem dX10_divisor_3 : decode cX10_divisor 3 = .ok (.istore_n 3, 1) := dk_62 (dk_at dksX10_divisor_0 3 rfl rfl)
theorem dX10_divisor_4 : decode cX10_divisor 4 = .ok (.iload_n 3, 1) := dk_29 (dk_at dksX10_divisor_0 4 rfl rfl)
theorem dX10_divisor_5 : decode cX10_divisor 5 = .ok (.ifCond .eq 16, 3) := dk_153 0 16 (dk_at dksX10_divisor_0 5 rfl rfl)
theorem dX10_divisor_8 : decode cX10_divisor 8 = .ok (.iload_n 2, 1) := dk_28 (dk_at dksX10_divisor_0 8 rfl rfl)
theorem dX10_divisor_9 : decode cX10_divisor 9 = .ok (.iload_n 3, 1) := dk_29 (dk_at dksX10_divisor_0 9 rfl rfl)
theorem dX10_divisor_10 : decode cX10_divisor 10 = .ok (.irem, 1) := dk_112 (dk_at dksX10_divisor_0 10 rfl rfl)
theorem dX10_divisor_11 : decode cX10_divisor 11 = .ok (.istore 4, 2) := dk_54 4 (dk_at dksX10_divisor_0 11 rfl rfl)
theorem dX10_divisor_13 : decode cX10_divisor 13 = .ok (.iload_n 3, 1) := dk_29 (dk_at dksX10_divisor_0 13 rfl rfl)
theorem dX10_divisor_14 : decode cX10_divisor 14 = .ok (.istore_n 2, 1) := dk_61 (dk_at dksX10_divisor_0 14 rfl rfl)
theorem dX10_divisor_15 : decode cX10_divisor 15 = .ok (.iload 4, 2) := dk_21 4 (dk_at dksX10_divisor_0 15 rfl rfl)
theorem dX10_divisor_17 : decode cX10_divisor 17 = .ok (.istore_n 3, 1) := dk_62 (dk_at dksX10_divisor_0 17 rfl rfl)
theorem dX10_divisor_18 : decode cX10_divisor 18 = .ok (.goto (-14), 3) := dk_167 255 242 (dk_at dksX10_divisor_0 18 rfl rfl)
theorem dX10_divisor_21 : decode cX10_divisor 21 = .ok (.iload_n 2, 1) := dk_28 (dk_at dksX10_divisor_0 21 rfl rfl)
theorem dX10_divisor_22 : decode cX10_divisor 22 = .ok (.ireturn, 1) := dk_172 (dk_at dksX10_divisor_0 22 rfl rfl)
abbrev cX10_middle : ByteArray := prog_16_method_89_code
def yX10_middle : MethodName := ⟨RX10, "middle", "(I)I"⟩
def dkwX10_middle_3 : List UInt8 := [164, 0, 5, 29, 61, 132, 3, 1, 167, 255, 210, 28, 172]
abbrev dktX10_middle_3 : List UInt8 := dkwX10_middle_3 ++ []
def dkwX10_middle_2 : List UInt8 := [182, 1, 145, 42, 28, 182, 1, 145, 162, 0, 21, 167, 0, 16, 42, 29, 182, 1, 145, 42, 28, 182, 1, 145]
abbrev dktX10_middle_2 : List UInt8 := dkwX10_middle_2 ++ dktX10_middle_3
def dkwX10_middle_1 : List UInt8 := [154, 0, 5, 2, 172, 3, 61, 4, 62, 29, 42, 182, 0, 92, 162, 0, 44, 27, 154, 0, 19, 42, 29]
abbrev dktX10_middle_1 : List UInt8 := dkwX10_middle_1 ++ dktX10_middle_2
def dkwX10_middle_0 : List UInt8 := [42, 182, 1, 26, 153, 0, 13, 27, 133, 9, 10, 184, 0, 88, 154, 0, 6, 16, 254, 172, 42, 182, 1, 142]
abbrev dktX10_middle_0 : List UInt8 := dkwX10_middle_0 ++ dktX10_middle_1
theorem dksX10_middle_0 : cX10_middle.data.toList.drop 0 = dktX10_middle_0 := by decide +kernel
theorem dksX10_middle_1 : cX10_middle.data.toList.drop 24 = dktX10_middle_1 := dk_seg dksX10_middle_0 24 rfl rfl
theorem dksX10_middle_2 : cX10_middle.data.toList.drop 47 = dktX10_middle_2 := dk_seg dksX10_middle_1 23 rfl rfl
theorem dksX10_middle_3 : cX10_middle.data.toList.drop 71 = dktX10_middle_3 := dk_seg dksX10_middle_2 24 rfl rfl
theorem dX10_middle_0 : decode cX10_middle 0 = .ok (.aload_n 0, 1) := dk_42 (dk_at dksX10_middle_0 0 rfl rfl)
theorem dX10_middle_1 : decode cX10_middle 1 = .ok (.invokevirtual 282, 3) := dk_182 1 26 (dk_at dksX10_middle_0 1 rfl rfl)
theorem dX10_middle_4 : decode cX10_middle 4 = .ok (.ifCond .eq 13, 3) := dk_153 0 13 (dk_at dksX10_middle_0 4 rfl rfl)
theorem dX10_middle_7 : decode cX10_middle 7 = .ok (.iload_n 1, 1) := dk_27 (dk_at dksX10_middle_0 7 rfl rfl)
theorem dX10_middle_8 : decode cX10_middle 8 = .ok (.i2l, 1) := dk_133 (dk_at dksX10_middle_0 8 rfl rfl)
theorem dX10_middle_9 : decode cX10_middle 9 = .ok (.lconst 0, 1) := dk_9 (dk_at dksX10_middle_0 9 rfl rfl)
theorem dX10_middle_10 : decode cX10_middle 10 = .ok (.lconst 1, 1) := dk_10 (dk_at dksX10_middle_0 10 rfl rfl)
theorem dX10_middle_11 : decode cX10_middle 11 = .ok (.invokestatic 88, 3) := dk_184 0 88 (dk_at dksX10_middle_0 11 rfl rfl)
theorem dX10_middle_14 : decode cX10_middle 14 = .ok (.ifCond .ne 6, 3) := dk_154 0 6 (dk_at dksX10_middle_0 14 rfl rfl)
theorem dX10_middle_17 : decode cX10_middle 17 = .ok (.bipush (-2), 2) := dk_16 254 (dk_at dksX10_middle_0 17 rfl rfl)
theorem dX10_middle_19 : decode cX10_middle 19 = .ok (.ireturn, 1) := dk_172 (dk_at dksX10_middle_0 19 rfl rfl)
theorem dX10_middle_20 : decode cX10_middle 20 = .ok (.aload_n 0, 1) := dk_42 (dk_at dksX10_middle_0 20 rfl rfl)
theorem dX10_middle_21 : decode cX10_middle 21 = .ok (.invokevirtual 398, 3) := dk_182 1 142 (dk_at dksX10_middle_0 21 rfl rfl)
theorem dX10_middle_24 : decode cX10_middle 24 = .ok (.ifCond .ne 5, 3) := dk_154 0 5 (dk_at dksX10_middle_1 0 rfl rfl)
theorem dX10_middle_27 : decode cX10_middle 27 = .ok (.iconst (-1), 1) := dk_2 (dk_at dksX10_middle_1 3 rfl rfl)
theorem dX10_middle_28 : decode cX10_middle 28 = .ok (.ireturn, 1) := dk_172 (dk_at dksX10_middle_1 4 rfl rfl)
theorem dX10_middle_29 : decode cX10_middle 29 = .ok (.iconst 0, 1) := dk_3 (dk_at dksX10_middle_1 5 rfl rfl)
theorem dX10_middle_30 : decode cX10_middle 30 = .ok (.istore_n 2, 1) := dk_61 (dk_at dksX10_middle_1 6 rfl rfl)
theorem dX10_middle_31 : decode cX10_middle 31 = .ok (.iconst 1, 1) := dk_4 (dk_at dksX10_middle_1 7 rfl rfl)
theorem dX10_middle_32 : decode cX10_middle 32 = .ok (.istore_n 3, 1) := dk_62 (dk_at dksX10_middle_1 8 rfl rfl)
theorem dX10_middle_33 : decode cX10_middle 33 = .ok (.iload_n 3, 1) := dk_29 (dk_at dksX10_middle_1 9 rfl rfl)
theorem dX10_middle_34 : decode cX10_middle 34 = .ok (.aload_n 0, 1) := dk_42 (dk_at dksX10_middle_1 10 rfl rfl)
theorem dX10_middle_35 : decode cX10_middle 35 = .ok (.invokevirtual 92, 3) := dk_182 0 92 (dk_at dksX10_middle_1 11 rfl rfl)
theorem dX10_middle_38 : decode cX10_middle 38 = .ok (.if_icmp .ge 44, 3) := dk_162 0 44 (dk_at dksX10_middle_1 14 rfl rfl)
theorem dX10_middle_41 : decode cX10_middle 41 = .ok (.iload_n 1, 1) := dk_27 (dk_at dksX10_middle_1 17 rfl rfl)
theorem dX10_middle_42 : decode cX10_middle 42 = .ok (.ifCond .ne 19, 3) := dk_154 0 19 (dk_at dksX10_middle_1 18 rfl rfl)
theorem dX10_middle_45 : decode cX10_middle 45 = .ok (.aload_n 0, 1) := dk_42 (dk_at dksX10_middle_1 21 rfl rfl)
theorem dX10_middle_46 : decode cX10_middle 46 = .ok (.iload_n 3, 1) := dk_29 (dk_at dksX10_middle_1 22 rfl rfl)
theorem dX10_middle_47 : decode cX10_middle 47 = .ok (.invokevirtual 401, 3) := dk_182 1 145 (dk_at dksX10_middle_2 0 rfl rfl)
theorem dX10_middle_50 : decode cX10_middle 50 = .ok (.aload_n 0, 1) := dk_42 (dk_at dksX10_middle_2 3 rfl rfl)
theorem dX10_middle_51 : decode cX10_middle 51 = .ok (.iload_n 2, 1) := dk_28 (dk_at dksX10_middle_2 4 rfl rfl)
theorem dX10_middle_52 : decode cX10_middle 52 = .ok (.invokevirtual 401, 3) := dk_182 1 145 (dk_at dksX10_middle_2 5 rfl rfl)
theorem dX10_middle_55 : decode cX10_middle 55 = .ok (.if_icmp .ge 21, 3) := dk_162 0 21 (dk_at dksX10_middle_2 8 rfl rfl)
theorem dX10_middle_58 : decode cX10_middle 58 = .ok (.goto 16, 3) := dk_167 0 16 (dk_at dksX10_middle_2 11 rfl rfl)
theorem dX10_middle_61 : decode cX10_middle 61 = .ok (.aload_n 0, 1) := dk_42 (dk_at dksX10_middle_2 14 rfl rfl)
theorem dX10_middle_62 : decode cX10_middle 62 = .ok (.iload_n 3, 1) := dk_29 (dk_at dksX10_middle_2 15 rfl rfl)
theorem dX10_middle_63 : decode cX10_middle 63 = .ok (.invokevirtual 401, 3) := dk_182 1 145 (dk_at dksX10_middle_2 16 rfl rfl)
theorem dX10_middle_66 : decode cX10_middle 66 = .ok (.aload_n 0, 1) := dk_42 (dk_at dksX10_middle_2 19 rfl rfl)
theorem dX10_middle_67 : decode cX10_middle 67 = .ok (.iload_n 2, 1) := dk_28 (dk_at dksX10_middle_2 20 rfl rfl)
theorem dX10_middle_68 : decode cX10_middle 68 = .ok (.invokevirtual 401, 3) := dk_182 1 145 (dk_at dksX10_middle_2 21 rfl rfl)
theorem dX10_middle_71 : decode cX10_middle 71 = .ok (.if_icmp .le 5, 3) := dk_164 0 5 (dk_at dksX10_middle_3 0 rfl rfl)
theorem dX10_middle_74 : decode cX10_middle 74 = .ok (.iload_n 3, 1) := dk_29 (dk_at dksX10_middle_3 3 rfl rfl)
theorem dX10_middle_75 : decode cX10_middle 75 = .ok (.istore_n 2, 1) := dk_61 (dk_at dksX10_middle_3 4 rfl rfl)
theorem dX10_middle_76 : decode cX10_middle 76 = .ok (.iinc 3 1, 3) := dk_132 3 1 (dk_at dksX10_middle_3 5 rfl rfl)
theorem dX10_middle_79 : decode cX10_middle 79 = .ok (.goto (-46), 3) := dk_167 255 210 (dk_at dksX10_middle_3 8 rfl rfl)
theorem dX10_middle_82 : decode cX10_middle 82 = .ok (.iload_n 2, 1) := dk_28 (dk_at dksX10_middle_3 11 rfl rfl)
theorem dX10_middle_83 : decode cX10_middle 83 = .ok (.ireturn, 1) := dk_172 (dk_at dksX10_middle_3 12 rfl rfl)
abbrev cX10_reach : ByteArray := prog_16_method_91_code
def yX10_reach : MethodName := ⟨RX10, "reach", "(II)I"⟩
def dkwX10_reach_1 : List UInt8 := [167, 0, 5, 16, 254, 172]
abbrev dktX10_reach_1 : List UInt8 := dkwX10_reach_1 ++ []
def dkwX10_reach_0 : List UInt8 := [42, 27, 182, 1, 14, 153, 0, 21, 42, 28, 133, 182, 1, 44, 153, 0, 12, 42, 27, 28, 182, 1, 151]
abbrev dktX10_reach_0 : List UInt8 := dkwX10_reach_0 ++ dktX10_reach_1
theorem dksX10_reach_0 : cX10_reach.data.toList.drop 0 = dktX10_reach_0 := by decide +kernel
theorem dksX10_reach_1 : cX10_reach.data.toList.drop 23 = dktX10_reach_1 := dk_seg dksX10_reach_0 23 rfl rfl
theorem dX10_reach_0 : decode cX10_reach 0 = .ok (.aload_n 0, 1) := dk_42 (dk_at dksX10_reach_0 0 rfl rfl)
theorem dX10_reach_1 : decode cX10_reach 1 = .ok (.iload_n 1, 1) := dk_27 (dk_at dksX10_reach_0 1 rfl rfl)
theorem dX10_reach_2 : decode cX10_reach 2 = .ok (.invokevirtual 270, 3) := dk_182 1 14 (dk_at dksX10_reach_0 2 rfl rfl)
theorem dX10_reach_5 : decode cX10_reach 5 = .ok (.ifCond .eq 21, 3) := dk_153 0 21 (dk_at dksX10_reach_0 5 rfl rfl)
theorem dX10_reach_8 : decode cX10_reach 8 = .ok (.aload_n 0, 1) := dk_42 (dk_at dksX10_reach_0 8 rfl rfl)
theorem dX10_reach_9 : decode cX10_reach 9 = .ok (.iload_n 2, 1) := dk_28 (dk_at dksX10_reach_0 9 rfl rfl)
theorem dX10_reach_10 : decode cX10_reach 10 = .ok (.i2l, 1) := dk_133 (dk_at dksX10_reach_0 10 rfl rfl)
theorem dX10_reach_11 : decode cX10_reach 11 = .ok (.invokevirtual 300, 3) := dk_182 1 44 (dk_at dksX10_reach_0 11 rfl rfl)
theorem dX10_reach_14 : decode cX10_reach 14 = .ok (.ifCond .eq 12, 3) := dk_153 0 12 (dk_at dksX10_reach_0 14 rfl rfl)
theorem dX10_reach_17 : decode cX10_reach 17 = .ok (.aload_n 0, 1) := dk_42 (dk_at dksX10_reach_0 17 rfl rfl)
theorem dX10_reach_18 : decode cX10_reach 18 = .ok (.iload_n 1, 1) := dk_27 (dk_at dksX10_reach_0 18 rfl rfl)
theorem dX10_reach_19 : decode cX10_reach 19 = .ok (.iload_n 2, 1) := dk_28 (dk_at dksX10_reach_0 19 rfl rfl)
theorem dX10_reach_20 : decode cX10_reach 20 = .ok (.invokevirtual 407, 3) := dk_182 1 151 (dk_at dksX10_reach_0 20 rfl rfl)
theorem dX10_reach_23 : decode cX10_reach 23 = .ok (.goto 5, 3) := dk_167 0 5 (dk_at dksX10_reach_1 0 rfl rfl)
theorem dX10_reach_26 : decode cX10_reach 26 = .ok (.bipush (-2), 2) := dk_16 254 (dk_at dksX10_reach_1 3 rfl rfl)
theorem dX10_reach_28 : decode cX10_reach 28 = .ok (.ireturn, 1) := dk_172 (dk_at dksX10_reach_1 5 rfl rfl)
abbrev cX10_reachOf : ByteArray := prog_16_method_90_code
def yX10_reachOf : MethodName := ⟨RX10, "reachOf", "(II)I"⟩
def dkwX10_reachOf_3 : List UInt8 := [132, 5, 1, 167, 255, 197, 29, 172]
abbrev dktX10_reachOf_3 : List UInt8 := dkwX10_reachOf_3 ++ []
def dkwX10_reachOf_2 : List UInt8 := [27, 4, 182, 1, 19, 182, 1, 50, 104, 96, 21, 4, 163, 0, 10, 29, 4, 21, 5, 120, 128, 62]
abbrev dktX10_reachOf_2 : List UInt8 := dkwX10_reachOf_2 ++ dktX10_reachOf_3
def dkwX10_reachOf_1 : List UInt8 := [21, 5, 182, 1, 139, 154, 0, 41, 42, 27, 4, 182, 1, 19, 42, 28, 21, 5, 182, 1, 47, 42, 27, 42]
abbrev dktX10_reachOf_1 : List UInt8 := dkwX10_reachOf_1 ++ dktX10_reachOf_2
def dkwX10_reachOf_0 : List UInt8 := [3, 62, 42, 3, 182, 0, 254, 4, 100, 54, 4, 3, 54, 5, 21, 5, 42, 182, 0, 92, 162, 0, 56, 42]
abbrev dktX10_reachOf_0 : List UInt8 := dkwX10_reachOf_0 ++ dktX10_reachOf_1
theorem dksX10_reachOf_0 : cX10_reachOf.data.toList.drop 0 = dktX10_reachOf_0 := by decide +kernel
theorem dksX10_reachOf_1 : cX10_reachOf.data.toList.drop 24 = dktX10_reachOf_1 := dk_seg dksX10_reachOf_0 24 rfl rfl
theorem dksX10_reachOf_2 : cX10_reachOf.data.toList.drop 48 = dktX10_reachOf_2 := dk_seg dksX10_reachOf_1 24 rfl rfl
theorem dksX10_reachOf_3 : cX10_reachOf.data.toList.drop 70 = dktX10_reachOf_3 := dk_seg dksX10_reachOf_2 22 rfl rfl
theorem dX10_reachOf_0 : decode cX10_reachOf 0 = .ok (.iconst 0, 1) := dk_3 (dk_at dksX10_reachOf_0 0 rfl rfl)
theorem dX10_reachOf_1 : decode cX10_reachOf 1 = .ok (.istore_n 3, 1) := dk_62 (dk_at dksX10_reachOf_0 1 rfl rfl)
theorem dX10_reachOf_2 : decode cX10_reachOf 2 = .ok (.aload_n 0, 1) := dk_42 (dk_at dksX10_reachOf_0 2 rfl rfl)
theorem dX10_reachOf_3 : decode cX10_reachOf 3 = .ok (.iconst 0, 1) := dk_3 (dk_at dksX10_reachOf_0 3 rfl rfl)
theorem dX10_reachOf_4 : decode cX10_reachOf 4 = .ok (.invokevirtual 254, 3) := dk_182 0 254 (dk_at dksX10_reachOf_0 4 rfl rfl)
theorem dX10_reachOf_7 : decode cX10_reachOf 7 = .ok (.iconst 1, 1) := dk_4 (dk_at dksX10_reachOf_0 7 rfl rfl)
theorem dX10_reachOf_8 : decode cX10_reachOf 8 = .ok (.isub, 1) := dk_100 (dk_at dksX10_reachOf_0 8 rfl rfl)
theorem dX10_reachOf_9 : decode cX10_reachOf 9 = .ok (.istore 4, 2) := dk_54 4 (dk_at dksX10_reachOf_0 9 rfl rfl)
theorem dX10_reachOf_11 : decode cX10_reachOf 11 = .ok (.iconst 0, 1) := dk_3 (dk_at dksX10_reachOf_0 11 rfl rfl)
theorem dX10_reachOf_12 : decode cX10_reachOf 12 = .ok (.istore 5, 2) := dk_54 5 (dk_at dksX10_reachOf_0 12 rfl rfl)
theorem dX10_reachOf_14 : decode cX10_reachOf 14 = .ok (.iload 5, 2) := dk_21 5 (dk_at dksX10_reachOf_0 14 rfl rfl)
theorem dX10_reachOf_16 : decode cX10_reachOf 16 = .ok (.aload_n 0, 1) := dk_42 (dk_at dksX10_reachOf_0 16 rfl rfl)
theorem dX10_reachOf_17 : decode cX10_reachOf 17 = .ok (.invokevirtual 92, 3) := dk_182 0 92 (dk_at dksX10_reachOf_0 17 rfl rfl)
theorem dX10_reachOf_20 : decode cX10_reachOf 20 = .ok (.if_icmp .ge 56, 3) := dk_162 0 56 (dk_at dksX10_reachOf_0 20 rfl rfl)
theorem dX10_reachOf_23 : decode cX10_reachOf 23 = .ok (.aload_n 0, 1) := dk_42 (dk_at dksX10_reachOf_0 23 rfl rfl)
theorem dX10_reachOf_24 : decode cX10_reachOf 24 = .ok (.iload 5, 2) := dk_21 5 (dk_at dksX10_reachOf_1 0 rfl rfl)
theorem dX10_reachOf_26 : decode cX10_reachOf 26 = .ok (.invokevirtual 395, 3) := dk_182 1 139 (dk_at dksX10_reachOf_1 2 rfl rfl)
theorem dX10_reachOf_29 : decode cX10_reachOf 29 = .ok (.ifCond .ne 41, 3) := dk_154 0 41 (dk_at dksX10_reachOf_1 5 rfl rfl)
theorem dX10_reachOf_32 : decode cX10_reachOf 32 = .ok (.aload_n 0, 1) := dk_42 (dk_at dksX10_reachOf_1 8 rfl rfl)
theorem dX10_reachOf_33 : decode cX10_reachOf 33 = .ok (.iload_n 1, 1) := dk_27 (dk_at dksX10_reachOf_1 9 rfl rfl)
theorem dX10_reachOf_34 : decode cX10_reachOf 34 = .ok (.iconst 1, 1) := dk_4 (dk_at dksX10_reachOf_1 10 rfl rfl)
theorem dX10_reachOf_35 : decode cX10_reachOf 35 = .ok (.invokevirtual 275, 3) := dk_182 1 19 (dk_at dksX10_reachOf_1 11 rfl rfl)
theorem dX10_reachOf_38 : decode cX10_reachOf 38 = .ok (.aload_n 0, 1) := dk_42 (dk_at dksX10_reachOf_1 14 rfl rfl)
theorem dX10_reachOf_39 : decode cX10_reachOf 39 = .ok (.iload_n 2, 1) := dk_28 (dk_at dksX10_reachOf_1 15 rfl rfl)
theorem dX10_reachOf_40 : decode cX10_reachOf 40 = .ok (.iload 5, 2) := dk_21 5 (dk_at dksX10_reachOf_1 16 rfl rfl)
theorem dX10_reachOf_42 : decode cX10_reachOf 42 = .ok (.invokevirtual 303, 3) := dk_182 1 47 (dk_at dksX10_reachOf_1 18 rfl rfl)
theorem dX10_reachOf_45 : decode cX10_reachOf 45 = .ok (.aload_n 0, 1) := dk_42 (dk_at dksX10_reachOf_1 21 rfl rfl)
theorem dX10_reachOf_46 : decode cX10_reachOf 46 = .ok (.iload_n 1, 1) := dk_27 (dk_at dksX10_reachOf_1 22 rfl rfl)
theorem dX10_reachOf_47 : decode cX10_reachOf 47 = .ok (.aload_n 0, 1) := dk_42 (dk_at dksX10_reachOf_1 23 rfl rfl)
theorem dX10_reachOf_48 : decode cX10_reachOf 48 = .ok (.iload_n 1, 1) := dk_27 (dk_at dksX10_reachOf_2 0 rfl rfl)
theorem dX10_reachOf_49 : decode cX10_reachOf 49 = .ok (.iconst 1, 1) := dk_4 (dk_at dksX10_reachOf_2 1 rfl rfl)
theorem dX10_reachOf_50 : decode cX10_reachOf 50 = .ok (.invokevirtual 275, 3) := dk_182 1 19 (dk_at dksX10_reachOf_2 2 rfl rfl)
theorem dX10_reachOf_53 : decode cX10_reachOf 53 = .ok (.invokevirtual 306, 3) := dk_182 1 50 (dk_at dksX10_reachOf_2 5 rfl rfl)
theorem dX10_reachOf_56 : decode cX10_reachOf 56 = .ok (.imul, 1) := dk_104 (dk_at dksX10_reachOf_2 8 rfl rfl)
theorem dX10_reachOf_57 : decode cX10_reachOf 57 = .ok (.iadd, 1) := dk_96 (dk_at dksX10_reachOf_2 9 rfl rfl)
theorem dX10_reachOf_58 : decode cX10_reachOf 58 = .ok (.iload 4, 2) := dk_21 4 (dk_at dksX10_reachOf_2 10 rfl rfl)
theorem dX10_reachOf_60 : decode cX10_reachOf 60 = .ok (.if_icmp .gt 10, 3) := dk_163 0 10 (dk_at dksX10_reachOf_2 12 rfl rfl)
theorem dX10_reachOf_63 : decode cX10_reachOf 63 = .ok (.iload_n 3, 1) := dk_29 (dk_at dksX10_reachOf_2 15 rfl rfl)
theorem dX10_reachOf_64 : decode cX10_reachOf 64 = .ok (.iconst 1, 1) := dk_4 (dk_at dksX10_reachOf_2 16 rfl rfl)
theorem dX10_reachOf_65 : decode cX10_reachOf 65 = .ok (.iload 5, 2) := dk_21 5 (dk_at dksX10_reachOf_2 17 rfl rfl)
theorem dX10_reachOf_67 : decode cX10_reachOf 67 = .ok (.ishl, 1) := dk_120 (dk_at dksX10_reachOf_2 19 rfl rfl)
theorem dX10_reachOf_68 : decode cX10_reachOf 68 = .ok (.ior, 1) := dk_128 (dk_at dksX10_reachOf_2 20 rfl rfl)
theorem dX10_reachOf_69 : decode cX10_reachOf 69 = .ok (.istore_n 3, 1) := dk_62 (dk_at dksX10_reachOf_2 21 rfl rfl)
theorem dX10_reachOf_70 : decode cX10_reachOf 70 = .ok (.iinc 5 1, 3) := dk_132 5 1 (dk_at dksX10_reachOf_3 0 rfl rfl)
theorem dX10_reachOf_73 : decode cX10_reachOf 73 = .ok (.goto (-59), 3) := dk_167 255 197 (dk_at dksX10_reachOf_3 3 rfl rfl)
theorem dX10_reachOf_76 : decode cX10_reachOf 76 = .ok (.iload_n 3, 1) := dk_29 (dk_at dksX10_reachOf_3 6 rfl rfl)
theorem dX10_reachOf_77 : decode cX10_reachOf 77 = .ok (.ireturn, 1) := dk_172 (dk_at dksX10_reachOf_3 7 rfl rfl)
abbrev cX10_post : ByteArray := prog_16_method_93_code
def yX10_post : MethodName := ⟨RX10, "post", "(I)I"⟩
def dkwX10_post_2 : List UInt8 := [28, 61, 132, 3, 1, 167, 255, 218, 28, 172]
abbrev dktX10_post_2 : List UInt8 := dkwX10_post_2 ++ []
def dkwX10_post_1 : List UInt8 := [27, 29, 182, 1, 151, 184, 1, 154, 42, 27, 28, 182, 1, 151, 184, 1, 154, 164, 0, 7, 29, 167, 0, 4]
abbrev dktX10_post_1 : List UInt8 := dkwX10_post_1 ++ dktX10_post_2
def dkwX10_post_0 : List UInt8 := [42, 27, 182, 1, 14, 154, 0, 6, 16, 254, 172, 3, 61, 4, 62, 29, 42, 182, 0, 92, 162, 0, 36, 42]
abbrev dktX10_post_0 : List UInt8 := dkwX10_post_0 ++ dktX10_post_1
theorem dksX10_post_0 : cX10_post.data.toList.drop 0 = dktX10_post_0 := by decide +kernel
theorem dksX10_post_1 : cX10_post.data.toList.drop 24 = dktX10_post_1 := dk_seg dksX10_post_0 24 rfl rfl
theorem dksX10_post_2 : cX10_post.data.toList.drop 48 = dktX10_post_2 := dk_seg dksX10_post_1 24 rfl rfl
theorem dX10_post_0 : decode cX10_post 0 = .ok (.aload_n 0, 1) := dk_42 (dk_at dksX10_post_0 0 rfl rfl)
theorem dX10_post_1 : decode cX10_post 1 = .ok (.iload_n 1, 1) := dk_27 (dk_at dksX10_post_0 1 rfl rfl)
theorem dX10_post_2 : decode cX10_post 2 = .ok (.invokevirtual 270, 3) := dk_182 1 14 (dk_at dksX10_post_0 2 rfl rfl)
theorem dX10_post_5 : decode cX10_post 5 = .ok (.ifCond .ne 6, 3) := dk_154 0 6 (dk_at dksX10_post_0 5 rfl rfl)
theorem dX10_post_8 : decode cX10_post 8 = .ok (.bipush (-2), 2) := dk_16 254 (dk_at dksX10_post_0 8 rfl rfl)
theorem dX10_post_10 : decode cX10_post 10 = .ok (.ireturn, 1) := dk_172 (dk_at dksX10_post_0 10 rfl rfl)
theorem dX10_post_11 : decode cX10_post 11 = .ok (.iconst 0, 1) := dk_3 (dk_at dksX10_post_0 11 rfl rfl)
theorem dX10_post_12 : decode cX10_post 12 = .ok (.istore_n 2, 1) := dk_61 (dk_at dksX10_post_0 12 rfl rfl)
theorem dX10_post_13 : decode cX10_post 13 = .ok (.iconst 1, 1) := dk_4 (dk_at dksX10_post_0 13 rfl rfl)
theorem dX10_post_14 : decode cX10_post 14 = .ok (.istore_n 3, 1) := dk_62 (dk_at dksX10_post_0 14 rfl rfl)
theorem dX10_post_15 : decode cX10_post 15 = .ok (.iload_n 3, 1) := dk_29 (dk_at dksX10_post_0 15 rfl rfl)
theorem dX10_post_16 : decode cX10_post 16 = .ok (.aload_n 0, 1) := dk_42 (dk_at dksX10_post_0 16 rfl rfl)
theorem dX10_post_17 : decode cX10_post 17 = .ok (.invokevirtual 92, 3) := dk_182 0 92 (dk_at dksX10_post_0 17 rfl rfl)
theorem dX10_post_20 : decode cX10_post 20 = .ok (.if_icmp .ge 36, 3) := dk_162 0 36 (dk_at dksX10_post_0 20 rfl rfl)
theorem dX10_post_23 : decode cX10_post 23 = .ok (.aload_n 0, 1) := dk_42 (dk_at dksX10_post_0 23 rfl rfl)
theorem dX10_post_24 : decode cX10_post 24 = .ok (.iload_n 1, 1) := dk_27 (dk_at dksX10_post_1 0 rfl rfl)
theorem dX10_post_25 : decode cX10_post 25 = .ok (.iload_n 3, 1) := dk_29 (dk_at dksX10_post_1 1 rfl rfl)
theorem dX10_post_26 : decode cX10_post 26 = .ok (.invokevirtual 407, 3) := dk_182 1 151 (dk_at dksX10_post_1 2 rfl rfl)
theorem dX10_post_29 : decode cX10_post 29 = .ok (.invokestatic 410, 3) := dk_184 1 154 (dk_at dksX10_post_1 5 rfl rfl)
theorem dX10_post_32 : decode cX10_post 32 = .ok (.aload_n 0, 1) := dk_42 (dk_at dksX10_post_1 8 rfl rfl)
theorem dX10_post_33 : decode cX10_post 33 = .ok (.iload_n 1, 1) := dk_27 (dk_at dksX10_post_1 9 rfl rfl)
theorem dX10_post_34 : decode cX10_post 34 = .ok (.iload_n 2, 1) := dk_28 (dk_at dksX10_post_1 10 rfl rfl)
theorem dX10_post_35 : decode cX10_post 35 = .ok (.invokevirtual 407, 3) := dk_182 1 151 (dk_at dksX10_post_1 11 rfl rfl)
theorem dX10_post_38 : decode cX10_post 38 = .ok (.invokestatic 410, 3) := dk_184 1 154 (dk_at dksX10_post_1 14 rfl rfl)
theorem dX10_post_41 : decode cX10_post 41 = .ok (.if_icmp .le 7, 3) := dk_164 0 7 (dk_at dksX10_post_1 17 rfl rfl)
theorem dX10_post_44 : decode cX10_post 44 = .ok (.iload_n 3, 1) := dk_29 (dk_at dksX10_post_1 20 rfl rfl)
theorem dX10_post_45 : decode cX10_post 45 = .ok (.goto 4, 3) := dk_167 0 4 (dk_at dksX10_post_1 21 rfl rfl)
theorem dX10_post_48 : decode cX10_post 48 = .ok (.iload_n 2, 1) := dk_28 (dk_at dksX10_post_2 0 rfl rfl)
theorem dX10_post_49 : decode cX10_post 49 = .ok (.istore_n 2, 1) := dk_61 (dk_at dksX10_post_2 1 rfl rfl)
theorem dX10_post_50 : decode cX10_post 50 = .ok (.iinc 3 1, 3) := dk_132 3 1 (dk_at dksX10_post_2 2 rfl rfl)
theorem dX10_post_53 : decode cX10_post 53 = .ok (.goto (-38), 3) := dk_167 255 218 (dk_at dksX10_post_2 5 rfl rfl)
theorem dX10_post_56 : decode cX10_post 56 = .ok (.iload_n 2, 1) := dk_28 (dk_at dksX10_post_2 8 rfl rfl)
theorem dX10_post_57 : decode cX10_post 57 = .ok (.ireturn, 1) := dk_172 (dk_at dksX10_post_2 9 rfl rfl)
