set_option maxRecDepth 100000
abbrev cX1_init : ByteArray := prog_9_method_1_code
def yX1_init : MethodName := ⟨RX1, "<init>", "()V"⟩
def dkwX1_init_15 : List UInt8 := [79, 132, 1, 1, 167, 255, 239, 42, 16, 247, 181, 0, 133, 42, 16, 247, 181, 0, 136, 177]
abbrev dktX1_init_15 : List UInt8 := dkwX1_init_15 ++ []
def dkwX1_init_14 : List UInt8 := [16, 247, 79, 132, 1, 1, 167, 255, 239, 3, 60, 27, 16, 8, 162, 0, 17, 42, 180, 0, 99, 27, 16, 247]
abbrev dktX1_init_14 : List UInt8 := dkwX1_init_14 ++ dktX1_init_15
def dkwX1_init_13 : List UInt8 := [181, 0, 127, 42, 7, 188, 10, 181, 0, 130, 3, 60, 27, 16, 8, 162, 0, 17, 42, 180, 0, 17, 27]
abbrev dktX1_init_13 : List UInt8 := dkwX1_init_13 ++ dktX1_init_14
def dkwX1_init_12 : List UInt8 := [181, 0, 118, 42, 6, 188, 10, 181, 0, 121, 42, 16, 12, 188, 10, 181, 0, 124, 42, 7, 188, 10]
abbrev dktX1_init_12 : List UInt8 := dkwX1_init_12 ++ dktX1_init_13
def dkwX1_init_11 : List UInt8 := [181, 0, 108, 42, 17, 0, 144, 188, 10, 181, 0, 111, 42, 16, 247, 181, 0, 114, 42, 17, 0, 144, 188, 10]
abbrev dktX1_init_11 : List UInt8 := dkwX1_init_11 ++ dktX1_init_12
def dkwX1_init_10 : List UInt8 := [181, 0, 99, 42, 16, 8, 188, 4, 181, 0, 102, 42, 7, 188, 10, 181, 0, 105, 42, 17, 3, 192, 188, 10]
abbrev dktX1_init_10 : List UInt8 := dkwX1_init_10 ++ dktX1_init_11
def dkwX1_init_9 : List UInt8 := [181, 0, 90, 42, 7, 188, 10, 181, 0, 93, 42, 7, 188, 10, 181, 0, 96, 42, 16, 8, 188, 10]
abbrev dktX1_init_9 : List UInt8 := dkwX1_init_9 ++ dktX1_init_10
def dkwX1_init_8 : List UInt8 := [188, 10, 181, 0, 81, 42, 7, 188, 10, 181, 0, 84, 42, 7, 188, 4, 181, 0, 87, 42, 7, 188, 10]
abbrev dktX1_init_8 : List UInt8 := dkwX1_init_8 ++ dktX1_init_9
def dkwX1_init_7 : List UInt8 := [42, 7, 188, 4, 181, 0, 72, 42, 7, 188, 10, 181, 0, 75, 42, 7, 188, 10, 181, 0, 78, 42, 7]
abbrev dktX1_init_7 : List UInt8 := dkwX1_init_7 ++ dktX1_init_8
def dkwX1_init_6 : List UInt8 := [42, 16, 16, 188, 10, 181, 0, 62, 42, 16, 16, 188, 10, 181, 0, 65, 42, 16, 16, 188, 4, 181, 0, 68]
abbrev dktX1_init_6 : List UInt8 := dkwX1_init_6 ++ dktX1_init_7
def dkwX1_init_5 : List UInt8 := [42, 16, 16, 188, 10, 181, 0, 53, 42, 16, 16, 188, 10, 181, 0, 56, 42, 16, 16, 188, 10, 181, 0, 59]
abbrev dktX1_init_5 : List UInt8 := dkwX1_init_5 ++ dktX1_init_6
def dkwX1_init_4 : List UInt8 := [42, 16, 16, 188, 10, 181, 0, 44, 42, 16, 16, 188, 10, 181, 0, 47, 42, 16, 16, 188, 10, 181, 0, 50]
abbrev dktX1_init_4 : List UInt8 := dkwX1_init_4 ++ dktX1_init_5
def dkwX1_init_3 : List UInt8 := [16, 16, 188, 10, 181, 0, 35, 42, 16, 16, 188, 10, 181, 0, 38, 42, 17, 3, 0, 188, 10, 181, 0, 41]
abbrev dktX1_init_3 : List UInt8 := dkwX1_init_3 ++ dktX1_init_4
def dkwX1_init_2 : List UInt8 := [188, 10, 181, 0, 26, 42, 16, 16, 188, 10, 181, 0, 29, 42, 17, 1, 128, 188, 10, 181, 0, 32, 42]
abbrev dktX1_init_2 : List UInt8 := dkwX1_init_2 ++ dktX1_init_3
def dkwX1_init_1 : List UInt8 := [181, 0, 17, 42, 17, 1, 128, 188, 10, 181, 0, 20, 42, 16, 48, 188, 10, 181, 0, 23, 42, 16, 16]
abbrev dktX1_init_1 : List UInt8 := dkwX1_init_1 ++ dktX1_init_2
def dkwX1_init_0 : List UInt8 := [42, 183, 0, 1, 42, 16, 6, 188, 10, 181, 0, 7, 42, 10, 181, 0, 13, 42, 16, 8, 188, 10]
abbrev dktX1_init_0 : List UInt8 := dkwX1_init_0 ++ dktX1_init_1
theorem dksX1_init_0 : cX1_init.data.toList.drop 0 = dktX1_init_0 := by decide +kernel
theorem dksX1_init_1 : cX1_init.data.toList.drop 22 = dktX1_init_1 := dk_seg dksX1_init_0 22 rfl rfl
theorem dksX1_init_2 : cX1_init.data.toList.drop 45 = dktX1_init_2 := dk_seg dksX1_init_1 23 rfl rfl
theorem dksX1_init_3 : cX1_init.data.toList.drop 68 = dktX1_init_3 := dk_seg dksX1_init_2 23 rfl rfl
theorem dksX1_init_4 : cX1_init.data.toList.drop 92 = dktX1_init_4 := dk_seg dksX1_init_3 24 rfl rfl
theorem dksX1_init_5 : cX1_init.data.toList.drop 116 = dktX1_init_5 := dk_seg dksX1_init_4 24 rfl rfl
theorem dksX1_init_6 : cX1_init.data.toList.drop 140 = dktX1_init_6 := dk_seg dksX1_init_5 24 rfl rfl
theorem dksX1_init_7 : cX1_init.data.toList.drop 164 = dktX1_init_7 := dk_seg dksX1_init_6 24 rfl rfl
theorem dksX1_init_8 : cX1_init.data.toList.drop 187 = dktX1_init_8 := dk_seg dksX1_init_7 23 rfl rfl
theorem dksX1_init_9 : cX1_init.data.toList.drop 210 = dktX1_init_9 := dk_seg dksX1_init_8 23 rfl rfl
theorem dksX1_init_10 : cX1_init.data.toList.drop 232 = dktX1_init_10 := dk_seg dksX1_init_9 22 rfl rfl
theorem dksX1_init_11 : cX1_init.data.toList.drop 256 = dktX1_init_11 := dk_seg dksX1_init_10 24 rfl rfl
theorem dksX1_init_12 : cX1_init.data.toList.drop 280 = dktX1_init_12 := dk_seg dksX1_init_11 24 rfl rfl
theorem dksX1_init_13 : cX1_init.data.toList.drop 302 = dktX1_init_13 := dk_seg dksX1_init_12 22 rfl rfl
theorem dksX1_init_14 : cX1_init.data.toList.drop 325 = dktX1_init_14 := dk_seg dksX1_init_13 23 rfl rfl
theorem dksX1_init_15 : cX1_init.data.toList.drop 349 = dktX1_init_15 := dk_seg dksX1_init_14 24 rfl rfl
theorem dX1_init_0 : decode cX1_init 0 = .ok (.aload_n 0, 1) := dk_42 (dk_at dksX1_init_0 0 rfl rfl)
theorem dX1_init_1 : decode cX1_init 1 = .ok (.invokespecial 1, 3) := dk_183 0 1 (dk_at dksX1_init_0 1 rfl rfl)
theorem dX1_init_4 : decode cX1_init 4 = .ok (.aload_n 0, 1) := dk_42 (dk_at dksX1_init_0 4 rfl rfl)
theorem dX1_init_5 : decode cX1_init 5 = .ok (.bipush 6, 2) := dk_16 6 (dk_at dksX1_init_0 5 rfl rfl)
theorem dX1_init_7 : decode cX1_init 7 = .ok (.newarray .int, 2) := dk_188_10 (dk_at dksX1_init_0 7 rfl rfl)
theorem dX1_init_9 : decode cX1_init 9 = .ok (.putfield 7, 3) := dk_181 0 7 (dk_at dksX1_init_0 9 rfl rfl)
theorem dX1_init_12 : decode cX1_init 12 = .ok (.aload_n 0, 1) := dk_42 (dk_at dksX1_init_0 12 rfl rfl)
theorem dX1_init_13 : decode cX1_init 13 = .ok (.lconst 1, 1) := dk_10 (dk_at dksX1_init_0 13 rfl rfl)
theorem dX1_init_14 : decode cX1_init 14 = .ok (.putfield 13, 3) := dk_181 0 13 (dk_at dksX1_init_0 14 rfl rfl)
theorem dX1_init_17 : decode cX1_init 17 = .ok (.aload_n 0, 1) := dk_42 (dk_at dksX1_init_0 17 rfl rfl)
theorem dX1_init_18 : decode cX1_init 18 = .ok (.bipush 8, 2) := dk_16 8 (dk_at dksX1_init_0 18 rfl rfl)
theorem dX1_init_20 : decode cX1_init 20 = .ok (.newarray .int, 2) := dk_188_10 (dk_at dksX1_init_0 20 rfl rfl)
theorem dX1_init_22 : decode cX1_init 22 = .ok (.putfield 17, 3) := dk_181 0 17 (dk_at dksX1_init_1 0 rfl rfl)
theorem dX1_init_25 : decode cX1_init 25 = .ok (.aload_n 0, 1) := dk_42 (dk_at dksX1_init_1 3 rfl rfl)
theorem dX1_init_26 : decode cX1_init 26 = .ok (.sipush 384, 3) := dk_17 1 128 (dk_at dksX1_init_1 4 rfl rfl)
theorem dX1_init_29 : decode cX1_init 29 = .ok (.newarray .int, 2) := dk_188_10 (dk_at dksX1_init_1 7 rfl rfl)
theorem dX1_init_31 : decode cX1_init 31 = .ok (.putfield 20, 3) := dk_181 0 20 (dk_at dksX1_init_1 9 rfl rfl)
theorem dX1_init_34 : decode cX1_init 34 = .ok (.aload_n 0, 1) := dk_42 (dk_at dksX1_init_1 12 rfl rfl)
theorem dX1_init_35 : decode cX1_init 35 = .ok (.bipush 48, 2) := dk_16 48 (dk_at dksX1_init_1 13 rfl rfl)
theorem dX1_init_37 : decode cX1_init 37 = .ok (.newarray .int, 2) := dk_188_10 (dk_at dksX1_init_1 15 rfl rfl)
theorem dX1_init_39 : decode cX1_init 39 = .ok (.putfield 23, 3) := dk_181 0 23 (dk_at dksX1_init_1 17 rfl rfl)
theorem dX1_init_42 : decode cX1_init 42 = .ok (.aload_n 0, 1) := dk_42 (dk_at dksX1_init_1 20 rfl rfl)
theorem dX1_init_43 : decode cX1_init 43 = .ok (.bipush 16, 2) := dk_16 16 (dk_at dksX1_init_1 21 rfl rfl)
theorem dX1_init_45 : decode cX1_init 45 = .ok (.newarray .int, 2) := dk_188_10 (dk_at dksX1_init_2 0 rfl rfl)
theorem dX1_init_47 : decode cX1_init 47 = .ok (.putfield 26, 3) := dk_181 0 26 (dk_at dksX1_init_2 2 rfl rfl)
theorem dX1_init_50 : decode cX1_init 50 = .ok (.aload_n 0, 1) := dk_42 (dk_at dksX1_init_2 5 rfl rfl)
theorem dX1_init_51 : decode cX1_init 51 = .ok (.bipush 16, 2) := dk_16 16 (dk_at dksX1_init_2 6 rfl rfl)
theorem dX1_init_53 : decode cX1_init 53 = .ok (.newarray .int, 2) := dk_188_10 (dk_at dksX1_init_2 8 rfl rfl)
theorem dX1_init_55 : decode cX1_init 55 = .ok (.putfield 29, 3) := dk_181 0 29 (dk_at dksX1_init_2 10 rfl rfl)
theorem dX1_init_58 : decode cX1_init 58 = .ok (.aload_n 0, 1) := dk_42 (dk_at dksX1_init_2 13 rfl rfl)
theorem dX1_init_59 : decode cX1_init 59 = .ok (.sipush 384, 3) := dk_17 1 128 (dk_at dksX1_init_2 14 rfl rfl)
theorem dX1_init_62 : decode cX1_init 62 = .ok (.newarray .int, 2) := dk_188_10 (dk_at dksX1_init_2 17 rfl rfl)
theorem dX1_init_64 : decode cX1_init 64 = .ok (.putfield 32, 3) := dk_181 0 32 (dk_at dksX1_init_2 19 rfl rfl)
theorem dX1_init_67 : decode cX1_init 67 = .ok (.aload_n 0, 1) := dk_42 (dk_at dksX1_init_2 22 rfl rfl)
theorem dX1_init_68 : decode cX1_init 68 = .ok (.bipush 16, 2) := dk_16 16 (dk_at dksX1_init_3 0 rfl rfl)
theorem dX1_init_70 : decode cX1_init 70 = .ok (.newarray .int, 2) := dk_188_10 (dk_at dksX1_init_3 2 rfl rfl)
theorem dX1_init_72 : decode cX1_init 72 = .ok (.putfield 35, 3) := dk_181 0 35 (dk_at dksX1_init_3 4 rfl rfl)
theorem dX1_init_75 : decode cX1_init 75 = .ok (.aload_n 0, 1) := dk_42 (dk_at dksX1_init_3 7 rfl rfl)
theorem dX1_init_76 : decode cX1_init 76 = .ok (.bipush 16, 2) := dk_16 16 (dk_at dksX1_init_3 8 rfl rfl)
theorem dX1_init_78 : decode cX1_init 78 = .ok (.newarray .int, 2) := dk_188_10 (dk_at dksX1_init_3 10 rfl rfl)
theorem dX1_init_80 : decode cX1_init 80 = .ok (.putfield 38, 3) := dk_181 0 38 (dk_at dksX1_init_3 12 rfl rfl)
theorem dX1_init_83 : decode cX1_init 83 = .ok (.aload_n 0, 1) := dk_42 (dk_at dksX1_init_3 15 rfl rfl)
theorem dX1_init_84 : decode cX1_init 84 = .ok (.sipush 768, 3) := dk_17 3 0 (dk_at dksX1_init_3 16 rfl rfl)
theorem dX1_init_87 : decode cX1_init 87 = .ok (.newarray .int, 2) := dk_188_10 (dk_at dksX1_init_3 19 rfl rfl)
theorem dX1_init_89 : decode cX1_init 89 = .ok (.putfield 41, 3) := dk_181 0 41 (dk_at dksX1_init_3 21 rfl rfl)
theorem dX1_init_92 : decode cX1_init 92 = .ok (.aload_n 0, 1) := dk_42 (dk_at dksX1_init_4 0 rfl rfl)
theorem dX1_init_93 : decode cX1_init 93 = .ok (.bipush 16, 2) := dk_16 16 (dk_at dksX1_init_4 1 rfl rfl)
theorem dX1_init_95 : decode cX1_init 95 = .ok (.newarray .int, 2) := dk_188_10 (dk_at dksX1_init_4 3 rfl rfl)
theorem dX1_init_97 : decode cX1_init 97 = .ok (.putfield 44, 3) := dk_181 0 44 (dk_at dksX1_init_4 5 rfl rfl)
theorem dX1_init_100 : decode cX1_init 100 = .ok (.aload_n 0, 1) := dk_42 (dk_at dksX1_init_4 8 rfl rfl)
theorem dX1_init_101 : decode cX1_init 101 = .ok (.bipush 16, 2) := dk_16 16 (dk_at dksX1_init_4 9 rfl rfl)
theorem dX1_init_103 : decode cX1_init 103 = .ok (.newarray .int, 2) := dk_188_10 (dk_at dksX1_init_4 11 rfl rfl)
theorem dX1_init_105 : decode cX1_init 105 = .ok (.putfield 47, 3) := dk_181 0 47 (dk_at dksX1_init_4 13 rfl rfl)
theorem dX1_init_108 : decode cX1_init 108 = .ok (.aload_n 0, 1) := dk_42 (dk_at dksX1_init_4 16 rfl rfl)
theorem dX1_init_109 : decode cX1_init 109 = .ok (.bipush 16, 2) := dk_16 16 (dk_at dksX1_init_4 17 rfl rfl)
theorem dX1_init_111 : decode cX1_init 111 = .ok (.newarray .int, 2) := dk_188_10 (dk_at dksX1_init_4 19 rfl rfl)
theorem dX1_init_113 : decode cX1_init 113 = .ok (.putfield 50, 3) := dk_181 0 50 (dk_at dksX1_init_4 21 rfl rfl)
theorem dX1_init_116 : decode cX1_init 116 = .ok (.aload_n 0, 1) := dk_42 (dk_at dksX1_init_5 0 rfl rfl)
theorem dX1_init_117 : decode cX1_init 117 = .ok (.bipush 16, 2) := dk_16 16 (dk_at dksX1_init_5 1 rfl rfl)
theorem dX1_init_119 : decode cX1_init 119 = .ok (.newarray .int, 2) := dk_188_10 (dk_at dksX1_init_5 3 rfl rfl)
theorem dX1_init_121 : decode cX1_init 121 = .ok (.putfield 53, 3) := dk_181 0 53 (dk_at dksX1_init_5 5 rfl rfl)
theorem dX1_init_124 : decode cX1_init 124 = .ok (.aload_n 0, 1) := dk_42 (dk_at dksX1_init_5 8 rfl rfl)
theorem dX1_init_125 : decode cX1_init 125 = .ok (.bipush 16, 2) := dk_16 16 (dk_at dksX1_init_5 9 rfl rfl)
theorem dX1_init_127 : decode cX1_init 127 = .ok (.newarray .int, 2) := dk_188_10 (dk_at dksX1_init_5 11 rfl rfl)
theorem dX1_init_129 : decode cX1_init 129 = .ok (.putfield 56, 3) := dk_181 0 56 (dk_at dksX1_init_5 13 rfl rfl)
theorem dX1_init_132 : decode cX1_init 132 = .ok (.aload_n 0, 1) := dk_42 (dk_at dksX1_init_5 16 rfl rfl)
theorem dX1_init_133 : decode cX1_init 133 = .ok (.bipush 16, 2) := dk_16 16 (dk_at dksX1_init_5 17 rfl rfl)
theorem dX1_init_135 : decode cX1_init 135 = .ok (.newarray .int, 2) := dk_188_10 (dk_at dksX1_init_5 19 rfl rfl)
theorem dX1_init_137 : decode cX1_init 137 = .ok (.putfield 59, 3) := dk_181 0 59 (dk_at dksX1_init_5 21 rfl rfl)
theorem dX1_init_140 : decode cX1_init 140 = .ok (.aload_n 0, 1) := dk_42 (dk_at dksX1_init_6 0 rfl rfl)
theorem dX1_init_141 : decode cX1_init 141 = .ok (.bipush 16, 2) := dk_16 16 (dk_at dksX1_init_6 1 rfl rfl)
theorem dX1_init_143 : decode cX1_init 143 = .ok (.newarray .int, 2) := dk_188_10 (dk_at dksX1_init_6 3 rfl rfl)
theorem dX1_init_145 : decode cX1_init 145 = .ok (.putfield 62, 3) := dk_181 0 62 (dk_at dksX1_init_6 5 rfl rfl)
theorem dX1_init_148 : decode cX1_init 148 = .ok (.aload_n 0, 1) := dk_42 (dk_at dksX1_init_6 8 rfl rfl)
theorem dX1_init_149 : decode cX1_init 149 = .ok (.bipush 16, 2) := dk_16 16 (dk_at dksX1_init_6 9 rfl rfl)
theorem dX1_init_151 : decode cX1_init 151 = .ok (.newarray .int, 2) := dk_188_10 (dk_at dksX1_init_6 11 rfl rfl)
theorem dX1_init_153 : decode cX1_init 153 = .ok (.putfield 65, 3) := dk_181 0 65 (dk_at dksX1_init_6 13 rfl rfl)
theorem dX1_init_156 : decode cX1_init 156 = .ok (.aload_n 0, 1) := dk_42 (dk_at dksX1_init_6 16 rfl rfl)
theorem dX1_init_157 : decode cX1_init 157 = .ok (.bipush 16, 2) := dk_16 16 (dk_at dksX1_init_6 17 rfl rfl)
theorem dX1_init_159 : decode cX1_init 159 = .ok (.newarray .boolean, 2) := dk_188_4 (dk_at dksX1_init_6 19 rfl rfl)
theorem dX1_init_161 : decode cX1_init 161 = .ok (.putfield 68, 3) := dk_181 0 68 (dk_at dksX1_init_6 21 rfl rfl)
theorem dX1_init_164 : decode cX1_init 164 = .ok (.aload_n 0, 1) := dk_42 (dk_at dksX1_init_7 0 rfl rfl)
theorem dX1_init_165 : decode cX1_init 165 = .ok (.iconst 4, 1) := dk_7 (dk_at dksX1_init_7 1 rfl rfl)
theorem dX1_init_166 : decode cX1_init 166 = .ok (.newarray .boolean, 2) := dk_188_4 (dk_at dksX1_init_7 2 rfl rfl)
theorem dX1_init_168 : decode cX1_init 168 = .ok (.putfield 72, 3) := dk_181 0 72 (dk_at dksX1_init_7 4 rfl rfl)
theorem dX1_init_171 : decode cX1_init 171 = .ok (.aload_n 0, 1) := dk_42 (dk_at dksX1_init_7 7 rfl rfl)
theorem dX1_init_172 : decode cX1_init 172 = .ok (.iconst 4, 1) := dk_7 (dk_at dksX1_init_7 8 rfl rfl)
theorem dX1_init_173 : decode cX1_init 173 = .ok (.newarray .int, 2) := dk_188_10 (dk_at dksX1_init_7 9 rfl rfl)
theorem dX1_init_175 : decode cX1_init 175 = .ok (.putfield 75, 3) := dk_181 0 75 (dk_at dksX1_init_7 11 rfl rfl)
theorem dX1_init_178 : decode cX1_init 178 = .ok (.aload_n 0, 1) := dk_42 (dk_at dksX1_init_7 14 rfl rfl)
theorem dX1_init_179 : decode cX1_init 179 = .ok (.iconst 4, 1) := dk_7 (dk_at dksX1_init_7 15 rfl rfl)
theorem dX1_init_180 : decode cX1_init 180 = .ok (.newarray .int, 2) := dk_188_10 (dk_at dksX1_init_7 16 rfl rfl)
theorem dX1_init_182 : decode cX1_init 182 = .ok (.putfield 78, 3) := dk_181 0 78 (dk_at dksX1_init_7 18 rfl rfl)
theorem dX1_init_185 : decode cX1_init 185 = .ok (.aload_n 0, 1) := dk_42 (dk_at dksX1_init_7 21 rfl rfl)
theorem dX1_init_186 : decode cX1_init 186 = .ok (.iconst 4, 1) := dk_7 (dk_at dksX1_init_7 22 rfl rfl)
theorem dX1_init_187 : decode cX1_init 187 = .ok (.newarray .int, 2) := dk_188_10 (dk_at dksX1_init_8 0 rfl rfl)
theorem dX1_init_189 : decode cX1_init 189 = .ok (.putfield 81, 3) := dk_181 0 81 (dk_at dksX1_init_8 2 rfl rfl)
theorem dX1_init_192 : decode cX1_init 192 = .ok (.aload_n 0, 1) := dk_42 (dk_at dksX1_init_8 5 rfl rfl)
theorem dX1_init_193 : decode cX1_init 193 = .ok (.iconst 4, 1) := dk_7 (dk_at dksX1_init_8 6 rfl rfl)
theorem dX1_init_194 : decode cX1_init 194 = .ok (.newarray .int, 2) := dk_188_10 (dk_at dksX1_init_8 7 rfl rfl)
theorem dX1_init_196 : decode cX1_init 196 = .ok (.putfield 84, 3) := dk_181 0 84 (dk_at dksX1_init_8 9 rfl rfl)
theorem dX1_init_199 : decode cX1_init 199 = .ok (.aload_n 0, 1) := dk_42 (dk_at dksX1_init_8 12 rfl rfl)
theorem dX1_init_200 : decode cX1_init 200 = .ok (.iconst 4, 1) := dk_7 (dk_at dksX1_init_8 13 rfl rfl)
theorem dX1_init_201 : decode cX1_init 201 = .ok (.newarray .boolean, 2) := dk_188_4 (dk_at dksX1_init_8 14 rfl rfl)
theorem dX1_init_203 : decode cX1_init 203 = .ok (.putfield 87, 3) := dk_181 0 87 (dk_at dksX1_init_8 16 rfl rfl)
theorem dX1_init_206 : decode cX1_init 206 = .ok (.aload_n 0, 1) := dk_42 (dk_at dksX1_init_8 19 rfl rfl)
theorem dX1_init_207 : decode cX1_init 207 = .ok (.iconst 4, 1) := dk_7 (dk_at dksX1_init_8 20 rfl rfl)
theorem dX1_init_208 : decode cX1_init 208 = .ok (.newarray .int, 2) := dk_188_10 (dk_at dksX1_init_8 21 rfl rfl)
theorem dX1_init_210 : decode cX1_init 210 = .ok (.putfield 90, 3) := dk_181 0 90 (dk_at dksX1_init_9 0 rfl rfl)
theorem dX1_init_213 : decode cX1_init 213 = .ok (.aload_n 0, 1) := dk_42 (dk_at dksX1_init_9 3 rfl rfl)
theorem dX1_init_214 : decode cX1_init 214 = .ok (.iconst 4, 1) := dk_7 (dk_at dksX1_init_9 4 rfl rfl)
theorem dX1_init_215 : decode cX1_init 215 = .ok (.newarray .int, 2) := dk_188_10 (dk_at dksX1_init_9 5 rfl rfl)
theorem dX1_init_217 : decode cX1_init 217 = .ok (.putfield 93, 3) := dk_181 0 93 (dk_at dksX1_init_9 7 rfl rfl)
theorem dX1_init_220 : decode cX1_init 220 = .ok (.aload_n 0, 1) := dk_42 (dk_at dksX1_init_9 10 rfl rfl)
theorem dX1_init_221 : decode cX1_init 221 = .ok (.iconst 4, 1) := dk_7 (dk_at dksX1_init_9 11 rfl rfl)
theorem dX1_init_222 : decode cX1_init 222 = .ok (.newarray .int, 2) := dk_188_10 (dk_at dksX1_init_9 12 rfl rfl)
theorem dX1_init_224 : decode cX1_init 224 = .ok (.putfield 96, 3) := dk_181 0 96 (dk_at dksX1_init_9 14 rfl rfl)
theorem dX1_init_227 : decode cX1_init 227 = .ok (.aload_n 0, 1) := dk_42 (dk_at dksX1_init_9 17 rfl rfl)
theorem dX1_init_228 : decode cX1_init 228 = .ok (.bipush 8, 2) := dk_16 8 (dk_at dksX1_init_9 18 rfl rfl)
theorem dX1_init_230 : decode cX1_init 230 = .ok (.newarray .int, 2) := dk_188_10 (dk_at dksX1_init_9 20 rfl rfl)
theorem dX1_init_232 : decode cX1_init 232 = .ok (.putfield 99, 3) := dk_181 0 99 (dk_at dksX1_init_10 0 rfl rfl)
theorem dX1_init_235 : decode cX1_init 235 = .ok (.aload_n 0, 1) := dk_42 (dk_at dksX1_init_10 3 rfl rfl)
theorem dX1_init_236 : decode cX1_init 236 = .ok (.bipush 8, 2) := dk_16 8 (dk_at dksX1_init_10 4 rfl rfl)
theorem dX1_init_238 : decode cX1_init 238 = .ok (.newarray .boolean, 2) := dk_188_4 (dk_at dksX1_init_10 6 rfl rfl)
theorem dX1_init_240 : decode cX1_init 240 = .ok (.putfield 102, 3) := dk_181 0 102 (dk_at dksX1_init_10 8 rfl rfl)
theorem dX1_init_243 : decode cX1_init 243 = .ok (.aload_n 0, 1) := dk_42 (dk_at dksX1_init_10 11 rfl rfl)
theorem dX1_init_244 : decode cX1_init 244 = .ok (.iconst 4, 1) := dk_7 (dk_at dksX1_init_10 12 rfl rfl)
theorem dX1_init_245 : decode cX1_init 245 = .ok (.newarray .int, 2) := dk_188_10 (dk_at dksX1_init_10 13 rfl rfl)
theorem dX1_init_247 : decode cX1_init 247 = .ok (.putfield 105, 3) := dk_181 0 105 (dk_at dksX1_init_10 15 rfl rfl)
theorem dX1_init_250 : decode cX1_init 250 = .ok (.aload_n 0, 1) := dk_42 (dk_at dksX1_init_10 18 rfl rfl)
theorem dX1_init_251 : decode cX1_init 251 = .ok (.sipush 960, 3) := dk_17 3 192 (dk_at dksX1_init_10 19 rfl rfl)
theorem dX1_init_254 : decode cX1_init 254 = .ok (.newarray .int, 2) := dk_188_10 (dk_at dksX1_init_10 22 rfl rfl)
theorem dX1_init_256 : decode cX1_init 256 = .ok (.putfield 108, 3) := dk_181 0 108 (dk_at dksX1_init_11 0 rfl rfl)
theorem dX1_init_259 : decode cX1_init 259 = .ok (.aload_n 0, 1) := dk_42 (dk_at dksX1_init_11 3 rfl rfl)
theorem dX1_init_260 : decode cX1_init 260 = .ok (.sipush 144, 3) := dk_17 0 144 (dk_at dksX1_init_11 4 rfl rfl)
theorem dX1_init_263 : decode cX1_init 263 = .ok (.newarray .int, 2) := dk_188_10 (dk_at dksX1_init_11 7 rfl rfl)
theorem dX1_init_265 : decode cX1_init 265 = .ok (.putfield 111, 3) := dk_181 0 111 (dk_at dksX1_init_11 9 rfl rfl)
theorem dX1_init_268 : decode cX1_init 268 = .ok (.aload_n 0, 1) := dk_42 (dk_at dksX1_init_11 12 rfl rfl)
theorem dX1_init_269 : decode cX1_init 269 = .ok (.bipush (-9), 2) := dk_16 247 (dk_at dksX1_init_11 13 rfl rfl)
theorem dX1_init_271 : decode cX1_init 271 = .ok (.putfield 114, 3) := dk_181 0 114 (dk_at dksX1_init_11 15 rfl rfl)
theorem dX1_init_274 : decode cX1_init 274 = .ok (.aload_n 0, 1) := dk_42 (dk_at dksX1_init_11 18 rfl rfl)
theorem dX1_init_275 : decode cX1_init 275 = .ok (.sipush 144, 3) := dk_17 0 144 (dk_at dksX1_init_11 19 rfl rfl)
theorem dX1_init_278 : decode cX1_init 278 = .ok (.newarray .int, 2) := dk_188_10 (dk_at dksX1_init_11 22 rfl rfl)
theorem dX1_init_280 : decode cX1_init 280 = .ok (.putfield 118, 3) := dk_181 0 118 (dk_at dksX1_init_12 0 rfl rfl)
theorem dX1_init_283 : decode cX1_init 283 = .ok (.aload_n 0, 1) := dk_42 (dk_at dksX1_init_12 3 rfl rfl)
theorem dX1_init_284 : decode cX1_init 284 = .ok (.iconst 3, 1) := dk_6 (dk_at dksX1_init_12 4 rfl rfl)
theorem dX1_init_285 : decode cX1_init 285 = .ok (.newarray .int, 2) := dk_188_10 (dk_at dksX1_init_12 5 rfl rfl)
theorem dX1_init_287 : decode cX1_init 287 = .ok (.putfield 121, 3) := dk_181 0 121 (dk_at dksX1_init_12 7 rfl rfl)
theorem dX1_init_290 : decode cX1_init 290 = .ok (.aload_n 0, 1) := dk_42 (dk_at dksX1_init_12 10 rfl rfl)
theorem dX1_init_291 : decode cX1_init 291 = .ok (.bipush 12, 2) := dk_16 12 (dk_at dksX1_init_12 11 rfl rfl)
theorem dX1_init_293 : decode cX1_init 293 = .ok (.newarray .int, 2) := dk_188_10 (dk_at dksX1_init_12 13 rfl rfl)
theorem dX1_init_295 : decode cX1_init 295 = .ok (.putfield 124, 3) := dk_181 0 124 (dk_at dksX1_init_12 15 rfl rfl)
theorem dX1_init_298 : decode cX1_init 298 = .ok (.aload_n 0, 1) := dk_42 (dk_at dksX1_init_12 18 rfl rfl)
theorem dX1_init_299 : decode cX1_init 299 = .ok (.iconst 4, 1) := dk_7 (dk_at dksX1_init_12 19 rfl rfl)
theorem dX1_init_300 : decode cX1_init 300 = .ok (.newarray .int, 2) := dk_188_10 (dk_at dksX1_init_12 20 rfl rfl)
theorem dX1_init_302 : decode cX1_init 302 = .ok (.putfield 127, 3) := dk_181 0 127 (dk_at dksX1_init_13 0 rfl rfl)
theorem dX1_init_305 : decode cX1_init 305 = .ok (.aload_n 0, 1) := dk_42 (dk_at dksX1_init_13 3 rfl rfl)
theorem dX1_init_306 : decode cX1_init 306 = .ok (.iconst 4, 1) := dk_7 (dk_at dksX1_init_13 4 rfl rfl)
theorem dX1_init_307 : decode cX1_init 307 = .ok (.newarray .int, 2) := dk_188_10 (dk_at dksX1_init_13 5 rfl rfl)
theorem dX1_init_309 : decode cX1_init 309 = .ok (.putfield 130, 3) := dk_181 0 130 (dk_at dksX1_init_13 7 rfl rfl)
theorem dX1_init_312 : decode cX1_init 312 = .ok (.iconst 0, 1) := dk_3 (dk_at dksX1_init_13 10 rfl rfl)
theorem dX1_init_313 : decode cX1_init 313 = .ok (.istore_n 1, 1) := dk_60 (dk_at dksX1_init_13 11 rfl rfl)
theorem dX1_init_314 : decode cX1_init 314 = .ok (.iload_n 1, 1) := dk_27 (dk_at dksX1_init_13 12 rfl rfl)
theorem dX1_init_315 : decode cX1_init 315 = .ok (.bipush 8, 2) := dk_16 8 (dk_at dksX1_init_13 13 rfl rfl)
theorem dX1_init_317 : decode cX1_init 317 = .ok (.if_icmp .ge 17, 3) := dk_162 0 17 (dk_at dksX1_init_13 15 rfl rfl)
theorem dX1_init_320 : decode cX1_init 320 = .ok (.aload_n 0, 1) := dk_42 (dk_at dksX1_init_13 18 rfl rfl)
theorem dX1_init_321 : decode cX1_init 321 = .ok (.getfield 17, 3) := dk_180 0 17 (dk_at dksX1_init_13 19 rfl rfl)
theorem dX1_init_324 : decode cX1_init 324 = .ok (.iload_n 1, 1) := dk_27 (dk_at dksX1_init_13 22 rfl rfl)
theorem dX1_init_325 : decode cX1_init 325 = .ok (.bipush (-9), 2) := dk_16 247 (dk_at dksX1_init_14 0 rfl rfl)
theorem dX1_init_327 : decode cX1_init 327 = .ok (.iastore, 1) := dk_79 (dk_at dksX1_init_14 2 rfl rfl)
theorem dX1_init_328 : decode cX1_init 328 = .ok (.iinc 1 1, 3) := dk_132 1 1 (dk_at dksX1_init_14 3 rfl rfl)
theorem dX1_init_331 : decode cX1_init 331 = .ok (.goto (-17), 3) := dk_167 255 239 (dk_at dksX1_init_14 6 rfl rfl)
theorem dX1_init_334 : decode cX1_init 334 = .ok (.iconst 0, 1) := dk_3 (dk_at dksX1_init_14 9 rfl rfl)
theorem dX1_init_335 : decode cX1_init 335 = .ok (.istore_n 1, 1) := dk_60 (dk_at dksX1_init_14 10 rfl rfl)
theorem dX1_init_336 : decode cX1_init 336 = .ok (.iload_n 1, 1) := dk_27 (dk_at dksX1_init_14 11 rfl rfl)
theorem dX1_init_337 : decode cX1_init 337 = .ok (.bipush 8, 2) := dk_16 8 (dk_at dksX1_init_14 12 rfl rfl)
theorem dX1_init_339 : decode cX1_init 339 = .ok (.if_icmp .ge 17, 3) := dk_162 0 17 (dk_at dksX1_init_14 14 rfl rfl)
theorem dX1_init_342 : decode cX1_init 342 = .ok (.aload_n 0, 1) := dk_42 (dk_at dksX1_init_14 17 rfl rfl)
theorem dX1_init_343 : decode cX1_init 343 = .ok (.getfield 99, 3) := dk_180 0 99 (dk_at dksX1_init_14 18 rfl rfl)
theorem dX1_init_346 : decode cX1_init 346 = .ok (.iload_n 1, 1) := dk_27 (dk_at dksX1_init_14 21 rfl rfl)
theorem dX1_init_347 : decode cX1_init 347 = .ok (.bipush (-9), 2) := dk_16 247 (dk_at dksX1_init_14 22 rfl rfl)
theorem dX1_init_349 : decode cX1_init 349 = .ok (.iastore, 1) := dk_79 (dk_at dksX1_init_15 0 rfl rfl)
theorem dX1_init_350 : decode cX1_init 350 = .ok (.iinc 1 1, 3) := dk_132 1 1 (dk_at dksX1_init_15 1 rfl rfl)
theorem dX1_init_353 : decode cX1_init 353 = .ok (.goto (-17), 3) := dk_167 255 239 (dk_at dksX1_init_15 4 rfl rfl)
theorem dX1_init_356 : decode cX1_init 356 = .ok (.aload_n 0, 1) := dk_42 (dk_at dksX1_init_15 7 rfl rfl)
theorem dX1_init_357 : decode cX1_init 357 = .ok (.bipush (-9), 2) := dk_16 247 (dk_at dksX1_init_15 8 rfl rfl)
theorem dX1_init_359 : decode cX1_init 359 = .ok (.putfield 133, 3) := dk_181 0 133 (dk_at dksX1_init_15 10 rfl rfl)
theorem dX1_init_362 : decode cX1_init 362 = .ok (.aload_n 0, 1) := dk_42 (dk_at dksX1_init_15 13 rfl rfl)
theorem dX1_init_363 : decode cX1_init 363 = .ok (.bipush (-9), 2) := dk_16 247 (dk_at dksX1_init_15 14 rfl rfl)
theorem dX1_init_365 : decode cX1_init 365 = .ok (.putfield 136, 3) := dk_181 0 136 (dk_at dksX1_init_15 16 rfl rfl)
theorem dX1_init_368 : decode cX1_init 368 = .ok (.return_, 1) := dk_177 (dk_at dksX1_init_15 19 rfl rfl)
abbrev cX1_row : ByteArray := prog_9_method_8_code
def yX1_row : MethodName := ⟨RX1, "row", "(II)I"⟩
def dkwX1_row_2 : List UInt8 := [29, 96, 3, 79, 132, 3, 1, 167, 255, 235, 28, 172]
abbrev dktX1_row_2 : List UInt8 := dkwX1_row_2 ++ []
def dkwX1_row_1 : List UInt8 := [172, 42, 180, 0, 17, 27, 28, 79, 3, 62, 29, 16, 48, 162, 0, 21, 42, 180, 0, 20, 16, 48, 27, 104]
abbrev dktX1_row_1 : List UInt8 := dkwX1_row_1 ++ dktX1_row_2
def dkwX1_row_0 : List UInt8 := [27, 184, 0, 149, 153, 0, 9, 28, 16, 48, 164, 0, 5, 2, 172, 28, 156, 0, 9, 42, 8, 182, 0, 153]
abbrev dktX1_row_0 : List UInt8 := dkwX1_row_0 ++ dktX1_row_1
theorem dksX1_row_0 : cX1_row.data.toList.drop 0 = dktX1_row_0 := by decide +kernel
theorem dksX1_row_1 : cX1_row.data.toList.drop 24 = dktX1_row_1 := dk_seg dksX1_row_0 24 rfl rfl
theorem dksX1_row_2 : cX1_row.data.toList.drop 48 = dktX1_row_2 := dk_seg dksX1_row_1 24 rfl rfl
theorem dX1_row_0 : decode cX1_row 0 = .ok (.iload_n 1, 1) := dk_27 (dk_at dksX1_row_0 0 rfl rfl)
theorem dX1_row_1 : decode cX1_row 1 = .ok (.invokestatic 149, 3) := dk_184 0 149 (dk_at dksX1_row_0 1 rfl rfl)
theorem dX1_row_4 : decode cX1_row 4 = .ok (.ifCond .eq 9, 3) := dk_153 0 9 (dk_at dksX1_row_0 4 rfl rfl)
theorem dX1_row_7 : decode cX1_row 7 = .ok (.iload_n 2, 1) := dk_28 (dk_at dksX1_row_0 7 rfl rfl)
theorem dX1_row_8 : decode cX1_row 8 = .ok (.bipush 48, 2) := dk_16 48 (dk_at dksX1_row_0 8 rfl rfl)
theorem dX1_row_10 : decode cX1_row 10 = .ok (.if_icmp .le 5, 3) := dk_164 0 5 (dk_at dksX1_row_0 10 rfl rfl)
theorem dX1_row_13 : decode cX1_row 13 = .ok (.iconst (-1), 1) := dk_2 (dk_at dksX1_row_0 13 rfl rfl)
theorem dX1_row_14 : decode cX1_row 14 = .ok (.ireturn, 1) := dk_172 (dk_at dksX1_row_0 14 rfl rfl)
theorem dX1_row_15 : decode cX1_row 15 = .ok (.iload_n 2, 1) := dk_28 (dk_at dksX1_row_0 15 rfl rfl)
theorem dX1_row_16 : decode cX1_row 16 = .ok (.ifCond .ge 9, 3) := dk_156 0 9 (dk_at dksX1_row_0 16 rfl rfl)
theorem dX1_row_19 : decode cX1_row 19 = .ok (.aload_n 0, 1) := dk_42 (dk_at dksX1_row_0 19 rfl rfl)
theorem dX1_row_20 : decode cX1_row 20 = .ok (.iconst 5, 1) := dk_8 (dk_at dksX1_row_0 20 rfl rfl)
theorem dX1_row_21 : decode cX1_row 21 = .ok (.invokevirtual 153, 3) := dk_182 0 153 (dk_at dksX1_row_0 21 rfl rfl)
theorem dX1_row_24 : decode cX1_row 24 = .ok (.ireturn, 1) := dk_172 (dk_at dksX1_row_1 0 rfl rfl)
theorem dX1_row_25 : decode cX1_row 25 = .ok (.aload_n 0, 1) := dk_42 (dk_at dksX1_row_1 1 rfl rfl)
theorem dX1_row_26 : decode cX1_row 26 = .ok (.getfield 17, 3) := dk_180 0 17 (dk_at dksX1_row_1 2 rfl rfl)
theorem dX1_row_29 : decode cX1_row 29 = .ok (.iload_n 1, 1) := dk_27 (dk_at dksX1_row_1 5 rfl rfl)
theorem dX1_row_30 : decode cX1_row 30 = .ok (.iload_n 2, 1) := dk_28 (dk_at dksX1_row_1 6 rfl rfl)
theorem dX1_row_31 : decode cX1_row 31 = .ok (.iastore, 1) := dk_79 (dk_at dksX1_row_1 7 rfl rfl)
theorem dX1_row_32 : decode cX1_row 32 = .ok (.iconst 0, 1) := dk_3 (dk_at dksX1_row_1 8 rfl rfl)
theorem dX1_row_33 : decode cX1_row 33 = .ok (.istore_n 3, 1) := dk_62 (dk_at dksX1_row_1 9 rfl rfl)
theorem dX1_row_34 : decode cX1_row 34 = .ok (.iload_n 3, 1) := dk_29 (dk_at dksX1_row_1 10 rfl rfl)
theorem dX1_row_35 : decode cX1_row 35 = .ok (.bipush 48, 2) := dk_16 48 (dk_at dksX1_row_1 11 rfl rfl)
theorem dX1_row_37 : decode cX1_row 37 = .ok (.if_icmp .ge 21, 3) := dk_162 0 21 (dk_at dksX1_row_1 13 rfl rfl)
theorem dX1_row_40 : decode cX1_row 40 = .ok (.aload_n 0, 1) := dk_42 (dk_at dksX1_row_1 16 rfl rfl)
theorem dX1_row_41 : decode cX1_row 41 = .ok (.getfield 20, 3) := dk_180 0 20 (dk_at dksX1_row_1 17 rfl rfl)
theorem dX1_row_44 : decode cX1_row 44 = .ok (.bipush 48, 2) := dk_16 48 (dk_at dksX1_row_1 20 rfl rfl)
theorem dX1_row_46 : decode cX1_row 46 = .ok (.iload_n 1, 1) := dk_27 (dk_at dksX1_row_1 22 rfl rfl)
theorem dX1_row_47 : decode cX1_row 47 = .ok (.imul, 1) := dk_104 (dk_at dksX1_row_1 23 rfl rfl)
theorem dX1_row_48 : decode cX1_row 48 = .ok (.iload_n 3, 1) := dk_29 (dk_at dksX1_row_2 0 rfl rfl)
theorem dX1_row_49 : decode cX1_row 49 = .ok (.iadd, 1) := dk_96 (dk_at dksX1_row_2 1 rfl rfl)
theorem dX1_row_50 : decode cX1_row 50 = .ok (.iconst 0, 1) := dk_3 (dk_at dksX1_row_2 2 rfl rfl)
theorem dX1_row_51 : decode cX1_row 51 = .ok (.iastore, 1) := dk_79 (dk_at dksX1_row_2 3 rfl rfl)
theorem dX1_row_52 : decode cX1_row 52 = .ok (.iinc 3 1, 3) := dk_132 3 1 (dk_at dksX1_row_2 4 rfl rfl)
theorem dX1_row_55 : decode cX1_row 55 = .ok (.goto (-21), 3) := dk_167 255 235 (dk_at dksX1_row_2 7 rfl rfl)
theorem dX1_row_58 : decode cX1_row 58 = .ok (.iload_n 2, 1) := dk_28 (dk_at dksX1_row_2 10 rfl rfl)
theorem dX1_row_59 : decode cX1_row 59 = .ok (.ireturn, 1) := dk_172 (dk_at dksX1_row_2 11 rfl rfl)
abbrev cX1_isRow : ByteArray := prog_9_method_6_code
def yX1_isRow : MethodName := ⟨RX1, "isRow", "(I)Z"⟩
def dkwX1_isRow_0 : List UInt8 := [26, 3, 16, 7, 184, 0, 145, 172]
abbrev dktX1_isRow_0 : List UInt8 := dkwX1_isRow_0 ++ []
theorem dksX1_isRow_0 : cX1_isRow.data.toList.drop 0 = dktX1_isRow_0 := by decide +kernel
theorem dX1_isRow_0 : decode cX1_isRow 0 = .ok (.iload_n 0, 1) := dk_26 (dk_at dksX1_isRow_0 0 rfl rfl)
theorem dX1_isRow_1 : decode cX1_isRow 1 = .ok (.iconst 0, 1) := dk_3 (dk_at dksX1_isRow_0 1 rfl rfl)
theorem dX1_isRow_2 : decode cX1_isRow 2 = .ok (.bipush 7, 2) := dk_16 7 (dk_at dksX1_isRow_0 2 rfl rfl)
theorem dX1_isRow_4 : decode cX1_isRow 4 = .ok (.invokestatic 145, 3) := dk_184 0 145 (dk_at dksX1_isRow_0 4 rfl rfl)
theorem dX1_isRow_7 : decode cX1_isRow 7 = .ok (.ireturn, 1) := dk_172 (dk_at dksX1_isRow_0 7 rfl rfl)
abbrev cX1_in : ByteArray := prog_9_method_3_code
def yX1_in : MethodName := ⟨RX1, "in", "(III)Z"⟩
def dkwX1_in_0 : List UInt8 := [26, 27, 161, 0, 12, 26, 28, 163, 0, 7, 4, 167, 0, 4, 3, 172]
abbrev dktX1_in_0 : List UInt8 := dkwX1_in_0 ++ []
theorem dksX1_in_0 : cX1_in.data.toList.drop 0 = dktX1_in_0 := by decide +kernel
theorem dX1_in_0 : decode cX1_in 0 = .ok (.iload_n 0, 1) := dk_26 (dk_at dksX1_in_0 0 rfl rfl)
theorem dX1_in_1 : decode cX1_in 1 = .ok (.iload_n 1, 1) := dk_27 (dk_at dksX1_in_0 1 rfl rfl)
theorem dX1_in_2 : decode cX1_in 2 = .ok (.if_icmp .lt 12, 3) := dk_161 0 12 (dk_at dksX1_in_0 2 rfl rfl)
theorem dX1_in_5 : decode cX1_in 5 = .ok (.iload_n 0, 1) := dk_26 (dk_at dksX1_in_0 5 rfl rfl)
theorem dX1_in_6 : decode cX1_in 6 = .ok (.iload_n 2, 1) := dk_28 (dk_at dksX1_in_0 6 rfl rfl)
theorem dX1_in_7 : decode cX1_in 7 = .ok (.if_icmp .gt 7, 3) := dk_163 0 7 (dk_at dksX1_in_0 7 rfl rfl)
theorem dX1_in_10 : decode cX1_in 10 = .ok (.iconst 1, 1) := dk_4 (dk_at dksX1_in_0 10 rfl rfl)
theorem dX1_in_11 : decode cX1_in 11 = .ok (.goto 4, 3) := dk_167 0 4 (dk_at dksX1_in_0 11 rfl rfl)
theorem dX1_in_14 : decode cX1_in 14 = .ok (.iconst 0, 1) := dk_3 (dk_at dksX1_in_0 14 rfl rfl)
theorem dX1_in_15 : decode cX1_in 15 = .ok (.ireturn, 1) := dk_172 (dk_at dksX1_in_0 15 rfl rfl)
abbrev cX1_meets : ByteArray := prog_9_method_4_code
def yX1_meets : MethodName := ⟨RX1, "meets", "(I)I"⟩
def dkwX1_meets_0 : List UInt8 := [42, 27, 181, 0, 139, 42, 180, 0, 7, 27, 92, 46, 4, 96, 79, 16, 253, 172]
abbrev dktX1_meets_0 : List UInt8 := dkwX1_meets_0 ++ []
theorem dksX1_meets_0 : cX1_meets.data.toList.drop 0 = dktX1_meets_0 := by decide +kernel
theorem dX1_meets_0 : decode cX1_meets 0 = .ok (.aload_n 0, 1) := dk_42 (dk_at dksX1_meets_0 0 rfl rfl)
theorem dX1_meets_1 : decode cX1_meets 1 = .ok (.iload_n 1, 1) := dk_27 (dk_at dksX1_meets_0 1 rfl rfl)
theorem dX1_meets_2 : decode cX1_meets 2 = .ok (.putfield 139, 3) := dk_181 0 139 (dk_at dksX1_meets_0 2 rfl rfl)
theorem dX1_meets_5 : decode cX1_meets 5 = .ok (.aload_n 0, 1) := dk_42 (dk_at dksX1_meets_0 5 rfl rfl)
theorem dX1_meets_6 : decode cX1_meets 6 = .ok (.getfield 7, 3) := dk_180 0 7 (dk_at dksX1_meets_0 6 rfl rfl)
theorem dX1_meets_9 : decode cX1_meets 9 = .ok (.iload_n 1, 1) := dk_27 (dk_at dksX1_meets_0 9 rfl rfl)
theorem dX1_meets_10 : decode cX1_meets 10 = .ok (.dup2, 1) := dk_92 (dk_at dksX1_meets_0 10 rfl rfl)
theorem dX1_meets_11 : decode cX1_meets 11 = .ok (.iaload, 1) := dk_46 (dk_at dksX1_meets_0 11 rfl rfl)
theorem dX1_meets_12 : decode cX1_meets 12 = .ok (.iconst 1, 1) := dk_4 (dk_at dksX1_meets_0 12 rfl rfl)
theorem dX1_meets_13 : decode cX1_meets 13 = .ok (.iadd, 1) := dk_96 (dk_at dksX1_meets_0 13 rfl rfl)
theorem dX1_meets_14 : decode cX1_meets 14 = .ok (.iastore, 1) := dk_79 (dk_at dksX1_meets_0 14 rfl rfl)
theorem dX1_meets_15 : decode cX1_meets 15 = .ok (.bipush (-3), 2) := dk_16 253 (dk_at dksX1_meets_0 15 rfl rfl)
theorem dX1_meets_17 : decode cX1_meets 17 = .ok (.ireturn, 1) := dk_172 (dk_at dksX1_meets_0 17 rfl rfl)
abbrev cX1_lay : ByteArray := prog_9_method_9_code
def yX1_lay : MethodName := ⟨RX1, "lay", "(III)I"⟩
def dkwX1_lay_2 : List UInt8 := [54, 5, 42, 180, 0, 20, 16, 48, 27, 104, 28, 96, 29, 145, 79, 21, 5, 17, 3, 232, 96, 172]
abbrev dktX1_lay_2 : List UInt8 := dkwX1_lay_2 ++ []
def dkwX1_lay_1 : List UInt8 := [100, 184, 0, 145, 154, 0, 9, 42, 5, 182, 0, 153, 172, 42, 180, 0, 20, 16, 48, 27, 104, 28, 96, 46]
abbrev dktX1_lay_1 : List UInt8 := dkwX1_lay_1 ++ dktX1_lay_2
def dkwX1_lay_0 : List UInt8 := [42, 27, 182, 0, 157, 54, 4, 21, 4, 156, 0, 6, 21, 4, 172, 28, 3, 42, 180, 0, 17, 27, 46, 4]
abbrev dktX1_lay_0 : List UInt8 := dkwX1_lay_0 ++ dktX1_lay_1
theorem dksX1_lay_0 : cX1_lay.data.toList.drop 0 = dktX1_lay_0 := by decide +kernel
theorem dksX1_lay_1 : cX1_lay.data.toList.drop 24 = dktX1_lay_1 := dk_seg dksX1_lay_0 24 rfl rfl
theorem dksX1_lay_2 : cX1_lay.data.toList.drop 48 = dktX1_lay_2 := dk_seg dksX1_lay_1 24 rfl rfl
theorem dX1_lay_0 : decode cX1_lay 0 = .ok (.aload_n 0, 1) := dk_42 (dk_at dksX1_lay_0 0 rfl rfl)
theorem dX1_lay_1 : decode cX1_lay 1 = .ok (.iload_n 1, 1) := dk_27 (dk_at dksX1_lay_0 1 rfl rfl)
theorem dX1_lay_2 : decode cX1_lay 2 = .ok (.invokevirtual 157, 3) := dk_182 0 157 (dk_at dksX1_lay_0 2 rfl rfl)
theorem dX1_lay_5 : decode cX1_lay 5 = .ok (.istore 4, 2) := dk_54 4 (dk_at dksX1_lay_0 5 rfl rfl)
theorem dX1_lay_7 : decode cX1_lay 7 = .ok (.iload 4, 2) := dk_21 4 (dk_at dksX1_lay_0 7 rfl rfl)
theorem dX1_lay_9 : decode cX1_lay 9 = .ok (.ifCond .ge 6, 3) := dk_156 0 6 (dk_at dksX1_lay_0 9 rfl rfl)
theorem dX1_lay_12 : decode cX1_lay 12 = .ok (.iload 4, 2) := dk_21 4 (dk_at dksX1_lay_0 12 rfl rfl)
theorem dX1_lay_14 : decode cX1_lay 14 = .ok (.ireturn, 1) := dk_172 (dk_at dksX1_lay_0 14 rfl rfl)
theorem dX1_lay_15 : decode cX1_lay 15 = .ok (.iload_n 2, 1) := dk_28 (dk_at dksX1_lay_0 15 rfl rfl)
theorem dX1_lay_16 : decode cX1_lay 16 = .ok (.iconst 0, 1) := dk_3 (dk_at dksX1_lay_0 16 rfl rfl)
theorem dX1_lay_17 : decode cX1_lay 17 = .ok (.aload_n 0, 1) := dk_42 (dk_at dksX1_lay_0 17 rfl rfl)
theorem dX1_lay_18 : decode cX1_lay 18 = .ok (.getfield 17, 3) := dk_180 0 17 (dk_at dksX1_lay_0 18 rfl rfl)
theorem dX1_lay_21 : decode cX1_lay 21 = .ok (.iload_n 1, 1) := dk_27 (dk_at dksX1_lay_0 21 rfl rfl)
theorem dX1_lay_22 : decode cX1_lay 22 = .ok (.iaload, 1) := dk_46 (dk_at dksX1_lay_0 22 rfl rfl)
theorem dX1_lay_23 : decode cX1_lay 23 = .ok (.iconst 1, 1) := dk_4 (dk_at dksX1_lay_0 23 rfl rfl)
theorem dX1_lay_24 : decode cX1_lay 24 = .ok (.isub, 1) := dk_100 (dk_at dksX1_lay_1 0 rfl rfl)
theorem dX1_lay_25 : decode cX1_lay 25 = .ok (.invokestatic 145, 3) := dk_184 0 145 (dk_at dksX1_lay_1 1 rfl rfl)
theorem dX1_lay_28 : decode cX1_lay 28 = .ok (.ifCond .ne 9, 3) := dk_154 0 9 (dk_at dksX1_lay_1 4 rfl rfl)
theorem dX1_lay_31 : decode cX1_lay 31 = .ok (.aload_n 0, 1) := dk_42 (dk_at dksX1_lay_1 7 rfl rfl)
theorem dX1_lay_32 : decode cX1_lay 32 = .ok (.iconst 2, 1) := dk_5 (dk_at dksX1_lay_1 8 rfl rfl)
theorem dX1_lay_33 : decode cX1_lay 33 = .ok (.invokevirtual 153, 3) := dk_182 0 153 (dk_at dksX1_lay_1 9 rfl rfl)
theorem dX1_lay_36 : decode cX1_lay 36 = .ok (.ireturn, 1) := dk_172 (dk_at dksX1_lay_1 12 rfl rfl)
theorem dX1_lay_37 : decode cX1_lay 37 = .ok (.aload_n 0, 1) := dk_42 (dk_at dksX1_lay_1 13 rfl rfl)
theorem dX1_lay_38 : decode cX1_lay 38 = .ok (.getfield 20, 3) := dk_180 0 20 (dk_at dksX1_lay_1 14 rfl rfl)
theorem dX1_lay_41 : decode cX1_lay 41 = .ok (.bipush 48, 2) := dk_16 48 (dk_at dksX1_lay_1 17 rfl rfl)
theorem dX1_lay_43 : decode cX1_lay 43 = .ok (.iload_n 1, 1) := dk_27 (dk_at dksX1_lay_1 19 rfl rfl)
theorem dX1_lay_44 : decode cX1_lay 44 = .ok (.imul, 1) := dk_104 (dk_at dksX1_lay_1 20 rfl rfl)
theorem dX1_lay_45 : decode cX1_lay 45 = .ok (.iload_n 2, 1) := dk_28 (dk_at dksX1_lay_1 21 rfl rfl)
theorem dX1_lay_46 : decode cX1_lay 46 = .ok (.iadd, 1) := dk_96 (dk_at dksX1_lay_1 22 rfl rfl)
theorem dX1_lay_47 : decode cX1_lay 47 = .ok (.iaload, 1) := dk_46 (dk_at dksX1_lay_1 23 rfl rfl)
theorem dX1_lay_48 : decode cX1_lay 48 = .ok (.istore 5, 2) := dk_54 5 (dk_at dksX1_lay_2 0 rfl rfl)
theorem dX1_lay_50 : decode cX1_lay 50 = .ok (.aload_n 0, 1) := dk_42 (dk_at dksX1_lay_2 2 rfl rfl)
theorem dX1_lay_51 : decode cX1_lay 51 = .ok (.getfield 20, 3) := dk_180 0 20 (dk_at dksX1_lay_2 3 rfl rfl)
theorem dX1_lay_54 : decode cX1_lay 54 = .ok (.bipush 48, 2) := dk_16 48 (dk_at dksX1_lay_2 6 rfl rfl)
theorem dX1_lay_56 : decode cX1_lay 56 = .ok (.iload_n 1, 1) := dk_27 (dk_at dksX1_lay_2 8 rfl rfl)
theorem dX1_lay_57 : decode cX1_lay 57 = .ok (.imul, 1) := dk_104 (dk_at dksX1_lay_2 9 rfl rfl)
theorem dX1_lay_58 : decode cX1_lay 58 = .ok (.iload_n 2, 1) := dk_28 (dk_at dksX1_lay_2 10 rfl rfl)
theorem dX1_lay_59 : decode cX1_lay 59 = .ok (.iadd, 1) := dk_96 (dk_at dksX1_lay_2 11 rfl rfl)
theorem dX1_lay_60 : decode cX1_lay 60 = .ok (.iload_n 3, 1) := dk_29 (dk_at dksX1_lay_2 12 rfl rfl)
theorem dX1_lay_61 : decode cX1_lay 61 = .ok (.i2b, 1) := dk_145 (dk_at dksX1_lay_2 13 rfl rfl)
theorem dX1_lay_62 : decode cX1_lay 62 = .ok (.iastore, 1) := dk_79 (dk_at dksX1_lay_2 14 rfl rfl)
theorem dX1_lay_63 : decode cX1_lay 63 = .ok (.iload 5, 2) := dk_21 5 (dk_at dksX1_lay_2 15 rfl rfl)
theorem dX1_lay_65 : decode cX1_lay 65 = .ok (.sipush 1000, 3) := dk_17 3 232 (dk_at dksX1_lay_2 17 rfl rfl)
theorem dX1_lay_68 : decode cX1_lay 68 = .ok (.iadd, 1) := dk_96 (dk_at dksX1_lay_2 20 rfl rfl)
theorem dX1_lay_69 : decode cX1_lay 69 = .ok (.ireturn, 1) := dk_172 (dk_at dksX1_lay_2 21 rfl rfl)
abbrev cX1_looked : ByteArray := prog_9_method_7_code
def yX1_looked : MethodName := ⟨RX1, "looked", "(I)I"⟩
def dkwX1_looked_1 : List UInt8 := [182, 0, 153, 167, 0, 4, 3, 172]
abbrev dktX1_looked_1 : List UInt8 := dkwX1_looked_1 ++ []
def dkwX1_looked_0 : List UInt8 := [27, 184, 0, 149, 154, 0, 7, 2, 167, 0, 21, 42, 180, 0, 17, 27, 46, 156, 0, 11, 42, 4]
abbrev dktX1_looked_0 : List UInt8 := dkwX1_looked_0 ++ dktX1_looked_1
theorem dksX1_looked_0 : cX1_looked.data.toList.drop 0 = dktX1_looked_0 := by decide +kernel
theorem dksX1_looked_1 : cX1_looked.data.toList.drop 22 = dktX1_looked_1 := dk_seg dksX1_looked_0 22 rfl rfl
theorem dX1_looked_0 : decode cX1_looked 0 = .ok (.iload_n 1, 1) := dk_27 (dk_at dksX1_looked_0 0 rfl rfl)
theorem dX1_looked_1 : decode cX1_looked 1 = .ok (.invokestatic 149, 3) := dk_184 0 149 (dk_at dksX1_looked_0 1 rfl rfl)
theorem dX1_looked_4 : decode cX1_looked 4 = .ok (.ifCond .ne 7, 3) := dk_154 0 7 (dk_at dksX1_looked_0 4 rfl rfl)
theorem dX1_looked_7 : decode cX1_looked 7 = .ok (.iconst (-1), 1) := dk_2 (dk_at dksX1_looked_0 7 rfl rfl)
theorem dX1_looked_8 : decode cX1_looked 8 = .ok (.goto 21, 3) := dk_167 0 21 (dk_at dksX1_looked_0 8 rfl rfl)
theorem dX1_looked_11 : decode cX1_looked 11 = .ok (.aload_n 0, 1) := dk_42 (dk_at dksX1_looked_0 11 rfl rfl)
theorem dX1_looked_12 : decode cX1_looked 12 = .ok (.getfield 17, 3) := dk_180 0 17 (dk_at dksX1_looked_0 12 rfl rfl)
theorem dX1_looked_15 : decode cX1_looked 15 = .ok (.iload_n 1, 1) := dk_27 (dk_at dksX1_looked_0 15 rfl rfl)
theorem dX1_looked_16 : decode cX1_looked 16 = .ok (.iaload, 1) := dk_46 (dk_at dksX1_looked_0 16 rfl rfl)
theorem dX1_looked_17 : decode cX1_looked 17 = .ok (.ifCond .ge 11, 3) := dk_156 0 11 (dk_at dksX1_looked_0 17 rfl rfl)
theorem dX1_looked_20 : decode cX1_looked 20 = .ok (.aload_n 0, 1) := dk_42 (dk_at dksX1_looked_0 20 rfl rfl)
theorem dX1_looked_21 : decode cX1_looked 21 = .ok (.iconst 1, 1) := dk_4 (dk_at dksX1_looked_0 21 rfl rfl)
theorem dX1_looked_22 : decode cX1_looked 22 = .ok (.invokevirtual 153, 3) := dk_182 0 153 (dk_at dksX1_looked_1 0 rfl rfl)
theorem dX1_looked_25 : decode cX1_looked 25 = .ok (.goto 4, 3) := dk_167 0 4 (dk_at dksX1_looked_1 3 rfl rfl)
theorem dX1_looked_28 : decode cX1_looked 28 = .ok (.iconst 0, 1) := dk_3 (dk_at dksX1_looked_1 6 rfl rfl)
theorem dX1_looked_29 : decode cX1_looked 29 = .ok (.ireturn, 1) := dk_172 (dk_at dksX1_looked_1 7 rfl rfl)
abbrev cX1_tear : ByteArray := prog_9_method_10_code
def yX1_tear : MethodName := ⟨RX1, "tear", "(I)I"⟩
def dkwX1_tear_0 : List UInt8 := [42, 27, 182, 0, 157, 61, 28, 156, 0, 5, 28, 172, 42, 180, 0, 17, 27, 16, 247, 79, 4, 172]
abbrev dktX1_tear_0 : List UInt8 := dkwX1_tear_0 ++ []
theorem dksX1_tear_0 : cX1_tear.data.toList.drop 0 = dktX1_tear_0 := by decide +kernel
theorem dX1_tear_0 : decode cX1_tear 0 = .ok (.aload_n 0, 1) := dk_42 (dk_at dksX1_tear_0 0 rfl rfl)
theorem dX1_tear_1 : decode cX1_tear 1 = .ok (.iload_n 1, 1) := dk_27 (dk_at dksX1_tear_0 1 rfl rfl)
theorem dX1_tear_2 : decode cX1_tear 2 = .ok (.invokevirtual 157, 3) := dk_182 0 157 (dk_at dksX1_tear_0 2 rfl rfl)
theorem dX1_tear_5 : decode cX1_tear 5 = .ok (.istore_n 2, 1) := dk_61 (dk_at dksX1_tear_0 5 rfl rfl)
theorem dX1_tear_6 : decode cX1_tear 6 = .ok (.iload_n 2, 1) := dk_28 (dk_at dksX1_tear_0 6 rfl rfl)
theorem dX1_tear_7 : decode cX1_tear 7 = .ok (.ifCond .ge 5, 3) := dk_156 0 5 (dk_at dksX1_tear_0 7 rfl rfl)
theorem dX1_tear_10 : decode cX1_tear 10 = .ok (.iload_n 2, 1) := dk_28 (dk_at dksX1_tear_0 10 rfl rfl)
theorem dX1_tear_11 : decode cX1_tear 11 = .ok (.ireturn, 1) := dk_172 (dk_at dksX1_tear_0 11 rfl rfl)
theorem dX1_tear_12 : decode cX1_tear 12 = .ok (.aload_n 0, 1) := dk_42 (dk_at dksX1_tear_0 12 rfl rfl)
theorem dX1_tear_13 : decode cX1_tear 13 = .ok (.getfield 17, 3) := dk_180 0 17 (dk_at dksX1_tear_0 13 rfl rfl)
theorem dX1_tear_16 : decode cX1_tear 16 = .ok (.iload_n 1, 1) := dk_27 (dk_at dksX1_tear_0 16 rfl rfl)
theorem dX1_tear_17 : decode cX1_tear 17 = .ok (.bipush (-9), 2) := dk_16 247 (dk_at dksX1_tear_0 17 rfl rfl)
theorem dX1_tear_19 : decode cX1_tear 19 = .ok (.iastore, 1) := dk_79 (dk_at dksX1_tear_0 19 rfl rfl)
theorem dX1_tear_20 : decode cX1_tear 20 = .ok (.iconst 1, 1) := dk_4 (dk_at dksX1_tear_0 20 rfl rfl)
theorem dX1_tear_21 : decode cX1_tear 21 = .ok (.ireturn, 1) := dk_172 (dk_at dksX1_tear_0 21 rfl rfl)
abbrev cX1_copy : ByteArray := prog_9_method_11_code
def yX1_copy : MethodName := ⟨RX1, "copy", "(IIIII)I"⟩
def dkwX1_copy_7 : List UInt8 := [180, 0, 23, 21, 6, 46, 79, 132, 6, 1, 167, 255, 224, 4, 172]
abbrev dktX1_copy_7 : List UInt8 := dkwX1_copy_7 ++ []
def dkwX1_copy_6 : List UInt8 := [21, 6, 21, 5, 162, 0, 31, 42, 180, 0, 20, 16, 48, 29, 104, 21, 4, 96, 21, 6, 96, 42]
abbrev dktX1_copy_6 : List UInt8 := dkwX1_copy_6 ++ dktX1_copy_7
def dkwX1_copy_5 : List UInt8 := [180, 0, 20, 16, 48, 27, 104, 28, 96, 21, 6, 96, 46, 79, 132, 6, 1, 167, 255, 225, 3, 54, 6]
abbrev dktX1_copy_5 : List UInt8 := dkwX1_copy_5 ++ dktX1_copy_6
def dkwX1_copy_4 : List UInt8 := [42, 5, 182, 0, 153, 172, 3, 54, 6, 21, 6, 21, 5, 162, 0, 30, 42, 180, 0, 23, 21, 6, 42]
abbrev dktX1_copy_4 : List UInt8 := dkwX1_copy_4 ++ dktX1_copy_5
def dkwX1_copy_3 : List UInt8 := [46, 133, 148, 157, 0, 21, 21, 4, 133, 21, 5, 133, 97, 42, 180, 0, 17, 29, 46, 133, 148, 158, 0, 9]
abbrev dktX1_copy_3 : List UInt8 := dkwX1_copy_3 ++ dktX1_copy_4
def dkwX1_copy_2 : List UInt8 := [182, 0, 153, 172, 28, 155, 0, 43, 21, 4, 155, 0, 38, 28, 133, 21, 5, 133, 97, 42, 180, 0, 17, 27]
abbrev dktX1_copy_2 : List UInt8 := dkwX1_copy_2 ++ dktX1_copy_3
def dkwX1_copy_1 : List UInt8 := [182, 0, 153, 172, 42, 180, 0, 17, 27, 46, 155, 0, 12, 42, 180, 0, 17, 29, 46, 156, 0, 9, 42, 4]
abbrev dktX1_copy_1 : List UInt8 := dkwX1_copy_1 ++ dktX1_copy_2
def dkwX1_copy_0 : List UInt8 := [27, 184, 0, 149, 153, 0, 10, 29, 184, 0, 149, 154, 0, 5, 2, 172, 21, 5, 156, 0, 9, 42, 8]
abbrev dktX1_copy_0 : List UInt8 := dkwX1_copy_0 ++ dktX1_copy_1
theorem dksX1_copy_0 : cX1_copy.data.toList.drop 0 = dktX1_copy_0 := by decide +kernel
theorem dksX1_copy_1 : cX1_copy.data.toList.drop 23 = dktX1_copy_1 := dk_seg dksX1_copy_0 23 rfl rfl
theorem dksX1_copy_2 : cX1_copy.data.toList.drop 47 = dktX1_copy_2 := dk_seg dksX1_copy_1 24 rfl rfl
theorem dksX1_copy_3 : cX1_copy.data.toList.drop 71 = dktX1_copy_3 := dk_seg dksX1_copy_2 24 rfl rfl
theorem dksX1_copy_4 : cX1_copy.data.toList.drop 95 = dktX1_copy_4 := dk_seg dksX1_copy_3 24 rfl rfl
theorem dksX1_copy_5 : cX1_copy.data.toList.drop 118 = dktX1_copy_5 := dk_seg dksX1_copy_4 23 rfl rfl
theorem dksX1_copy_6 : cX1_copy.data.toList.drop 141 = dktX1_copy_6 := dk_seg dksX1_copy_5 23 rfl rfl
theorem dksX1_copy_7 : cX1_copy.data.toList.drop 163 = dktX1_copy_7 := dk_seg dksX1_copy_6 22 rfl rfl
theorem dX1_copy_0 : decode cX1_copy 0 = .ok (.iload_n 1, 1) := dk_27 (dk_at dksX1_copy_0 0 rfl rfl)
theorem dX1_copy_1 : decode cX1_copy 1 = .ok (.invokestatic 149, 3) := dk_184 0 149 (dk_at dksX1_copy_0 1 rfl rfl)
theorem dX1_copy_4 : decode cX1_copy 4 = .ok (.ifCond .eq 10, 3) := dk_153 0 10 (dk_at dksX1_copy_0 4 rfl rfl)
theorem dX1_copy_7 : decode cX1_copy 7 = .ok (.iload_n 3, 1) := dk_29 (dk_at dksX1_copy_0 7 rfl rfl)
theorem dX1_copy_8 : decode cX1_copy 8 = .ok (.invokestatic 149, 3) := dk_184 0 149 (dk_at dksX1_copy_0 8 rfl rfl)
theorem dX1_copy_11 : decode cX1_copy 11 = .ok (.ifCond .ne 5, 3) := dk_154 0 5 (dk_at dksX1_copy_0 11 rfl rfl)
theorem dX1_copy_14 : decode cX1_copy 14 = .ok (.iconst (-1), 1) := dk_2 (dk_at dksX1_copy_0 14 rfl rfl)
theorem dX1_copy_15 : decode cX1_copy 15 = .ok (.ireturn, 1) := dk_172 (dk_at dksX1_copy_0 15 rfl rfl)
theorem dX1_copy_16 : decode cX1_copy 16 = .ok (.iload 5, 2) := dk_21 5 (dk_at dksX1_copy_0 16 rfl rfl)
theorem dX1_copy_18 : decode cX1_copy 18 = .ok (.ifCond .ge 9, 3) := dk_156 0 9 (dk_at dksX1_copy_0 18 rfl rfl)
theorem dX1_copy_21 : decode cX1_copy 21 = .ok (.aload_n 0, 1) := dk_42 (dk_at dksX1_copy_0 21 rfl rfl)
theorem dX1_copy_22 : decode cX1_copy 22 = .ok (.iconst 5, 1) := dk_8 (dk_at dksX1_copy_0 22 rfl rfl)
theorem dX1_copy_23 : decode cX1_copy 23 = .ok (.invokevirtual 153, 3) := dk_182 0 153 (dk_at dksX1_copy_1 0 rfl rfl)
theorem dX1_copy_26 : decode cX1_copy 26 = .ok (.ireturn, 1) := dk_172 (dk_at dksX1_copy_1 3 rfl rfl)
theorem dX1_copy_27 : decode cX1_copy 27 = .ok (.aload_n 0, 1) := dk_42 (dk_at dksX1_copy_1 4 rfl rfl)
theorem dX1_copy_28 : decode cX1_copy 28 = .ok (.getfield 17, 3) := dk_180 0 17 (dk_at dksX1_copy_1 5 rfl rfl)
theorem dX1_copy_31 : decode cX1_copy 31 = .ok (.iload_n 1, 1) := dk_27 (dk_at dksX1_copy_1 8 rfl rfl)
theorem dX1_copy_32 : decode cX1_copy 32 = .ok (.iaload, 1) := dk_46 (dk_at dksX1_copy_1 9 rfl rfl)
theorem dX1_copy_33 : decode cX1_copy 33 = .ok (.ifCond .lt 12, 3) := dk_155 0 12 (dk_at dksX1_copy_1 10 rfl rfl)
theorem dX1_copy_36 : decode cX1_copy 36 = .ok (.aload_n 0, 1) := dk_42 (dk_at dksX1_copy_1 13 rfl rfl)
theorem dX1_copy_37 : decode cX1_copy 37 = .ok (.getfield 17, 3) := dk_180 0 17 (dk_at dksX1_copy_1 14 rfl rfl)
theorem dX1_copy_40 : decode cX1_copy 40 = .ok (.iload_n 3, 1) := dk_29 (dk_at dksX1_copy_1 17 rfl rfl)
theorem dX1_copy_41 : decode cX1_copy 41 = .ok (.iaload, 1) := dk_46 (dk_at dksX1_copy_1 18 rfl rfl)
theorem dX1_copy_42 : decode cX1_copy 42 = .ok (.ifCond .ge 9, 3) := dk_156 0 9 (dk_at dksX1_copy_1 19 rfl rfl)
theorem dX1_copy_45 : decode cX1_copy 45 = .ok (.aload_n 0, 1) := dk_42 (dk_at dksX1_copy_1 22 rfl rfl)
theorem dX1_copy_46 : decode cX1_copy 46 = .ok (.iconst 1, 1) := dk_4 (dk_at dksX1_copy_1 23 rfl rfl)
theorem dX1_copy_47 : decode cX1_copy 47 = .ok (.invokevirtual 153, 3) := dk_182 0 153 (dk_at dksX1_copy_2 0 rfl rfl)
theorem dX1_copy_50 : decode cX1_copy 50 = .ok (.ireturn, 1) := dk_172 (dk_at dksX1_copy_2 3 rfl rfl)
theorem dX1_copy_51 : decode cX1_copy 51 = .ok (.iload_n 2, 1) := dk_28 (dk_at dksX1_copy_2 4 rfl rfl)
theorem dX1_copy_52 : decode cX1_copy 52 = .ok (.ifCond .lt 43, 3) := dk_155 0 43 (dk_at dksX1_copy_2 5 rfl rfl)
theorem dX1_copy_55 : decode cX1_copy 55 = .ok (.iload 4, 2) := dk_21 4 (dk_at dksX1_copy_2 8 rfl rfl)
theorem dX1_copy_57 : decode cX1_copy 57 = .ok (.ifCond .lt 38, 3) := dk_155 0 38 (dk_at dksX1_copy_2 10 rfl rfl)
theorem dX1_copy_60 : decode cX1_copy 60 = .ok (.iload_n 2, 1) := dk_28 (dk_at dksX1_copy_2 13 rfl rfl)
theorem dX1_copy_61 : decode cX1_copy 61 = .ok (.i2l, 1) := dk_133 (dk_at dksX1_copy_2 14 rfl rfl)
theorem dX1_copy_62 : decode cX1_copy 62 = .ok (.iload 5, 2) := dk_21 5 (dk_at dksX1_copy_2 15 rfl rfl)
theorem dX1_copy_64 : decode cX1_copy 64 = .ok (.i2l, 1) := dk_133 (dk_at dksX1_copy_2 17 rfl rfl)
theorem dX1_copy_65 : decode cX1_copy 65 = .ok (.ladd, 1) := dk_97 (dk_at dksX1_copy_2 18 rfl rfl)
theorem dX1_copy_66 : decode cX1_copy 66 = .ok (.aload_n 0, 1) := dk_42 (dk_at dksX1_copy_2 19 rfl rfl)
theorem dX1_copy_67 : decode cX1_copy 67 = .ok (.getfield 17, 3) := dk_180 0 17 (dk_at dksX1_copy_2 20 rfl rfl)
theorem dX1_copy_70 : decode cX1_copy 70 = .ok (.iload_n 1, 1) := dk_27 (dk_at dksX1_copy_2 23 rfl rfl)
theorem dX1_copy_71 : decode cX1_copy 71 = .ok (.iaload, 1) := dk_46 (dk_at dksX1_copy_3 0 rfl rfl)
theorem dX1_copy_72 : decode cX1_copy 72 = .ok (.i2l, 1) := dk_133 (dk_at dksX1_copy_3 1 rfl rfl)
theorem dX1_copy_73 : decode cX1_copy 73 = .ok (.lcmp, 1) := dk_148 (dk_at dksX1_copy_3 2 rfl rfl)
theorem dX1_copy_74 : decode cX1_copy 74 = .ok (.ifCond .gt 21, 3) := dk_157 0 21 (dk_at dksX1_copy_3 3 rfl rfl)
theorem dX1_copy_77 : decode cX1_copy 77 = .ok (.iload 4, 2) := dk_21 4 (dk_at dksX1_copy_3 6 rfl rfl)
theorem dX1_copy_79 : decode cX1_copy 79 = .ok (.i2l, 1) := dk_133 (dk_at dksX1_copy_3 8 rfl rfl)
theorem dX1_copy_80 : decode cX1_copy 80 = .ok (.iload 5, 2) := dk_21 5 (dk_at dksX1_copy_3 9 rfl rfl)
theorem dX1_copy_82 : decode cX1_copy 82 = .ok (.i2l, 1) := dk_133 (dk_at dksX1_copy_3 11 rfl rfl)
theorem dX1_copy_83 : decode cX1_copy 83 = .ok (.ladd, 1) := dk_97 (dk_at dksX1_copy_3 12 rfl rfl)
theorem dX1_copy_84 : decode cX1_copy 84 = .ok (.aload_n 0, 1) := dk_42 (dk_at dksX1_copy_3 13 rfl rfl)
theorem dX1_copy_85 : decode cX1_copy 85 = .ok (.getfield 17, 3) := dk_180 0 17 (dk_at dksX1_copy_3 14 rfl rfl)
theorem dX1_copy_88 : decode cX1_copy 88 = .ok (.iload_n 3, 1) := dk_29 (dk_at dksX1_copy_3 17 rfl rfl)
theorem dX1_copy_89 : decode cX1_copy 89 = .ok (.iaload, 1) := dk_46 (dk_at dksX1_copy_3 18 rfl rfl)
theorem dX1_copy_90 : decode cX1_copy 90 = .ok (.i2l, 1) := dk_133 (dk_at dksX1_copy_3 19 rfl rfl)
theorem dX1_copy_91 : decode cX1_copy 91 = .ok (.lcmp, 1) := dk_148 (dk_at dksX1_copy_3 20 rfl rfl)
theorem dX1_copy_92 : decode cX1_copy 92 = .ok (.ifCond .le 9, 3) := dk_158 0 9 (dk_at dksX1_copy_3 21 rfl rfl)
theorem dX1_copy_95 : decode cX1_copy 95 = .ok (.aload_n 0, 1) := dk_42 (dk_at dksX1_copy_4 0 rfl rfl)
theorem dX1_copy_96 : decode cX1_copy 96 = .ok (.iconst 2, 1) := dk_5 (dk_at dksX1_copy_4 1 rfl rfl)
theorem dX1_copy_97 : decode cX1_copy 97 = .ok (.invokevirtual 153, 3) := dk_182 0 153 (dk_at dksX1_copy_4 2 rfl rfl)
theorem dX1_copy_100 : decode cX1_copy 100 = .ok (.ireturn, 1) := dk_172 (dk_at dksX1_copy_4 5 rfl rfl)
theorem dX1_copy_101 : decode cX1_copy 101 = .ok (.iconst 0, 1) := dk_3 (dk_at dksX1_copy_4 6 rfl rfl)
theorem dX1_copy_102 : decode cX1_copy 102 = .ok (.istore 6, 2) := dk_54 6 (dk_at dksX1_copy_4 7 rfl rfl)
theorem dX1_copy_104 : decode cX1_copy 104 = .ok (.iload 6, 2) := dk_21 6 (dk_at dksX1_copy_4 9 rfl rfl)
theorem dX1_copy_106 : decode cX1_copy 106 = .ok (.iload 5, 2) := dk_21 5 (dk_at dksX1_copy_4 11 rfl rfl)
theorem dX1_copy_108 : decode cX1_copy 108 = .ok (.if_icmp .ge 30, 3) := dk_162 0 30 (dk_at dksX1_copy_4 13 rfl rfl)
theorem dX1_copy_111 : decode cX1_copy 111 = .ok (.aload_n 0, 1) := dk_42 (dk_at dksX1_copy_4 16 rfl rfl)
theorem dX1_copy_112 : decode cX1_copy 112 = .ok (.getfield 23, 3) := dk_180 0 23 (dk_at dksX1_copy_4 17 rfl rfl)
theorem dX1_copy_115 : decode cX1_copy 115 = .ok (.iload 6, 2) := dk_21 6 (dk_at dksX1_copy_4 20 rfl rfl)
theorem dX1_copy_117 : decode cX1_copy 117 = .ok (.aload_n 0, 1) := dk_42 (dk_at dksX1_copy_4 22 rfl rfl)
theorem dX1_copy_118 : decode cX1_copy 118 = .ok (.getfield 20, 3) := dk_180 0 20 (dk_at dksX1_copy_5 0 rfl rfl)
theorem dX1_copy_121 : decode cX1_copy 121 = .ok (.bipush 48, 2) := dk_16 48 (dk_at dksX1_copy_5 3 rfl rfl)
theorem dX1_copy_123 : decode cX1_copy 123 = .ok (.iload_n 1, 1) := dk_27 (dk_at dksX1_copy_5 5 rfl rfl)
theorem dX1_copy_124 : decode cX1_copy 124 = .ok (.imul, 1) := dk_104 (dk_at dksX1_copy_5 6 rfl rfl)
theorem dX1_copy_125 : decode cX1_copy 125 = .ok (.iload_n 2, 1) := dk_28 (dk_at dksX1_copy_5 7 rfl rfl)
theorem dX1_copy_126 : decode cX1_copy 126 = .ok (.iadd, 1) := dk_96 (dk_at dksX1_copy_5 8 rfl rfl)
theorem dX1_copy_127 : decode cX1_copy 127 = .ok (.iload 6, 2) := dk_21 6 (dk_at dksX1_copy_5 9 rfl rfl)
theorem dX1_copy_129 : decode cX1_copy 129 = .ok (.iadd, 1) := dk_96 (dk_at dksX1_copy_5 11 rfl rfl)
theorem dX1_copy_130 : decode cX1_copy 130 = .ok (.iaload, 1) := dk_46 (dk_at dksX1_copy_5 12 rfl rfl)
theorem dX1_copy_131 : decode cX1_copy 131 = .ok (.iastore, 1) := dk_79 (dk_at dksX1_copy_5 13 rfl rfl)
theorem dX1_copy_132 : decode cX1_copy 132 = .ok (.iinc 6 1, 3) := dk_132 6 1 (dk_at dksX1_copy_5 14 rfl rfl)
theorem dX1_copy_135 : decode cX1_copy 135 = .ok (.goto (-31), 3) := dk_167 255 225 (dk_at dksX1_copy_5 17 rfl rfl)
theorem dX1_copy_138 : decode cX1_copy 138 = .ok (.iconst 0, 1) := dk_3 (dk_at dksX1_copy_5 20 rfl rfl)
theorem dX1_copy_139 : decode cX1_copy 139 = .ok (.istore 6, 2) := dk_54 6 (dk_at dksX1_copy_5 21 rfl rfl)
theorem dX1_copy_141 : decode cX1_copy 141 = .ok (.iload 6, 2) := dk_21 6 (dk_at dksX1_copy_6 0 rfl rfl)
theorem dX1_copy_143 : decode cX1_copy 143 = .ok (.iload 5, 2) := dk_21 5 (dk_at dksX1_copy_6 2 rfl rfl)
theorem dX1_copy_145 : decode cX1_copy 145 = .ok (.if_icmp .ge 31, 3) := dk_162 0 31 (dk_at dksX1_copy_6 4 rfl rfl)
theorem dX1_copy_148 : decode cX1_copy 148 = .ok (.aload_n 0, 1) := dk_42 (dk_at dksX1_copy_6 7 rfl rfl)
theorem dX1_copy_149 : decode cX1_copy 149 = .ok (.getfield 20, 3) := dk_180 0 20 (dk_at dksX1_copy_6 8 rfl rfl)
theorem dX1_copy_152 : decode cX1_copy 152 = .ok (.bipush 48, 2) := dk_16 48 (dk_at dksX1_copy_6 11 rfl rfl)
theorem dX1_copy_154 : decode cX1_copy 154 = .ok (.iload_n 3, 1) := dk_29 (dk_at dksX1_copy_6 13 rfl rfl)
theorem dX1_copy_155 : decode cX1_copy 155 = .ok (.imul, 1) := dk_104 (dk_at dksX1_copy_6 14 rfl rfl)
theorem dX1_copy_156 : decode cX1_copy 156 = .ok (.iload 4, 2) := dk_21 4 (dk_at dksX1_copy_6 15 rfl rfl)
theorem dX1_copy_158 : decode cX1_copy 158 = .ok (.iadd, 1) := dk_96 (dk_at dksX1_copy_6 17 rfl rfl)
theorem dX1_copy_159 : decode cX1_copy 159 = .ok (.iload 6, 2) := dk_21 6 (dk_at dksX1_copy_6 18 rfl rfl)
theorem dX1_copy_161 : decode cX1_copy 161 = .ok (.iadd, 1) := dk_96 (dk_at dksX1_copy_6 20 rfl rfl)
theorem dX1_copy_162 : decode cX1_copy 162 = .ok (.aload_n 0, 1) := dk_42 (dk_at dksX1_copy_6 21 rfl rfl)
theorem dX1_copy_163 : decode cX1_copy 163 = .ok (.getfield 23, 3) := dk_180 0 23 (dk_at dksX1_copy_7 0 rfl rfl)
theorem dX1_copy_166 : decode cX1_copy 166 = .ok (.iload 6, 2) := dk_21 6 (dk_at dksX1_copy_7 3 rfl rfl)
theorem dX1_copy_168 : decode cX1_copy 168 = .ok (.iaload, 1) := dk_46 (dk_at dksX1_copy_7 5 rfl rfl)
theorem dX1_copy_169 : decode cX1_copy 169 = .ok (.iastore, 1) := dk_79 (dk_at dksX1_copy_7 6 rfl rfl)
theorem dX1_copy_170 : decode cX1_copy 170 = .ok (.iinc 6 1, 3) := dk_132 6 1 (dk_at dksX1_copy_7 7 rfl rfl)
theorem dX1_copy_173 : decode cX1_copy 173 = .ok (.goto (-32), 3) := dk_167 255 224 (dk_at dksX1_copy_7 10 rfl rfl)
theorem dX1_copy_176 : decode cX1_copy 176 = .ok (.iconst 1, 1) := dk_4 (dk_at dksX1_copy_7 13 rfl rfl)
theorem dX1_copy_177 : decode cX1_copy 177 = .ok (.ireturn, 1) := dk_172 (dk_at dksX1_copy_7 14 rfl rfl)
abbrev cX1_train : ByteArray := prog_9_method_13_code
def yX1_train : MethodName := ⟨RX1, "train", "()I"⟩
def dkwX1_train_0 : List UInt8 := [42, 180, 0, 160, 16, 16, 160, 0, 8, 16, 254, 167, 0, 8, 42, 3, 182, 0, 163, 172]
abbrev dktX1_train_0 : List UInt8 := dkwX1_train_0 ++ []
theorem dksX1_train_0 : cX1_train.data.toList.drop 0 = dktX1_train_0 := by decide +kernel
theorem dX1_train_0 : decode cX1_train 0 = .ok (.aload_n 0, 1) := dk_42 (dk_at dksX1_train_0 0 rfl rfl)
theorem dX1_train_1 : decode cX1_train 1 = .ok (.getfield 160, 3) := dk_180 0 160 (dk_at dksX1_train_0 1 rfl rfl)
theorem dX1_train_4 : decode cX1_train 4 = .ok (.bipush 16, 2) := dk_16 16 (dk_at dksX1_train_0 4 rfl rfl)
theorem dX1_train_6 : decode cX1_train 6 = .ok (.if_icmp .ne 8, 3) := dk_160 0 8 (dk_at dksX1_train_0 6 rfl rfl)
theorem dX1_train_9 : decode cX1_train 9 = .ok (.bipush (-2), 2) := dk_16 254 (dk_at dksX1_train_0 9 rfl rfl)
theorem dX1_train_11 : decode cX1_train 11 = .ok (.goto 8, 3) := dk_167 0 8 (dk_at dksX1_train_0 11 rfl rfl)
theorem dX1_train_14 : decode cX1_train 14 = .ok (.aload_n 0, 1) := dk_42 (dk_at dksX1_train_0 14 rfl rfl)
theorem dX1_train_15 : decode cX1_train 15 = .ok (.iconst 0, 1) := dk_3 (dk_at dksX1_train_0 15 rfl rfl)
theorem dX1_train_16 : decode cX1_train 16 = .ok (.invokevirtual 163, 3) := dk_182 0 163 (dk_at dksX1_train_0 16 rfl rfl)
theorem dX1_train_19 : decode cX1_train 19 = .ok (.ireturn, 1) := dk_172 (dk_at dksX1_train_0 19 rfl rfl)
abbrev cX1_makes : ByteArray := prog_9_method_12_code
def yX1_makes : MethodName := ⟨RX1, "makes", "(I)I"⟩
def dkwX1_makes_3 : List UInt8 := [4, 100, 172]
abbrev dktX1_makes_3 : List UInt8 := dkwX1_makes_3 ++ []
def dkwX1_makes_2 : List UInt8 := [180, 0, 59, 42, 180, 0, 160, 16, 247, 79, 42, 89, 180, 0, 160, 4, 96, 181, 0, 160, 42, 180, 0, 160]
abbrev dktX1_makes_2 : List UInt8 := dkwX1_makes_2 ++ dktX1_makes_3
def dkwX1_makes_1 : List UInt8 := [180, 0, 50, 42, 180, 0, 160, 17, 3, 232, 79, 42, 180, 0, 53, 42, 180, 0, 160, 17, 3, 232, 79, 42]
abbrev dktX1_makes_1 : List UInt8 := dkwX1_makes_1 ++ dktX1_makes_2
def dkwX1_makes_0 : List UInt8 := [42, 180, 0, 26, 42, 180, 0, 160, 27, 79, 42, 180, 0, 47, 42, 180, 0, 160, 16, 30, 79, 42]
abbrev dktX1_makes_0 : List UInt8 := dkwX1_makes_0 ++ dktX1_makes_1
theorem dksX1_makes_0 : cX1_makes.data.toList.drop 0 = dktX1_makes_0 := by decide +kernel
theorem dksX1_makes_1 : cX1_makes.data.toList.drop 22 = dktX1_makes_1 := dk_seg dksX1_makes_0 22 rfl rfl
theorem dksX1_makes_2 : cX1_makes.data.toList.drop 46 = dktX1_makes_2 := dk_seg dksX1_makes_1 24 rfl rfl
theorem dksX1_makes_3 : cX1_makes.data.toList.drop 70 = dktX1_makes_3 := dk_seg dksX1_makes_2 24 rfl rfl
theorem dX1_makes_0 : decode cX1_makes 0 = .ok (.aload_n 0, 1) := dk_42 (dk_at dksX1_makes_0 0 rfl rfl)
theorem dX1_makes_1 : decode cX1_makes 1 = .ok (.getfield 26, 3) := dk_180 0 26 (dk_at dksX1_makes_0 1 rfl rfl)
theorem dX1_makes_4 : decode cX1_makes 4 = .ok (.aload_n 0, 1) := dk_42 (dk_at dksX1_makes_0 4 rfl rfl)
theorem dX1_makes_5 : decode cX1_makes 5 = .ok (.getfield 160, 3) := dk_180 0 160 (dk_at dksX1_makes_0 5 rfl rfl)
theorem dX1_makes_8 : decode cX1_makes 8 = .ok (.iload_n 1, 1) := dk_27 (dk_at dksX1_makes_0 8 rfl rfl)
theorem dX1_makes_9 : decode cX1_makes 9 = .ok (.iastore, 1) := dk_79 (dk_at dksX1_makes_0 9 rfl rfl)
theorem dX1_makes_10 : decode cX1_makes 10 = .ok (.aload_n 0, 1) := dk_42 (dk_at dksX1_makes_0 10 rfl rfl)
theorem dX1_makes_11 : decode cX1_makes 11 = .ok (.getfield 47, 3) := dk_180 0 47 (dk_at dksX1_makes_0 11 rfl rfl)
theorem dX1_makes_14 : decode cX1_makes 14 = .ok (.aload_n 0, 1) := dk_42 (dk_at dksX1_makes_0 14 rfl rfl)
theorem dX1_makes_15 : decode cX1_makes 15 = .ok (.getfield 160, 3) := dk_180 0 160 (dk_at dksX1_makes_0 15 rfl rfl)
theorem dX1_makes_18 : decode cX1_makes 18 = .ok (.bipush 30, 2) := dk_16 30 (dk_at dksX1_makes_0 18 rfl rfl)
theorem dX1_makes_20 : decode cX1_makes 20 = .ok (.iastore, 1) := dk_79 (dk_at dksX1_makes_0 20 rfl rfl)
theorem dX1_makes_21 : decode cX1_makes 21 = .ok (.aload_n 0, 1) := dk_42 (dk_at dksX1_makes_0 21 rfl rfl)
theorem dX1_makes_22 : decode cX1_makes 22 = .ok (.getfield 50, 3) := dk_180 0 50 (dk_at dksX1_makes_1 0 rfl rfl)
theorem dX1_makes_25 : decode cX1_makes 25 = .ok (.aload_n 0, 1) := dk_42 (dk_at dksX1_makes_1 3 rfl rfl)
theorem dX1_makes_26 : decode cX1_makes 26 = .ok (.getfield 160, 3) := dk_180 0 160 (dk_at dksX1_makes_1 4 rfl rfl)
theorem dX1_makes_29 : decode cX1_makes 29 = .ok (.sipush 1000, 3) := dk_17 3 232 (dk_at dksX1_makes_1 7 rfl rfl)
theorem dX1_makes_32 : decode cX1_makes 32 = .ok (.iastore, 1) := dk_79 (dk_at dksX1_makes_1 10 rfl rfl)
theorem dX1_makes_33 : decode cX1_makes 33 = .ok (.aload_n 0, 1) := dk_42 (dk_at dksX1_makes_1 11 rfl rfl)
theorem dX1_makes_34 : decode cX1_makes 34 = .ok (.getfield 53, 3) := dk_180 0 53 (dk_at dksX1_makes_1 12 rfl rfl)
theorem dX1_makes_37 : decode cX1_makes 37 = .ok (.aload_n 0, 1) := dk_42 (dk_at dksX1_makes_1 15 rfl rfl)
theorem dX1_makes_38 : decode cX1_makes 38 = .ok (.getfield 160, 3) := dk_180 0 160 (dk_at dksX1_makes_1 16 rfl rfl)
theorem dX1_makes_41 : decode cX1_makes 41 = .ok (.sipush 1000, 3) := dk_17 3 232 (dk_at dksX1_makes_1 19 rfl rfl)
theorem dX1_makes_44 : decode cX1_makes 44 = .ok (.iastore, 1) := dk_79 (dk_at dksX1_makes_1 22 rfl rfl)
theorem dX1_makes_45 : decode cX1_makes 45 = .ok (.aload_n 0, 1) := dk_42 (dk_at dksX1_makes_1 23 rfl rfl)
theorem dX1_makes_46 : decode cX1_makes 46 = .ok (.getfield 59, 3) := dk_180 0 59 (dk_at dksX1_makes_2 0 rfl rfl)
theorem dX1_makes_49 : decode cX1_makes 49 = .ok (.aload_n 0, 1) := dk_42 (dk_at dksX1_makes_2 3 rfl rfl)
theorem dX1_makes_50 : decode cX1_makes 50 = .ok (.getfield 160, 3) := dk_180 0 160 (dk_at dksX1_makes_2 4 rfl rfl)
theorem dX1_makes_53 : decode cX1_makes 53 = .ok (.bipush (-9), 2) := dk_16 247 (dk_at dksX1_makes_2 7 rfl rfl)
theorem dX1_makes_55 : decode cX1_makes 55 = .ok (.iastore, 1) := dk_79 (dk_at dksX1_makes_2 9 rfl rfl)
theorem dX1_makes_56 : decode cX1_makes 56 = .ok (.aload_n 0, 1) := dk_42 (dk_at dksX1_makes_2 10 rfl rfl)
theorem dX1_makes_57 : decode cX1_makes 57 = .ok (.dup, 1) := dk_89 (dk_at dksX1_makes_2 11 rfl rfl)
theorem dX1_makes_58 : decode cX1_makes 58 = .ok (.getfield 160, 3) := dk_180 0 160 (dk_at dksX1_makes_2 12 rfl rfl)
theorem dX1_makes_61 : decode cX1_makes 61 = .ok (.iconst 1, 1) := dk_4 (dk_at dksX1_makes_2 15 rfl rfl)
theorem dX1_makes_62 : decode cX1_makes 62 = .ok (.iadd, 1) := dk_96 (dk_at dksX1_makes_2 16 rfl rfl)
theorem dX1_makes_63 : decode cX1_makes 63 = .ok (.putfield 160, 3) := dk_181 0 160 (dk_at dksX1_makes_2 17 rfl rfl)
theorem dX1_makes_66 : decode cX1_makes 66 = .ok (.aload_n 0, 1) := dk_42 (dk_at dksX1_makes_2 20 rfl rfl)
theorem dX1_makes_67 : decode cX1_makes 67 = .ok (.getfield 160, 3) := dk_180 0 160 (dk_at dksX1_makes_2 21 rfl rfl)
theorem dX1_makes_70 : decode cX1_makes 70 = .ok (.iconst 1, 1) := dk_4 (dk_at dksX1_makes_3 0 rfl rfl)
theorem dX1_makes_71 : decode cX1_makes 71 = .ok (.isub, 1) := dk_100 (dk_at dksX1_makes_3 1 rfl rfl)
theorem dX1_makes_72 : decode cX1_makes 72 = .ok (.ireturn, 1) := dk_172 (dk_at dksX1_makes_3 2 rfl rfl)
abbrev cX1_plate : ByteArray := prog_9_method_17_code
def yX1_plate : MethodName := ⟨RX1, "plate", "(I)I"⟩
def dkwX1_plate_0 : List UInt8 := [42, 27, 4, 182, 0, 173, 172]
abbrev dktX1_plate_0 : List UInt8 := dkwX1_plate_0 ++ []
theorem dksX1_plate_0 : cX1_plate.data.toList.drop 0 = dktX1_plate_0 := by decide +kernel
theorem dX1_plate_0 : decode cX1_plate 0 = .ok (.aload_n 0, 1) := dk_42 (dk_at dksX1_plate_0 0 rfl rfl)
theorem dX1_plate_1 : decode cX1_plate 1 = .ok (.iload_n 1, 1) := dk_27 (dk_at dksX1_plate_0 1 rfl rfl)
theorem dX1_plate_2 : decode cX1_plate 2 = .ok (.iconst 1, 1) := dk_4 (dk_at dksX1_plate_0 2 rfl rfl)
theorem dX1_plate_3 : decode cX1_plate 3 = .ok (.invokevirtual 173, 3) := dk_182 0 173 (dk_at dksX1_plate_0 3 rfl rfl)
theorem dX1_plate_6 : decode cX1_plate 6 = .ok (.ireturn, 1) := dk_172 (dk_at dksX1_plate_0 6 rfl rfl)
abbrev cX1_plateOf : ByteArray := prog_9_method_16_code
def yX1_plateOf : MethodName := ⟨RX1, "plateOf", "(II)I"⟩
def dkwX1_plateOf_2 : List UInt8 := [42, 27, 28, 182, 0, 169, 167, 0, 8, 42, 8, 182, 0, 153, 172]
abbrev dktX1_plateOf_2 : List UInt8 := dkwX1_plateOf_2 ++ []
def dkwX1_plateOf_1 : List UInt8 := [180, 0, 17, 27, 46, 156, 0, 11, 42, 4, 182, 0, 153, 167, 0, 25, 42, 27, 182, 0, 166, 153, 0, 12]
abbrev dktX1_plateOf_1 : List UInt8 := dkwX1_plateOf_1 ++ dktX1_plateOf_2
def dkwX1_plateOf_0 : List UInt8 := [27, 184, 0, 149, 154, 0, 5, 2, 172, 42, 180, 0, 160, 16, 16, 160, 0, 6, 16, 254, 172, 42]
abbrev dktX1_plateOf_0 : List UInt8 := dkwX1_plateOf_0 ++ dktX1_plateOf_1
theorem dksX1_plateOf_0 : cX1_plateOf.data.toList.drop 0 = dktX1_plateOf_0 := by decide +kernel
theorem dksX1_plateOf_1 : cX1_plateOf.data.toList.drop 22 = dktX1_plateOf_1 := dk_seg dksX1_plateOf_0 22 rfl rfl
theorem dksX1_plateOf_2 : cX1_plateOf.data.toList.drop 46 = dktX1_plateOf_2 := dk_seg dksX1_plateOf_1 24 rfl rfl
theorem dX1_plateOf_0 : decode cX1_plateOf 0 = .ok (.iload_n 1, 1) := dk_27 (dk_at dksX1_plateOf_0 0 rfl rfl)
theorem dX1_plateOf_1 : decode cX1_plateOf 1 = .ok (.invokestatic 149, 3) := dk_184 0 149 (dk_at dksX1_plateOf_0 1 rfl rfl)
theorem dX1_plateOf_4 : decode cX1_plateOf 4 = .ok (.ifCond .ne 5, 3) := dk_154 0 5 (dk_at dksX1_plateOf_0 4 rfl rfl)
theorem dX1_plateOf_7 : decode cX1_plateOf 7 = .ok (.iconst (-1), 1) := dk_2 (dk_at dksX1_plateOf_0 7 rfl rfl)
theorem dX1_plateOf_8 : decode cX1_plateOf 8 = .ok (.ireturn, 1) := dk_172 (dk_at dksX1_plateOf_0 8 rfl rfl)
theorem dX1_plateOf_9 : decode cX1_plateOf 9 = .ok (.aload_n 0, 1) := dk_42 (dk_at dksX1_plateOf_0 9 rfl rfl)
theorem dX1_plateOf_10 : decode cX1_plateOf 10 = .ok (.getfield 160, 3) := dk_180 0 160 (dk_at dksX1_plateOf_0 10 rfl rfl)
theorem dX1_plateOf_13 : decode cX1_plateOf 13 = .ok (.bipush 16, 2) := dk_16 16 (dk_at dksX1_plateOf_0 13 rfl rfl)
theorem dX1_plateOf_15 : decode cX1_plateOf 15 = .ok (.if_icmp .ne 6, 3) := dk_160 0 6 (dk_at dksX1_plateOf_0 15 rfl rfl)
theorem dX1_plateOf_18 : decode cX1_plateOf 18 = .ok (.bipush (-2), 2) := dk_16 254 (dk_at dksX1_plateOf_0 18 rfl rfl)
theorem dX1_plateOf_20 : decode cX1_plateOf 20 = .ok (.ireturn, 1) := dk_172 (dk_at dksX1_plateOf_0 20 rfl rfl)
theorem dX1_plateOf_21 : decode cX1_plateOf 21 = .ok (.aload_n 0, 1) := dk_42 (dk_at dksX1_plateOf_0 21 rfl rfl)
theorem dX1_plateOf_22 : decode cX1_plateOf 22 = .ok (.getfield 17, 3) := dk_180 0 17 (dk_at dksX1_plateOf_1 0 rfl rfl)
theorem dX1_plateOf_25 : decode cX1_plateOf 25 = .ok (.iload_n 1, 1) := dk_27 (dk_at dksX1_plateOf_1 3 rfl rfl)
theorem dX1_plateOf_26 : decode cX1_plateOf 26 = .ok (.iaload, 1) := dk_46 (dk_at dksX1_plateOf_1 4 rfl rfl)
theorem dX1_plateOf_27 : decode cX1_plateOf 27 = .ok (.ifCond .ge 11, 3) := dk_156 0 11 (dk_at dksX1_plateOf_1 5 rfl rfl)
theorem dX1_plateOf_30 : decode cX1_plateOf 30 = .ok (.aload_n 0, 1) := dk_42 (dk_at dksX1_plateOf_1 8 rfl rfl)
theorem dX1_plateOf_31 : decode cX1_plateOf 31 = .ok (.iconst 1, 1) := dk_4 (dk_at dksX1_plateOf_1 9 rfl rfl)
theorem dX1_plateOf_32 : decode cX1_plateOf 32 = .ok (.invokevirtual 153, 3) := dk_182 0 153 (dk_at dksX1_plateOf_1 10 rfl rfl)
theorem dX1_plateOf_35 : decode cX1_plateOf 35 = .ok (.goto 25, 3) := dk_167 0 25 (dk_at dksX1_plateOf_1 13 rfl rfl)
theorem dX1_plateOf_38 : decode cX1_plateOf 38 = .ok (.aload_n 0, 1) := dk_42 (dk_at dksX1_plateOf_1 16 rfl rfl)
theorem dX1_plateOf_39 : decode cX1_plateOf 39 = .ok (.iload_n 1, 1) := dk_27 (dk_at dksX1_plateOf_1 17 rfl rfl)
theorem dX1_plateOf_40 : decode cX1_plateOf 40 = .ok (.invokevirtual 166, 3) := dk_182 0 166 (dk_at dksX1_plateOf_1 18 rfl rfl)
theorem dX1_plateOf_43 : decode cX1_plateOf 43 = .ok (.ifCond .eq 12, 3) := dk_153 0 12 (dk_at dksX1_plateOf_1 21 rfl rfl)
theorem dX1_plateOf_46 : decode cX1_plateOf 46 = .ok (.aload_n 0, 1) := dk_42 (dk_at dksX1_plateOf_2 0 rfl rfl)
theorem dX1_plateOf_47 : decode cX1_plateOf 47 = .ok (.iload_n 1, 1) := dk_27 (dk_at dksX1_plateOf_2 1 rfl rfl)
theorem dX1_plateOf_48 : decode cX1_plateOf 48 = .ok (.iload_n 2, 1) := dk_28 (dk_at dksX1_plateOf_2 2 rfl rfl)
theorem dX1_plateOf_49 : decode cX1_plateOf 49 = .ok (.invokevirtual 169, 3) := dk_182 0 169 (dk_at dksX1_plateOf_2 3 rfl rfl)
theorem dX1_plateOf_52 : decode cX1_plateOf 52 = .ok (.goto 8, 3) := dk_167 0 8 (dk_at dksX1_plateOf_2 6 rfl rfl)
theorem dX1_plateOf_55 : decode cX1_plateOf 55 = .ok (.aload_n 0, 1) := dk_42 (dk_at dksX1_plateOf_2 9 rfl rfl)
theorem dX1_plateOf_56 : decode cX1_plateOf 56 = .ok (.iconst 5, 1) := dk_8 (dk_at dksX1_plateOf_2 10 rfl rfl)
theorem dX1_plateOf_57 : decode cX1_plateOf 57 = .ok (.invokevirtual 153, 3) := dk_182 0 153 (dk_at dksX1_plateOf_2 11 rfl rfl)
theorem dX1_plateOf_60 : decode cX1_plateOf 60 = .ok (.ireturn, 1) := dk_172 (dk_at dksX1_plateOf_2 14 rfl rfl)
abbrev cX1_areNotches : ByteArray := prog_9_method_14_code
def yX1_areNotches : MethodName := ⟨RX1, "areNotches", "(I)Z"⟩
def dkwX1_areNotches_2 : List UInt8 := [153, 0, 7, 4, 167, 0, 4, 3, 61, 132, 3, 1, 167, 255, 213, 28, 172]
abbrev dktX1_areNotches_2 : List UInt8 := dkwX1_areNotches_2 ++ []
def dkwX1_areNotches_1 : List UInt8 := [162, 0, 39, 28, 153, 0, 27, 42, 180, 0, 20, 16, 48, 27, 104, 29, 96, 46, 4, 16, 24, 184, 0, 145]
abbrev dktX1_areNotches_1 : List UInt8 := dkwX1_areNotches_1 ++ dktX1_areNotches_2
def dkwX1_areNotches_0 : List UInt8 := [42, 180, 0, 17, 27, 46, 4, 16, 24, 184, 0, 145, 61, 3, 62, 29, 42, 180, 0, 17, 27, 46]
abbrev dktX1_areNotches_0 : List UInt8 := dkwX1_areNotches_0 ++ dktX1_areNotches_1
theorem dksX1_areNotches_0 : cX1_areNotches.data.toList.drop 0 = dktX1_areNotches_0 := by decide +kernel
theorem dksX1_areNotches_1 : cX1_areNotches.data.toList.drop 22 = dktX1_areNotches_1 := dk_seg dksX1_areNotches_0 22 rfl rfl
theorem dksX1_areNotches_2 : cX1_areNotches.data.toList.drop 46 = dktX1_areNotches_2 := dk_seg dksX1_areNotches_1 24 rfl rfl
theorem dX1_areNotches_0 : decode cX1_areNotches 0 = .ok (.aload_n 0, 1) := dk_42 (dk_at dksX1_areNotches_0 0 rfl rfl)
theorem dX1_areNotches_1 : decode cX1_areNotches 1 = .ok (.getfield 17, 3) := dk_180 0 17 (dk_at dksX1_areNotches_0 1 rfl rfl)
theorem dX1_areNotches_4 : decode cX1_areNotches 4 = .ok (.iload_n 1, 1) := dk_27 (dk_at dksX1_areNotches_0 4 rfl rfl)
theorem dX1_areNotches_5 : decode cX1_areNotches 5 = .ok (.iaload, 1) := dk_46 (dk_at dksX1_areNotches_0 5 rfl rfl)
theorem dX1_areNotches_6 : decode cX1_areNotches 6 = .ok (.iconst 1, 1) := dk_4 (dk_at dksX1_areNotches_0 6 rfl rfl)
theorem dX1_areNotches_7 : decode cX1_areNotches 7 = .ok (.bipush 24, 2) := dk_16 24 (dk_at dksX1_areNotches_0 7 rfl rfl)
theorem dX1_areNotches_9 : decode cX1_areNotches 9 = .ok (.invokestatic 145, 3) := dk_184 0 145 (dk_at dksX1_areNotches_0 9 rfl rfl)
theorem dX1_areNotches_12 : decode cX1_areNotches 12 = .ok (.istore_n 2, 1) := dk_61 (dk_at dksX1_areNotches_0 12 rfl rfl)
theorem dX1_areNotches_13 : decode cX1_areNotches 13 = .ok (.iconst 0, 1) := dk_3 (dk_at dksX1_areNotches_0 13 rfl rfl)
theorem dX1_areNotches_14 : decode cX1_areNotches 14 = .ok (.istore_n 3, 1) := dk_62 (dk_at dksX1_areNotches_0 14 rfl rfl)
theorem dX1_areNotches_15 : decode cX1_areNotches 15 = .ok (.iload_n 3, 1) := dk_29 (dk_at dksX1_areNotches_0 15 rfl rfl)
theorem dX1_areNotches_16 : decode cX1_areNotches 16 = .ok (.aload_n 0, 1) := dk_42 (dk_at dksX1_areNotches_0 16 rfl rfl)
theorem dX1_areNotches_17 : decode cX1_areNotches 17 = .ok (.getfield 17, 3) := dk_180 0 17 (dk_at dksX1_areNotches_0 17 rfl rfl)
theorem dX1_areNotches_20 : decode cX1_areNotches 20 = .ok (.iload_n 1, 1) := dk_27 (dk_at dksX1_areNotches_0 20 rfl rfl)
theorem dX1_areNotches_21 : decode cX1_areNotches 21 = .ok (.iaload, 1) := dk_46 (dk_at dksX1_areNotches_0 21 rfl rfl)
theorem dX1_areNotches_22 : decode cX1_areNotches 22 = .ok (.if_icmp .ge 39, 3) := dk_162 0 39 (dk_at dksX1_areNotches_1 0 rfl rfl)
theorem dX1_areNotches_25 : decode cX1_areNotches 25 = .ok (.iload_n 2, 1) := dk_28 (dk_at dksX1_areNotches_1 3 rfl rfl)
theorem dX1_areNotches_26 : decode cX1_areNotches 26 = .ok (.ifCond .eq 27, 3) := dk_153 0 27 (dk_at dksX1_areNotches_1 4 rfl rfl)
theorem dX1_areNotches_29 : decode cX1_areNotches 29 = .ok (.aload_n 0, 1) := dk_42 (dk_at dksX1_areNotches_1 7 rfl rfl)
theorem dX1_areNotches_30 : decode cX1_areNotches 30 = .ok (.getfield 20, 3) := dk_180 0 20 (dk_at dksX1_areNotches_1 8 rfl rfl)
theorem dX1_areNotches_33 : decode cX1_areNotches 33 = .ok (.bipush 48, 2) := dk_16 48 (dk_at dksX1_areNotches_1 11 rfl rfl)
theorem dX1_areNotches_35 : decode cX1_areNotches 35 = .ok (.iload_n 1, 1) := dk_27 (dk_at dksX1_areNotches_1 13 rfl rfl)
theorem dX1_areNotches_36 : decode cX1_areNotches 36 = .ok (.imul, 1) := dk_104 (dk_at dksX1_areNotches_1 14 rfl rfl)
theorem dX1_areNotches_37 : decode cX1_areNotches 37 = .ok (.iload_n 3, 1) := dk_29 (dk_at dksX1_areNotches_1 15 rfl rfl)
theorem dX1_areNotches_38 : decode cX1_areNotches 38 = .ok (.iadd, 1) := dk_96 (dk_at dksX1_areNotches_1 16 rfl rfl)
theorem dX1_areNotches_39 : decode cX1_areNotches 39 = .ok (.iaload, 1) := dk_46 (dk_at dksX1_areNotches_1 17 rfl rfl)
theorem dX1_areNotches_40 : decode cX1_areNotches 40 = .ok (.iconst 1, 1) := dk_4 (dk_at dksX1_areNotches_1 18 rfl rfl)
theorem dX1_areNotches_41 : decode cX1_areNotches 41 = .ok (.bipush 24, 2) := dk_16 24 (dk_at dksX1_areNotches_1 19 rfl rfl)
theorem dX1_areNotches_43 : decode cX1_areNotches 43 = .ok (.invokestatic 145, 3) := dk_184 0 145 (dk_at dksX1_areNotches_1 21 rfl rfl)
theorem dX1_areNotches_46 : decode cX1_areNotches 46 = .ok (.ifCond .eq 7, 3) := dk_153 0 7 (dk_at dksX1_areNotches_2 0 rfl rfl)
theorem dX1_areNotches_49 : decode cX1_areNotches 49 = .ok (.iconst 1, 1) := dk_4 (dk_at dksX1_areNotches_2 3 rfl rfl)
theorem dX1_areNotches_50 : decode cX1_areNotches 50 = .ok (.goto 4, 3) := dk_167 0 4 (dk_at dksX1_areNotches_2 4 rfl rfl)
theorem dX1_areNotches_53 : decode cX1_areNotches 53 = .ok (.iconst 0, 1) := dk_3 (dk_at dksX1_areNotches_2 7 rfl rfl)
theorem dX1_areNotches_54 : decode cX1_areNotches 54 = .ok (.istore_n 2, 1) := dk_61 (dk_at dksX1_areNotches_2 8 rfl rfl)
theorem dX1_areNotches_55 : decode cX1_areNotches 55 = .ok (.iinc 3 1, 3) := dk_132 3 1 (dk_at dksX1_areNotches_2 9 rfl rfl)
theorem dX1_areNotches_58 : decode cX1_areNotches 58 = .ok (.goto (-43), 3) := dk_167 255 213 (dk_at dksX1_areNotches_2 12 rfl rfl)
theorem dX1_areNotches_61 : decode cX1_areNotches 61 = .ok (.iload_n 2, 1) := dk_28 (dk_at dksX1_areNotches_2 15 rfl rfl)
theorem dX1_areNotches_62 : decode cX1_areNotches 62 = .ok (.ireturn, 1) := dk_172 (dk_at dksX1_areNotches_2 16 rfl rfl)
abbrev cX1_cutOf : ByteArray := prog_9_method_15_code
def yX1_cutOf : MethodName := ⟨RX1, "cutOf", "(II)I"⟩
def dkwX1_cutOf_2 : List UInt8 := [29, 96, 46, 79, 132, 3, 1, 167, 255, 218, 42, 28, 182, 0, 163, 172]
abbrev dktX1_cutOf_2 : List UInt8 := dkwX1_cutOf_2 ++ []
def dkwX1_cutOf_1 : List UInt8 := [162, 0, 34, 42, 180, 0, 32, 16, 24, 42, 180, 0, 160, 104, 29, 96, 42, 180, 0, 20, 16, 48, 27, 104]
abbrev dktX1_cutOf_1 : List UInt8 := dkwX1_cutOf_1 ++ dktX1_cutOf_2
def dkwX1_cutOf_0 : List UInt8 := [42, 180, 0, 29, 42, 180, 0, 160, 42, 180, 0, 17, 27, 46, 79, 3, 62, 29, 42, 180, 0, 17, 27, 46]
abbrev dktX1_cutOf_0 : List UInt8 := dkwX1_cutOf_0 ++ dktX1_cutOf_1
theorem dksX1_cutOf_0 : cX1_cutOf.data.toList.drop 0 = dktX1_cutOf_0 := by decide +kernel
theorem dksX1_cutOf_1 : cX1_cutOf.data.toList.drop 24 = dktX1_cutOf_1 := dk_seg dksX1_cutOf_0 24 rfl rfl
theorem dksX1_cutOf_2 : cX1_cutOf.data.toList.drop 48 = dktX1_cutOf_2 := dk_seg dksX1_cutOf_1 24 rfl rfl
theorem dX1_cutOf_0 : decode cX1_cutOf 0 = .ok (.aload_n 0, 1) := dk_42 (dk_at dksX1_cutOf_0 0 rfl rfl)
theorem dX1_cutOf_1 : decode cX1_cutOf 1 = .ok (.getfield 29, 3) := dk_180 0 29 (dk_at dksX1_cutOf_0 1 rfl rfl)
theorem dX1_cutOf_4 : decode cX1_cutOf 4 = .ok (.aload_n 0, 1) := dk_42 (dk_at dksX1_cutOf_0 4 rfl rfl)
theorem dX1_cutOf_5 : decode cX1_cutOf 5 = .ok (.getfield 160, 3) := dk_180 0 160 (dk_at dksX1_cutOf_0 5 rfl rfl)
theorem dX1_cutOf_8 : decode cX1_cutOf 8 = .ok (.aload_n 0, 1) := dk_42 (dk_at dksX1_cutOf_0 8 rfl rfl)
theorem dX1_cutOf_9 : decode cX1_cutOf 9 = .ok (.getfield 17, 3) := dk_180 0 17 (dk_at dksX1_cutOf_0 9 rfl rfl)
theorem dX1_cutOf_12 : decode cX1_cutOf 12 = .ok (.iload_n 1, 1) := dk_27 (dk_at dksX1_cutOf_0 12 rfl rfl)
theorem dX1_cutOf_13 : decode cX1_cutOf 13 = .ok (.iaload, 1) := dk_46 (dk_at dksX1_cutOf_0 13 rfl rfl)
theorem dX1_cutOf_14 : decode cX1_cutOf 14 = .ok (.iastore, 1) := dk_79 (dk_at dksX1_cutOf_0 14 rfl rfl)
theorem dX1_cutOf_15 : decode cX1_cutOf 15 = .ok (.iconst 0, 1) := dk_3 (dk_at dksX1_cutOf_0 15 rfl rfl)
theorem dX1_cutOf_16 : decode cX1_cutOf 16 = .ok (.istore_n 3, 1) := dk_62 (dk_at dksX1_cutOf_0 16 rfl rfl)
theorem dX1_cutOf_17 : decode cX1_cutOf 17 = .ok (.iload_n 3, 1) := dk_29 (dk_at dksX1_cutOf_0 17 rfl rfl)
theorem dX1_cutOf_18 : decode cX1_cutOf 18 = .ok (.aload_n 0, 1) := dk_42 (dk_at dksX1_cutOf_0 18 rfl rfl)
theorem dX1_cutOf_19 : decode cX1_cutOf 19 = .ok (.getfield 17, 3) := dk_180 0 17 (dk_at dksX1_cutOf_0 19 rfl rfl)
theorem dX1_cutOf_22 : decode cX1_cutOf 22 = .ok (.iload_n 1, 1) := dk_27 (dk_at dksX1_cutOf_0 22 rfl rfl)
theorem dX1_cutOf_23 : decode cX1_cutOf 23 = .ok (.iaload, 1) := dk_46 (dk_at dksX1_cutOf_0 23 rfl rfl)
theorem dX1_cutOf_24 : decode cX1_cutOf 24 = .ok (.if_icmp .ge 34, 3) := dk_162 0 34 (dk_at dksX1_cutOf_1 0 rfl rfl)
theorem dX1_cutOf_27 : decode cX1_cutOf 27 = .ok (.aload_n 0, 1) := dk_42 (dk_at dksX1_cutOf_1 3 rfl rfl)
theorem dX1_cutOf_28 : decode cX1_cutOf 28 = .ok (.getfield 32, 3) := dk_180 0 32 (dk_at dksX1_cutOf_1 4 rfl rfl)
theorem dX1_cutOf_31 : decode cX1_cutOf 31 = .ok (.bipush 24, 2) := dk_16 24 (dk_at dksX1_cutOf_1 7 rfl rfl)
theorem dX1_cutOf_33 : decode cX1_cutOf 33 = .ok (.aload_n 0, 1) := dk_42 (dk_at dksX1_cutOf_1 9 rfl rfl)
theorem dX1_cutOf_34 : decode cX1_cutOf 34 = .ok (.getfield 160, 3) := dk_180 0 160 (dk_at dksX1_cutOf_1 10 rfl rfl)
theorem dX1_cutOf_37 : decode cX1_cutOf 37 = .ok (.imul, 1) := dk_104 (dk_at dksX1_cutOf_1 13 rfl rfl)
theorem dX1_cutOf_38 : decode cX1_cutOf 38 = .ok (.iload_n 3, 1) := dk_29 (dk_at dksX1_cutOf_1 14 rfl rfl)
theorem dX1_cutOf_39 : decode cX1_cutOf 39 = .ok (.iadd, 1) := dk_96 (dk_at dksX1_cutOf_1 15 rfl rfl)
theorem dX1_cutOf_40 : decode cX1_cutOf 40 = .ok (.aload_n 0, 1) := dk_42 (dk_at dksX1_cutOf_1 16 rfl rfl)
theorem dX1_cutOf_41 : decode cX1_cutOf 41 = .ok (.getfield 20, 3) := dk_180 0 20 (dk_at dksX1_cutOf_1 17 rfl rfl)
theorem dX1_cutOf_44 : decode cX1_cutOf 44 = .ok (.bipush 48, 2) := dk_16 48 (dk_at dksX1_cutOf_1 20 rfl rfl)
theorem dX1_cutOf_46 : decode cX1_cutOf 46 = .ok (.iload_n 1, 1) := dk_27 (dk_at dksX1_cutOf_1 22 rfl rfl)
theorem dX1_cutOf_47 : decode cX1_cutOf 47 = .ok (.imul, 1) := dk_104 (dk_at dksX1_cutOf_1 23 rfl rfl)
theorem dX1_cutOf_48 : decode cX1_cutOf 48 = .ok (.iload_n 3, 1) := dk_29 (dk_at dksX1_cutOf_2 0 rfl rfl)
theorem dX1_cutOf_49 : decode cX1_cutOf 49 = .ok (.iadd, 1) := dk_96 (dk_at dksX1_cutOf_2 1 rfl rfl)
theorem dX1_cutOf_50 : decode cX1_cutOf 50 = .ok (.iaload, 1) := dk_46 (dk_at dksX1_cutOf_2 2 rfl rfl)
theorem dX1_cutOf_51 : decode cX1_cutOf 51 = .ok (.iastore, 1) := dk_79 (dk_at dksX1_cutOf_2 3 rfl rfl)
theorem dX1_cutOf_52 : decode cX1_cutOf 52 = .ok (.iinc 3 1, 3) := dk_132 3 1 (dk_at dksX1_cutOf_2 4 rfl rfl)
theorem dX1_cutOf_55 : decode cX1_cutOf 55 = .ok (.goto (-38), 3) := dk_167 255 218 (dk_at dksX1_cutOf_2 7 rfl rfl)
theorem dX1_cutOf_58 : decode cX1_cutOf 58 = .ok (.aload_n 0, 1) := dk_42 (dk_at dksX1_cutOf_2 10 rfl rfl)
theorem dX1_cutOf_59 : decode cX1_cutOf 59 = .ok (.iload_n 2, 1) := dk_28 (dk_at dksX1_cutOf_2 11 rfl rfl)
theorem dX1_cutOf_60 : decode cX1_cutOf 60 = .ok (.invokevirtual 163, 3) := dk_182 0 163 (dk_at dksX1_cutOf_2 12 rfl rfl)
theorem dX1_cutOf_63 : decode cX1_cutOf 63 = .ok (.ireturn, 1) := dk_172 (dk_at dksX1_cutOf_2 15 rfl rfl)
abbrev cX1_snail : ByteArray := prog_9_method_18_code
def yX1_snail : MethodName := ⟨RX1, "snail", "(I)I"⟩
def dkwX1_snail_0 : List UInt8 := [42, 27, 5, 182, 0, 173, 172]
abbrev dktX1_snail_0 : List UInt8 := dkwX1_snail_0 ++ []
theorem dksX1_snail_0 : cX1_snail.data.toList.drop 0 = dktX1_snail_0 := by decide +kernel
theorem dX1_snail_0 : decode cX1_snail 0 = .ok (.aload_n 0, 1) := dk_42 (dk_at dksX1_snail_0 0 rfl rfl)
theorem dX1_snail_1 : decode cX1_snail 1 = .ok (.iload_n 1, 1) := dk_27 (dk_at dksX1_snail_0 1 rfl rfl)
theorem dX1_snail_2 : decode cX1_snail 2 = .ok (.iconst 2, 1) := dk_5 (dk_at dksX1_snail_0 2 rfl rfl)
theorem dX1_snail_3 : decode cX1_snail 3 = .ok (.invokevirtual 173, 3) := dk_182 0 173 (dk_at dksX1_snail_0 3 rfl rfl)
theorem dX1_snail_6 : decode cX1_snail 6 = .ok (.ireturn, 1) := dk_172 (dk_at dksX1_snail_0 6 rfl rfl)
abbrev cX1_barrel : ByteArray := prog_9_method_19_code
def yX1_barrel : MethodName := ⟨RX1, "barrel", "(II)I"⟩
def dkwX1_barrel_6 : List UInt8 := [182, 0, 169, 172]
abbrev dktX1_barrel_6 : List UInt8 := dkwX1_barrel_6 ++ []
def dkwX1_barrel_5 : List UInt8 := [180, 0, 20, 16, 48, 28, 104, 29, 96, 46, 17, 0, 255, 126, 79, 132, 3, 1, 167, 255, 214, 42, 27, 6]
abbrev dktX1_barrel_5 : List UInt8 := dkwX1_barrel_5 ++ dktX1_barrel_6
def dkwX1_barrel_4 : List UInt8 := [180, 0, 17, 28, 46, 162, 0, 38, 42, 180, 0, 41, 16, 48, 42, 180, 0, 160, 104, 29, 96, 42]
abbrev dktX1_barrel_4 : List UInt8 := dkwX1_barrel_4 ++ dktX1_barrel_5
def dkwX1_barrel_3 : List UInt8 := [8, 182, 0, 153, 172, 42, 180, 0, 38, 42, 180, 0, 160, 42, 180, 0, 17, 28, 46, 79, 3, 62, 29, 42]
abbrev dktX1_barrel_3 : List UInt8 := dkwX1_barrel_3 ++ dktX1_barrel_4
def dkwX1_barrel_2 : List UInt8 := [42, 4, 182, 0, 153, 172, 42, 27, 182, 0, 166, 153, 0, 12, 42, 180, 0, 17, 28, 46, 154, 0, 9, 42]
abbrev dktX1_barrel_2 : List UInt8 := dkwX1_barrel_2 ++ dktX1_barrel_3
def dkwX1_barrel_1 : List UInt8 := [160, 0, 6, 16, 254, 172, 42, 180, 0, 17, 27, 46, 155, 0, 12, 42, 180, 0, 17, 28, 46, 156, 0, 9]
abbrev dktX1_barrel_1 : List UInt8 := dkwX1_barrel_1 ++ dktX1_barrel_2
def dkwX1_barrel_0 : List UInt8 := [27, 184, 0, 149, 153, 0, 10, 28, 184, 0, 149, 154, 0, 5, 2, 172, 42, 180, 0, 160, 16, 16]
abbrev dktX1_barrel_0 : List UInt8 := dkwX1_barrel_0 ++ dktX1_barrel_1
theorem dksX1_barrel_0 : cX1_barrel.data.toList.drop 0 = dktX1_barrel_0 := by decide +kernel
theorem dksX1_barrel_1 : cX1_barrel.data.toList.drop 22 = dktX1_barrel_1 := dk_seg dksX1_barrel_0 22 rfl rfl
theorem dksX1_barrel_2 : cX1_barrel.data.toList.drop 46 = dktX1_barrel_2 := dk_seg dksX1_barrel_1 24 rfl rfl
theorem dksX1_barrel_3 : cX1_barrel.data.toList.drop 70 = dktX1_barrel_3 := dk_seg dksX1_barrel_2 24 rfl rfl
theorem dksX1_barrel_4 : cX1_barrel.data.toList.drop 94 = dktX1_barrel_4 := dk_seg dksX1_barrel_3 24 rfl rfl
theorem dksX1_barrel_5 : cX1_barrel.data.toList.drop 116 = dktX1_barrel_5 := dk_seg dksX1_barrel_4 22 rfl rfl
theorem dksX1_barrel_6 : cX1_barrel.data.toList.drop 140 = dktX1_barrel_6 := dk_seg dksX1_barrel_5 24 rfl rfl
theorem dX1_barrel_0 : decode cX1_barrel 0 = .ok (.iload_n 1, 1) := dk_27 (dk_at dksX1_barrel_0 0 rfl rfl)
theorem dX1_barrel_1 : decode cX1_barrel 1 = .ok (.invokestatic 149, 3) := dk_184 0 149 (dk_at dksX1_barrel_0 1 rfl rfl)
theorem dX1_barrel_4 : decode cX1_barrel 4 = .ok (.ifCond .eq 10, 3) := dk_153 0 10 (dk_at dksX1_barrel_0 4 rfl rfl)
theorem dX1_barrel_7 : decode cX1_barrel 7 = .ok (.iload_n 2, 1) := dk_28 (dk_at dksX1_barrel_0 7 rfl rfl)
theorem dX1_barrel_8 : decode cX1_barrel 8 = .ok (.invokestatic 149, 3) := dk_184 0 149 (dk_at dksX1_barrel_0 8 rfl rfl)
theorem dX1_barrel_11 : decode cX1_barrel 11 = .ok (.ifCond .ne 5, 3) := dk_154 0 5 (dk_at dksX1_barrel_0 11 rfl rfl)
theorem dX1_barrel_14 : decode cX1_barrel 14 = .ok (.iconst (-1), 1) := dk_2 (dk_at dksX1_barrel_0 14 rfl rfl)
theorem dX1_barrel_15 : decode cX1_barrel 15 = .ok (.ireturn, 1) := dk_172 (dk_at dksX1_barrel_0 15 rfl rfl)
theorem dX1_barrel_16 : decode cX1_barrel 16 = .ok (.aload_n 0, 1) := dk_42 (dk_at dksX1_barrel_0 16 rfl rfl)
theorem dX1_barrel_17 : decode cX1_barrel 17 = .ok (.getfield 160, 3) := dk_180 0 160 (dk_at dksX1_barrel_0 17 rfl rfl)
theorem dX1_barrel_20 : decode cX1_barrel 20 = .ok (.bipush 16, 2) := dk_16 16 (dk_at dksX1_barrel_0 20 rfl rfl)
theorem dX1_barrel_22 : decode cX1_barrel 22 = .ok (.if_icmp .ne 6, 3) := dk_160 0 6 (dk_at dksX1_barrel_1 0 rfl rfl)
theorem dX1_barrel_25 : decode cX1_barrel 25 = .ok (.bipush (-2), 2) := dk_16 254 (dk_at dksX1_barrel_1 3 rfl rfl)
theorem dX1_barrel_27 : decode cX1_barrel 27 = .ok (.ireturn, 1) := dk_172 (dk_at dksX1_barrel_1 5 rfl rfl)
theorem dX1_barrel_28 : decode cX1_barrel 28 = .ok (.aload_n 0, 1) := dk_42 (dk_at dksX1_barrel_1 6 rfl rfl)
theorem dX1_barrel_29 : decode cX1_barrel 29 = .ok (.getfield 17, 3) := dk_180 0 17 (dk_at dksX1_barrel_1 7 rfl rfl)
theorem dX1_barrel_32 : decode cX1_barrel 32 = .ok (.iload_n 1, 1) := dk_27 (dk_at dksX1_barrel_1 10 rfl rfl)
theorem dX1_barrel_33 : decode cX1_barrel 33 = .ok (.iaload, 1) := dk_46 (dk_at dksX1_barrel_1 11 rfl rfl)
theorem dX1_barrel_34 : decode cX1_barrel 34 = .ok (.ifCond .lt 12, 3) := dk_155 0 12 (dk_at dksX1_barrel_1 12 rfl rfl)
theorem dX1_barrel_37 : decode cX1_barrel 37 = .ok (.aload_n 0, 1) := dk_42 (dk_at dksX1_barrel_1 15 rfl rfl)
theorem dX1_barrel_38 : decode cX1_barrel 38 = .ok (.getfield 17, 3) := dk_180 0 17 (dk_at dksX1_barrel_1 16 rfl rfl)
theorem dX1_barrel_41 : decode cX1_barrel 41 = .ok (.iload_n 2, 1) := dk_28 (dk_at dksX1_barrel_1 19 rfl rfl)
theorem dX1_barrel_42 : decode cX1_barrel 42 = .ok (.iaload, 1) := dk_46 (dk_at dksX1_barrel_1 20 rfl rfl)
theorem dX1_barrel_43 : decode cX1_barrel 43 = .ok (.ifCond .ge 9, 3) := dk_156 0 9 (dk_at dksX1_barrel_1 21 rfl rfl)
theorem dX1_barrel_46 : decode cX1_barrel 46 = .ok (.aload_n 0, 1) := dk_42 (dk_at dksX1_barrel_2 0 rfl rfl)
theorem dX1_barrel_47 : decode cX1_barrel 47 = .ok (.iconst 1, 1) := dk_4 (dk_at dksX1_barrel_2 1 rfl rfl)
theorem dX1_barrel_48 : decode cX1_barrel 48 = .ok (.invokevirtual 153, 3) := dk_182 0 153 (dk_at dksX1_barrel_2 2 rfl rfl)
theorem dX1_barrel_51 : decode cX1_barrel 51 = .ok (.ireturn, 1) := dk_172 (dk_at dksX1_barrel_2 5 rfl rfl)
theorem dX1_barrel_52 : decode cX1_barrel 52 = .ok (.aload_n 0, 1) := dk_42 (dk_at dksX1_barrel_2 6 rfl rfl)
theorem dX1_barrel_53 : decode cX1_barrel 53 = .ok (.iload_n 1, 1) := dk_27 (dk_at dksX1_barrel_2 7 rfl rfl)
theorem dX1_barrel_54 : decode cX1_barrel 54 = .ok (.invokevirtual 166, 3) := dk_182 0 166 (dk_at dksX1_barrel_2 8 rfl rfl)
theorem dX1_barrel_57 : decode cX1_barrel 57 = .ok (.ifCond .eq 12, 3) := dk_153 0 12 (dk_at dksX1_barrel_2 11 rfl rfl)
theorem dX1_barrel_60 : decode cX1_barrel 60 = .ok (.aload_n 0, 1) := dk_42 (dk_at dksX1_barrel_2 14 rfl rfl)
theorem dX1_barrel_61 : decode cX1_barrel 61 = .ok (.getfield 17, 3) := dk_180 0 17 (dk_at dksX1_barrel_2 15 rfl rfl)
theorem dX1_barrel_64 : decode cX1_barrel 64 = .ok (.iload_n 2, 1) := dk_28 (dk_at dksX1_barrel_2 18 rfl rfl)
theorem dX1_barrel_65 : decode cX1_barrel 65 = .ok (.iaload, 1) := dk_46 (dk_at dksX1_barrel_2 19 rfl rfl)
theorem dX1_barrel_66 : decode cX1_barrel 66 = .ok (.ifCond .ne 9, 3) := dk_154 0 9 (dk_at dksX1_barrel_2 20 rfl rfl)
theorem dX1_barrel_69 : decode cX1_barrel 69 = .ok (.aload_n 0, 1) := dk_42 (dk_at dksX1_barrel_2 23 rfl rfl)
theorem dX1_barrel_70 : decode cX1_barrel 70 = .ok (.iconst 5, 1) := dk_8 (dk_at dksX1_barrel_3 0 rfl rfl)
theorem dX1_barrel_71 : decode cX1_barrel 71 = .ok (.invokevirtual 153, 3) := dk_182 0 153 (dk_at dksX1_barrel_3 1 rfl rfl)
theorem dX1_barrel_74 : decode cX1_barrel 74 = .ok (.ireturn, 1) := dk_172 (dk_at dksX1_barrel_3 4 rfl rfl)
theorem dX1_barrel_75 : decode cX1_barrel 75 = .ok (.aload_n 0, 1) := dk_42 (dk_at dksX1_barrel_3 5 rfl rfl)
theorem dX1_barrel_76 : decode cX1_barrel 76 = .ok (.getfield 38, 3) := dk_180 0 38 (dk_at dksX1_barrel_3 6 rfl rfl)
theorem dX1_barrel_79 : decode cX1_barrel 79 = .ok (.aload_n 0, 1) := dk_42 (dk_at dksX1_barrel_3 9 rfl rfl)
theorem dX1_barrel_80 : decode cX1_barrel 80 = .ok (.getfield 160, 3) := dk_180 0 160 (dk_at dksX1_barrel_3 10 rfl rfl)
theorem dX1_barrel_83 : decode cX1_barrel 83 = .ok (.aload_n 0, 1) := dk_42 (dk_at dksX1_barrel_3 13 rfl rfl)
theorem dX1_barrel_84 : decode cX1_barrel 84 = .ok (.getfield 17, 3) := dk_180 0 17 (dk_at dksX1_barrel_3 14 rfl rfl)
theorem dX1_barrel_87 : decode cX1_barrel 87 = .ok (.iload_n 2, 1) := dk_28 (dk_at dksX1_barrel_3 17 rfl rfl)
theorem dX1_barrel_88 : decode cX1_barrel 88 = .ok (.iaload, 1) := dk_46 (dk_at dksX1_barrel_3 18 rfl rfl)
theorem dX1_barrel_89 : decode cX1_barrel 89 = .ok (.iastore, 1) := dk_79 (dk_at dksX1_barrel_3 19 rfl rfl)
theorem dX1_barrel_90 : decode cX1_barrel 90 = .ok (.iconst 0, 1) := dk_3 (dk_at dksX1_barrel_3 20 rfl rfl)
theorem dX1_barrel_91 : decode cX1_barrel 91 = .ok (.istore_n 3, 1) := dk_62 (dk_at dksX1_barrel_3 21 rfl rfl)
theorem dX1_barrel_92 : decode cX1_barrel 92 = .ok (.iload_n 3, 1) := dk_29 (dk_at dksX1_barrel_3 22 rfl rfl)
theorem dX1_barrel_93 : decode cX1_barrel 93 = .ok (.aload_n 0, 1) := dk_42 (dk_at dksX1_barrel_3 23 rfl rfl)
theorem dX1_barrel_94 : decode cX1_barrel 94 = .ok (.getfield 17, 3) := dk_180 0 17 (dk_at dksX1_barrel_4 0 rfl rfl)
theorem dX1_barrel_97 : decode cX1_barrel 97 = .ok (.iload_n 2, 1) := dk_28 (dk_at dksX1_barrel_4 3 rfl rfl)
theorem dX1_barrel_98 : decode cX1_barrel 98 = .ok (.iaload, 1) := dk_46 (dk_at dksX1_barrel_4 4 rfl rfl)
theorem dX1_barrel_99 : decode cX1_barrel 99 = .ok (.if_icmp .ge 38, 3) := dk_162 0 38 (dk_at dksX1_barrel_4 5 rfl rfl)
theorem dX1_barrel_102 : decode cX1_barrel 102 = .ok (.aload_n 0, 1) := dk_42 (dk_at dksX1_barrel_4 8 rfl rfl)
theorem dX1_barrel_103 : decode cX1_barrel 103 = .ok (.getfield 41, 3) := dk_180 0 41 (dk_at dksX1_barrel_4 9 rfl rfl)
theorem dX1_barrel_106 : decode cX1_barrel 106 = .ok (.bipush 48, 2) := dk_16 48 (dk_at dksX1_barrel_4 12 rfl rfl)
theorem dX1_barrel_108 : decode cX1_barrel 108 = .ok (.aload_n 0, 1) := dk_42 (dk_at dksX1_barrel_4 14 rfl rfl)
theorem dX1_barrel_109 : decode cX1_barrel 109 = .ok (.getfield 160, 3) := dk_180 0 160 (dk_at dksX1_barrel_4 15 rfl rfl)
theorem dX1_barrel_112 : decode cX1_barrel 112 = .ok (.imul, 1) := dk_104 (dk_at dksX1_barrel_4 18 rfl rfl)
theorem dX1_barrel_113 : decode cX1_barrel 113 = .ok (.iload_n 3, 1) := dk_29 (dk_at dksX1_barrel_4 19 rfl rfl)
theorem dX1_barrel_114 : decode cX1_barrel 114 = .ok (.iadd, 1) := dk_96 (dk_at dksX1_barrel_4 20 rfl rfl)
theorem dX1_barrel_115 : decode cX1_barrel 115 = .ok (.aload_n 0, 1) := dk_42 (dk_at dksX1_barrel_4 21 rfl rfl)
theorem dX1_barrel_116 : decode cX1_barrel 116 = .ok (.getfield 20, 3) := dk_180 0 20 (dk_at dksX1_barrel_5 0 rfl rfl)
theorem dX1_barrel_119 : decode cX1_barrel 119 = .ok (.bipush 48, 2) := dk_16 48 (dk_at dksX1_barrel_5 3 rfl rfl)
theorem dX1_barrel_121 : decode cX1_barrel 121 = .ok (.iload_n 2, 1) := dk_28 (dk_at dksX1_barrel_5 5 rfl rfl)
theorem dX1_barrel_122 : decode cX1_barrel 122 = .ok (.imul, 1) := dk_104 (dk_at dksX1_barrel_5 6 rfl rfl)
theorem dX1_barrel_123 : decode cX1_barrel 123 = .ok (.iload_n 3, 1) := dk_29 (dk_at dksX1_barrel_5 7 rfl rfl)
theorem dX1_barrel_124 : decode cX1_barrel 124 = .ok (.iadd, 1) := dk_96 (dk_at dksX1_barrel_5 8 rfl rfl)
theorem dX1_barrel_125 : decode cX1_barrel 125 = .ok (.iaload, 1) := dk_46 (dk_at dksX1_barrel_5 9 rfl rfl)
theorem dX1_barrel_126 : decode cX1_barrel 126 = .ok (.sipush 255, 3) := dk_17 0 255 (dk_at dksX1_barrel_5 10 rfl rfl)
theorem dX1_barrel_129 : decode cX1_barrel 129 = .ok (.iand, 1) := dk_126 (dk_at dksX1_barrel_5 13 rfl rfl)
theorem dX1_barrel_130 : decode cX1_barrel 130 = .ok (.iastore, 1) := dk_79 (dk_at dksX1_barrel_5 14 rfl rfl)
theorem dX1_barrel_131 : decode cX1_barrel 131 = .ok (.iinc 3 1, 3) := dk_132 3 1 (dk_at dksX1_barrel_5 15 rfl rfl)
theorem dX1_barrel_134 : decode cX1_barrel 134 = .ok (.goto (-42), 3) := dk_167 255 214 (dk_at dksX1_barrel_5 18 rfl rfl)
theorem dX1_barrel_137 : decode cX1_barrel 137 = .ok (.aload_n 0, 1) := dk_42 (dk_at dksX1_barrel_5 21 rfl rfl)
theorem dX1_barrel_138 : decode cX1_barrel 138 = .ok (.iload_n 1, 1) := dk_27 (dk_at dksX1_barrel_5 22 rfl rfl)
theorem dX1_barrel_139 : decode cX1_barrel 139 = .ok (.iconst 3, 1) := dk_6 (dk_at dksX1_barrel_5 23 rfl rfl)
theorem dX1_barrel_140 : decode cX1_barrel 140 = .ok (.invokevirtual 169, 3) := dk_182 0 169 (dk_at dksX1_barrel_6 0 rfl rfl)
theorem dX1_barrel_143 : decode cX1_barrel 143 = .ok (.ireturn, 1) := dk_172 (dk_at dksX1_barrel_6 3 rfl rfl)
abbrev cX1_gear : ByteArray := prog_9_method_22_code
def yX1_gear : MethodName := ⟨RX1, "gear", "(III)I"⟩
def dkwX1_gear_2 : List UInt8 := [180, 0, 50, 27, 29, 79, 42, 180, 0, 53, 27, 29, 79, 21, 4, 172]
abbrev dktX1_gear_2 : List UInt8 := dkwX1_gear_2 ++ []
def dkwX1_gear_1 : List UInt8 := [184, 0, 145, 154, 0, 5, 2, 172, 42, 180, 0, 53, 27, 46, 54, 4, 42, 180, 0, 47, 27, 28, 79, 42]
abbrev dktX1_gear_1 : List UInt8 := dkwX1_gear_1 ++ dktX1_gear_2
def dkwX1_gear_0 : List UInt8 := [42, 27, 182, 0, 176, 153, 0, 23, 28, 4, 16, 60, 184, 0, 145, 153, 0, 13, 29, 3, 18, 179]
abbrev dktX1_gear_0 : List UInt8 := dkwX1_gear_0 ++ dktX1_gear_1
theorem dksX1_gear_0 : cX1_gear.data.toList.drop 0 = dktX1_gear_0 := by decide +kernel
theorem dksX1_gear_1 : cX1_gear.data.toList.drop 22 = dktX1_gear_1 := dk_seg dksX1_gear_0 22 rfl rfl
theorem dksX1_gear_2 : cX1_gear.data.toList.drop 46 = dktX1_gear_2 := dk_seg dksX1_gear_1 24 rfl rfl
theorem dX1_gear_0 : decode cX1_gear 0 = .ok (.aload_n 0, 1) := dk_42 (dk_at dksX1_gear_0 0 rfl rfl)
theorem dX1_gear_1 : decode cX1_gear 1 = .ok (.iload_n 1, 1) := dk_27 (dk_at dksX1_gear_0 1 rfl rfl)
theorem dX1_gear_2 : decode cX1_gear 2 = .ok (.invokevirtual 176, 3) := dk_182 0 176 (dk_at dksX1_gear_0 2 rfl rfl)
theorem dX1_gear_5 : decode cX1_gear 5 = .ok (.ifCond .eq 23, 3) := dk_153 0 23 (dk_at dksX1_gear_0 5 rfl rfl)
theorem dX1_gear_8 : decode cX1_gear 8 = .ok (.iload_n 2, 1) := dk_28 (dk_at dksX1_gear_0 8 rfl rfl)
theorem dX1_gear_9 : decode cX1_gear 9 = .ok (.iconst 1, 1) := dk_4 (dk_at dksX1_gear_0 9 rfl rfl)
theorem dX1_gear_10 : decode cX1_gear 10 = .ok (.bipush 60, 2) := dk_16 60 (dk_at dksX1_gear_0 10 rfl rfl)
theorem dX1_gear_12 : decode cX1_gear 12 = .ok (.invokestatic 145, 3) := dk_184 0 145 (dk_at dksX1_gear_0 12 rfl rfl)
theorem dX1_gear_15 : decode cX1_gear 15 = .ok (.ifCond .eq 13, 3) := dk_153 0 13 (dk_at dksX1_gear_0 15 rfl rfl)
theorem dX1_gear_18 : decode cX1_gear 18 = .ok (.iload_n 3, 1) := dk_29 (dk_at dksX1_gear_0 18 rfl rfl)
theorem dX1_gear_19 : decode cX1_gear 19 = .ok (.iconst 0, 1) := dk_3 (dk_at dksX1_gear_0 19 rfl rfl)
theorem dX1_gear_20 : decode cX1_gear 20 = .ok (.ldc 179, 2) := dk_18 179 (dk_at dksX1_gear_0 20 rfl rfl)
theorem dX1_gear_22 : decode cX1_gear 22 = .ok (.invokestatic 145, 3) := dk_184 0 145 (dk_at dksX1_gear_1 0 rfl rfl)
theorem dX1_gear_25 : decode cX1_gear 25 = .ok (.ifCond .ne 5, 3) := dk_154 0 5 (dk_at dksX1_gear_1 3 rfl rfl)
theorem dX1_gear_28 : decode cX1_gear 28 = .ok (.iconst (-1), 1) := dk_2 (dk_at dksX1_gear_1 6 rfl rfl)
theorem dX1_gear_29 : decode cX1_gear 29 = .ok (.ireturn, 1) := dk_172 (dk_at dksX1_gear_1 7 rfl rfl)
theorem dX1_gear_30 : decode cX1_gear 30 = .ok (.aload_n 0, 1) := dk_42 (dk_at dksX1_gear_1 8 rfl rfl)
theorem dX1_gear_31 : decode cX1_gear 31 = .ok (.getfield 53, 3) := dk_180 0 53 (dk_at dksX1_gear_1 9 rfl rfl)
theorem dX1_gear_34 : decode cX1_gear 34 = .ok (.iload_n 1, 1) := dk_27 (dk_at dksX1_gear_1 12 rfl rfl)
theorem dX1_gear_35 : decode cX1_gear 35 = .ok (.iaload, 1) := dk_46 (dk_at dksX1_gear_1 13 rfl rfl)
theorem dX1_gear_36 : decode cX1_gear 36 = .ok (.istore 4, 2) := dk_54 4 (dk_at dksX1_gear_1 14 rfl rfl)
theorem dX1_gear_38 : decode cX1_gear 38 = .ok (.aload_n 0, 1) := dk_42 (dk_at dksX1_gear_1 16 rfl rfl)
theorem dX1_gear_39 : decode cX1_gear 39 = .ok (.getfield 47, 3) := dk_180 0 47 (dk_at dksX1_gear_1 17 rfl rfl)
theorem dX1_gear_42 : decode cX1_gear 42 = .ok (.iload_n 1, 1) := dk_27 (dk_at dksX1_gear_1 20 rfl rfl)
theorem dX1_gear_43 : decode cX1_gear 43 = .ok (.iload_n 2, 1) := dk_28 (dk_at dksX1_gear_1 21 rfl rfl)
theorem dX1_gear_44 : decode cX1_gear 44 = .ok (.iastore, 1) := dk_79 (dk_at dksX1_gear_1 22 rfl rfl)
theorem dX1_gear_45 : decode cX1_gear 45 = .ok (.aload_n 0, 1) := dk_42 (dk_at dksX1_gear_1 23 rfl rfl)
theorem dX1_gear_46 : decode cX1_gear 46 = .ok (.getfield 50, 3) := dk_180 0 50 (dk_at dksX1_gear_2 0 rfl rfl)
theorem dX1_gear_49 : decode cX1_gear 49 = .ok (.iload_n 1, 1) := dk_27 (dk_at dksX1_gear_2 3 rfl rfl)
theorem dX1_gear_50 : decode cX1_gear 50 = .ok (.iload_n 3, 1) := dk_29 (dk_at dksX1_gear_2 4 rfl rfl)
theorem dX1_gear_51 : decode cX1_gear 51 = .ok (.iastore, 1) := dk_79 (dk_at dksX1_gear_2 5 rfl rfl)
theorem dX1_gear_52 : decode cX1_gear 52 = .ok (.aload_n 0, 1) := dk_42 (dk_at dksX1_gear_2 6 rfl rfl)
theorem dX1_gear_53 : decode cX1_gear 53 = .ok (.getfield 53, 3) := dk_180 0 53 (dk_at dksX1_gear_2 7 rfl rfl)
theorem dX1_gear_56 : decode cX1_gear 56 = .ok (.iload_n 1, 1) := dk_27 (dk_at dksX1_gear_2 10 rfl rfl)
theorem dX1_gear_57 : decode cX1_gear 57 = .ok (.iload_n 3, 1) := dk_29 (dk_at dksX1_gear_2 11 rfl rfl)
theorem dX1_gear_58 : decode cX1_gear 58 = .ok (.iastore, 1) := dk_79 (dk_at dksX1_gear_2 12 rfl rfl)
theorem dX1_gear_59 : decode cX1_gear 59 = .ok (.iload 4, 2) := dk_21 4 (dk_at dksX1_gear_2 13 rfl rfl)
theorem dX1_gear_61 : decode cX1_gear 61 = .ok (.ireturn, 1) := dk_172 (dk_at dksX1_gear_2 15 rfl rfl)
abbrev cX1_isTrain : ByteArray := prog_9_method_20_code
def yX1_isTrain : MethodName := ⟨RX1, "isTrain", "(I)Z"⟩
def dkwX1_isTrain_0 : List UInt8 := [27, 3, 42, 180, 0, 160, 4, 100, 184, 0, 145, 172]
abbrev dktX1_isTrain_0 : List UInt8 := dkwX1_isTrain_0 ++ []
theorem dksX1_isTrain_0 : cX1_isTrain.data.toList.drop 0 = dktX1_isTrain_0 := by decide +kernel
theorem dX1_isTrain_0 : decode cX1_isTrain 0 = .ok (.iload_n 1, 1) := dk_27 (dk_at dksX1_isTrain_0 0 rfl rfl)
theorem dX1_isTrain_1 : decode cX1_isTrain 1 = .ok (.iconst 0, 1) := dk_3 (dk_at dksX1_isTrain_0 1 rfl rfl)
theorem dX1_isTrain_2 : decode cX1_isTrain 2 = .ok (.aload_n 0, 1) := dk_42 (dk_at dksX1_isTrain_0 2 rfl rfl)
theorem dX1_isTrain_3 : decode cX1_isTrain 3 = .ok (.getfield 160, 3) := dk_180 0 160 (dk_at dksX1_isTrain_0 3 rfl rfl)
theorem dX1_isTrain_6 : decode cX1_isTrain 6 = .ok (.iconst 1, 1) := dk_4 (dk_at dksX1_isTrain_0 6 rfl rfl)
theorem dX1_isTrain_7 : decode cX1_isTrain 7 = .ok (.isub, 1) := dk_100 (dk_at dksX1_isTrain_0 7 rfl rfl)
theorem dX1_isTrain_8 : decode cX1_isTrain 8 = .ok (.invokestatic 145, 3) := dk_184 0 145 (dk_at dksX1_isTrain_0 8 rfl rfl)
theorem dX1_isTrain_11 : decode cX1_isTrain 11 = .ok (.ireturn, 1) := dk_172 (dk_at dksX1_isTrain_0 11 rfl rfl)
abbrev cX1_wind : ByteArray := prog_9_method_23_code
def yX1_wind : MethodName := ⟨RX1, "wind", "(I)I"⟩
def dkwX1_wind_1 : List UInt8 := [42, 180, 0, 53, 27, 42, 180, 0, 50, 27, 46, 79, 28, 172]
abbrev dktX1_wind_1 : List UInt8 := dkwX1_wind_1 ++ []
def dkwX1_wind_0 : List UInt8 := [42, 27, 182, 0, 176, 154, 0, 5, 2, 172, 42, 180, 0, 50, 27, 46, 42, 180, 0, 53, 27, 46, 100, 61]
abbrev dktX1_wind_0 : List UInt8 := dkwX1_wind_0 ++ dktX1_wind_1
theorem dksX1_wind_0 : cX1_wind.data.toList.drop 0 = dktX1_wind_0 := by decide +kernel
theorem dksX1_wind_1 : cX1_wind.data.toList.drop 24 = dktX1_wind_1 := dk_seg dksX1_wind_0 24 rfl rfl
theorem dX1_wind_0 : decode cX1_wind 0 = .ok (.aload_n 0, 1) := dk_42 (dk_at dksX1_wind_0 0 rfl rfl)
theorem dX1_wind_1 : decode cX1_wind 1 = .ok (.iload_n 1, 1) := dk_27 (dk_at dksX1_wind_0 1 rfl rfl)
theorem dX1_wind_2 : decode cX1_wind 2 = .ok (.invokevirtual 176, 3) := dk_182 0 176 (dk_at dksX1_wind_0 2 rfl rfl)
theorem dX1_wind_5 : decode cX1_wind 5 = .ok (.ifCond .ne 5, 3) := dk_154 0 5 (dk_at dksX1_wind_0 5 rfl rfl)
theorem dX1_wind_8 : decode cX1_wind 8 = .ok (.iconst (-1), 1) := dk_2 (dk_at dksX1_wind_0 8 rfl rfl)
theorem dX1_wind_9 : decode cX1_wind 9 = .ok (.ireturn, 1) := dk_172 (dk_at dksX1_wind_0 9 rfl rfl)
theorem dX1_wind_10 : decode cX1_wind 10 = .ok (.aload_n 0, 1) := dk_42 (dk_at dksX1_wind_0 10 rfl rfl)
theorem dX1_wind_11 : decode cX1_wind 11 = .ok (.getfield 50, 3) := dk_180 0 50 (dk_at dksX1_wind_0 11 rfl rfl)
theorem dX1_wind_14 : decode cX1_wind 14 = .ok (.iload_n 1, 1) := dk_27 (dk_at dksX1_wind_0 14 rfl rfl)
theorem dX1_wind_15 : decode cX1_wind 15 = .ok (.iaload, 1) := dk_46 (dk_at dksX1_wind_0 15 rfl rfl)
theorem dX1_wind_16 : decode cX1_wind 16 = .ok (.aload_n 0, 1) := dk_42 (dk_at dksX1_wind_0 16 rfl rfl)
theorem dX1_wind_17 : decode cX1_wind 17 = .ok (.getfield 53, 3) := dk_180 0 53 (dk_at dksX1_wind_0 17 rfl rfl)
theorem dX1_wind_20 : decode cX1_wind 20 = .ok (.iload_n 1, 1) := dk_27 (dk_at dksX1_wind_0 20 rfl rfl)
theorem dX1_wind_21 : decode cX1_wind 21 = .ok (.iaload, 1) := dk_46 (dk_at dksX1_wind_0 21 rfl rfl)
theorem dX1_wind_22 : decode cX1_wind 22 = .ok (.isub, 1) := dk_100 (dk_at dksX1_wind_0 22 rfl rfl)
theorem dX1_wind_23 : decode cX1_wind 23 = .ok (.istore_n 2, 1) := dk_61 (dk_at dksX1_wind_0 23 rfl rfl)
theorem dX1_wind_24 : decode cX1_wind 24 = .ok (.aload_n 0, 1) := dk_42 (dk_at dksX1_wind_1 0 rfl rfl)
theorem dX1_wind_25 : decode cX1_wind 25 = .ok (.getfield 53, 3) := dk_180 0 53 (dk_at dksX1_wind_1 1 rfl rfl)
theorem dX1_wind_28 : decode cX1_wind 28 = .ok (.iload_n 1, 1) := dk_27 (dk_at dksX1_wind_1 4 rfl rfl)
theorem dX1_wind_29 : decode cX1_wind 29 = .ok (.aload_n 0, 1) := dk_42 (dk_at dksX1_wind_1 5 rfl rfl)
theorem dX1_wind_30 : decode cX1_wind 30 = .ok (.getfield 50, 3) := dk_180 0 50 (dk_at dksX1_wind_1 6 rfl rfl)
theorem dX1_wind_33 : decode cX1_wind 33 = .ok (.iload_n 1, 1) := dk_27 (dk_at dksX1_wind_1 9 rfl rfl)
theorem dX1_wind_34 : decode cX1_wind 34 = .ok (.iaload, 1) := dk_46 (dk_at dksX1_wind_1 10 rfl rfl)
theorem dX1_wind_35 : decode cX1_wind 35 = .ok (.iastore, 1) := dk_79 (dk_at dksX1_wind_1 11 rfl rfl)
theorem dX1_wind_36 : decode cX1_wind 36 = .ok (.iload_n 2, 1) := dk_28 (dk_at dksX1_wind_1 12 rfl rfl)
theorem dX1_wind_37 : decode cX1_wind 37 = .ok (.ireturn, 1) := dk_172 (dk_at dksX1_wind_1 13 rfl rfl)
abbrev cX1_broken : ByteArray := prog_9_method_24_code
def yX1_broken : MethodName := ⟨RX1, "broken", "(II)I"⟩
def dkwX1_broken_1 : List UInt8 := [180, 0, 62, 27, 46, 62, 42, 180, 0, 62, 27, 28, 79, 29, 172]
abbrev dktX1_broken_1 : List UInt8 := dkwX1_broken_1 ++ []
def dkwX1_broken_0 : List UInt8 := [42, 27, 182, 0, 176, 153, 0, 14, 28, 3, 17, 0, 255, 184, 0, 145, 154, 0, 5, 2, 172, 42]
abbrev dktX1_broken_0 : List UInt8 := dkwX1_broken_0 ++ dktX1_broken_1
theorem dksX1_broken_0 : cX1_broken.data.toList.drop 0 = dktX1_broken_0 := by decide +kernel
theorem dksX1_broken_1 : cX1_broken.data.toList.drop 22 = dktX1_broken_1 := dk_seg dksX1_broken_0 22 rfl rfl
theorem dX1_broken_0 : decode cX1_broken 0 = .ok (.aload_n 0, 1) := dk_42 (dk_at dksX1_broken_0 0 rfl rfl)
theorem dX1_broken_1 : decode cX1_broken 1 = .ok (.iload_n 1, 1) := dk_27 (dk_at dksX1_broken_0 1 rfl rfl)
theorem dX1_broken_2 : decode cX1_broken 2 = .ok (.invokevirtual 176, 3) := dk_182 0 176 (dk_at dksX1_broken_0 2 rfl rfl)
theorem dX1_broken_5 : decode cX1_broken 5 = .ok (.ifCond .eq 14, 3) := dk_153 0 14 (dk_at dksX1_broken_0 5 rfl rfl)
theorem dX1_broken_8 : decode cX1_broken 8 = .ok (.iload_n 2, 1) := dk_28 (dk_at dksX1_broken_0 8 rfl rfl)
theorem dX1_broken_9 : decode cX1_broken 9 = .ok (.iconst 0, 1) := dk_3 (dk_at dksX1_broken_0 9 rfl rfl)
theorem dX1_broken_10 : decode cX1_broken 10 = .ok (.sipush 255, 3) := dk_17 0 255 (dk_at dksX1_broken_0 10 rfl rfl)
theorem dX1_broken_13 : decode cX1_broken 13 = .ok (.invokestatic 145, 3) := dk_184 0 145 (dk_at dksX1_broken_0 13 rfl rfl)
theorem dX1_broken_16 : decode cX1_broken 16 = .ok (.ifCond .ne 5, 3) := dk_154 0 5 (dk_at dksX1_broken_0 16 rfl rfl)
theorem dX1_broken_19 : decode cX1_broken 19 = .ok (.iconst (-1), 1) := dk_2 (dk_at dksX1_broken_0 19 rfl rfl)
theorem dX1_broken_20 : decode cX1_broken 20 = .ok (.ireturn, 1) := dk_172 (dk_at dksX1_broken_0 20 rfl rfl)
theorem dX1_broken_21 : decode cX1_broken 21 = .ok (.aload_n 0, 1) := dk_42 (dk_at dksX1_broken_0 21 rfl rfl)
theorem dX1_broken_22 : decode cX1_broken 22 = .ok (.getfield 62, 3) := dk_180 0 62 (dk_at dksX1_broken_1 0 rfl rfl)
theorem dX1_broken_25 : decode cX1_broken 25 = .ok (.iload_n 1, 1) := dk_27 (dk_at dksX1_broken_1 3 rfl rfl)
theorem dX1_broken_26 : decode cX1_broken 26 = .ok (.iaload, 1) := dk_46 (dk_at dksX1_broken_1 4 rfl rfl)
theorem dX1_broken_27 : decode cX1_broken 27 = .ok (.istore_n 3, 1) := dk_62 (dk_at dksX1_broken_1 5 rfl rfl)
theorem dX1_broken_28 : decode cX1_broken 28 = .ok (.aload_n 0, 1) := dk_42 (dk_at dksX1_broken_1 6 rfl rfl)
theorem dX1_broken_29 : decode cX1_broken 29 = .ok (.getfield 62, 3) := dk_180 0 62 (dk_at dksX1_broken_1 7 rfl rfl)
theorem dX1_broken_32 : decode cX1_broken 32 = .ok (.iload_n 1, 1) := dk_27 (dk_at dksX1_broken_1 10 rfl rfl)
theorem dX1_broken_33 : decode cX1_broken 33 = .ok (.iload_n 2, 1) := dk_28 (dk_at dksX1_broken_1 11 rfl rfl)
theorem dX1_broken_34 : decode cX1_broken 34 = .ok (.iastore, 1) := dk_79 (dk_at dksX1_broken_1 12 rfl rfl)
theorem dX1_broken_35 : decode cX1_broken 35 = .ok (.iload_n 3, 1) := dk_29 (dk_at dksX1_broken_1 13 rfl rfl)
theorem dX1_broken_36 : decode cX1_broken 36 = .ok (.ireturn, 1) := dk_172 (dk_at dksX1_broken_1 14 rfl rfl)
abbrev cX1_told : ByteArray := prog_9_method_26_code
def yX1_told : MethodName := ⟨RX1, "told", "(II)I"⟩
def dkwX1_told_1 : List UInt8 := [167, 0, 4, 2, 172]
abbrev dktX1_told_1 : List UInt8 := dkwX1_told_1 ++ []
def dkwX1_told_0 : List UInt8 := [42, 27, 182, 0, 176, 153, 0, 22, 28, 3, 16, 7, 184, 0, 145, 153, 0, 12, 42, 27, 28, 182, 0, 183]
abbrev dktX1_told_0 : List UInt8 := dkwX1_told_0 ++ dktX1_told_1
theorem dksX1_told_0 : cX1_told.data.toList.drop 0 = dktX1_told_0 := by decide +kernel
theorem dksX1_told_1 : cX1_told.data.toList.drop 24 = dktX1_told_1 := dk_seg dksX1_told_0 24 rfl rfl
theorem dX1_told_0 : decode cX1_told 0 = .ok (.aload_n 0, 1) := dk_42 (dk_at dksX1_told_0 0 rfl rfl)
theorem dX1_told_1 : decode cX1_told 1 = .ok (.iload_n 1, 1) := dk_27 (dk_at dksX1_told_0 1 rfl rfl)
theorem dX1_told_2 : decode cX1_told 2 = .ok (.invokevirtual 176, 3) := dk_182 0 176 (dk_at dksX1_told_0 2 rfl rfl)
theorem dX1_told_5 : decode cX1_told 5 = .ok (.ifCond .eq 22, 3) := dk_153 0 22 (dk_at dksX1_told_0 5 rfl rfl)
theorem dX1_told_8 : decode cX1_told 8 = .ok (.iload_n 2, 1) := dk_28 (dk_at dksX1_told_0 8 rfl rfl)
theorem dX1_told_9 : decode cX1_told 9 = .ok (.iconst 0, 1) := dk_3 (dk_at dksX1_told_0 9 rfl rfl)
theorem dX1_told_10 : decode cX1_told 10 = .ok (.bipush 7, 2) := dk_16 7 (dk_at dksX1_told_0 10 rfl rfl)
theorem dX1_told_12 : decode cX1_told 12 = .ok (.invokestatic 145, 3) := dk_184 0 145 (dk_at dksX1_told_0 12 rfl rfl)
theorem dX1_told_15 : decode cX1_told 15 = .ok (.ifCond .eq 12, 3) := dk_153 0 12 (dk_at dksX1_told_0 15 rfl rfl)
theorem dX1_told_18 : decode cX1_told 18 = .ok (.aload_n 0, 1) := dk_42 (dk_at dksX1_told_0 18 rfl rfl)
theorem dX1_told_19 : decode cX1_told 19 = .ok (.iload_n 1, 1) := dk_27 (dk_at dksX1_told_0 19 rfl rfl)
theorem dX1_told_20 : decode cX1_told 20 = .ok (.iload_n 2, 1) := dk_28 (dk_at dksX1_told_0 20 rfl rfl)
theorem dX1_told_21 : decode cX1_told 21 = .ok (.invokevirtual 183, 3) := dk_182 0 183 (dk_at dksX1_told_0 21 rfl rfl)
theorem dX1_told_24 : decode cX1_told 24 = .ok (.goto 4, 3) := dk_167 0 4 (dk_at dksX1_told_1 0 rfl rfl)
theorem dX1_told_27 : decode cX1_told 27 = .ok (.iconst (-1), 1) := dk_2 (dk_at dksX1_told_1 3 rfl rfl)
theorem dX1_told_28 : decode cX1_told 28 = .ok (.ireturn, 1) := dk_172 (dk_at dksX1_told_1 4 rfl rfl)
abbrev cX1_trainTells : ByteArray := prog_9_method_25_code
def yX1_trainTells : MethodName := ⟨RX1, "trainTells", "(II)I"⟩
def dkwX1_trainTells_5 : List UInt8 := [180, 0, 59, 27, 46, 5, 108, 172, 42, 180, 0, 65, 27, 46, 172]
abbrev dktX1_trainTells_5 : List UInt8 := dkwX1_trainTells_5 ++ []
def dkwX1_trainTells_4 : List UInt8 := [172, 42, 180, 0, 56, 27, 46, 172, 42, 180, 0, 59, 27, 46, 156, 0, 8, 16, 247, 167, 0, 11, 42]
abbrev dktX1_trainTells_4 : List UInt8 := dkwX1_trainTells_4 ++ dktX1_trainTells_5
def dkwX1_trainTells_3 : List UInt8 := [180, 0, 35, 27, 46, 167, 0, 5, 16, 247, 172, 42, 180, 0, 47, 27, 46, 172, 42, 180, 0, 53, 27, 46]
abbrev dktX1_trainTells_3 : List UInt8 := dkwX1_trainTells_3 ++ dktX1_trainTells_4
def dkwX1_trainTells_2 : List UInt8 := [42, 180, 0, 26, 27, 46, 172, 42, 180, 0, 29, 27, 46, 172, 42, 27, 182, 0, 180, 153, 0, 12, 42]
abbrev dktX1_trainTells_2 : List UInt8 := dkwX1_trainTells_2 ++ dktX1_trainTells_3
def dkwX1_trainTells_1 : List UInt8 := [170, 0, 0, 0, 0, 0, 121, 0, 0, 0, 0, 0, 0, 0, 6, 0, 0, 0, 43, 0, 0, 0, 50, 0, 0, 0, 57, 0, 0, 0, 77, 0, 0, 0, 84, 0, 0, 0, 91, 0, 0, 0, 98]
abbrev dktX1_trainTells_1 : List UInt8 := dkwX1_trainTells_1 ++ dktX1_trainTells_2
def dkwX1_trainTells_0 : List UInt8 := [28]
abbrev dktX1_trainTells_0 : List UInt8 := dkwX1_trainTells_0 ++ dktX1_trainTells_1
theorem dksX1_trainTells_0 : cX1_trainTells.data.toList.drop 0 = dktX1_trainTells_0 := by decide +kernel
theorem dksX1_trainTells_1 : cX1_trainTells.data.toList.drop 1 = dktX1_trainTells_1 := dk_seg dksX1_trainTells_0 1 rfl rfl
theorem dksX1_trainTells_2 : cX1_trainTells.data.toList.drop 44 = dktX1_trainTells_2 := dk_seg dksX1_trainTells_1 43 rfl rfl
theorem dksX1_trainTells_3 : cX1_trainTells.data.toList.drop 67 = dktX1_trainTells_3 := dk_seg dksX1_trainTells_2 23 rfl rfl
theorem dksX1_trainTells_4 : cX1_trainTells.data.toList.drop 91 = dktX1_trainTells_4 := dk_seg dksX1_trainTells_3 24 rfl rfl
theorem dksX1_trainTells_5 : cX1_trainTells.data.toList.drop 114 = dktX1_trainTells_5 := dk_seg dksX1_trainTells_4 23 rfl rfl
theorem dX1_trainTells_0 : decode cX1_trainTells 0 = .ok (.iload_n 2, 1) := dk_28 (dk_at dksX1_trainTells_0 0 rfl rfl)
theorem dX1_trainTells_1 : decode cX1_trainTells 1 = .ok (.tableswitch 121 0 6 #[43, 50, 57, 77, 84, 91, 98], 43) := by decide +kernel
theorem dX1_trainTells_44 : decode cX1_trainTells 44 = .ok (.aload_n 0, 1) := dk_42 (dk_at dksX1_trainTells_2 0 rfl rfl)
theorem dX1_trainTells_45 : decode cX1_trainTells 45 = .ok (.getfield 26, 3) := dk_180 0 26 (dk_at dksX1_trainTells_2 1 rfl rfl)
theorem dX1_trainTells_48 : decode cX1_trainTells 48 = .ok (.iload_n 1, 1) := dk_27 (dk_at dksX1_trainTells_2 4 rfl rfl)
theorem dX1_trainTells_49 : decode cX1_trainTells 49 = .ok (.iaload, 1) := dk_46 (dk_at dksX1_trainTells_2 5 rfl rfl)
theorem dX1_trainTells_50 : decode cX1_trainTells 50 = .ok (.ireturn, 1) := dk_172 (dk_at dksX1_trainTells_2 6 rfl rfl)
theorem dX1_trainTells_51 : decode cX1_trainTells 51 = .ok (.aload_n 0, 1) := dk_42 (dk_at dksX1_trainTells_2 7 rfl rfl)
theorem dX1_trainTells_52 : decode cX1_trainTells 52 = .ok (.getfield 29, 3) := dk_180 0 29 (dk_at dksX1_trainTells_2 8 rfl rfl)
theorem dX1_trainTells_55 : decode cX1_trainTells 55 = .ok (.iload_n 1, 1) := dk_27 (dk_at dksX1_trainTells_2 11 rfl rfl)
theorem dX1_trainTells_56 : decode cX1_trainTells 56 = .ok (.iaload, 1) := dk_46 (dk_at dksX1_trainTells_2 12 rfl rfl)
theorem dX1_trainTells_57 : decode cX1_trainTells 57 = .ok (.ireturn, 1) := dk_172 (dk_at dksX1_trainTells_2 13 rfl rfl)
theorem dX1_trainTells_58 : decode cX1_trainTells 58 = .ok (.aload_n 0, 1) := dk_42 (dk_at dksX1_trainTells_2 14 rfl rfl)
theorem dX1_trainTells_59 : decode cX1_trainTells 59 = .ok (.iload_n 1, 1) := dk_27 (dk_at dksX1_trainTells_2 15 rfl rfl)
theorem dX1_trainTells_60 : decode cX1_trainTells 60 = .ok (.invokevirtual 180, 3) := dk_182 0 180 (dk_at dksX1_trainTells_2 16 rfl rfl)
theorem dX1_trainTells_63 : decode cX1_trainTells 63 = .ok (.ifCond .eq 12, 3) := dk_153 0 12 (dk_at dksX1_trainTells_2 19 rfl rfl)
theorem dX1_trainTells_66 : decode cX1_trainTells 66 = .ok (.aload_n 0, 1) := dk_42 (dk_at dksX1_trainTells_2 22 rfl rfl)
theorem dX1_trainTells_67 : decode cX1_trainTells 67 = .ok (.getfield 35, 3) := dk_180 0 35 (dk_at dksX1_trainTells_3 0 rfl rfl)
theorem dX1_trainTells_70 : decode cX1_trainTells 70 = .ok (.iload_n 1, 1) := dk_27 (dk_at dksX1_trainTells_3 3 rfl rfl)
theorem dX1_trainTells_71 : decode cX1_trainTells 71 = .ok (.iaload, 1) := dk_46 (dk_at dksX1_trainTells_3 4 rfl rfl)
theorem dX1_trainTells_72 : decode cX1_trainTells 72 = .ok (.goto 5, 3) := dk_167 0 5 (dk_at dksX1_trainTells_3 5 rfl rfl)
theorem dX1_trainTells_75 : decode cX1_trainTells 75 = .ok (.bipush (-9), 2) := dk_16 247 (dk_at dksX1_trainTells_3 8 rfl rfl)
theorem dX1_trainTells_77 : decode cX1_trainTells 77 = .ok (.ireturn, 1) := dk_172 (dk_at dksX1_trainTells_3 10 rfl rfl)
theorem dX1_trainTells_78 : decode cX1_trainTells 78 = .ok (.aload_n 0, 1) := dk_42 (dk_at dksX1_trainTells_3 11 rfl rfl)
theorem dX1_trainTells_79 : decode cX1_trainTells 79 = .ok (.getfield 47, 3) := dk_180 0 47 (dk_at dksX1_trainTells_3 12 rfl rfl)
theorem dX1_trainTells_82 : decode cX1_trainTells 82 = .ok (.iload_n 1, 1) := dk_27 (dk_at dksX1_trainTells_3 15 rfl rfl)
theorem dX1_trainTells_83 : decode cX1_trainTells 83 = .ok (.iaload, 1) := dk_46 (dk_at dksX1_trainTells_3 16 rfl rfl)
theorem dX1_trainTells_84 : decode cX1_trainTells 84 = .ok (.ireturn, 1) := dk_172 (dk_at dksX1_trainTells_3 17 rfl rfl)
theorem dX1_trainTells_85 : decode cX1_trainTells 85 = .ok (.aload_n 0, 1) := dk_42 (dk_at dksX1_trainTells_3 18 rfl rfl)
theorem dX1_trainTells_86 : decode cX1_trainTells 86 = .ok (.getfield 53, 3) := dk_180 0 53 (dk_at dksX1_trainTells_3 19 rfl rfl)
theorem dX1_trainTells_89 : decode cX1_trainTells 89 = .ok (.iload_n 1, 1) := dk_27 (dk_at dksX1_trainTells_3 22 rfl rfl)
theorem dX1_trainTells_90 : decode cX1_trainTells 90 = .ok (.iaload, 1) := dk_46 (dk_at dksX1_trainTells_3 23 rfl rfl)
theorem dX1_trainTells_91 : decode cX1_trainTells 91 = .ok (.ireturn, 1) := dk_172 (dk_at dksX1_trainTells_4 0 rfl rfl)
theorem dX1_trainTells_92 : decode cX1_trainTells 92 = .ok (.aload_n 0, 1) := dk_42 (dk_at dksX1_trainTells_4 1 rfl rfl)
theorem dX1_trainTells_93 : decode cX1_trainTells 93 = .ok (.getfield 56, 3) := dk_180 0 56 (dk_at dksX1_trainTells_4 2 rfl rfl)
theorem dX1_trainTells_96 : decode cX1_trainTells 96 = .ok (.iload_n 1, 1) := dk_27 (dk_at dksX1_trainTells_4 5 rfl rfl)
theorem dX1_trainTells_97 : decode cX1_trainTells 97 = .ok (.iaload, 1) := dk_46 (dk_at dksX1_trainTells_4 6 rfl rfl)
theorem dX1_trainTells_98 : decode cX1_trainTells 98 = .ok (.ireturn, 1) := dk_172 (dk_at dksX1_trainTells_4 7 rfl rfl)
theorem dX1_trainTells_99 : decode cX1_trainTells 99 = .ok (.aload_n 0, 1) := dk_42 (dk_at dksX1_trainTells_4 8 rfl rfl)
theorem dX1_trainTells_100 : decode cX1_trainTells 100 = .ok (.getfield 59, 3) := dk_180 0 59 (dk_at dksX1_trainTells_4 9 rfl rfl)
theorem dX1_trainTells_103 : decode cX1_trainTells 103 = .ok (.iload_n 1, 1) := dk_27 (dk_at dksX1_trainTells_4 12 rfl rfl)
theorem dX1_trainTells_104 : decode cX1_trainTells 104 = .ok (.iaload, 1) := dk_46 (dk_at dksX1_trainTells_4 13 rfl rfl)
theorem dX1_trainTells_105 : decode cX1_trainTells 105 = .ok (.ifCond .ge 8, 3) := dk_156 0 8 (dk_at dksX1_trainTells_4 14 rfl rfl)
theorem dX1_trainTells_108 : decode cX1_trainTells 108 = .ok (.bipush (-9), 2) := dk_16 247 (dk_at dksX1_trainTells_4 17 rfl rfl)
theorem dX1_trainTells_110 : decode cX1_trainTells 110 = .ok (.goto 11, 3) := dk_167 0 11 (dk_at dksX1_trainTells_4 19 rfl rfl)
theorem dX1_trainTells_113 : decode cX1_trainTells 113 = .ok (.aload_n 0, 1) := dk_42 (dk_at dksX1_trainTells_4 22 rfl rfl)
theorem dX1_trainTells_114 : decode cX1_trainTells 114 = .ok (.getfield 59, 3) := dk_180 0 59 (dk_at dksX1_trainTells_5 0 rfl rfl)
theorem dX1_trainTells_117 : decode cX1_trainTells 117 = .ok (.iload_n 1, 1) := dk_27 (dk_at dksX1_trainTells_5 3 rfl rfl)
theorem dX1_trainTells_118 : decode cX1_trainTells 118 = .ok (.iaload, 1) := dk_46 (dk_at dksX1_trainTells_5 4 rfl rfl)
theorem dX1_trainTells_119 : decode cX1_trainTells 119 = .ok (.iconst 2, 1) := dk_5 (dk_at dksX1_trainTells_5 5 rfl rfl)
theorem dX1_trainTells_120 : decode cX1_trainTells 120 = .ok (.idiv, 1) := dk_108 (dk_at dksX1_trainTells_5 6 rfl rfl)
theorem dX1_trainTells_121 : decode cX1_trainTells 121 = .ok (.ireturn, 1) := dk_172 (dk_at dksX1_trainTells_5 7 rfl rfl)
theorem dX1_trainTells_122 : decode cX1_trainTells 122 = .ok (.aload_n 0, 1) := dk_42 (dk_at dksX1_trainTells_5 8 rfl rfl)
theorem dX1_trainTells_123 : decode cX1_trainTells 123 = .ok (.getfield 65, 3) := dk_180 0 65 (dk_at dksX1_trainTells_5 9 rfl rfl)
theorem dX1_trainTells_126 : decode cX1_trainTells 126 = .ok (.iload_n 1, 1) := dk_27 (dk_at dksX1_trainTells_5 12 rfl rfl)
theorem dX1_trainTells_127 : decode cX1_trainTells 127 = .ok (.iaload, 1) := dk_46 (dk_at dksX1_trainTells_5 13 rfl rfl)
theorem dX1_trainTells_128 : decode cX1_trainTells 128 = .ok (.ireturn, 1) := dk_172 (dk_at dksX1_trainTells_5 14 rfl rfl)
abbrev cX1_isPlate : ByteArray := prog_9_method_21_code
def yX1_isPlate : MethodName := ⟨RX1, "isPlate", "(I)Z"⟩
def dkwX1_isPlate_1 : List UInt8 := [3, 172]
abbrev dktX1_isPlate_1 : List UInt8 := dkwX1_isPlate_1 ++ []
def dkwX1_isPlate_0 : List UInt8 := [42, 180, 0, 26, 27, 46, 4, 159, 0, 13, 42, 180, 0, 26, 27, 46, 6, 160, 0, 7, 4, 167, 0, 4]
abbrev dktX1_isPlate_0 : List UInt8 := dkwX1_isPlate_0 ++ dktX1_isPlate_1
theorem dksX1_isPlate_0 : cX1_isPlate.data.toList.drop 0 = dktX1_isPlate_0 := by decide +kernel
theorem dksX1_isPlate_1 : cX1_isPlate.data.toList.drop 24 = dktX1_isPlate_1 := dk_seg dksX1_isPlate_0 24 rfl rfl
theorem dX1_isPlate_0 : decode cX1_isPlate 0 = .ok (.aload_n 0, 1) := dk_42 (dk_at dksX1_isPlate_0 0 rfl rfl)
theorem dX1_isPlate_1 : decode cX1_isPlate 1 = .ok (.getfield 26, 3) := dk_180 0 26 (dk_at dksX1_isPlate_0 1 rfl rfl)
theorem dX1_isPlate_4 : decode cX1_isPlate 4 = .ok (.iload_n 1, 1) := dk_27 (dk_at dksX1_isPlate_0 4 rfl rfl)
theorem dX1_isPlate_5 : decode cX1_isPlate 5 = .ok (.iaload, 1) := dk_46 (dk_at dksX1_isPlate_0 5 rfl rfl)
theorem dX1_isPlate_6 : decode cX1_isPlate 6 = .ok (.iconst 1, 1) := dk_4 (dk_at dksX1_isPlate_0 6 rfl rfl)
theorem dX1_isPlate_7 : decode cX1_isPlate 7 = .ok (.if_icmp .eq 13, 3) := dk_159 0 13 (dk_at dksX1_isPlate_0 7 rfl rfl)
theorem dX1_isPlate_10 : decode cX1_isPlate 10 = .ok (.aload_n 0, 1) := dk_42 (dk_at dksX1_isPlate_0 10 rfl rfl)
theorem dX1_isPlate_11 : decode cX1_isPlate 11 = .ok (.getfield 26, 3) := dk_180 0 26 (dk_at dksX1_isPlate_0 11 rfl rfl)
theorem dX1_isPlate_14 : decode cX1_isPlate 14 = .ok (.iload_n 1, 1) := dk_27 (dk_at dksX1_isPlate_0 14 rfl rfl)
theorem dX1_isPlate_15 : decode cX1_isPlate 15 = .ok (.iaload, 1) := dk_46 (dk_at dksX1_isPlate_0 15 rfl rfl)
theorem dX1_isPlate_16 : decode cX1_isPlate 16 = .ok (.iconst 3, 1) := dk_6 (dk_at dksX1_isPlate_0 16 rfl rfl)
theorem dX1_isPlate_17 : decode cX1_isPlate 17 = .ok (.if_icmp .ne 7, 3) := dk_160 0 7 (dk_at dksX1_isPlate_0 17 rfl rfl)
theorem dX1_isPlate_20 : decode cX1_isPlate 20 = .ok (.iconst 1, 1) := dk_4 (dk_at dksX1_isPlate_0 20 rfl rfl)
theorem dX1_isPlate_21 : decode cX1_isPlate 21 = .ok (.goto 4, 3) := dk_167 0 4 (dk_at dksX1_isPlate_0 21 rfl rfl)
theorem dX1_isPlate_24 : decode cX1_isPlate 24 = .ok (.iconst 0, 1) := dk_3 (dk_at dksX1_isPlate_1 0 rfl rfl)
theorem dX1_isPlate_25 : decode cX1_isPlate 25 = .ok (.ireturn, 1) := dk_172 (dk_at dksX1_isPlate_1 1 rfl rfl)
abbrev cX1_mark : ByteArray := prog_9_method_28_code
def yX1_mark : MethodName := ⟨RX1, "mark", "(II)I"⟩
def dkwX1_mark_3 : List UInt8 := [160, 0, 7, 4, 167, 0, 4, 3, 182, 0, 186, 172]
abbrev dktX1_mark_3 : List UInt8 := dkwX1_mark_3 ++ []
def dkwX1_mark_2 : List UInt8 := [182, 0, 153, 172, 28, 6, 160, 0, 12, 42, 180, 0, 44, 27, 46, 167, 0, 18, 42, 27, 28, 5]
abbrev dktX1_mark_2 : List UInt8 := dkwX1_mark_2 ++ dktX1_mark_3
def dkwX1_mark_1 : List UInt8 := [46, 28, 159, 0, 24, 28, 4, 160, 0, 13, 42, 180, 0, 26, 27, 46, 6, 159, 0, 9, 42, 6]
abbrev dktX1_mark_1 : List UInt8 := dkwX1_mark_1 ++ dktX1_mark_2
def dkwX1_mark_0 : List UInt8 := [42, 27, 182, 0, 176, 153, 0, 12, 28, 4, 6, 184, 0, 145, 154, 0, 5, 2, 172, 42, 180, 0, 26, 27]
abbrev dktX1_mark_0 : List UInt8 := dkwX1_mark_0 ++ dktX1_mark_1
theorem dksX1_mark_0 : cX1_mark.data.toList.drop 0 = dktX1_mark_0 := by decide +kernel
theorem dksX1_mark_1 : cX1_mark.data.toList.drop 24 = dktX1_mark_1 := dk_seg dksX1_mark_0 24 rfl rfl
theorem dksX1_mark_2 : cX1_mark.data.toList.drop 46 = dktX1_mark_2 := dk_seg dksX1_mark_1 22 rfl rfl
theorem dksX1_mark_3 : cX1_mark.data.toList.drop 68 = dktX1_mark_3 := dk_seg dksX1_mark_2 22 rfl rfl
theorem dX1_mark_0 : decode cX1_mark 0 = .ok (.aload_n 0, 1) := dk_42 (dk_at dksX1_mark_0 0 rfl rfl)
theorem dX1_mark_1 : decode cX1_mark 1 = .ok (.iload_n 1, 1) := dk_27 (dk_at dksX1_mark_0 1 rfl rfl)
theorem dX1_mark_2 : decode cX1_mark 2 = .ok (.invokevirtual 176, 3) := dk_182 0 176 (dk_at dksX1_mark_0 2 rfl rfl)
theorem dX1_mark_5 : decode cX1_mark 5 = .ok (.ifCond .eq 12, 3) := dk_153 0 12 (dk_at dksX1_mark_0 5 rfl rfl)
theorem dX1_mark_8 : decode cX1_mark 8 = .ok (.iload_n 2, 1) := dk_28 (dk_at dksX1_mark_0 8 rfl rfl)
theorem dX1_mark_9 : decode cX1_mark 9 = .ok (.iconst 1, 1) := dk_4 (dk_at dksX1_mark_0 9 rfl rfl)
theorem dX1_mark_10 : decode cX1_mark 10 = .ok (.iconst 3, 1) := dk_6 (dk_at dksX1_mark_0 10 rfl rfl)
theorem dX1_mark_11 : decode cX1_mark 11 = .ok (.invokestatic 145, 3) := dk_184 0 145 (dk_at dksX1_mark_0 11 rfl rfl)
theorem dX1_mark_14 : decode cX1_mark 14 = .ok (.ifCond .ne 5, 3) := dk_154 0 5 (dk_at dksX1_mark_0 14 rfl rfl)
theorem dX1_mark_17 : decode cX1_mark 17 = .ok (.iconst (-1), 1) := dk_2 (dk_at dksX1_mark_0 17 rfl rfl)
theorem dX1_mark_18 : decode cX1_mark 18 = .ok (.ireturn, 1) := dk_172 (dk_at dksX1_mark_0 18 rfl rfl)
theorem dX1_mark_19 : decode cX1_mark 19 = .ok (.aload_n 0, 1) := dk_42 (dk_at dksX1_mark_0 19 rfl rfl)
theorem dX1_mark_20 : decode cX1_mark 20 = .ok (.getfield 26, 3) := dk_180 0 26 (dk_at dksX1_mark_0 20 rfl rfl)
theorem dX1_mark_23 : decode cX1_mark 23 = .ok (.iload_n 1, 1) := dk_27 (dk_at dksX1_mark_0 23 rfl rfl)
theorem dX1_mark_24 : decode cX1_mark 24 = .ok (.iaload, 1) := dk_46 (dk_at dksX1_mark_1 0 rfl rfl)
theorem dX1_mark_25 : decode cX1_mark 25 = .ok (.iload_n 2, 1) := dk_28 (dk_at dksX1_mark_1 1 rfl rfl)
theorem dX1_mark_26 : decode cX1_mark 26 = .ok (.if_icmp .eq 24, 3) := dk_159 0 24 (dk_at dksX1_mark_1 2 rfl rfl)
theorem dX1_mark_29 : decode cX1_mark 29 = .ok (.iload_n 2, 1) := dk_28 (dk_at dksX1_mark_1 5 rfl rfl)
theorem dX1_mark_30 : decode cX1_mark 30 = .ok (.iconst 1, 1) := dk_4 (dk_at dksX1_mark_1 6 rfl rfl)
theorem dX1_mark_31 : decode cX1_mark 31 = .ok (.if_icmp .ne 13, 3) := dk_160 0 13 (dk_at dksX1_mark_1 7 rfl rfl)
theorem dX1_mark_34 : decode cX1_mark 34 = .ok (.aload_n 0, 1) := dk_42 (dk_at dksX1_mark_1 10 rfl rfl)
theorem dX1_mark_35 : decode cX1_mark 35 = .ok (.getfield 26, 3) := dk_180 0 26 (dk_at dksX1_mark_1 11 rfl rfl)
theorem dX1_mark_38 : decode cX1_mark 38 = .ok (.iload_n 1, 1) := dk_27 (dk_at dksX1_mark_1 14 rfl rfl)
theorem dX1_mark_39 : decode cX1_mark 39 = .ok (.iaload, 1) := dk_46 (dk_at dksX1_mark_1 15 rfl rfl)
theorem dX1_mark_40 : decode cX1_mark 40 = .ok (.iconst 3, 1) := dk_6 (dk_at dksX1_mark_1 16 rfl rfl)
theorem dX1_mark_41 : decode cX1_mark 41 = .ok (.if_icmp .eq 9, 3) := dk_159 0 9 (dk_at dksX1_mark_1 17 rfl rfl)
theorem dX1_mark_44 : decode cX1_mark 44 = .ok (.aload_n 0, 1) := dk_42 (dk_at dksX1_mark_1 20 rfl rfl)
theorem dX1_mark_45 : decode cX1_mark 45 = .ok (.iconst 3, 1) := dk_6 (dk_at dksX1_mark_1 21 rfl rfl)
theorem dX1_mark_46 : decode cX1_mark 46 = .ok (.invokevirtual 153, 3) := dk_182 0 153 (dk_at dksX1_mark_2 0 rfl rfl)
theorem dX1_mark_49 : decode cX1_mark 49 = .ok (.ireturn, 1) := dk_172 (dk_at dksX1_mark_2 3 rfl rfl)
theorem dX1_mark_50 : decode cX1_mark 50 = .ok (.iload_n 2, 1) := dk_28 (dk_at dksX1_mark_2 4 rfl rfl)
theorem dX1_mark_51 : decode cX1_mark 51 = .ok (.iconst 3, 1) := dk_6 (dk_at dksX1_mark_2 5 rfl rfl)
theorem dX1_mark_52 : decode cX1_mark 52 = .ok (.if_icmp .ne 12, 3) := dk_160 0 12 (dk_at dksX1_mark_2 6 rfl rfl)
theorem dX1_mark_55 : decode cX1_mark 55 = .ok (.aload_n 0, 1) := dk_42 (dk_at dksX1_mark_2 9 rfl rfl)
theorem dX1_mark_56 : decode cX1_mark 56 = .ok (.getfield 44, 3) := dk_180 0 44 (dk_at dksX1_mark_2 10 rfl rfl)
theorem dX1_mark_59 : decode cX1_mark 59 = .ok (.iload_n 1, 1) := dk_27 (dk_at dksX1_mark_2 13 rfl rfl)
theorem dX1_mark_60 : decode cX1_mark 60 = .ok (.iaload, 1) := dk_46 (dk_at dksX1_mark_2 14 rfl rfl)
theorem dX1_mark_61 : decode cX1_mark 61 = .ok (.goto 18, 3) := dk_167 0 18 (dk_at dksX1_mark_2 15 rfl rfl)
theorem dX1_mark_64 : decode cX1_mark 64 = .ok (.aload_n 0, 1) := dk_42 (dk_at dksX1_mark_2 18 rfl rfl)
theorem dX1_mark_65 : decode cX1_mark 65 = .ok (.iload_n 1, 1) := dk_27 (dk_at dksX1_mark_2 19 rfl rfl)
theorem dX1_mark_66 : decode cX1_mark 66 = .ok (.iload_n 2, 1) := dk_28 (dk_at dksX1_mark_2 20 rfl rfl)
theorem dX1_mark_67 : decode cX1_mark 67 = .ok (.iconst 2, 1) := dk_5 (dk_at dksX1_mark_2 21 rfl rfl)
theorem dX1_mark_68 : decode cX1_mark 68 = .ok (.if_icmp .ne 7, 3) := dk_160 0 7 (dk_at dksX1_mark_3 0 rfl rfl)
theorem dX1_mark_71 : decode cX1_mark 71 = .ok (.iconst 1, 1) := dk_4 (dk_at dksX1_mark_3 3 rfl rfl)
theorem dX1_mark_72 : decode cX1_mark 72 = .ok (.goto 4, 3) := dk_167 0 4 (dk_at dksX1_mark_3 4 rfl rfl)
theorem dX1_mark_75 : decode cX1_mark 75 = .ok (.iconst 0, 1) := dk_3 (dk_at dksX1_mark_3 7 rfl rfl)
theorem dX1_mark_76 : decode cX1_mark 76 = .ok (.invokevirtual 186, 3) := dk_182 0 186 (dk_at dksX1_mark_3 8 rfl rfl)
theorem dX1_mark_79 : decode cX1_mark 79 = .ok (.ireturn, 1) := dk_172 (dk_at dksX1_mark_3 11 rfl rfl)
abbrev cX1_over : ByteArray := prog_9_method_27_code
def yX1_over : MethodName := ⟨RX1, "over", "(IZ)I"⟩
def dkwX1_over_2 : List UInt8 := [167, 0, 7, 29, 21, 5, 96, 62, 132, 4, 1, 167, 255, 204, 29, 172]
abbrev dktX1_over_2 : List UInt8 := dkwX1_over_2 ++ []
def dkwX1_over_1 : List UInt8 := [21, 4, 96, 46, 54, 5, 28, 153, 0, 18, 21, 5, 29, 164, 0, 8, 21, 5, 167, 0, 11, 29]
abbrev dktX1_over_1 : List UInt8 := dkwX1_over_1 ++ dktX1_over_2
def dkwX1_over_0 : List UInt8 := [3, 62, 3, 54, 4, 21, 4, 42, 180, 0, 29, 27, 46, 162, 0, 47, 42, 180, 0, 32, 16, 24, 27, 104]
abbrev dktX1_over_0 : List UInt8 := dkwX1_over_0 ++ dktX1_over_1
theorem dksX1_over_0 : cX1_over.data.toList.drop 0 = dktX1_over_0 := by decide +kernel
theorem dksX1_over_1 : cX1_over.data.toList.drop 24 = dktX1_over_1 := dk_seg dksX1_over_0 24 rfl rfl
theorem dksX1_over_2 : cX1_over.data.toList.drop 46 = dktX1_over_2 := dk_seg dksX1_over_1 22 rfl rfl
theorem dX1_over_0 : decode cX1_over 0 = .ok (.iconst 0, 1) := dk_3 (dk_at dksX1_over_0 0 rfl rfl)
theorem dX1_over_1 : decode cX1_over 1 = .ok (.istore_n 3, 1) := dk_62 (dk_at dksX1_over_0 1 rfl rfl)
theorem dX1_over_2 : decode cX1_over 2 = .ok (.iconst 0, 1) := dk_3 (dk_at dksX1_over_0 2 rfl rfl)
theorem dX1_over_3 : decode cX1_over 3 = .ok (.istore 4, 2) := dk_54 4 (dk_at dksX1_over_0 3 rfl rfl)
theorem dX1_over_5 : decode cX1_over 5 = .ok (.iload 4, 2) := dk_21 4 (dk_at dksX1_over_0 5 rfl rfl)
theorem dX1_over_7 : decode cX1_over 7 = .ok (.aload_n 0, 1) := dk_42 (dk_at dksX1_over_0 7 rfl rfl)
theorem dX1_over_8 : decode cX1_over 8 = .ok (.getfield 29, 3) := dk_180 0 29 (dk_at dksX1_over_0 8 rfl rfl)
theorem dX1_over_11 : decode cX1_over 11 = .ok (.iload_n 1, 1) := dk_27 (dk_at dksX1_over_0 11 rfl rfl)
theorem dX1_over_12 : decode cX1_over 12 = .ok (.iaload, 1) := dk_46 (dk_at dksX1_over_0 12 rfl rfl)
theorem dX1_over_13 : decode cX1_over 13 = .ok (.if_icmp .ge 47, 3) := dk_162 0 47 (dk_at dksX1_over_0 13 rfl rfl)
theorem dX1_over_16 : decode cX1_over 16 = .ok (.aload_n 0, 1) := dk_42 (dk_at dksX1_over_0 16 rfl rfl)
theorem dX1_over_17 : decode cX1_over 17 = .ok (.getfield 32, 3) := dk_180 0 32 (dk_at dksX1_over_0 17 rfl rfl)
theorem dX1_over_20 : decode cX1_over 20 = .ok (.bipush 24, 2) := dk_16 24 (dk_at dksX1_over_0 20 rfl rfl)
theorem dX1_over_22 : decode cX1_over 22 = .ok (.iload_n 1, 1) := dk_27 (dk_at dksX1_over_0 22 rfl rfl)
theorem dX1_over_23 : decode cX1_over 23 = .ok (.imul, 1) := dk_104 (dk_at dksX1_over_0 23 rfl rfl)
theorem dX1_over_24 : decode cX1_over 24 = .ok (.iload 4, 2) := dk_21 4 (dk_at dksX1_over_1 0 rfl rfl)
theorem dX1_over_26 : decode cX1_over 26 = .ok (.iadd, 1) := dk_96 (dk_at dksX1_over_1 2 rfl rfl)
theorem dX1_over_27 : decode cX1_over 27 = .ok (.iaload, 1) := dk_46 (dk_at dksX1_over_1 3 rfl rfl)
theorem dX1_over_28 : decode cX1_over 28 = .ok (.istore 5, 2) := dk_54 5 (dk_at dksX1_over_1 4 rfl rfl)
theorem dX1_over_30 : decode cX1_over 30 = .ok (.iload_n 2, 1) := dk_28 (dk_at dksX1_over_1 6 rfl rfl)
theorem dX1_over_31 : decode cX1_over 31 = .ok (.ifCond .eq 18, 3) := dk_153 0 18 (dk_at dksX1_over_1 7 rfl rfl)
theorem dX1_over_34 : decode cX1_over 34 = .ok (.iload 5, 2) := dk_21 5 (dk_at dksX1_over_1 10 rfl rfl)
theorem dX1_over_36 : decode cX1_over 36 = .ok (.iload_n 3, 1) := dk_29 (dk_at dksX1_over_1 12 rfl rfl)
theorem dX1_over_37 : decode cX1_over 37 = .ok (.if_icmp .le 8, 3) := dk_164 0 8 (dk_at dksX1_over_1 13 rfl rfl)
theorem dX1_over_40 : decode cX1_over 40 = .ok (.iload 5, 2) := dk_21 5 (dk_at dksX1_over_1 16 rfl rfl)
theorem dX1_over_42 : decode cX1_over 42 = .ok (.goto 11, 3) := dk_167 0 11 (dk_at dksX1_over_1 18 rfl rfl)
theorem dX1_over_45 : decode cX1_over 45 = .ok (.iload_n 3, 1) := dk_29 (dk_at dksX1_over_1 21 rfl rfl)
theorem dX1_over_46 : decode cX1_over 46 = .ok (.goto 7, 3) := dk_167 0 7 (dk_at dksX1_over_2 0 rfl rfl)
theorem dX1_over_49 : decode cX1_over 49 = .ok (.iload_n 3, 1) := dk_29 (dk_at dksX1_over_2 3 rfl rfl)
theorem dX1_over_50 : decode cX1_over 50 = .ok (.iload 5, 2) := dk_21 5 (dk_at dksX1_over_2 4 rfl rfl)
theorem dX1_over_52 : decode cX1_over 52 = .ok (.iadd, 1) := dk_96 (dk_at dksX1_over_2 6 rfl rfl)
theorem dX1_over_53 : decode cX1_over 53 = .ok (.istore_n 3, 1) := dk_62 (dk_at dksX1_over_2 7 rfl rfl)
theorem dX1_over_54 : decode cX1_over 54 = .ok (.iinc 4 1, 3) := dk_132 4 1 (dk_at dksX1_over_2 8 rfl rfl)
theorem dX1_over_57 : decode cX1_over 57 = .ok (.goto (-52), 3) := dk_167 255 204 (dk_at dksX1_over_2 11 rfl rfl)
theorem dX1_over_60 : decode cX1_over 60 = .ok (.iload_n 3, 1) := dk_29 (dk_at dksX1_over_2 14 rfl rfl)
theorem dX1_over_61 : decode cX1_over 61 = .ok (.ireturn, 1) := dk_172 (dk_at dksX1_over_2 15 rfl rfl)
abbrev cX1_notch : ByteArray := prog_9_method_30_code
def yX1_notch : MethodName := ⟨RX1, "notch", "(II)I"⟩
def dkwX1_notch_1 : List UInt8 := [96, 46, 172]
abbrev dktX1_notch_1 : List UInt8 := dkwX1_notch_1 ++ []
def dkwX1_notch_0 : List UInt8 := [42, 27, 28, 182, 0, 190, 62, 29, 156, 0, 7, 29, 167, 0, 14, 42, 180, 0, 32, 16, 24, 27, 104, 28]
abbrev dktX1_notch_0 : List UInt8 := dkwX1_notch_0 ++ dktX1_notch_1
theorem dksX1_notch_0 : cX1_notch.data.toList.drop 0 = dktX1_notch_0 := by decide +kernel
theorem dksX1_notch_1 : cX1_notch.data.toList.drop 24 = dktX1_notch_1 := dk_seg dksX1_notch_0 24 rfl rfl
theorem dX1_notch_0 : decode cX1_notch 0 = .ok (.aload_n 0, 1) := dk_42 (dk_at dksX1_notch_0 0 rfl rfl)
theorem dX1_notch_1 : decode cX1_notch 1 = .ok (.iload_n 1, 1) := dk_27 (dk_at dksX1_notch_0 1 rfl rfl)
theorem dX1_notch_2 : decode cX1_notch 2 = .ok (.iload_n 2, 1) := dk_28 (dk_at dksX1_notch_0 2 rfl rfl)
theorem dX1_notch_3 : decode cX1_notch 3 = .ok (.invokevirtual 190, 3) := dk_182 0 190 (dk_at dksX1_notch_0 3 rfl rfl)
theorem dX1_notch_6 : decode cX1_notch 6 = .ok (.istore_n 3, 1) := dk_62 (dk_at dksX1_notch_0 6 rfl rfl)
theorem dX1_notch_7 : decode cX1_notch 7 = .ok (.iload_n 3, 1) := dk_29 (dk_at dksX1_notch_0 7 rfl rfl)
theorem dX1_notch_8 : decode cX1_notch 8 = .ok (.ifCond .ge 7, 3) := dk_156 0 7 (dk_at dksX1_notch_0 8 rfl rfl)
theorem dX1_notch_11 : decode cX1_notch 11 = .ok (.iload_n 3, 1) := dk_29 (dk_at dksX1_notch_0 11 rfl rfl)
theorem dX1_notch_12 : decode cX1_notch 12 = .ok (.goto 14, 3) := dk_167 0 14 (dk_at dksX1_notch_0 12 rfl rfl)
theorem dX1_notch_15 : decode cX1_notch 15 = .ok (.aload_n 0, 1) := dk_42 (dk_at dksX1_notch_0 15 rfl rfl)
theorem dX1_notch_16 : decode cX1_notch 16 = .ok (.getfield 32, 3) := dk_180 0 32 (dk_at dksX1_notch_0 16 rfl rfl)
theorem dX1_notch_19 : decode cX1_notch 19 = .ok (.bipush 24, 2) := dk_16 24 (dk_at dksX1_notch_0 19 rfl rfl)
theorem dX1_notch_21 : decode cX1_notch 21 = .ok (.iload_n 1, 1) := dk_27 (dk_at dksX1_notch_0 21 rfl rfl)
theorem dX1_notch_22 : decode cX1_notch 22 = .ok (.imul, 1) := dk_104 (dk_at dksX1_notch_0 22 rfl rfl)
theorem dX1_notch_23 : decode cX1_notch 23 = .ok (.iload_n 2, 1) := dk_28 (dk_at dksX1_notch_0 23 rfl rfl)
theorem dX1_notch_24 : decode cX1_notch 24 = .ok (.iadd, 1) := dk_96 (dk_at dksX1_notch_1 0 rfl rfl)
theorem dX1_notch_25 : decode cX1_notch 25 = .ok (.iaload, 1) := dk_46 (dk_at dksX1_notch_1 1 rfl rfl)
theorem dX1_notch_26 : decode cX1_notch 26 = .ok (.ireturn, 1) := dk_172 (dk_at dksX1_notch_1 2 rfl rfl)
abbrev cX1_askedNotch : ByteArray := prog_9_method_29_code
def yX1_askedNotch : MethodName := ⟨RX1, "askedNotch", "(II)I"⟩
def dkwX1_askedNotch_2 : List UInt8 := [167, 0, 8, 42, 5, 182, 0, 153, 172]
abbrev dktX1_askedNotch_2 : List UInt8 := dkwX1_askedNotch_2 ++ []
def dkwX1_askedNotch_1 : List UInt8 := [182, 0, 153, 167, 0, 28, 28, 3, 42, 180, 0, 29, 27, 46, 4, 100, 184, 0, 145, 153, 0, 7, 3]
abbrev dktX1_askedNotch_1 : List UInt8 := dkwX1_askedNotch_1 ++ dktX1_askedNotch_2
def dkwX1_askedNotch_0 : List UInt8 := [42, 27, 182, 0, 176, 154, 0, 7, 2, 167, 0, 45, 42, 180, 0, 26, 27, 46, 154, 0, 11, 42, 6]
abbrev dktX1_askedNotch_0 : List UInt8 := dkwX1_askedNotch_0 ++ dktX1_askedNotch_1
theorem dksX1_askedNotch_0 : cX1_askedNotch.data.toList.drop 0 = dktX1_askedNotch_0 := by decide +kernel
theorem dksX1_askedNotch_1 : cX1_askedNotch.data.toList.drop 23 = dktX1_askedNotch_1 := dk_seg dksX1_askedNotch_0 23 rfl rfl
theorem dksX1_askedNotch_2 : cX1_askedNotch.data.toList.drop 46 = dktX1_askedNotch_2 := dk_seg dksX1_askedNotch_1 23 rfl rfl
theorem dX1_askedNotch_0 : decode cX1_askedNotch 0 = .ok (.aload_n 0, 1) := dk_42 (dk_at dksX1_askedNotch_0 0 rfl rfl)
theorem dX1_askedNotch_1 : decode cX1_askedNotch 1 = .ok (.iload_n 1, 1) := dk_27 (dk_at dksX1_askedNotch_0 1 rfl rfl)
theorem dX1_askedNotch_2 : decode cX1_askedNotch 2 = .ok (.invokevirtual 176, 3) := dk_182 0 176 (dk_at dksX1_askedNotch_0 2 rfl rfl)
theorem dX1_askedNotch_5 : decode cX1_askedNotch 5 = .ok (.ifCond .ne 7, 3) := dk_154 0 7 (dk_at dksX1_askedNotch_0 5 rfl rfl)
theorem dX1_askedNotch_8 : decode cX1_askedNotch 8 = .ok (.iconst (-1), 1) := dk_2 (dk_at dksX1_askedNotch_0 8 rfl rfl)
theorem dX1_askedNotch_9 : decode cX1_askedNotch 9 = .ok (.goto 45, 3) := dk_167 0 45 (dk_at dksX1_askedNotch_0 9 rfl rfl)
theorem dX1_askedNotch_12 : decode cX1_askedNotch 12 = .ok (.aload_n 0, 1) := dk_42 (dk_at dksX1_askedNotch_0 12 rfl rfl)
theorem dX1_askedNotch_13 : decode cX1_askedNotch 13 = .ok (.getfield 26, 3) := dk_180 0 26 (dk_at dksX1_askedNotch_0 13 rfl rfl)
theorem dX1_askedNotch_16 : decode cX1_askedNotch 16 = .ok (.iload_n 1, 1) := dk_27 (dk_at dksX1_askedNotch_0 16 rfl rfl)
theorem dX1_askedNotch_17 : decode cX1_askedNotch 17 = .ok (.iaload, 1) := dk_46 (dk_at dksX1_askedNotch_0 17 rfl rfl)
theorem dX1_askedNotch_18 : decode cX1_askedNotch 18 = .ok (.ifCond .ne 11, 3) := dk_154 0 11 (dk_at dksX1_askedNotch_0 18 rfl rfl)
theorem dX1_askedNotch_21 : decode cX1_askedNotch 21 = .ok (.aload_n 0, 1) := dk_42 (dk_at dksX1_askedNotch_0 21 rfl rfl)
theorem dX1_askedNotch_22 : decode cX1_askedNotch 22 = .ok (.iconst 3, 1) := dk_6 (dk_at dksX1_askedNotch_0 22 rfl rfl)
theorem dX1_askedNotch_23 : decode cX1_askedNotch 23 = .ok (.invokevirtual 153, 3) := dk_182 0 153 (dk_at dksX1_askedNotch_1 0 rfl rfl)
theorem dX1_askedNotch_26 : decode cX1_askedNotch 26 = .ok (.goto 28, 3) := dk_167 0 28 (dk_at dksX1_askedNotch_1 3 rfl rfl)
theorem dX1_askedNotch_29 : decode cX1_askedNotch 29 = .ok (.iload_n 2, 1) := dk_28 (dk_at dksX1_askedNotch_1 6 rfl rfl)
theorem dX1_askedNotch_30 : decode cX1_askedNotch 30 = .ok (.iconst 0, 1) := dk_3 (dk_at dksX1_askedNotch_1 7 rfl rfl)
theorem dX1_askedNotch_31 : decode cX1_askedNotch 31 = .ok (.aload_n 0, 1) := dk_42 (dk_at dksX1_askedNotch_1 8 rfl rfl)
theorem dX1_askedNotch_32 : decode cX1_askedNotch 32 = .ok (.getfield 29, 3) := dk_180 0 29 (dk_at dksX1_askedNotch_1 9 rfl rfl)
theorem dX1_askedNotch_35 : decode cX1_askedNotch 35 = .ok (.iload_n 1, 1) := dk_27 (dk_at dksX1_askedNotch_1 12 rfl rfl)
theorem dX1_askedNotch_36 : decode cX1_askedNotch 36 = .ok (.iaload, 1) := dk_46 (dk_at dksX1_askedNotch_1 13 rfl rfl)
theorem dX1_askedNotch_37 : decode cX1_askedNotch 37 = .ok (.iconst 1, 1) := dk_4 (dk_at dksX1_askedNotch_1 14 rfl rfl)
theorem dX1_askedNotch_38 : decode cX1_askedNotch 38 = .ok (.isub, 1) := dk_100 (dk_at dksX1_askedNotch_1 15 rfl rfl)
theorem dX1_askedNotch_39 : decode cX1_askedNotch 39 = .ok (.invokestatic 145, 3) := dk_184 0 145 (dk_at dksX1_askedNotch_1 16 rfl rfl)
theorem dX1_askedNotch_42 : decode cX1_askedNotch 42 = .ok (.ifCond .eq 7, 3) := dk_153 0 7 (dk_at dksX1_askedNotch_1 19 rfl rfl)
theorem dX1_askedNotch_45 : decode cX1_askedNotch 45 = .ok (.iconst 0, 1) := dk_3 (dk_at dksX1_askedNotch_1 22 rfl rfl)
theorem dX1_askedNotch_46 : decode cX1_askedNotch 46 = .ok (.goto 8, 3) := dk_167 0 8 (dk_at dksX1_askedNotch_2 0 rfl rfl)
theorem dX1_askedNotch_49 : decode cX1_askedNotch 49 = .ok (.aload_n 0, 1) := dk_42 (dk_at dksX1_askedNotch_2 3 rfl rfl)
theorem dX1_askedNotch_50 : decode cX1_askedNotch 50 = .ok (.iconst 2, 1) := dk_5 (dk_at dksX1_askedNotch_2 4 rfl rfl)
theorem dX1_askedNotch_51 : decode cX1_askedNotch 51 = .ok (.invokevirtual 153, 3) := dk_182 0 153 (dk_at dksX1_askedNotch_2 5 rfl rfl)
theorem dX1_askedNotch_54 : decode cX1_askedNotch 54 = .ok (.ireturn, 1) := dk_172 (dk_at dksX1_askedNotch_2 8 rfl rfl)
abbrev cX1_cut : ByteArray := prog_9_method_31_code
def yX1_cut : MethodName := ⟨RX1, "cut", "(III)I"⟩
def dkwX1_cut_2 : List UInt8 := [16, 24, 27, 104, 28, 96, 29, 79, 21, 5, 172]
abbrev dktX1_cut_2 : List UInt8 := dkwX1_cut_2 ++ []
def dkwX1_cut_1 : List UInt8 := [156, 0, 6, 21, 4, 172, 42, 180, 0, 32, 16, 24, 27, 104, 28, 96, 46, 54, 5, 42, 180, 0, 32]
abbrev dktX1_cut_1 : List UInt8 := dkwX1_cut_1 ++ dktX1_cut_2
def dkwX1_cut_0 : List UInt8 := [29, 4, 16, 24, 184, 0, 145, 154, 0, 5, 2, 172, 42, 27, 28, 182, 0, 190, 54, 4, 21, 4]
abbrev dktX1_cut_0 : List UInt8 := dkwX1_cut_0 ++ dktX1_cut_1
theorem dksX1_cut_0 : cX1_cut.data.toList.drop 0 = dktX1_cut_0 := by decide +kernel
theorem dksX1_cut_1 : cX1_cut.data.toList.drop 22 = dktX1_cut_1 := dk_seg dksX1_cut_0 22 rfl rfl
theorem dksX1_cut_2 : cX1_cut.data.toList.drop 45 = dktX1_cut_2 := dk_seg dksX1_cut_1 23 rfl rfl
theorem dX1_cut_0 : decode cX1_cut 0 = .ok (.iload_n 3, 1) := dk_29 (dk_at dksX1_cut_0 0 rfl rfl)
theorem dX1_cut_1 : decode cX1_cut 1 = .ok (.iconst 1, 1) := dk_4 (dk_at dksX1_cut_0 1 rfl rfl)
theorem dX1_cut_2 : decode cX1_cut 2 = .ok (.bipush 24, 2) := dk_16 24 (dk_at dksX1_cut_0 2 rfl rfl)
theorem dX1_cut_4 : decode cX1_cut 4 = .ok (.invokestatic 145, 3) := dk_184 0 145 (dk_at dksX1_cut_0 4 rfl rfl)
theorem dX1_cut_7 : decode cX1_cut 7 = .ok (.ifCond .ne 5, 3) := dk_154 0 5 (dk_at dksX1_cut_0 7 rfl rfl)
theorem dX1_cut_10 : decode cX1_cut 10 = .ok (.iconst (-1), 1) := dk_2 (dk_at dksX1_cut_0 10 rfl rfl)
theorem dX1_cut_11 : decode cX1_cut 11 = .ok (.ireturn, 1) := dk_172 (dk_at dksX1_cut_0 11 rfl rfl)
theorem dX1_cut_12 : decode cX1_cut 12 = .ok (.aload_n 0, 1) := dk_42 (dk_at dksX1_cut_0 12 rfl rfl)
theorem dX1_cut_13 : decode cX1_cut 13 = .ok (.iload_n 1, 1) := dk_27 (dk_at dksX1_cut_0 13 rfl rfl)
theorem dX1_cut_14 : decode cX1_cut 14 = .ok (.iload_n 2, 1) := dk_28 (dk_at dksX1_cut_0 14 rfl rfl)
theorem dX1_cut_15 : decode cX1_cut 15 = .ok (.invokevirtual 190, 3) := dk_182 0 190 (dk_at dksX1_cut_0 15 rfl rfl)
theorem dX1_cut_18 : decode cX1_cut 18 = .ok (.istore 4, 2) := dk_54 4 (dk_at dksX1_cut_0 18 rfl rfl)
theorem dX1_cut_20 : decode cX1_cut 20 = .ok (.iload 4, 2) := dk_21 4 (dk_at dksX1_cut_0 20 rfl rfl)
theorem dX1_cut_22 : decode cX1_cut 22 = .ok (.ifCond .ge 6, 3) := dk_156 0 6 (dk_at dksX1_cut_1 0 rfl rfl)
theorem dX1_cut_25 : decode cX1_cut 25 = .ok (.iload 4, 2) := dk_21 4 (dk_at dksX1_cut_1 3 rfl rfl)
theorem dX1_cut_27 : decode cX1_cut 27 = .ok (.ireturn, 1) := dk_172 (dk_at dksX1_cut_1 5 rfl rfl)
theorem dX1_cut_28 : decode cX1_cut 28 = .ok (.aload_n 0, 1) := dk_42 (dk_at dksX1_cut_1 6 rfl rfl)
theorem dX1_cut_29 : decode cX1_cut 29 = .ok (.getfield 32, 3) := dk_180 0 32 (dk_at dksX1_cut_1 7 rfl rfl)
theorem dX1_cut_32 : decode cX1_cut 32 = .ok (.bipush 24, 2) := dk_16 24 (dk_at dksX1_cut_1 10 rfl rfl)
theorem dX1_cut_34 : decode cX1_cut 34 = .ok (.iload_n 1, 1) := dk_27 (dk_at dksX1_cut_1 12 rfl rfl)
theorem dX1_cut_35 : decode cX1_cut 35 = .ok (.imul, 1) := dk_104 (dk_at dksX1_cut_1 13 rfl rfl)
theorem dX1_cut_36 : decode cX1_cut 36 = .ok (.iload_n 2, 1) := dk_28 (dk_at dksX1_cut_1 14 rfl rfl)
theorem dX1_cut_37 : decode cX1_cut 37 = .ok (.iadd, 1) := dk_96 (dk_at dksX1_cut_1 15 rfl rfl)
theorem dX1_cut_38 : decode cX1_cut 38 = .ok (.iaload, 1) := dk_46 (dk_at dksX1_cut_1 16 rfl rfl)
theorem dX1_cut_39 : decode cX1_cut 39 = .ok (.istore 5, 2) := dk_54 5 (dk_at dksX1_cut_1 17 rfl rfl)
theorem dX1_cut_41 : decode cX1_cut 41 = .ok (.aload_n 0, 1) := dk_42 (dk_at dksX1_cut_1 19 rfl rfl)
theorem dX1_cut_42 : decode cX1_cut 42 = .ok (.getfield 32, 3) := dk_180 0 32 (dk_at dksX1_cut_1 20 rfl rfl)
theorem dX1_cut_45 : decode cX1_cut 45 = .ok (.bipush 24, 2) := dk_16 24 (dk_at dksX1_cut_2 0 rfl rfl)
theorem dX1_cut_47 : decode cX1_cut 47 = .ok (.iload_n 1, 1) := dk_27 (dk_at dksX1_cut_2 2 rfl rfl)
theorem dX1_cut_48 : decode cX1_cut 48 = .ok (.imul, 1) := dk_104 (dk_at dksX1_cut_2 3 rfl rfl)
theorem dX1_cut_49 : decode cX1_cut 49 = .ok (.iload_n 2, 1) := dk_28 (dk_at dksX1_cut_2 4 rfl rfl)
theorem dX1_cut_50 : decode cX1_cut 50 = .ok (.iadd, 1) := dk_96 (dk_at dksX1_cut_2 5 rfl rfl)
theorem dX1_cut_51 : decode cX1_cut 51 = .ok (.iload_n 3, 1) := dk_29 (dk_at dksX1_cut_2 6 rfl rfl)
theorem dX1_cut_52 : decode cX1_cut 52 = .ok (.iastore, 1) := dk_79 (dk_at dksX1_cut_2 7 rfl rfl)
theorem dX1_cut_53 : decode cX1_cut 53 = .ok (.iload 5, 2) := dk_21 5 (dk_at dksX1_cut_2 8 rfl rfl)
theorem dX1_cut_55 : decode cX1_cut 55 = .ok (.ireturn, 1) := dk_172 (dk_at dksX1_cut_2 10 rfl rfl)
abbrev cX1_put : ByteArray := prog_9_method_32_code
def yX1_put : MethodName := ⟨RX1, "put", "(II)I"⟩
def dkwX1_put_2 : List UInt8 := [180, 0, 35, 27, 46, 62, 42, 180, 0, 35, 27, 28, 79, 29, 172]
abbrev dktX1_put_2 : List UInt8 := dkwX1_put_2 ++ []
def dkwX1_put_1 : List UInt8 := [28, 3, 42, 180, 0, 29, 27, 46, 4, 100, 184, 0, 145, 154, 0, 9, 42, 5, 182, 0, 153, 172, 42]
abbrev dktX1_put_1 : List UInt8 := dkwX1_put_1 ++ dktX1_put_2
def dkwX1_put_0 : List UInt8 := [42, 27, 182, 0, 176, 154, 0, 5, 2, 172, 42, 27, 182, 0, 180, 154, 0, 9, 42, 6, 182, 0, 153, 172]
abbrev dktX1_put_0 : List UInt8 := dkwX1_put_0 ++ dktX1_put_1
theorem dksX1_put_0 : cX1_put.data.toList.drop 0 = dktX1_put_0 := by decide +kernel
theorem dksX1_put_1 : cX1_put.data.toList.drop 24 = dktX1_put_1 := dk_seg dksX1_put_0 24 rfl rfl
theorem dksX1_put_2 : cX1_put.data.toList.drop 47 = dktX1_put_2 := dk_seg dksX1_put_1 23 rfl rfl
theorem dX1_put_0 : decode cX1_put 0 = .ok (.aload_n 0, 1) := dk_42 (dk_at dksX1_put_0 0 rfl rfl)
theorem dX1_put_1 : decode cX1_put 1 = .ok (.iload_n 1, 1) := dk_27 (dk_at dksX1_put_0 1 rfl rfl)
theorem dX1_put_2 : decode cX1_put 2 = .ok (.invokevirtual 176, 3) := dk_182 0 176 (dk_at dksX1_put_0 2 rfl rfl)
theorem dX1_put_5 : decode cX1_put 5 = .ok (.ifCond .ne 5, 3) := dk_154 0 5 (dk_at dksX1_put_0 5 rfl rfl)
theorem dX1_put_8 : decode cX1_put 8 = .ok (.iconst (-1), 1) := dk_2 (dk_at dksX1_put_0 8 rfl rfl)
theorem dX1_put_9 : decode cX1_put 9 = .ok (.ireturn, 1) := dk_172 (dk_at dksX1_put_0 9 rfl rfl)
theorem dX1_put_10 : decode cX1_put 10 = .ok (.aload_n 0, 1) := dk_42 (dk_at dksX1_put_0 10 rfl rfl)
theorem dX1_put_11 : decode cX1_put 11 = .ok (.iload_n 1, 1) := dk_27 (dk_at dksX1_put_0 11 rfl rfl)
theorem dX1_put_12 : decode cX1_put 12 = .ok (.invokevirtual 180, 3) := dk_182 0 180 (dk_at dksX1_put_0 12 rfl rfl)
theorem dX1_put_15 : decode cX1_put 15 = .ok (.ifCond .ne 9, 3) := dk_154 0 9 (dk_at dksX1_put_0 15 rfl rfl)
theorem dX1_put_18 : decode cX1_put 18 = .ok (.aload_n 0, 1) := dk_42 (dk_at dksX1_put_0 18 rfl rfl)
theorem dX1_put_19 : decode cX1_put 19 = .ok (.iconst 3, 1) := dk_6 (dk_at dksX1_put_0 19 rfl rfl)
theorem dX1_put_20 : decode cX1_put 20 = .ok (.invokevirtual 153, 3) := dk_182 0 153 (dk_at dksX1_put_0 20 rfl rfl)
theorem dX1_put_23 : decode cX1_put 23 = .ok (.ireturn, 1) := dk_172 (dk_at dksX1_put_0 23 rfl rfl)
theorem dX1_put_24 : decode cX1_put 24 = .ok (.iload_n 2, 1) := dk_28 (dk_at dksX1_put_1 0 rfl rfl)
theorem dX1_put_25 : decode cX1_put 25 = .ok (.iconst 0, 1) := dk_3 (dk_at dksX1_put_1 1 rfl rfl)
theorem dX1_put_26 : decode cX1_put 26 = .ok (.aload_n 0, 1) := dk_42 (dk_at dksX1_put_1 2 rfl rfl)
theorem dX1_put_27 : decode cX1_put 27 = .ok (.getfield 29, 3) := dk_180 0 29 (dk_at dksX1_put_1 3 rfl rfl)
theorem dX1_put_30 : decode cX1_put 30 = .ok (.iload_n 1, 1) := dk_27 (dk_at dksX1_put_1 6 rfl rfl)
theorem dX1_put_31 : decode cX1_put 31 = .ok (.iaload, 1) := dk_46 (dk_at dksX1_put_1 7 rfl rfl)
theorem dX1_put_32 : decode cX1_put 32 = .ok (.iconst 1, 1) := dk_4 (dk_at dksX1_put_1 8 rfl rfl)
theorem dX1_put_33 : decode cX1_put 33 = .ok (.isub, 1) := dk_100 (dk_at dksX1_put_1 9 rfl rfl)
theorem dX1_put_34 : decode cX1_put 34 = .ok (.invokestatic 145, 3) := dk_184 0 145 (dk_at dksX1_put_1 10 rfl rfl)
theorem dX1_put_37 : decode cX1_put 37 = .ok (.ifCond .ne 9, 3) := dk_154 0 9 (dk_at dksX1_put_1 13 rfl rfl)
theorem dX1_put_40 : decode cX1_put 40 = .ok (.aload_n 0, 1) := dk_42 (dk_at dksX1_put_1 16 rfl rfl)
theorem dX1_put_41 : decode cX1_put 41 = .ok (.iconst 2, 1) := dk_5 (dk_at dksX1_put_1 17 rfl rfl)
theorem dX1_put_42 : decode cX1_put 42 = .ok (.invokevirtual 153, 3) := dk_182 0 153 (dk_at dksX1_put_1 18 rfl rfl)
theorem dX1_put_45 : decode cX1_put 45 = .ok (.ireturn, 1) := dk_172 (dk_at dksX1_put_1 21 rfl rfl)
theorem dX1_put_46 : decode cX1_put 46 = .ok (.aload_n 0, 1) := dk_42 (dk_at dksX1_put_1 22 rfl rfl)
theorem dX1_put_47 : decode cX1_put 47 = .ok (.getfield 35, 3) := dk_180 0 35 (dk_at dksX1_put_2 0 rfl rfl)
theorem dX1_put_50 : decode cX1_put 50 = .ok (.iload_n 1, 1) := dk_27 (dk_at dksX1_put_2 3 rfl rfl)
theorem dX1_put_51 : decode cX1_put 51 = .ok (.iaload, 1) := dk_46 (dk_at dksX1_put_2 4 rfl rfl)
theorem dX1_put_52 : decode cX1_put 52 = .ok (.istore_n 3, 1) := dk_62 (dk_at dksX1_put_2 5 rfl rfl)
theorem dX1_put_53 : decode cX1_put 53 = .ok (.aload_n 0, 1) := dk_42 (dk_at dksX1_put_2 6 rfl rfl)
theorem dX1_put_54 : decode cX1_put 54 = .ok (.getfield 35, 3) := dk_180 0 35 (dk_at dksX1_put_2 7 rfl rfl)
theorem dX1_put_57 : decode cX1_put 57 = .ok (.iload_n 1, 1) := dk_27 (dk_at dksX1_put_2 10 rfl rfl)
theorem dX1_put_58 : decode cX1_put 58 = .ok (.iload_n 2, 1) := dk_28 (dk_at dksX1_put_2 11 rfl rfl)
theorem dX1_put_59 : decode cX1_put 59 = .ok (.iastore, 1) := dk_79 (dk_at dksX1_put_2 12 rfl rfl)
theorem dX1_put_60 : decode cX1_put 60 = .ok (.iload_n 3, 1) := dk_29 (dk_at dksX1_put_2 13 rfl rfl)
theorem dX1_put_61 : decode cX1_put 61 = .ok (.ireturn, 1) := dk_172 (dk_at dksX1_put_2 14 rfl rfl)
abbrev cX1_mean : ByteArray := prog_9_method_33_code
def yX1_mean : MethodName := ⟨RX1, "mean", "(I)I"⟩
def dkwX1_mean_1 : List UInt8 := [182, 0, 153, 167, 0, 16, 42, 27, 3, 182, 0, 186, 42, 180, 0, 29, 27, 46, 108, 172]
abbrev dktX1_mean_1 : List UInt8 := dkwX1_mean_1 ++ []
def dkwX1_mean_0 : List UInt8 := [42, 27, 182, 0, 176, 154, 0, 7, 2, 167, 0, 33, 42, 180, 0, 29, 27, 46, 154, 0, 11, 42, 7]
abbrev dktX1_mean_0 : List UInt8 := dkwX1_mean_0 ++ dktX1_mean_1
theorem dksX1_mean_0 : cX1_mean.data.toList.drop 0 = dktX1_mean_0 := by decide +kernel
theorem dksX1_mean_1 : cX1_mean.data.toList.drop 23 = dktX1_mean_1 := dk_seg dksX1_mean_0 23 rfl rfl
theorem dX1_mean_0 : decode cX1_mean 0 = .ok (.aload_n 0, 1) := dk_42 (dk_at dksX1_mean_0 0 rfl rfl)
theorem dX1_mean_1 : decode cX1_mean 1 = .ok (.iload_n 1, 1) := dk_27 (dk_at dksX1_mean_0 1 rfl rfl)
theorem dX1_mean_2 : decode cX1_mean 2 = .ok (.invokevirtual 176, 3) := dk_182 0 176 (dk_at dksX1_mean_0 2 rfl rfl)
theorem dX1_mean_5 : decode cX1_mean 5 = .ok (.ifCond .ne 7, 3) := dk_154 0 7 (dk_at dksX1_mean_0 5 rfl rfl)
theorem dX1_mean_8 : decode cX1_mean 8 = .ok (.iconst (-1), 1) := dk_2 (dk_at dksX1_mean_0 8 rfl rfl)
theorem dX1_mean_9 : decode cX1_mean 9 = .ok (.goto 33, 3) := dk_167 0 33 (dk_at dksX1_mean_0 9 rfl rfl)
theorem dX1_mean_12 : decode cX1_mean 12 = .ok (.aload_n 0, 1) := dk_42 (dk_at dksX1_mean_0 12 rfl rfl)
theorem dX1_mean_13 : decode cX1_mean 13 = .ok (.getfield 29, 3) := dk_180 0 29 (dk_at dksX1_mean_0 13 rfl rfl)
theorem dX1_mean_16 : decode cX1_mean 16 = .ok (.iload_n 1, 1) := dk_27 (dk_at dksX1_mean_0 16 rfl rfl)
theorem dX1_mean_17 : decode cX1_mean 17 = .ok (.iaload, 1) := dk_46 (dk_at dksX1_mean_0 17 rfl rfl)
theorem dX1_mean_18 : decode cX1_mean 18 = .ok (.ifCond .ne 11, 3) := dk_154 0 11 (dk_at dksX1_mean_0 18 rfl rfl)
theorem dX1_mean_21 : decode cX1_mean 21 = .ok (.aload_n 0, 1) := dk_42 (dk_at dksX1_mean_0 21 rfl rfl)
theorem dX1_mean_22 : decode cX1_mean 22 = .ok (.iconst 4, 1) := dk_7 (dk_at dksX1_mean_0 22 rfl rfl)
theorem dX1_mean_23 : decode cX1_mean 23 = .ok (.invokevirtual 153, 3) := dk_182 0 153 (dk_at dksX1_mean_1 0 rfl rfl)
theorem dX1_mean_26 : decode cX1_mean 26 = .ok (.goto 16, 3) := dk_167 0 16 (dk_at dksX1_mean_1 3 rfl rfl)
theorem dX1_mean_29 : decode cX1_mean 29 = .ok (.aload_n 0, 1) := dk_42 (dk_at dksX1_mean_1 6 rfl rfl)
theorem dX1_mean_30 : decode cX1_mean 30 = .ok (.iload_n 1, 1) := dk_27 (dk_at dksX1_mean_1 7 rfl rfl)
theorem dX1_mean_31 : decode cX1_mean 31 = .ok (.iconst 0, 1) := dk_3 (dk_at dksX1_mean_1 8 rfl rfl)
theorem dX1_mean_32 : decode cX1_mean 32 = .ok (.invokevirtual 186, 3) := dk_182 0 186 (dk_at dksX1_mean_1 9 rfl rfl)
theorem dX1_mean_35 : decode cX1_mean 35 = .ok (.aload_n 0, 1) := dk_42 (dk_at dksX1_mean_1 12 rfl rfl)
theorem dX1_mean_36 : decode cX1_mean 36 = .ok (.getfield 29, 3) := dk_180 0 29 (dk_at dksX1_mean_1 13 rfl rfl)
theorem dX1_mean_39 : decode cX1_mean 39 = .ok (.iload_n 1, 1) := dk_27 (dk_at dksX1_mean_1 16 rfl rfl)
theorem dX1_mean_40 : decode cX1_mean 40 = .ok (.iaload, 1) := dk_46 (dk_at dksX1_mean_1 17 rfl rfl)
theorem dX1_mean_41 : decode cX1_mean 41 = .ok (.idiv, 1) := dk_108 (dk_at dksX1_mean_1 18 rfl rfl)
theorem dX1_mean_42 : decode cX1_mean 42 = .ok (.ireturn, 1) := dk_172 (dk_at dksX1_mean_1 19 rfl rfl)
abbrev cX1_tower : ByteArray := prog_9_method_37_code
def yX1_tower : MethodName := ⟨RX1, "tower", "(I)I"⟩
def dkwX1_tower_4 : List UInt8 := [182, 0, 196, 42, 5, 27, 104, 4, 96, 182, 0, 196, 28, 172]
abbrev dktX1_tower_4 : List UInt8 := dkwX1_tower_4 ++ []
def dkwX1_tower_3 : List UInt8 := [180, 0, 90, 27, 3, 79, 42, 180, 0, 93, 27, 3, 79, 42, 180, 0, 105, 27, 3, 79, 42, 5, 27, 104]
abbrev dktX1_tower_3 : List UInt8 := dkwX1_tower_3 ++ dktX1_tower_4
def dkwX1_tower_2 : List UInt8 := [180, 0, 81, 27, 17, 78, 32, 79, 42, 180, 0, 84, 27, 3, 79, 42, 180, 0, 87, 27, 4, 84, 42]
abbrev dktX1_tower_2 : List UInt8 := dkwX1_tower_2 ++ dktX1_tower_3
def dkwX1_tower_1 : List UInt8 := [42, 180, 0, 72, 27, 4, 84, 42, 180, 0, 75, 27, 3, 79, 42, 180, 0, 78, 27, 3, 79, 42]
abbrev dktX1_tower_1 : List UInt8 := dkwX1_tower_1 ++ dktX1_tower_2
def dkwX1_tower_0 : List UInt8 := [27, 184, 0, 193, 154, 0, 5, 2, 172, 42, 180, 0, 72, 27, 51, 153, 0, 7, 4, 167, 0, 4, 3, 61]
abbrev dktX1_tower_0 : List UInt8 := dkwX1_tower_0 ++ dktX1_tower_1
theorem dksX1_tower_0 : cX1_tower.data.toList.drop 0 = dktX1_tower_0 := by decide +kernel
theorem dksX1_tower_1 : cX1_tower.data.toList.drop 24 = dktX1_tower_1 := dk_seg dksX1_tower_0 24 rfl rfl
theorem dksX1_tower_2 : cX1_tower.data.toList.drop 46 = dktX1_tower_2 := dk_seg dksX1_tower_1 22 rfl rfl
theorem dksX1_tower_3 : cX1_tower.data.toList.drop 69 = dktX1_tower_3 := dk_seg dksX1_tower_2 23 rfl rfl
theorem dksX1_tower_4 : cX1_tower.data.toList.drop 93 = dktX1_tower_4 := dk_seg dksX1_tower_3 24 rfl rfl
theorem dX1_tower_0 : decode cX1_tower 0 = .ok (.iload_n 1, 1) := dk_27 (dk_at dksX1_tower_0 0 rfl rfl)
theorem dX1_tower_1 : decode cX1_tower 1 = .ok (.invokestatic 193, 3) := dk_184 0 193 (dk_at dksX1_tower_0 1 rfl rfl)
theorem dX1_tower_4 : decode cX1_tower 4 = .ok (.ifCond .ne 5, 3) := dk_154 0 5 (dk_at dksX1_tower_0 4 rfl rfl)
theorem dX1_tower_7 : decode cX1_tower 7 = .ok (.iconst (-1), 1) := dk_2 (dk_at dksX1_tower_0 7 rfl rfl)
theorem dX1_tower_8 : decode cX1_tower 8 = .ok (.ireturn, 1) := dk_172 (dk_at dksX1_tower_0 8 rfl rfl)
theorem dX1_tower_9 : decode cX1_tower 9 = .ok (.aload_n 0, 1) := dk_42 (dk_at dksX1_tower_0 9 rfl rfl)
theorem dX1_tower_10 : decode cX1_tower 10 = .ok (.getfield 72, 3) := dk_180 0 72 (dk_at dksX1_tower_0 10 rfl rfl)
theorem dX1_tower_13 : decode cX1_tower 13 = .ok (.iload_n 1, 1) := dk_27 (dk_at dksX1_tower_0 13 rfl rfl)
theorem dX1_tower_14 : decode cX1_tower 14 = .ok (.baload, 1) := dk_51 (dk_at dksX1_tower_0 14 rfl rfl)
theorem dX1_tower_15 : decode cX1_tower 15 = .ok (.ifCond .eq 7, 3) := dk_153 0 7 (dk_at dksX1_tower_0 15 rfl rfl)
theorem dX1_tower_18 : decode cX1_tower 18 = .ok (.iconst 1, 1) := dk_4 (dk_at dksX1_tower_0 18 rfl rfl)
theorem dX1_tower_19 : decode cX1_tower 19 = .ok (.goto 4, 3) := dk_167 0 4 (dk_at dksX1_tower_0 19 rfl rfl)
theorem dX1_tower_22 : decode cX1_tower 22 = .ok (.iconst 0, 1) := dk_3 (dk_at dksX1_tower_0 22 rfl rfl)
theorem dX1_tower_23 : decode cX1_tower 23 = .ok (.istore_n 2, 1) := dk_61 (dk_at dksX1_tower_0 23 rfl rfl)
theorem dX1_tower_24 : decode cX1_tower 24 = .ok (.aload_n 0, 1) := dk_42 (dk_at dksX1_tower_1 0 rfl rfl)
theorem dX1_tower_25 : decode cX1_tower 25 = .ok (.getfield 72, 3) := dk_180 0 72 (dk_at dksX1_tower_1 1 rfl rfl)
theorem dX1_tower_28 : decode cX1_tower 28 = .ok (.iload_n 1, 1) := dk_27 (dk_at dksX1_tower_1 4 rfl rfl)
theorem dX1_tower_29 : decode cX1_tower 29 = .ok (.iconst 1, 1) := dk_4 (dk_at dksX1_tower_1 5 rfl rfl)
theorem dX1_tower_30 : decode cX1_tower 30 = .ok (.bastore, 1) := dk_84 (dk_at dksX1_tower_1 6 rfl rfl)
theorem dX1_tower_31 : decode cX1_tower 31 = .ok (.aload_n 0, 1) := dk_42 (dk_at dksX1_tower_1 7 rfl rfl)
theorem dX1_tower_32 : decode cX1_tower 32 = .ok (.getfield 75, 3) := dk_180 0 75 (dk_at dksX1_tower_1 8 rfl rfl)
theorem dX1_tower_35 : decode cX1_tower 35 = .ok (.iload_n 1, 1) := dk_27 (dk_at dksX1_tower_1 11 rfl rfl)
theorem dX1_tower_36 : decode cX1_tower 36 = .ok (.iconst 0, 1) := dk_3 (dk_at dksX1_tower_1 12 rfl rfl)
theorem dX1_tower_37 : decode cX1_tower 37 = .ok (.iastore, 1) := dk_79 (dk_at dksX1_tower_1 13 rfl rfl)
theorem dX1_tower_38 : decode cX1_tower 38 = .ok (.aload_n 0, 1) := dk_42 (dk_at dksX1_tower_1 14 rfl rfl)
theorem dX1_tower_39 : decode cX1_tower 39 = .ok (.getfield 78, 3) := dk_180 0 78 (dk_at dksX1_tower_1 15 rfl rfl)
theorem dX1_tower_42 : decode cX1_tower 42 = .ok (.iload_n 1, 1) := dk_27 (dk_at dksX1_tower_1 18 rfl rfl)
theorem dX1_tower_43 : decode cX1_tower 43 = .ok (.iconst 0, 1) := dk_3 (dk_at dksX1_tower_1 19 rfl rfl)
theorem dX1_tower_44 : decode cX1_tower 44 = .ok (.iastore, 1) := dk_79 (dk_at dksX1_tower_1 20 rfl rfl)
theorem dX1_tower_45 : decode cX1_tower 45 = .ok (.aload_n 0, 1) := dk_42 (dk_at dksX1_tower_1 21 rfl rfl)
theorem dX1_tower_46 : decode cX1_tower 46 = .ok (.getfield 81, 3) := dk_180 0 81 (dk_at dksX1_tower_2 0 rfl rfl)
theorem dX1_tower_49 : decode cX1_tower 49 = .ok (.iload_n 1, 1) := dk_27 (dk_at dksX1_tower_2 3 rfl rfl)
theorem dX1_tower_50 : decode cX1_tower 50 = .ok (.sipush 20000, 3) := dk_17 78 32 (dk_at dksX1_tower_2 4 rfl rfl)
theorem dX1_tower_53 : decode cX1_tower 53 = .ok (.iastore, 1) := dk_79 (dk_at dksX1_tower_2 7 rfl rfl)
theorem dX1_tower_54 : decode cX1_tower 54 = .ok (.aload_n 0, 1) := dk_42 (dk_at dksX1_tower_2 8 rfl rfl)
theorem dX1_tower_55 : decode cX1_tower 55 = .ok (.getfield 84, 3) := dk_180 0 84 (dk_at dksX1_tower_2 9 rfl rfl)
theorem dX1_tower_58 : decode cX1_tower 58 = .ok (.iload_n 1, 1) := dk_27 (dk_at dksX1_tower_2 12 rfl rfl)
theorem dX1_tower_59 : decode cX1_tower 59 = .ok (.iconst 0, 1) := dk_3 (dk_at dksX1_tower_2 13 rfl rfl)
theorem dX1_tower_60 : decode cX1_tower 60 = .ok (.iastore, 1) := dk_79 (dk_at dksX1_tower_2 14 rfl rfl)
theorem dX1_tower_61 : decode cX1_tower 61 = .ok (.aload_n 0, 1) := dk_42 (dk_at dksX1_tower_2 15 rfl rfl)
theorem dX1_tower_62 : decode cX1_tower 62 = .ok (.getfield 87, 3) := dk_180 0 87 (dk_at dksX1_tower_2 16 rfl rfl)
theorem dX1_tower_65 : decode cX1_tower 65 = .ok (.iload_n 1, 1) := dk_27 (dk_at dksX1_tower_2 19 rfl rfl)
theorem dX1_tower_66 : decode cX1_tower 66 = .ok (.iconst 1, 1) := dk_4 (dk_at dksX1_tower_2 20 rfl rfl)
theorem dX1_tower_67 : decode cX1_tower 67 = .ok (.bastore, 1) := dk_84 (dk_at dksX1_tower_2 21 rfl rfl)
theorem dX1_tower_68 : decode cX1_tower 68 = .ok (.aload_n 0, 1) := dk_42 (dk_at dksX1_tower_2 22 rfl rfl)
theorem dX1_tower_69 : decode cX1_tower 69 = .ok (.getfield 90, 3) := dk_180 0 90 (dk_at dksX1_tower_3 0 rfl rfl)
theorem dX1_tower_72 : decode cX1_tower 72 = .ok (.iload_n 1, 1) := dk_27 (dk_at dksX1_tower_3 3 rfl rfl)
theorem dX1_tower_73 : decode cX1_tower 73 = .ok (.iconst 0, 1) := dk_3 (dk_at dksX1_tower_3 4 rfl rfl)
theorem dX1_tower_74 : decode cX1_tower 74 = .ok (.iastore, 1) := dk_79 (dk_at dksX1_tower_3 5 rfl rfl)
theorem dX1_tower_75 : decode cX1_tower 75 = .ok (.aload_n 0, 1) := dk_42 (dk_at dksX1_tower_3 6 rfl rfl)
theorem dX1_tower_76 : decode cX1_tower 76 = .ok (.getfield 93, 3) := dk_180 0 93 (dk_at dksX1_tower_3 7 rfl rfl)
theorem dX1_tower_79 : decode cX1_tower 79 = .ok (.iload_n 1, 1) := dk_27 (dk_at dksX1_tower_3 10 rfl rfl)
theorem dX1_tower_80 : decode cX1_tower 80 = .ok (.iconst 0, 1) := dk_3 (dk_at dksX1_tower_3 11 rfl rfl)
theorem dX1_tower_81 : decode cX1_tower 81 = .ok (.iastore, 1) := dk_79 (dk_at dksX1_tower_3 12 rfl rfl)
theorem dX1_tower_82 : decode cX1_tower 82 = .ok (.aload_n 0, 1) := dk_42 (dk_at dksX1_tower_3 13 rfl rfl)
theorem dX1_tower_83 : decode cX1_tower 83 = .ok (.getfield 105, 3) := dk_180 0 105 (dk_at dksX1_tower_3 14 rfl rfl)
theorem dX1_tower_86 : decode cX1_tower 86 = .ok (.iload_n 1, 1) := dk_27 (dk_at dksX1_tower_3 17 rfl rfl)
theorem dX1_tower_87 : decode cX1_tower 87 = .ok (.iconst 0, 1) := dk_3 (dk_at dksX1_tower_3 18 rfl rfl)
theorem dX1_tower_88 : decode cX1_tower 88 = .ok (.iastore, 1) := dk_79 (dk_at dksX1_tower_3 19 rfl rfl)
theorem dX1_tower_89 : decode cX1_tower 89 = .ok (.aload_n 0, 1) := dk_42 (dk_at dksX1_tower_3 20 rfl rfl)
theorem dX1_tower_90 : decode cX1_tower 90 = .ok (.iconst 2, 1) := dk_5 (dk_at dksX1_tower_3 21 rfl rfl)
theorem dX1_tower_91 : decode cX1_tower 91 = .ok (.iload_n 1, 1) := dk_27 (dk_at dksX1_tower_3 22 rfl rfl)
theorem dX1_tower_92 : decode cX1_tower 92 = .ok (.imul, 1) := dk_104 (dk_at dksX1_tower_3 23 rfl rfl)
theorem dX1_tower_93 : decode cX1_tower 93 = .ok (.invokevirtual 196, 3) := dk_182 0 196 (dk_at dksX1_tower_4 0 rfl rfl)
theorem dX1_tower_96 : decode cX1_tower 96 = .ok (.aload_n 0, 1) := dk_42 (dk_at dksX1_tower_4 3 rfl rfl)
theorem dX1_tower_97 : decode cX1_tower 97 = .ok (.iconst 2, 1) := dk_5 (dk_at dksX1_tower_4 4 rfl rfl)
theorem dX1_tower_98 : decode cX1_tower 98 = .ok (.iload_n 1, 1) := dk_27 (dk_at dksX1_tower_4 5 rfl rfl)
theorem dX1_tower_99 : decode cX1_tower 99 = .ok (.imul, 1) := dk_104 (dk_at dksX1_tower_4 6 rfl rfl)
theorem dX1_tower_100 : decode cX1_tower 100 = .ok (.iconst 1, 1) := dk_4 (dk_at dksX1_tower_4 7 rfl rfl)
theorem dX1_tower_101 : decode cX1_tower 101 = .ok (.iadd, 1) := dk_96 (dk_at dksX1_tower_4 8 rfl rfl)
theorem dX1_tower_102 : decode cX1_tower 102 = .ok (.invokevirtual 196, 3) := dk_182 0 196 (dk_at dksX1_tower_4 9 rfl rfl)
theorem dX1_tower_105 : decode cX1_tower 105 = .ok (.iload_n 2, 1) := dk_28 (dk_at dksX1_tower_4 12 rfl rfl)
theorem dX1_tower_106 : decode cX1_tower 106 = .ok (.ireturn, 1) := dk_172 (dk_at dksX1_tower_4 13 rfl rfl)
abbrev cX1_isNumber : ByteArray := prog_9_method_34_code
def yX1_isNumber : MethodName := ⟨RX1, "isNumber", "(I)Z"⟩
def dkwX1_isNumber_0 : List UInt8 := [26, 3, 6, 184, 0, 145, 172]
abbrev dktX1_isNumber_0 : List UInt8 := dkwX1_isNumber_0 ++ []
theorem dksX1_isNumber_0 : cX1_isNumber.data.toList.drop 0 = dktX1_isNumber_0 := by decide +kernel
theorem dX1_isNumber_0 : decode cX1_isNumber 0 = .ok (.iload_n 0, 1) := dk_26 (dk_at dksX1_isNumber_0 0 rfl rfl)
theorem dX1_isNumber_1 : decode cX1_isNumber 1 = .ok (.iconst 0, 1) := dk_3 (dk_at dksX1_isNumber_0 1 rfl rfl)
theorem dX1_isNumber_2 : decode cX1_isNumber 2 = .ok (.iconst 3, 1) := dk_6 (dk_at dksX1_isNumber_0 2 rfl rfl)
theorem dX1_isNumber_3 : decode cX1_isNumber 3 = .ok (.invokestatic 145, 3) := dk_184 0 145 (dk_at dksX1_isNumber_0 3 rfl rfl)
theorem dX1_isNumber_6 : decode cX1_isNumber 6 = .ok (.ireturn, 1) := dk_172 (dk_at dksX1_isNumber_0 6 rfl rfl)
abbrev cX1_free : ByteArray := prog_9_method_36_code
def yX1_free : MethodName := ⟨RX1, "free", "(I)V"⟩
def dkwX1_free_1 : List UInt8 := [180, 0, 99, 27, 16, 247, 79, 42, 180, 0, 102, 27, 3, 84, 177]
abbrev dktX1_free_1 : List UInt8 := dkwX1_free_1 ++ []
def dkwX1_free_0 : List UInt8 := [42, 180, 0, 99, 27, 46, 155, 0, 16, 42, 180, 0, 59, 42, 180, 0, 99, 27, 46, 16, 247, 79, 42]
abbrev dktX1_free_0 : List UInt8 := dkwX1_free_0 ++ dktX1_free_1
theorem dksX1_free_0 : cX1_free.data.toList.drop 0 = dktX1_free_0 := by decide +kernel
theorem dksX1_free_1 : cX1_free.data.toList.drop 23 = dktX1_free_1 := dk_seg dksX1_free_0 23 rfl rfl
theorem dX1_free_0 : decode cX1_free 0 = .ok (.aload_n 0, 1) := dk_42 (dk_at dksX1_free_0 0 rfl rfl)
theorem dX1_free_1 : decode cX1_free 1 = .ok (.getfield 99, 3) := dk_180 0 99 (dk_at dksX1_free_0 1 rfl rfl)
theorem dX1_free_4 : decode cX1_free 4 = .ok (.iload_n 1, 1) := dk_27 (dk_at dksX1_free_0 4 rfl rfl)
theorem dX1_free_5 : decode cX1_free 5 = .ok (.iaload, 1) := dk_46 (dk_at dksX1_free_0 5 rfl rfl)
theorem dX1_free_6 : decode cX1_free 6 = .ok (.ifCond .lt 16, 3) := dk_155 0 16 (dk_at dksX1_free_0 6 rfl rfl)
theorem dX1_free_9 : decode cX1_free 9 = .ok (.aload_n 0, 1) := dk_42 (dk_at dksX1_free_0 9 rfl rfl)
theorem dX1_free_10 : decode cX1_free 10 = .ok (.getfield 59, 3) := dk_180 0 59 (dk_at dksX1_free_0 10 rfl rfl)
theorem dX1_free_13 : decode cX1_free 13 = .ok (.aload_n 0, 1) := dk_42 (dk_at dksX1_free_0 13 rfl rfl)
theorem dX1_free_14 : decode cX1_free 14 = .ok (.getfield 99, 3) := dk_180 0 99 (dk_at dksX1_free_0 14 rfl rfl)
theorem dX1_free_17 : decode cX1_free 17 = .ok (.iload_n 1, 1) := dk_27 (dk_at dksX1_free_0 17 rfl rfl)
theorem dX1_free_18 : decode cX1_free 18 = .ok (.iaload, 1) := dk_46 (dk_at dksX1_free_0 18 rfl rfl)
theorem dX1_free_19 : decode cX1_free 19 = .ok (.bipush (-9), 2) := dk_16 247 (dk_at dksX1_free_0 19 rfl rfl)
theorem dX1_free_21 : decode cX1_free 21 = .ok (.iastore, 1) := dk_79 (dk_at dksX1_free_0 21 rfl rfl)
theorem dX1_free_22 : decode cX1_free 22 = .ok (.aload_n 0, 1) := dk_42 (dk_at dksX1_free_0 22 rfl rfl)
theorem dX1_free_23 : decode cX1_free 23 = .ok (.getfield 99, 3) := dk_180 0 99 (dk_at dksX1_free_1 0 rfl rfl)
theorem dX1_free_26 : decode cX1_free 26 = .ok (.iload_n 1, 1) := dk_27 (dk_at dksX1_free_1 3 rfl rfl)
theorem dX1_free_27 : decode cX1_free 27 = .ok (.bipush (-9), 2) := dk_16 247 (dk_at dksX1_free_1 4 rfl rfl)
theorem dX1_free_29 : decode cX1_free 29 = .ok (.iastore, 1) := dk_79 (dk_at dksX1_free_1 6 rfl rfl)
theorem dX1_free_30 : decode cX1_free 30 = .ok (.aload_n 0, 1) := dk_42 (dk_at dksX1_free_1 7 rfl rfl)
theorem dX1_free_31 : decode cX1_free 31 = .ok (.getfield 102, 3) := dk_180 0 102 (dk_at dksX1_free_1 8 rfl rfl)
theorem dX1_free_34 : decode cX1_free 34 = .ok (.iload_n 1, 1) := dk_27 (dk_at dksX1_free_1 11 rfl rfl)
theorem dX1_free_35 : decode cX1_free 35 = .ok (.iconst 0, 1) := dk_3 (dk_at dksX1_free_1 12 rfl rfl)
theorem dX1_free_36 : decode cX1_free 36 = .ok (.bastore, 1) := dk_84 (dk_at dksX1_free_1 13 rfl rfl)
theorem dX1_free_37 : decode cX1_free 37 = .ok (.return_, 1) := dk_177 (dk_at dksX1_free_1 14 rfl rfl)
abbrev cX1_hang : ByteArray := prog_9_method_39_code
def yX1_hang : MethodName := ⟨RX1, "hang", "(IIZ)I"⟩
def dkwX1_hang_3 : List UInt8 := [21, 4, 28, 79, 42, 180, 0, 59, 28, 21, 4, 79, 42, 180, 0, 56, 28, 3, 79, 21, 5, 172]
abbrev dktX1_hang_3 : List UInt8 := dkwX1_hang_3 ++ []
def dkwX1_hang_2 : List UInt8 := [184, 0, 200, 54, 4, 42, 180, 0, 99, 21, 4, 46, 54, 5, 42, 21, 4, 182, 0, 196, 42, 180, 0, 99]
abbrev dktX1_hang_2 : List UInt8 := dkwX1_hang_2 ++ dktX1_hang_3
def dkwX1_hang_1 : List UInt8 := [154, 0, 9, 42, 4, 182, 0, 153, 172, 42, 180, 0, 59, 28, 46, 155, 0, 6, 16, 252, 172, 27, 29]
abbrev dktX1_hang_1 : List UInt8 := dkwX1_hang_1 ++ dktX1_hang_2
def dkwX1_hang_0 : List UInt8 := [27, 184, 0, 193, 153, 0, 11, 42, 28, 182, 0, 176, 154, 0, 5, 2, 172, 42, 180, 0, 72, 27, 51]
abbrev dktX1_hang_0 : List UInt8 := dkwX1_hang_0 ++ dktX1_hang_1
theorem dksX1_hang_0 : cX1_hang.data.toList.drop 0 = dktX1_hang_0 := by decide +kernel
theorem dksX1_hang_1 : cX1_hang.data.toList.drop 23 = dktX1_hang_1 := dk_seg dksX1_hang_0 23 rfl rfl
theorem dksX1_hang_2 : cX1_hang.data.toList.drop 46 = dktX1_hang_2 := dk_seg dksX1_hang_1 23 rfl rfl
theorem dksX1_hang_3 : cX1_hang.data.toList.drop 70 = dktX1_hang_3 := dk_seg dksX1_hang_2 24 rfl rfl
theorem dX1_hang_0 : decode cX1_hang 0 = .ok (.iload_n 1, 1) := dk_27 (dk_at dksX1_hang_0 0 rfl rfl)
theorem dX1_hang_1 : decode cX1_hang 1 = .ok (.invokestatic 193, 3) := dk_184 0 193 (dk_at dksX1_hang_0 1 rfl rfl)
theorem dX1_hang_4 : decode cX1_hang 4 = .ok (.ifCond .eq 11, 3) := dk_153 0 11 (dk_at dksX1_hang_0 4 rfl rfl)
theorem dX1_hang_7 : decode cX1_hang 7 = .ok (.aload_n 0, 1) := dk_42 (dk_at dksX1_hang_0 7 rfl rfl)
theorem dX1_hang_8 : decode cX1_hang 8 = .ok (.iload_n 2, 1) := dk_28 (dk_at dksX1_hang_0 8 rfl rfl)
theorem dX1_hang_9 : decode cX1_hang 9 = .ok (.invokevirtual 176, 3) := dk_182 0 176 (dk_at dksX1_hang_0 9 rfl rfl)
theorem dX1_hang_12 : decode cX1_hang 12 = .ok (.ifCond .ne 5, 3) := dk_154 0 5 (dk_at dksX1_hang_0 12 rfl rfl)
theorem dX1_hang_15 : decode cX1_hang 15 = .ok (.iconst (-1), 1) := dk_2 (dk_at dksX1_hang_0 15 rfl rfl)
theorem dX1_hang_16 : decode cX1_hang 16 = .ok (.ireturn, 1) := dk_172 (dk_at dksX1_hang_0 16 rfl rfl)
theorem dX1_hang_17 : decode cX1_hang 17 = .ok (.aload_n 0, 1) := dk_42 (dk_at dksX1_hang_0 17 rfl rfl)
theorem dX1_hang_18 : decode cX1_hang 18 = .ok (.getfield 72, 3) := dk_180 0 72 (dk_at dksX1_hang_0 18 rfl rfl)
theorem dX1_hang_21 : decode cX1_hang 21 = .ok (.iload_n 1, 1) := dk_27 (dk_at dksX1_hang_0 21 rfl rfl)
theorem dX1_hang_22 : decode cX1_hang 22 = .ok (.baload, 1) := dk_51 (dk_at dksX1_hang_0 22 rfl rfl)
theorem dX1_hang_23 : decode cX1_hang 23 = .ok (.ifCond .ne 9, 3) := dk_154 0 9 (dk_at dksX1_hang_1 0 rfl rfl)
theorem dX1_hang_26 : decode cX1_hang 26 = .ok (.aload_n 0, 1) := dk_42 (dk_at dksX1_hang_1 3 rfl rfl)
theorem dX1_hang_27 : decode cX1_hang 27 = .ok (.iconst 1, 1) := dk_4 (dk_at dksX1_hang_1 4 rfl rfl)
theorem dX1_hang_28 : decode cX1_hang 28 = .ok (.invokevirtual 153, 3) := dk_182 0 153 (dk_at dksX1_hang_1 5 rfl rfl)
theorem dX1_hang_31 : decode cX1_hang 31 = .ok (.ireturn, 1) := dk_172 (dk_at dksX1_hang_1 8 rfl rfl)
theorem dX1_hang_32 : decode cX1_hang 32 = .ok (.aload_n 0, 1) := dk_42 (dk_at dksX1_hang_1 9 rfl rfl)
theorem dX1_hang_33 : decode cX1_hang 33 = .ok (.getfield 59, 3) := dk_180 0 59 (dk_at dksX1_hang_1 10 rfl rfl)
theorem dX1_hang_36 : decode cX1_hang 36 = .ok (.iload_n 2, 1) := dk_28 (dk_at dksX1_hang_1 13 rfl rfl)
theorem dX1_hang_37 : decode cX1_hang 37 = .ok (.iaload, 1) := dk_46 (dk_at dksX1_hang_1 14 rfl rfl)
theorem dX1_hang_38 : decode cX1_hang 38 = .ok (.ifCond .lt 6, 3) := dk_155 0 6 (dk_at dksX1_hang_1 15 rfl rfl)
theorem dX1_hang_41 : decode cX1_hang 41 = .ok (.bipush (-4), 2) := dk_16 252 (dk_at dksX1_hang_1 18 rfl rfl)
theorem dX1_hang_43 : decode cX1_hang 43 = .ok (.ireturn, 1) := dk_172 (dk_at dksX1_hang_1 20 rfl rfl)
theorem dX1_hang_44 : decode cX1_hang 44 = .ok (.iload_n 1, 1) := dk_27 (dk_at dksX1_hang_1 21 rfl rfl)
theorem dX1_hang_45 : decode cX1_hang 45 = .ok (.iload_n 3, 1) := dk_29 (dk_at dksX1_hang_1 22 rfl rfl)
theorem dX1_hang_46 : decode cX1_hang 46 = .ok (.invokestatic 200, 3) := dk_184 0 200 (dk_at dksX1_hang_2 0 rfl rfl)
theorem dX1_hang_49 : decode cX1_hang 49 = .ok (.istore 4, 2) := dk_54 4 (dk_at dksX1_hang_2 3 rfl rfl)
theorem dX1_hang_51 : decode cX1_hang 51 = .ok (.aload_n 0, 1) := dk_42 (dk_at dksX1_hang_2 5 rfl rfl)
theorem dX1_hang_52 : decode cX1_hang 52 = .ok (.getfield 99, 3) := dk_180 0 99 (dk_at dksX1_hang_2 6 rfl rfl)
theorem dX1_hang_55 : decode cX1_hang 55 = .ok (.iload 4, 2) := dk_21 4 (dk_at dksX1_hang_2 9 rfl rfl)
theorem dX1_hang_57 : decode cX1_hang 57 = .ok (.iaload, 1) := dk_46 (dk_at dksX1_hang_2 11 rfl rfl)
theorem dX1_hang_58 : decode cX1_hang 58 = .ok (.istore 5, 2) := dk_54 5 (dk_at dksX1_hang_2 12 rfl rfl)
theorem dX1_hang_60 : decode cX1_hang 60 = .ok (.aload_n 0, 1) := dk_42 (dk_at dksX1_hang_2 14 rfl rfl)
theorem dX1_hang_61 : decode cX1_hang 61 = .ok (.iload 4, 2) := dk_21 4 (dk_at dksX1_hang_2 15 rfl rfl)
theorem dX1_hang_63 : decode cX1_hang 63 = .ok (.invokevirtual 196, 3) := dk_182 0 196 (dk_at dksX1_hang_2 17 rfl rfl)
theorem dX1_hang_66 : decode cX1_hang 66 = .ok (.aload_n 0, 1) := dk_42 (dk_at dksX1_hang_2 20 rfl rfl)
theorem dX1_hang_67 : decode cX1_hang 67 = .ok (.getfield 99, 3) := dk_180 0 99 (dk_at dksX1_hang_2 21 rfl rfl)
theorem dX1_hang_70 : decode cX1_hang 70 = .ok (.iload 4, 2) := dk_21 4 (dk_at dksX1_hang_3 0 rfl rfl)
theorem dX1_hang_72 : decode cX1_hang 72 = .ok (.iload_n 2, 1) := dk_28 (dk_at dksX1_hang_3 2 rfl rfl)
theorem dX1_hang_73 : decode cX1_hang 73 = .ok (.iastore, 1) := dk_79 (dk_at dksX1_hang_3 3 rfl rfl)
theorem dX1_hang_74 : decode cX1_hang 74 = .ok (.aload_n 0, 1) := dk_42 (dk_at dksX1_hang_3 4 rfl rfl)
theorem dX1_hang_75 : decode cX1_hang 75 = .ok (.getfield 59, 3) := dk_180 0 59 (dk_at dksX1_hang_3 5 rfl rfl)
theorem dX1_hang_78 : decode cX1_hang 78 = .ok (.iload_n 2, 1) := dk_28 (dk_at dksX1_hang_3 8 rfl rfl)
theorem dX1_hang_79 : decode cX1_hang 79 = .ok (.iload 4, 2) := dk_21 4 (dk_at dksX1_hang_3 9 rfl rfl)
theorem dX1_hang_81 : decode cX1_hang 81 = .ok (.iastore, 1) := dk_79 (dk_at dksX1_hang_3 11 rfl rfl)
theorem dX1_hang_82 : decode cX1_hang 82 = .ok (.aload_n 0, 1) := dk_42 (dk_at dksX1_hang_3 12 rfl rfl)
theorem dX1_hang_83 : decode cX1_hang 83 = .ok (.getfield 56, 3) := dk_180 0 56 (dk_at dksX1_hang_3 13 rfl rfl)
theorem dX1_hang_86 : decode cX1_hang 86 = .ok (.iload_n 2, 1) := dk_28 (dk_at dksX1_hang_3 16 rfl rfl)
theorem dX1_hang_87 : decode cX1_hang 87 = .ok (.iconst 0, 1) := dk_3 (dk_at dksX1_hang_3 17 rfl rfl)
theorem dX1_hang_88 : decode cX1_hang 88 = .ok (.iastore, 1) := dk_79 (dk_at dksX1_hang_3 18 rfl rfl)
theorem dX1_hang_89 : decode cX1_hang 89 = .ok (.iload 5, 2) := dk_21 5 (dk_at dksX1_hang_3 19 rfl rfl)
theorem dX1_hang_91 : decode cX1_hang 91 = .ok (.ireturn, 1) := dk_172 (dk_at dksX1_hang_3 21 rfl rfl)
abbrev cX1_placeOf : ByteArray := prog_9_method_38_code
def yX1_placeOf : MethodName := ⟨RX1, "placeOf", "(IZ)I"⟩
def dkwX1_placeOf_0 : List UInt8 := [5, 26, 104, 27, 153, 0, 7, 4, 167, 0, 4, 3, 96, 172]
abbrev dktX1_placeOf_0 : List UInt8 := dkwX1_placeOf_0 ++ []
theorem dksX1_placeOf_0 : cX1_placeOf.data.toList.drop 0 = dktX1_placeOf_0 := by decide +kernel
theorem dX1_placeOf_0 : decode cX1_placeOf 0 = .ok (.iconst 2, 1) := dk_5 (dk_at dksX1_placeOf_0 0 rfl rfl)
theorem dX1_placeOf_1 : decode cX1_placeOf 1 = .ok (.iload_n 0, 1) := dk_26 (dk_at dksX1_placeOf_0 1 rfl rfl)
theorem dX1_placeOf_2 : decode cX1_placeOf 2 = .ok (.imul, 1) := dk_104 (dk_at dksX1_placeOf_0 2 rfl rfl)
theorem dX1_placeOf_3 : decode cX1_placeOf 3 = .ok (.iload_n 1, 1) := dk_27 (dk_at dksX1_placeOf_0 3 rfl rfl)
theorem dX1_placeOf_4 : decode cX1_placeOf 4 = .ok (.ifCond .eq 7, 3) := dk_153 0 7 (dk_at dksX1_placeOf_0 4 rfl rfl)
theorem dX1_placeOf_7 : decode cX1_placeOf 7 = .ok (.iconst 1, 1) := dk_4 (dk_at dksX1_placeOf_0 7 rfl rfl)
theorem dX1_placeOf_8 : decode cX1_placeOf 8 = .ok (.goto 4, 3) := dk_167 0 4 (dk_at dksX1_placeOf_0 8 rfl rfl)
theorem dX1_placeOf_11 : decode cX1_placeOf 11 = .ok (.iconst 0, 1) := dk_3 (dk_at dksX1_placeOf_0 11 rfl rfl)
theorem dX1_placeOf_12 : decode cX1_placeOf 12 = .ok (.iadd, 1) := dk_96 (dk_at dksX1_placeOf_0 12 rfl rfl)
theorem dX1_placeOf_13 : decode cX1_placeOf 13 = .ok (.ireturn, 1) := dk_172 (dk_at dksX1_placeOf_0 13 rfl rfl)
abbrev cX1_unhang : ByteArray := prog_9_method_41_code
def yX1_unhang : MethodName := ⟨RX1, "unhang", "(IZ)I"⟩
def dkwX1_unhang_1 : List UInt8 := [54, 4, 42, 27, 28, 184, 0, 200, 182, 0, 196, 21, 4, 172]
abbrev dktX1_unhang_1 : List UInt8 := dkwX1_unhang_1 ++ []
def dkwX1_unhang_0 : List UInt8 := [42, 27, 28, 182, 0, 206, 62, 29, 156, 0, 5, 29, 172, 42, 180, 0, 99, 27, 28, 184, 0, 200, 46]
abbrev dktX1_unhang_0 : List UInt8 := dkwX1_unhang_0 ++ dktX1_unhang_1
theorem dksX1_unhang_0 : cX1_unhang.data.toList.drop 0 = dktX1_unhang_0 := by decide +kernel
theorem dksX1_unhang_1 : cX1_unhang.data.toList.drop 23 = dktX1_unhang_1 := dk_seg dksX1_unhang_0 23 rfl rfl
theorem dX1_unhang_0 : decode cX1_unhang 0 = .ok (.aload_n 0, 1) := dk_42 (dk_at dksX1_unhang_0 0 rfl rfl)
theorem dX1_unhang_1 : decode cX1_unhang 1 = .ok (.iload_n 1, 1) := dk_27 (dk_at dksX1_unhang_0 1 rfl rfl)
theorem dX1_unhang_2 : decode cX1_unhang 2 = .ok (.iload_n 2, 1) := dk_28 (dk_at dksX1_unhang_0 2 rfl rfl)
theorem dX1_unhang_3 : decode cX1_unhang 3 = .ok (.invokevirtual 206, 3) := dk_182 0 206 (dk_at dksX1_unhang_0 3 rfl rfl)
theorem dX1_unhang_6 : decode cX1_unhang 6 = .ok (.istore_n 3, 1) := dk_62 (dk_at dksX1_unhang_0 6 rfl rfl)
theorem dX1_unhang_7 : decode cX1_unhang 7 = .ok (.iload_n 3, 1) := dk_29 (dk_at dksX1_unhang_0 7 rfl rfl)
theorem dX1_unhang_8 : decode cX1_unhang 8 = .ok (.ifCond .ge 5, 3) := dk_156 0 5 (dk_at dksX1_unhang_0 8 rfl rfl)
theorem dX1_unhang_11 : decode cX1_unhang 11 = .ok (.iload_n 3, 1) := dk_29 (dk_at dksX1_unhang_0 11 rfl rfl)
theorem dX1_unhang_12 : decode cX1_unhang 12 = .ok (.ireturn, 1) := dk_172 (dk_at dksX1_unhang_0 12 rfl rfl)
theorem dX1_unhang_13 : decode cX1_unhang 13 = .ok (.aload_n 0, 1) := dk_42 (dk_at dksX1_unhang_0 13 rfl rfl)
theorem dX1_unhang_14 : decode cX1_unhang 14 = .ok (.getfield 99, 3) := dk_180 0 99 (dk_at dksX1_unhang_0 14 rfl rfl)
theorem dX1_unhang_17 : decode cX1_unhang 17 = .ok (.iload_n 1, 1) := dk_27 (dk_at dksX1_unhang_0 17 rfl rfl)
theorem dX1_unhang_18 : decode cX1_unhang 18 = .ok (.iload_n 2, 1) := dk_28 (dk_at dksX1_unhang_0 18 rfl rfl)
theorem dX1_unhang_19 : decode cX1_unhang 19 = .ok (.invokestatic 200, 3) := dk_184 0 200 (dk_at dksX1_unhang_0 19 rfl rfl)
theorem dX1_unhang_22 : decode cX1_unhang 22 = .ok (.iaload, 1) := dk_46 (dk_at dksX1_unhang_0 22 rfl rfl)
theorem dX1_unhang_23 : decode cX1_unhang 23 = .ok (.istore 4, 2) := dk_54 4 (dk_at dksX1_unhang_1 0 rfl rfl)
theorem dX1_unhang_25 : decode cX1_unhang 25 = .ok (.aload_n 0, 1) := dk_42 (dk_at dksX1_unhang_1 2 rfl rfl)
theorem dX1_unhang_26 : decode cX1_unhang 26 = .ok (.iload_n 1, 1) := dk_27 (dk_at dksX1_unhang_1 3 rfl rfl)
theorem dX1_unhang_27 : decode cX1_unhang 27 = .ok (.iload_n 2, 1) := dk_28 (dk_at dksX1_unhang_1 4 rfl rfl)
theorem dX1_unhang_28 : decode cX1_unhang 28 = .ok (.invokestatic 200, 3) := dk_184 0 200 (dk_at dksX1_unhang_1 5 rfl rfl)
theorem dX1_unhang_31 : decode cX1_unhang 31 = .ok (.invokevirtual 196, 3) := dk_182 0 196 (dk_at dksX1_unhang_1 8 rfl rfl)
theorem dX1_unhang_34 : decode cX1_unhang 34 = .ok (.iload 4, 2) := dk_21 4 (dk_at dksX1_unhang_1 11 rfl rfl)
theorem dX1_unhang_36 : decode cX1_unhang 36 = .ok (.ireturn, 1) := dk_172 (dk_at dksX1_unhang_1 13 rfl rfl)
abbrev cX1_askedPlace : ByteArray := prog_9_method_40_code
def yX1_askedPlace : MethodName := ⟨RX1, "askedPlace", "(IZ)I"⟩
def dkwX1_askedPlace_1 : List UInt8 := [156, 0, 11, 42, 4, 182, 0, 153, 167, 0, 4, 3, 172]
abbrev dktX1_askedPlace_1 : List UInt8 := dkwX1_askedPlace_1 ++ []
def dkwX1_askedPlace_0 : List UInt8 := [42, 27, 182, 0, 203, 62, 29, 156, 0, 7, 29, 167, 0, 25, 42, 180, 0, 99, 27, 28, 184, 0, 200, 46]
abbrev dktX1_askedPlace_0 : List UInt8 := dkwX1_askedPlace_0 ++ dktX1_askedPlace_1
theorem dksX1_askedPlace_0 : cX1_askedPlace.data.toList.drop 0 = dktX1_askedPlace_0 := by decide +kernel
theorem dksX1_askedPlace_1 : cX1_askedPlace.data.toList.drop 24 = dktX1_askedPlace_1 := dk_seg dksX1_askedPlace_0 24 rfl rfl
theorem dX1_askedPlace_0 : decode cX1_askedPlace 0 = .ok (.aload_n 0, 1) := dk_42 (dk_at dksX1_askedPlace_0 0 rfl rfl)
theorem dX1_askedPlace_1 : decode cX1_askedPlace 1 = .ok (.iload_n 1, 1) := dk_27 (dk_at dksX1_askedPlace_0 1 rfl rfl)
theorem dX1_askedPlace_2 : decode cX1_askedPlace 2 = .ok (.invokevirtual 203, 3) := dk_182 0 203 (dk_at dksX1_askedPlace_0 2 rfl rfl)
theorem dX1_askedPlace_5 : decode cX1_askedPlace 5 = .ok (.istore_n 3, 1) := dk_62 (dk_at dksX1_askedPlace_0 5 rfl rfl)
theorem dX1_askedPlace_6 : decode cX1_askedPlace 6 = .ok (.iload_n 3, 1) := dk_29 (dk_at dksX1_askedPlace_0 6 rfl rfl)
theorem dX1_askedPlace_7 : decode cX1_askedPlace 7 = .ok (.ifCond .ge 7, 3) := dk_156 0 7 (dk_at dksX1_askedPlace_0 7 rfl rfl)
theorem dX1_askedPlace_10 : decode cX1_askedPlace 10 = .ok (.iload_n 3, 1) := dk_29 (dk_at dksX1_askedPlace_0 10 rfl rfl)
theorem dX1_askedPlace_11 : decode cX1_askedPlace 11 = .ok (.goto 25, 3) := dk_167 0 25 (dk_at dksX1_askedPlace_0 11 rfl rfl)
theorem dX1_askedPlace_14 : decode cX1_askedPlace 14 = .ok (.aload_n 0, 1) := dk_42 (dk_at dksX1_askedPlace_0 14 rfl rfl)
theorem dX1_askedPlace_15 : decode cX1_askedPlace 15 = .ok (.getfield 99, 3) := dk_180 0 99 (dk_at dksX1_askedPlace_0 15 rfl rfl)
theorem dX1_askedPlace_18 : decode cX1_askedPlace 18 = .ok (.iload_n 1, 1) := dk_27 (dk_at dksX1_askedPlace_0 18 rfl rfl)
theorem dX1_askedPlace_19 : decode cX1_askedPlace 19 = .ok (.iload_n 2, 1) := dk_28 (dk_at dksX1_askedPlace_0 19 rfl rfl)
theorem dX1_askedPlace_20 : decode cX1_askedPlace 20 = .ok (.invokestatic 200, 3) := dk_184 0 200 (dk_at dksX1_askedPlace_0 20 rfl rfl)
theorem dX1_askedPlace_23 : decode cX1_askedPlace 23 = .ok (.iaload, 1) := dk_46 (dk_at dksX1_askedPlace_0 23 rfl rfl)
theorem dX1_askedPlace_24 : decode cX1_askedPlace 24 = .ok (.ifCond .ge 11, 3) := dk_156 0 11 (dk_at dksX1_askedPlace_1 0 rfl rfl)
theorem dX1_askedPlace_27 : decode cX1_askedPlace 27 = .ok (.aload_n 0, 1) := dk_42 (dk_at dksX1_askedPlace_1 3 rfl rfl)
theorem dX1_askedPlace_28 : decode cX1_askedPlace 28 = .ok (.iconst 1, 1) := dk_4 (dk_at dksX1_askedPlace_1 4 rfl rfl)
theorem dX1_askedPlace_29 : decode cX1_askedPlace 29 = .ok (.invokevirtual 153, 3) := dk_182 0 153 (dk_at dksX1_askedPlace_1 5 rfl rfl)
theorem dX1_askedPlace_32 : decode cX1_askedPlace 32 = .ok (.goto 4, 3) := dk_167 0 4 (dk_at dksX1_askedPlace_1 8 rfl rfl)
theorem dX1_askedPlace_35 : decode cX1_askedPlace 35 = .ok (.iconst 0, 1) := dk_3 (dk_at dksX1_askedPlace_1 11 rfl rfl)
theorem dX1_askedPlace_36 : decode cX1_askedPlace 36 = .ok (.ireturn, 1) := dk_172 (dk_at dksX1_askedPlace_1 12 rfl rfl)
abbrev cX1_askedFor : ByteArray := prog_9_method_35_code
def yX1_askedFor : MethodName := ⟨RX1, "askedFor", "(I)I"⟩
def dkwX1_askedFor_1 : List UInt8 := [42, 4, 182, 0, 153, 172]
abbrev dktX1_askedFor_1 : List UInt8 := dkwX1_askedFor_1 ++ []
def dkwX1_askedFor_0 : List UInt8 := [27, 184, 0, 193, 154, 0, 7, 2, 167, 0, 21, 42, 180, 0, 72, 27, 51, 153, 0, 7, 3, 167, 0, 8]
abbrev dktX1_askedFor_0 : List UInt8 := dkwX1_askedFor_0 ++ dktX1_askedFor_1
theorem dksX1_askedFor_0 : cX1_askedFor.data.toList.drop 0 = dktX1_askedFor_0 := by decide +kernel
theorem dksX1_askedFor_1 : cX1_askedFor.data.toList.drop 24 = dktX1_askedFor_1 := dk_seg dksX1_askedFor_0 24 rfl rfl
theorem dX1_askedFor_0 : decode cX1_askedFor 0 = .ok (.iload_n 1, 1) := dk_27 (dk_at dksX1_askedFor_0 0 rfl rfl)
theorem dX1_askedFor_1 : decode cX1_askedFor 1 = .ok (.invokestatic 193, 3) := dk_184 0 193 (dk_at dksX1_askedFor_0 1 rfl rfl)
theorem dX1_askedFor_4 : decode cX1_askedFor 4 = .ok (.ifCond .ne 7, 3) := dk_154 0 7 (dk_at dksX1_askedFor_0 4 rfl rfl)
theorem dX1_askedFor_7 : decode cX1_askedFor 7 = .ok (.iconst (-1), 1) := dk_2 (dk_at dksX1_askedFor_0 7 rfl rfl)
theorem dX1_askedFor_8 : decode cX1_askedFor 8 = .ok (.goto 21, 3) := dk_167 0 21 (dk_at dksX1_askedFor_0 8 rfl rfl)
theorem dX1_askedFor_11 : decode cX1_askedFor 11 = .ok (.aload_n 0, 1) := dk_42 (dk_at dksX1_askedFor_0 11 rfl rfl)
theorem dX1_askedFor_12 : decode cX1_askedFor 12 = .ok (.getfield 72, 3) := dk_180 0 72 (dk_at dksX1_askedFor_0 12 rfl rfl)
theorem dX1_askedFor_15 : decode cX1_askedFor 15 = .ok (.iload_n 1, 1) := dk_27 (dk_at dksX1_askedFor_0 15 rfl rfl)
theorem dX1_askedFor_16 : decode cX1_askedFor 16 = .ok (.baload, 1) := dk_51 (dk_at dksX1_askedFor_0 16 rfl rfl)
theorem dX1_askedFor_17 : decode cX1_askedFor 17 = .ok (.ifCond .eq 7, 3) := dk_153 0 7 (dk_at dksX1_askedFor_0 17 rfl rfl)
theorem dX1_askedFor_20 : decode cX1_askedFor 20 = .ok (.iconst 0, 1) := dk_3 (dk_at dksX1_askedFor_0 20 rfl rfl)
theorem dX1_askedFor_21 : decode cX1_askedFor 21 = .ok (.goto 8, 3) := dk_167 0 8 (dk_at dksX1_askedFor_0 21 rfl rfl)
theorem dX1_askedFor_24 : decode cX1_askedFor 24 = .ok (.aload_n 0, 1) := dk_42 (dk_at dksX1_askedFor_1 0 rfl rfl)
theorem dX1_askedFor_25 : decode cX1_askedFor 25 = .ok (.iconst 1, 1) := dk_4 (dk_at dksX1_askedFor_1 1 rfl rfl)
theorem dX1_askedFor_26 : decode cX1_askedFor 26 = .ok (.invokevirtual 153, 3) := dk_182 0 153 (dk_at dksX1_askedFor_1 2 rfl rfl)
theorem dX1_askedFor_29 : decode cX1_askedFor 29 = .ok (.ireturn, 1) := dk_172 (dk_at dksX1_askedFor_1 5 rfl rfl)
abbrev cX1_hands : ByteArray := prog_9_method_42_code
def yX1_hands : MethodName := ⟨RX1, "hands", "(II)I"⟩
def dkwX1_hands_1 : List UInt8 := [172, 42, 180, 0, 75, 27, 46, 54, 4, 42, 180, 0, 75, 27, 28, 79, 21, 4, 172]
abbrev dktX1_hands_1 : List UInt8 := dkwX1_hands_1 ++ []
def dkwX1_hands_0 : List UInt8 := [28, 3, 17, 5, 159, 184, 0, 145, 154, 0, 5, 2, 172, 42, 27, 182, 0, 203, 62, 29, 156, 0, 5, 29]
abbrev dktX1_hands_0 : List UInt8 := dkwX1_hands_0 ++ dktX1_hands_1
theorem dksX1_hands_0 : cX1_hands.data.toList.drop 0 = dktX1_hands_0 := by decide +kernel
theorem dksX1_hands_1 : cX1_hands.data.toList.drop 24 = dktX1_hands_1 := dk_seg dksX1_hands_0 24 rfl rfl
theorem dX1_hands_0 : decode cX1_hands 0 = .ok (.iload_n 2, 1) := dk_28 (dk_at dksX1_hands_0 0 rfl rfl)
theorem dX1_hands_1 : decode cX1_hands 1 = .ok (.iconst 0, 1) := dk_3 (dk_at dksX1_hands_0 1 rfl rfl)
theorem dX1_hands_2 : decode cX1_hands 2 = .ok (.sipush 1439, 3) := dk_17 5 159 (dk_at dksX1_hands_0 2 rfl rfl)
theorem dX1_hands_5 : decode cX1_hands 5 = .ok (.invokestatic 145, 3) := dk_184 0 145 (dk_at dksX1_hands_0 5 rfl rfl)
theorem dX1_hands_8 : decode cX1_hands 8 = .ok (.ifCond .ne 5, 3) := dk_154 0 5 (dk_at dksX1_hands_0 8 rfl rfl)
theorem dX1_hands_11 : decode cX1_hands 11 = .ok (.iconst (-1), 1) := dk_2 (dk_at dksX1_hands_0 11 rfl rfl)
theorem dX1_hands_12 : decode cX1_hands 12 = .ok (.ireturn, 1) := dk_172 (dk_at dksX1_hands_0 12 rfl rfl)
theorem dX1_hands_13 : decode cX1_hands 13 = .ok (.aload_n 0, 1) := dk_42 (dk_at dksX1_hands_0 13 rfl rfl)
theorem dX1_hands_14 : decode cX1_hands 14 = .ok (.iload_n 1, 1) := dk_27 (dk_at dksX1_hands_0 14 rfl rfl)
theorem dX1_hands_15 : decode cX1_hands 15 = .ok (.invokevirtual 203, 3) := dk_182 0 203 (dk_at dksX1_hands_0 15 rfl rfl)
theorem dX1_hands_18 : decode cX1_hands 18 = .ok (.istore_n 3, 1) := dk_62 (dk_at dksX1_hands_0 18 rfl rfl)
theorem dX1_hands_19 : decode cX1_hands 19 = .ok (.iload_n 3, 1) := dk_29 (dk_at dksX1_hands_0 19 rfl rfl)
theorem dX1_hands_20 : decode cX1_hands 20 = .ok (.ifCond .ge 5, 3) := dk_156 0 5 (dk_at dksX1_hands_0 20 rfl rfl)
theorem dX1_hands_23 : decode cX1_hands 23 = .ok (.iload_n 3, 1) := dk_29 (dk_at dksX1_hands_0 23 rfl rfl)
theorem dX1_hands_24 : decode cX1_hands 24 = .ok (.ireturn, 1) := dk_172 (dk_at dksX1_hands_1 0 rfl rfl)
theorem dX1_hands_25 : decode cX1_hands 25 = .ok (.aload_n 0, 1) := dk_42 (dk_at dksX1_hands_1 1 rfl rfl)
theorem dX1_hands_26 : decode cX1_hands 26 = .ok (.getfield 75, 3) := dk_180 0 75 (dk_at dksX1_hands_1 2 rfl rfl)
theorem dX1_hands_29 : decode cX1_hands 29 = .ok (.iload_n 1, 1) := dk_27 (dk_at dksX1_hands_1 5 rfl rfl)
theorem dX1_hands_30 : decode cX1_hands 30 = .ok (.iaload, 1) := dk_46 (dk_at dksX1_hands_1 6 rfl rfl)
theorem dX1_hands_31 : decode cX1_hands 31 = .ok (.istore 4, 2) := dk_54 4 (dk_at dksX1_hands_1 7 rfl rfl)
theorem dX1_hands_33 : decode cX1_hands 33 = .ok (.aload_n 0, 1) := dk_42 (dk_at dksX1_hands_1 9 rfl rfl)
theorem dX1_hands_34 : decode cX1_hands 34 = .ok (.getfield 75, 3) := dk_180 0 75 (dk_at dksX1_hands_1 10 rfl rfl)
theorem dX1_hands_37 : decode cX1_hands 37 = .ok (.iload_n 1, 1) := dk_27 (dk_at dksX1_hands_1 13 rfl rfl)
theorem dX1_hands_38 : decode cX1_hands 38 = .ok (.iload_n 2, 1) := dk_28 (dk_at dksX1_hands_1 14 rfl rfl)
theorem dX1_hands_39 : decode cX1_hands 39 = .ok (.iastore, 1) := dk_79 (dk_at dksX1_hands_1 15 rfl rfl)
theorem dX1_hands_40 : decode cX1_hands 40 = .ok (.iload 4, 2) := dk_21 4 (dk_at dksX1_hands_1 16 rfl rfl)
theorem dX1_hands_42 : decode cX1_hands 42 = .ok (.ireturn, 1) := dk_172 (dk_at dksX1_hands_1 18 rfl rfl)
abbrev cX1_forward : ByteArray := prog_9_method_50_code
def yX1_forward : MethodName := ⟨RX1, "forward", "(II)I"⟩
def dkwX1_forward_2 : List UInt8 := [180, 0, 75, 27, 46, 172]
abbrev dktX1_forward_2 : List UInt8 := dkwX1_forward_2 ++ []
def dkwX1_forward_1 : List UInt8 := [172, 3, 54, 4, 21, 4, 28, 162, 0, 14, 42, 27, 182, 0, 228, 132, 4, 1, 167, 255, 242, 42]
abbrev dktX1_forward_1 : List UInt8 := dkwX1_forward_1 ++ dktX1_forward_2
def dkwX1_forward_0 : List UInt8 := [28, 3, 17, 5, 220, 184, 0, 145, 154, 0, 5, 2, 172, 42, 27, 182, 0, 203, 62, 29, 156, 0, 5, 29]
abbrev dktX1_forward_0 : List UInt8 := dkwX1_forward_0 ++ dktX1_forward_1
theorem dksX1_forward_0 : cX1_forward.data.toList.drop 0 = dktX1_forward_0 := by decide +kernel
theorem dksX1_forward_1 : cX1_forward.data.toList.drop 24 = dktX1_forward_1 := dk_seg dksX1_forward_0 24 rfl rfl
theorem dksX1_forward_2 : cX1_forward.data.toList.drop 46 = dktX1_forward_2 := dk_seg dksX1_forward_1 22 rfl rfl
theorem dX1_forward_0 : decode cX1_forward 0 = .ok (.iload_n 2, 1) := dk_28 (dk_at dksX1_forward_0 0 rfl rfl)
theorem dX1_forward_1 : decode cX1_forward 1 = .ok (.iconst 0, 1) := dk_3 (dk_at dksX1_forward_0 1 rfl rfl)
theorem dX1_forward_2 : decode cX1_forward 2 = .ok (.sipush 1500, 3) := dk_17 5 220 (dk_at dksX1_forward_0 2 rfl rfl)
theorem dX1_forward_5 : decode cX1_forward 5 = .ok (.invokestatic 145, 3) := dk_184 0 145 (dk_at dksX1_forward_0 5 rfl rfl)
theorem dX1_forward_8 : decode cX1_forward 8 = .ok (.ifCond .ne 5, 3) := dk_154 0 5 (dk_at dksX1_forward_0 8 rfl rfl)
theorem dX1_forward_11 : decode cX1_forward 11 = .ok (.iconst (-1), 1) := dk_2 (dk_at dksX1_forward_0 11 rfl rfl)
theorem dX1_forward_12 : decode cX1_forward 12 = .ok (.ireturn, 1) := dk_172 (dk_at dksX1_forward_0 12 rfl rfl)
theorem dX1_forward_13 : decode cX1_forward 13 = .ok (.aload_n 0, 1) := dk_42 (dk_at dksX1_forward_0 13 rfl rfl)
theorem dX1_forward_14 : decode cX1_forward 14 = .ok (.iload_n 1, 1) := dk_27 (dk_at dksX1_forward_0 14 rfl rfl)
theorem dX1_forward_15 : decode cX1_forward 15 = .ok (.invokevirtual 203, 3) := dk_182 0 203 (dk_at dksX1_forward_0 15 rfl rfl)
theorem dX1_forward_18 : decode cX1_forward 18 = .ok (.istore_n 3, 1) := dk_62 (dk_at dksX1_forward_0 18 rfl rfl)
theorem dX1_forward_19 : decode cX1_forward 19 = .ok (.iload_n 3, 1) := dk_29 (dk_at dksX1_forward_0 19 rfl rfl)
theorem dX1_forward_20 : decode cX1_forward 20 = .ok (.ifCond .ge 5, 3) := dk_156 0 5 (dk_at dksX1_forward_0 20 rfl rfl)
theorem dX1_forward_23 : decode cX1_forward 23 = .ok (.iload_n 3, 1) := dk_29 (dk_at dksX1_forward_0 23 rfl rfl)
theorem dX1_forward_24 : decode cX1_forward 24 = .ok (.ireturn, 1) := dk_172 (dk_at dksX1_forward_1 0 rfl rfl)
theorem dX1_forward_25 : decode cX1_forward 25 = .ok (.iconst 0, 1) := dk_3 (dk_at dksX1_forward_1 1 rfl rfl)
theorem dX1_forward_26 : decode cX1_forward 26 = .ok (.istore 4, 2) := dk_54 4 (dk_at dksX1_forward_1 2 rfl rfl)
theorem dX1_forward_28 : decode cX1_forward 28 = .ok (.iload 4, 2) := dk_21 4 (dk_at dksX1_forward_1 4 rfl rfl)
theorem dX1_forward_30 : decode cX1_forward 30 = .ok (.iload_n 2, 1) := dk_28 (dk_at dksX1_forward_1 6 rfl rfl)
theorem dX1_forward_31 : decode cX1_forward 31 = .ok (.if_icmp .ge 14, 3) := dk_162 0 14 (dk_at dksX1_forward_1 7 rfl rfl)
theorem dX1_forward_34 : decode cX1_forward 34 = .ok (.aload_n 0, 1) := dk_42 (dk_at dksX1_forward_1 10 rfl rfl)
theorem dX1_forward_35 : decode cX1_forward 35 = .ok (.iload_n 1, 1) := dk_27 (dk_at dksX1_forward_1 11 rfl rfl)
theorem dX1_forward_36 : decode cX1_forward 36 = .ok (.invokevirtual 228, 3) := dk_182 0 228 (dk_at dksX1_forward_1 12 rfl rfl)
theorem dX1_forward_39 : decode cX1_forward 39 = .ok (.iinc 4 1, 3) := dk_132 4 1 (dk_at dksX1_forward_1 15 rfl rfl)
theorem dX1_forward_42 : decode cX1_forward 42 = .ok (.goto (-14), 3) := dk_167 255 242 (dk_at dksX1_forward_1 18 rfl rfl)
theorem dX1_forward_45 : decode cX1_forward 45 = .ok (.aload_n 0, 1) := dk_42 (dk_at dksX1_forward_1 21 rfl rfl)
theorem dX1_forward_46 : decode cX1_forward 46 = .ok (.getfield 75, 3) := dk_180 0 75 (dk_at dksX1_forward_2 0 rfl rfl)
theorem dX1_forward_49 : decode cX1_forward 49 = .ok (.iload_n 1, 1) := dk_27 (dk_at dksX1_forward_2 3 rfl rfl)
theorem dX1_forward_50 : decode cX1_forward 50 = .ok (.iaload, 1) := dk_46 (dk_at dksX1_forward_2 4 rfl rfl)
theorem dX1_forward_51 : decode cX1_forward 51 = .ok (.ireturn, 1) := dk_172 (dk_at dksX1_forward_2 5 rfl rfl)
abbrev cX1_stepOn : ByteArray := prog_9_method_49_code
def yX1_stepOn : MethodName := ⟨RX1, "stepOn", "(I)V"⟩
def dkwX1_stepOn_7 : List UInt8 := [154, 0, 14, 21, 4, 153, 0, 9, 42, 27, 3, 182, 0, 225, 177]
abbrev dktX1_stepOn_7 : List UInt8 := dkwX1_stepOn_7 ++ []
def dkwX1_stepOn_6 : List UInt8 := [167, 0, 4, 3, 84, 28, 16, 15, 112, 154, 0, 13, 29, 153, 0, 9, 42, 27, 4, 182, 0, 225, 28]
abbrev dktX1_stepOn_6 : List UInt8 := dkwX1_stepOn_6 ++ dktX1_stepOn_7
def dkwX1_stepOn_5 : List UInt8 := [180, 0, 102, 5, 27, 104, 51, 154, 0, 14, 21, 4, 153, 0, 13, 28, 16, 55, 160, 0, 7, 4]
abbrev dktX1_stepOn_5 : List UInt8 := dkwX1_stepOn_5 ++ dktX1_stepOn_6
def dkwX1_stepOn_4 : List UInt8 := [51, 154, 0, 7, 29, 153, 0, 7, 4, 167, 0, 4, 3, 84, 42, 180, 0, 102, 5, 27, 104, 42]
abbrev dktX1_stepOn_4 : List UInt8 := dkwX1_stepOn_4 ++ dktX1_stepOn_5
def dkwX1_stepOn_3 : List UInt8 := [112, 16, 10, 160, 0, 70, 42, 180, 0, 102, 5, 27, 104, 4, 96, 42, 180, 0, 102, 5, 27, 104, 4, 96]
abbrev dktX1_stepOn_3 : List UInt8 := dkwX1_stepOn_3 ++ dktX1_stepOn_4
def dkwX1_stepOn_2 : List UInt8 := [180, 0, 99, 5, 27, 104, 46, 155, 0, 11, 29, 154, 0, 7, 4, 167, 0, 4, 3, 54, 4, 28, 16, 15]
abbrev dktX1_stepOn_2 : List UInt8 := dkwX1_stepOn_2 ++ dktX1_stepOn_3
def dkwX1_stepOn_1 : List UInt8 := [16, 60, 112, 61, 42, 180, 0, 99, 5, 27, 104, 4, 96, 46, 155, 0, 7, 4, 167, 0, 4, 3, 62, 42]
abbrev dktX1_stepOn_1 : List UInt8 := dkwX1_stepOn_1 ++ dktX1_stepOn_2
def dkwX1_stepOn_0 : List UInt8 := [42, 180, 0, 75, 27, 42, 180, 0, 75, 27, 46, 4, 96, 17, 5, 160, 112, 79, 42, 180, 0, 75, 27, 46]
abbrev dktX1_stepOn_0 : List UInt8 := dkwX1_stepOn_0 ++ dktX1_stepOn_1
theorem dksX1_stepOn_0 : cX1_stepOn.data.toList.drop 0 = dktX1_stepOn_0 := by decide +kernel
theorem dksX1_stepOn_1 : cX1_stepOn.data.toList.drop 24 = dktX1_stepOn_1 := dk_seg dksX1_stepOn_0 24 rfl rfl
theorem dksX1_stepOn_2 : cX1_stepOn.data.toList.drop 48 = dktX1_stepOn_2 := dk_seg dksX1_stepOn_1 24 rfl rfl
theorem dksX1_stepOn_3 : cX1_stepOn.data.toList.drop 72 = dktX1_stepOn_3 := dk_seg dksX1_stepOn_2 24 rfl rfl
theorem dksX1_stepOn_4 : cX1_stepOn.data.toList.drop 96 = dktX1_stepOn_4 := dk_seg dksX1_stepOn_3 24 rfl rfl
theorem dksX1_stepOn_5 : cX1_stepOn.data.toList.drop 118 = dktX1_stepOn_5 := dk_seg dksX1_stepOn_4 22 rfl rfl
theorem dksX1_stepOn_6 : cX1_stepOn.data.toList.drop 140 = dktX1_stepOn_6 := dk_seg dksX1_stepOn_5 22 rfl rfl
theorem dksX1_stepOn_7 : cX1_stepOn.data.toList.drop 163 = dktX1_stepOn_7 := dk_seg dksX1_stepOn_6 23 rfl rfl
theorem dX1_stepOn_0 : decode cX1_stepOn 0 = .ok (.aload_n 0, 1) := dk_42 (dk_at dksX1_stepOn_0 0 rfl rfl)
theorem dX1_stepOn_1 : decode cX1_stepOn 1 = .ok (.getfield 75, 3) := dk_180 0 75 (dk_at dksX1_stepOn_0 1 rfl rfl)
theorem dX1_stepOn_4 : decode cX1_stepOn 4 = .ok (.iload_n 1, 1) := dk_27 (dk_at dksX1_stepOn_0 4 rfl rfl)
theorem dX1_stepOn_5 : decode cX1_stepOn 5 = .ok (.aload_n 0, 1) := dk_42 (dk_at dksX1_stepOn_0 5 rfl rfl)
theorem dX1_stepOn_6 : decode cX1_stepOn 6 = .ok (.getfield 75, 3) := dk_180 0 75 (dk_at dksX1_stepOn_0 6 rfl rfl)
theorem dX1_stepOn_9 : decode cX1_stepOn 9 = .ok (.iload_n 1, 1) := dk_27 (dk_at dksX1_stepOn_0 9 rfl rfl)
theorem dX1_stepOn_10 : decode cX1_stepOn 10 = .ok (.iaload, 1) := dk_46 (dk_at dksX1_stepOn_0 10 rfl rfl)
theorem dX1_stepOn_11 : decode cX1_stepOn 11 = .ok (.iconst 1, 1) := dk_4 (dk_at dksX1_stepOn_0 11 rfl rfl)
theorem dX1_stepOn_12 : decode cX1_stepOn 12 = .ok (.iadd, 1) := dk_96 (dk_at dksX1_stepOn_0 12 rfl rfl)
theorem dX1_stepOn_13 : decode cX1_stepOn 13 = .ok (.sipush 1440, 3) := dk_17 5 160 (dk_at dksX1_stepOn_0 13 rfl rfl)
theorem dX1_stepOn_16 : decode cX1_stepOn 16 = .ok (.irem, 1) := dk_112 (dk_at dksX1_stepOn_0 16 rfl rfl)
theorem dX1_stepOn_17 : decode cX1_stepOn 17 = .ok (.iastore, 1) := dk_79 (dk_at dksX1_stepOn_0 17 rfl rfl)
theorem dX1_stepOn_18 : decode cX1_stepOn 18 = .ok (.aload_n 0, 1) := dk_42 (dk_at dksX1_stepOn_0 18 rfl rfl)
theorem dX1_stepOn_19 : decode cX1_stepOn 19 = .ok (.getfield 75, 3) := dk_180 0 75 (dk_at dksX1_stepOn_0 19 rfl rfl)
theorem dX1_stepOn_22 : decode cX1_stepOn 22 = .ok (.iload_n 1, 1) := dk_27 (dk_at dksX1_stepOn_0 22 rfl rfl)
theorem dX1_stepOn_23 : decode cX1_stepOn 23 = .ok (.iaload, 1) := dk_46 (dk_at dksX1_stepOn_0 23 rfl rfl)
theorem dX1_stepOn_24 : decode cX1_stepOn 24 = .ok (.bipush 60, 2) := dk_16 60 (dk_at dksX1_stepOn_1 0 rfl rfl)
theorem dX1_stepOn_26 : decode cX1_stepOn 26 = .ok (.irem, 1) := dk_112 (dk_at dksX1_stepOn_1 2 rfl rfl)
theorem dX1_stepOn_27 : decode cX1_stepOn 27 = .ok (.istore_n 2, 1) := dk_61 (dk_at dksX1_stepOn_1 3 rfl rfl)
theorem dX1_stepOn_28 : decode cX1_stepOn 28 = .ok (.aload_n 0, 1) := dk_42 (dk_at dksX1_stepOn_1 4 rfl rfl)
theorem dX1_stepOn_29 : decode cX1_stepOn 29 = .ok (.getfield 99, 3) := dk_180 0 99 (dk_at dksX1_stepOn_1 5 rfl rfl)
theorem dX1_stepOn_32 : decode cX1_stepOn 32 = .ok (.iconst 2, 1) := dk_5 (dk_at dksX1_stepOn_1 8 rfl rfl)
theorem dX1_stepOn_33 : decode cX1_stepOn 33 = .ok (.iload_n 1, 1) := dk_27 (dk_at dksX1_stepOn_1 9 rfl rfl)
theorem dX1_stepOn_34 : decode cX1_stepOn 34 = .ok (.imul, 1) := dk_104 (dk_at dksX1_stepOn_1 10 rfl rfl)
theorem dX1_stepOn_35 : decode cX1_stepOn 35 = .ok (.iconst 1, 1) := dk_4 (dk_at dksX1_stepOn_1 11 rfl rfl)
theorem dX1_stepOn_36 : decode cX1_stepOn 36 = .ok (.iadd, 1) := dk_96 (dk_at dksX1_stepOn_1 12 rfl rfl)
theorem dX1_stepOn_37 : decode cX1_stepOn 37 = .ok (.iaload, 1) := dk_46 (dk_at dksX1_stepOn_1 13 rfl rfl)
theorem dX1_stepOn_38 : decode cX1_stepOn 38 = .ok (.ifCond .lt 7, 3) := dk_155 0 7 (dk_at dksX1_stepOn_1 14 rfl rfl)
theorem dX1_stepOn_41 : decode cX1_stepOn 41 = .ok (.iconst 1, 1) := dk_4 (dk_at dksX1_stepOn_1 17 rfl rfl)
theorem dX1_stepOn_42 : decode cX1_stepOn 42 = .ok (.goto 4, 3) := dk_167 0 4 (dk_at dksX1_stepOn_1 18 rfl rfl)
theorem dX1_stepOn_45 : decode cX1_stepOn 45 = .ok (.iconst 0, 1) := dk_3 (dk_at dksX1_stepOn_1 21 rfl rfl)
theorem dX1_stepOn_46 : decode cX1_stepOn 46 = .ok (.istore_n 3, 1) := dk_62 (dk_at dksX1_stepOn_1 22 rfl rfl)
theorem dX1_stepOn_47 : decode cX1_stepOn 47 = .ok (.aload_n 0, 1) := dk_42 (dk_at dksX1_stepOn_1 23 rfl rfl)
theorem dX1_stepOn_48 : decode cX1_stepOn 48 = .ok (.getfield 99, 3) := dk_180 0 99 (dk_at dksX1_stepOn_2 0 rfl rfl)
theorem dX1_stepOn_51 : decode cX1_stepOn 51 = .ok (.iconst 2, 1) := dk_5 (dk_at dksX1_stepOn_2 3 rfl rfl)
theorem dX1_stepOn_52 : decode cX1_stepOn 52 = .ok (.iload_n 1, 1) := dk_27 (dk_at dksX1_stepOn_2 4 rfl rfl)
theorem dX1_stepOn_53 : decode cX1_stepOn 53 = .ok (.imul, 1) := dk_104 (dk_at dksX1_stepOn_2 5 rfl rfl)
theorem dX1_stepOn_54 : decode cX1_stepOn 54 = .ok (.iaload, 1) := dk_46 (dk_at dksX1_stepOn_2 6 rfl rfl)
theorem dX1_stepOn_55 : decode cX1_stepOn 55 = .ok (.ifCond .lt 11, 3) := dk_155 0 11 (dk_at dksX1_stepOn_2 7 rfl rfl)
theorem dX1_stepOn_58 : decode cX1_stepOn 58 = .ok (.iload_n 3, 1) := dk_29 (dk_at dksX1_stepOn_2 10 rfl rfl)
theorem dX1_stepOn_59 : decode cX1_stepOn 59 = .ok (.ifCond .ne 7, 3) := dk_154 0 7 (dk_at dksX1_stepOn_2 11 rfl rfl)
theorem dX1_stepOn_62 : decode cX1_stepOn 62 = .ok (.iconst 1, 1) := dk_4 (dk_at dksX1_stepOn_2 14 rfl rfl)
theorem dX1_stepOn_63 : decode cX1_stepOn 63 = .ok (.goto 4, 3) := dk_167 0 4 (dk_at dksX1_stepOn_2 15 rfl rfl)
theorem dX1_stepOn_66 : decode cX1_stepOn 66 = .ok (.iconst 0, 1) := dk_3 (dk_at dksX1_stepOn_2 18 rfl rfl)
theorem dX1_stepOn_67 : decode cX1_stepOn 67 = .ok (.istore 4, 2) := dk_54 4 (dk_at dksX1_stepOn_2 19 rfl rfl)
theorem dX1_stepOn_69 : decode cX1_stepOn 69 = .ok (.iload_n 2, 1) := dk_28 (dk_at dksX1_stepOn_2 21 rfl rfl)
theorem dX1_stepOn_70 : decode cX1_stepOn 70 = .ok (.bipush 15, 2) := dk_16 15 (dk_at dksX1_stepOn_2 22 rfl rfl)
theorem dX1_stepOn_72 : decode cX1_stepOn 72 = .ok (.irem, 1) := dk_112 (dk_at dksX1_stepOn_3 0 rfl rfl)
theorem dX1_stepOn_73 : decode cX1_stepOn 73 = .ok (.bipush 10, 2) := dk_16 10 (dk_at dksX1_stepOn_3 1 rfl rfl)
theorem dX1_stepOn_75 : decode cX1_stepOn 75 = .ok (.if_icmp .ne 70, 3) := dk_160 0 70 (dk_at dksX1_stepOn_3 3 rfl rfl)
theorem dX1_stepOn_78 : decode cX1_stepOn 78 = .ok (.aload_n 0, 1) := dk_42 (dk_at dksX1_stepOn_3 6 rfl rfl)
theorem dX1_stepOn_79 : decode cX1_stepOn 79 = .ok (.getfield 102, 3) := dk_180 0 102 (dk_at dksX1_stepOn_3 7 rfl rfl)
theorem dX1_stepOn_82 : decode cX1_stepOn 82 = .ok (.iconst 2, 1) := dk_5 (dk_at dksX1_stepOn_3 10 rfl rfl)
theorem dX1_stepOn_83 : decode cX1_stepOn 83 = .ok (.iload_n 1, 1) := dk_27 (dk_at dksX1_stepOn_3 11 rfl rfl)
theorem dX1_stepOn_84 : decode cX1_stepOn 84 = .ok (.imul, 1) := dk_104 (dk_at dksX1_stepOn_3 12 rfl rfl)
theorem dX1_stepOn_85 : decode cX1_stepOn 85 = .ok (.iconst 1, 1) := dk_4 (dk_at dksX1_stepOn_3 13 rfl rfl)
theorem dX1_stepOn_86 : decode cX1_stepOn 86 = .ok (.iadd, 1) := dk_96 (dk_at dksX1_stepOn_3 14 rfl rfl)
theorem dX1_stepOn_87 : decode cX1_stepOn 87 = .ok (.aload_n 0, 1) := dk_42 (dk_at dksX1_stepOn_3 15 rfl rfl)
theorem dX1_stepOn_88 : decode cX1_stepOn 88 = .ok (.getfield 102, 3) := dk_180 0 102 (dk_at dksX1_stepOn_3 16 rfl rfl)
theorem dX1_stepOn_91 : decode cX1_stepOn 91 = .ok (.iconst 2, 1) := dk_5 (dk_at dksX1_stepOn_3 19 rfl rfl)
theorem dX1_stepOn_92 : decode cX1_stepOn 92 = .ok (.iload_n 1, 1) := dk_27 (dk_at dksX1_stepOn_3 20 rfl rfl)
theorem dX1_stepOn_93 : decode cX1_stepOn 93 = .ok (.imul, 1) := dk_104 (dk_at dksX1_stepOn_3 21 rfl rfl)
theorem dX1_stepOn_94 : decode cX1_stepOn 94 = .ok (.iconst 1, 1) := dk_4 (dk_at dksX1_stepOn_3 22 rfl rfl)
theorem dX1_stepOn_95 : decode cX1_stepOn 95 = .ok (.iadd, 1) := dk_96 (dk_at dksX1_stepOn_3 23 rfl rfl)
theorem dX1_stepOn_96 : decode cX1_stepOn 96 = .ok (.baload, 1) := dk_51 (dk_at dksX1_stepOn_4 0 rfl rfl)
theorem dX1_stepOn_97 : decode cX1_stepOn 97 = .ok (.ifCond .ne 7, 3) := dk_154 0 7 (dk_at dksX1_stepOn_4 1 rfl rfl)
theorem dX1_stepOn_100 : decode cX1_stepOn 100 = .ok (.iload_n 3, 1) := dk_29 (dk_at dksX1_stepOn_4 4 rfl rfl)
theorem dX1_stepOn_101 : decode cX1_stepOn 101 = .ok (.ifCond .eq 7, 3) := dk_153 0 7 (dk_at dksX1_stepOn_4 5 rfl rfl)
theorem dX1_stepOn_104 : decode cX1_stepOn 104 = .ok (.iconst 1, 1) := dk_4 (dk_at dksX1_stepOn_4 8 rfl rfl)
theorem dX1_stepOn_105 : decode cX1_stepOn 105 = .ok (.goto 4, 3) := dk_167 0 4 (dk_at dksX1_stepOn_4 9 rfl rfl)
theorem dX1_stepOn_108 : decode cX1_stepOn 108 = .ok (.iconst 0, 1) := dk_3 (dk_at dksX1_stepOn_4 12 rfl rfl)
theorem dX1_stepOn_109 : decode cX1_stepOn 109 = .ok (.bastore, 1) := dk_84 (dk_at dksX1_stepOn_4 13 rfl rfl)
theorem dX1_stepOn_110 : decode cX1_stepOn 110 = .ok (.aload_n 0, 1) := dk_42 (dk_at dksX1_stepOn_4 14 rfl rfl)
theorem dX1_stepOn_111 : decode cX1_stepOn 111 = .ok (.getfield 102, 3) := dk_180 0 102 (dk_at dksX1_stepOn_4 15 rfl rfl)
theorem dX1_stepOn_114 : decode cX1_stepOn 114 = .ok (.iconst 2, 1) := dk_5 (dk_at dksX1_stepOn_4 18 rfl rfl)
theorem dX1_stepOn_115 : decode cX1_stepOn 115 = .ok (.iload_n 1, 1) := dk_27 (dk_at dksX1_stepOn_4 19 rfl rfl)
theorem dX1_stepOn_116 : decode cX1_stepOn 116 = .ok (.imul, 1) := dk_104 (dk_at dksX1_stepOn_4 20 rfl rfl)
theorem dX1_stepOn_117 : decode cX1_stepOn 117 = .ok (.aload_n 0, 1) := dk_42 (dk_at dksX1_stepOn_4 21 rfl rfl)
theorem dX1_stepOn_118 : decode cX1_stepOn 118 = .ok (.getfield 102, 3) := dk_180 0 102 (dk_at dksX1_stepOn_5 0 rfl rfl)
theorem dX1_stepOn_121 : decode cX1_stepOn 121 = .ok (.iconst 2, 1) := dk_5 (dk_at dksX1_stepOn_5 3 rfl rfl)
theorem dX1_stepOn_122 : decode cX1_stepOn 122 = .ok (.iload_n 1, 1) := dk_27 (dk_at dksX1_stepOn_5 4 rfl rfl)
theorem dX1_stepOn_123 : decode cX1_stepOn 123 = .ok (.imul, 1) := dk_104 (dk_at dksX1_stepOn_5 5 rfl rfl)
theorem dX1_stepOn_124 : decode cX1_stepOn 124 = .ok (.baload, 1) := dk_51 (dk_at dksX1_stepOn_5 6 rfl rfl)
theorem dX1_stepOn_125 : decode cX1_stepOn 125 = .ok (.ifCond .ne 14, 3) := dk_154 0 14 (dk_at dksX1_stepOn_5 7 rfl rfl)
theorem dX1_stepOn_128 : decode cX1_stepOn 128 = .ok (.iload 4, 2) := dk_21 4 (dk_at dksX1_stepOn_5 10 rfl rfl)
theorem dX1_stepOn_130 : decode cX1_stepOn 130 = .ok (.ifCond .eq 13, 3) := dk_153 0 13 (dk_at dksX1_stepOn_5 12 rfl rfl)
theorem dX1_stepOn_133 : decode cX1_stepOn 133 = .ok (.iload_n 2, 1) := dk_28 (dk_at dksX1_stepOn_5 15 rfl rfl)
theorem dX1_stepOn_134 : decode cX1_stepOn 134 = .ok (.bipush 55, 2) := dk_16 55 (dk_at dksX1_stepOn_5 16 rfl rfl)
theorem dX1_stepOn_136 : decode cX1_stepOn 136 = .ok (.if_icmp .ne 7, 3) := dk_160 0 7 (dk_at dksX1_stepOn_5 18 rfl rfl)
theorem dX1_stepOn_139 : decode cX1_stepOn 139 = .ok (.iconst 1, 1) := dk_4 (dk_at dksX1_stepOn_5 21 rfl rfl)
theorem dX1_stepOn_140 : decode cX1_stepOn 140 = .ok (.goto 4, 3) := dk_167 0 4 (dk_at dksX1_stepOn_6 0 rfl rfl)
theorem dX1_stepOn_143 : decode cX1_stepOn 143 = .ok (.iconst 0, 1) := dk_3 (dk_at dksX1_stepOn_6 3 rfl rfl)
theorem dX1_stepOn_144 : decode cX1_stepOn 144 = .ok (.bastore, 1) := dk_84 (dk_at dksX1_stepOn_6 4 rfl rfl)
theorem dX1_stepOn_145 : decode cX1_stepOn 145 = .ok (.iload_n 2, 1) := dk_28 (dk_at dksX1_stepOn_6 5 rfl rfl)
theorem dX1_stepOn_146 : decode cX1_stepOn 146 = .ok (.bipush 15, 2) := dk_16 15 (dk_at dksX1_stepOn_6 6 rfl rfl)
theorem dX1_stepOn_148 : decode cX1_stepOn 148 = .ok (.irem, 1) := dk_112 (dk_at dksX1_stepOn_6 8 rfl rfl)
theorem dX1_stepOn_149 : decode cX1_stepOn 149 = .ok (.ifCond .ne 13, 3) := dk_154 0 13 (dk_at dksX1_stepOn_6 9 rfl rfl)
theorem dX1_stepOn_152 : decode cX1_stepOn 152 = .ok (.iload_n 3, 1) := dk_29 (dk_at dksX1_stepOn_6 12 rfl rfl)
theorem dX1_stepOn_153 : decode cX1_stepOn 153 = .ok (.ifCond .eq 9, 3) := dk_153 0 9 (dk_at dksX1_stepOn_6 13 rfl rfl)
theorem dX1_stepOn_156 : decode cX1_stepOn 156 = .ok (.aload_n 0, 1) := dk_42 (dk_at dksX1_stepOn_6 16 rfl rfl)
theorem dX1_stepOn_157 : decode cX1_stepOn 157 = .ok (.iload_n 1, 1) := dk_27 (dk_at dksX1_stepOn_6 17 rfl rfl)
theorem dX1_stepOn_158 : decode cX1_stepOn 158 = .ok (.iconst 1, 1) := dk_4 (dk_at dksX1_stepOn_6 18 rfl rfl)
theorem dX1_stepOn_159 : decode cX1_stepOn 159 = .ok (.invokevirtual 225, 3) := dk_182 0 225 (dk_at dksX1_stepOn_6 19 rfl rfl)
theorem dX1_stepOn_162 : decode cX1_stepOn 162 = .ok (.iload_n 2, 1) := dk_28 (dk_at dksX1_stepOn_6 22 rfl rfl)
theorem dX1_stepOn_163 : decode cX1_stepOn 163 = .ok (.ifCond .ne 14, 3) := dk_154 0 14 (dk_at dksX1_stepOn_7 0 rfl rfl)
theorem dX1_stepOn_166 : decode cX1_stepOn 166 = .ok (.iload 4, 2) := dk_21 4 (dk_at dksX1_stepOn_7 3 rfl rfl)
theorem dX1_stepOn_168 : decode cX1_stepOn 168 = .ok (.ifCond .eq 9, 3) := dk_153 0 9 (dk_at dksX1_stepOn_7 5 rfl rfl)
theorem dX1_stepOn_171 : decode cX1_stepOn 171 = .ok (.aload_n 0, 1) := dk_42 (dk_at dksX1_stepOn_7 8 rfl rfl)
theorem dX1_stepOn_172 : decode cX1_stepOn 172 = .ok (.iload_n 1, 1) := dk_27 (dk_at dksX1_stepOn_7 9 rfl rfl)
theorem dX1_stepOn_173 : decode cX1_stepOn 173 = .ok (.iconst 0, 1) := dk_3 (dk_at dksX1_stepOn_7 10 rfl rfl)
theorem dX1_stepOn_174 : decode cX1_stepOn 174 = .ok (.invokevirtual 225, 3) := dk_182 0 225 (dk_at dksX1_stepOn_7 11 rfl rfl)
theorem dX1_stepOn_177 : decode cX1_stepOn 177 = .ok (.return_, 1) := dk_177 (dk_at dksX1_stepOn_7 14 rfl rfl)
abbrev cX1_warnedGoes : ByteArray := prog_9_method_48_code
def yX1_warnedGoes : MethodName := ⟨RX1, "warnedGoes", "(IZ)V"⟩
def dkwX1_warnedGoes_1 : List UInt8 := [180, 0, 102, 27, 28, 184, 0, 200, 3, 84, 42, 27, 28, 182, 0, 221, 177]
abbrev dktX1_warnedGoes_1 : List UInt8 := dkwX1_warnedGoes_1 ++ []
def dkwX1_warnedGoes_0 : List UInt8 := [42, 180, 0, 102, 27, 28, 184, 0, 200, 51, 153, 0, 29, 42, 27, 182, 0, 218, 5, 159, 0, 20, 42]
abbrev dktX1_warnedGoes_0 : List UInt8 := dkwX1_warnedGoes_0 ++ dktX1_warnedGoes_1
theorem dksX1_warnedGoes_0 : cX1_warnedGoes.data.toList.drop 0 = dktX1_warnedGoes_0 := by decide +kernel
theorem dksX1_warnedGoes_1 : cX1_warnedGoes.data.toList.drop 23 = dktX1_warnedGoes_1 := dk_seg dksX1_warnedGoes_0 23 rfl rfl
theorem dX1_warnedGoes_0 : decode cX1_warnedGoes 0 = .ok (.aload_n 0, 1) := dk_42 (dk_at dksX1_warnedGoes_0 0 rfl rfl)
theorem dX1_warnedGoes_1 : decode cX1_warnedGoes 1 = .ok (.getfield 102, 3) := dk_180 0 102 (dk_at dksX1_warnedGoes_0 1 rfl rfl)
theorem dX1_warnedGoes_4 : decode cX1_warnedGoes 4 = .ok (.iload_n 1, 1) := dk_27 (dk_at dksX1_warnedGoes_0 4 rfl rfl)
theorem dX1_warnedGoes_5 : decode cX1_warnedGoes 5 = .ok (.iload_n 2, 1) := dk_28 (dk_at dksX1_warnedGoes_0 5 rfl rfl)
theorem dX1_warnedGoes_6 : decode cX1_warnedGoes 6 = .ok (.invokestatic 200, 3) := dk_184 0 200 (dk_at dksX1_warnedGoes_0 6 rfl rfl)
theorem dX1_warnedGoes_9 : decode cX1_warnedGoes 9 = .ok (.baload, 1) := dk_51 (dk_at dksX1_warnedGoes_0 9 rfl rfl)
theorem dX1_warnedGoes_10 : decode cX1_warnedGoes 10 = .ok (.ifCond .eq 29, 3) := dk_153 0 29 (dk_at dksX1_warnedGoes_0 10 rfl rfl)
theorem dX1_warnedGoes_13 : decode cX1_warnedGoes 13 = .ok (.aload_n 0, 1) := dk_42 (dk_at dksX1_warnedGoes_0 13 rfl rfl)
theorem dX1_warnedGoes_14 : decode cX1_warnedGoes 14 = .ok (.iload_n 1, 1) := dk_27 (dk_at dksX1_warnedGoes_0 14 rfl rfl)
theorem dX1_warnedGoes_15 : decode cX1_warnedGoes 15 = .ok (.invokevirtual 218, 3) := dk_182 0 218 (dk_at dksX1_warnedGoes_0 15 rfl rfl)
theorem dX1_warnedGoes_18 : decode cX1_warnedGoes 18 = .ok (.iconst 2, 1) := dk_5 (dk_at dksX1_warnedGoes_0 18 rfl rfl)
theorem dX1_warnedGoes_19 : decode cX1_warnedGoes 19 = .ok (.if_icmp .eq 20, 3) := dk_159 0 20 (dk_at dksX1_warnedGoes_0 19 rfl rfl)
theorem dX1_warnedGoes_22 : decode cX1_warnedGoes 22 = .ok (.aload_n 0, 1) := dk_42 (dk_at dksX1_warnedGoes_0 22 rfl rfl)
theorem dX1_warnedGoes_23 : decode cX1_warnedGoes 23 = .ok (.getfield 102, 3) := dk_180 0 102 (dk_at dksX1_warnedGoes_1 0 rfl rfl)
theorem dX1_warnedGoes_26 : decode cX1_warnedGoes 26 = .ok (.iload_n 1, 1) := dk_27 (dk_at dksX1_warnedGoes_1 3 rfl rfl)
theorem dX1_warnedGoes_27 : decode cX1_warnedGoes 27 = .ok (.iload_n 2, 1) := dk_28 (dk_at dksX1_warnedGoes_1 4 rfl rfl)
theorem dX1_warnedGoes_28 : decode cX1_warnedGoes 28 = .ok (.invokestatic 200, 3) := dk_184 0 200 (dk_at dksX1_warnedGoes_1 5 rfl rfl)
theorem dX1_warnedGoes_31 : decode cX1_warnedGoes 31 = .ok (.iconst 0, 1) := dk_3 (dk_at dksX1_warnedGoes_1 8 rfl rfl)
theorem dX1_warnedGoes_32 : decode cX1_warnedGoes 32 = .ok (.bastore, 1) := dk_84 (dk_at dksX1_warnedGoes_1 9 rfl rfl)
theorem dX1_warnedGoes_33 : decode cX1_warnedGoes 33 = .ok (.aload_n 0, 1) := dk_42 (dk_at dksX1_warnedGoes_1 10 rfl rfl)
theorem dX1_warnedGoes_34 : decode cX1_warnedGoes 34 = .ok (.iload_n 1, 1) := dk_27 (dk_at dksX1_warnedGoes_1 11 rfl rfl)
theorem dX1_warnedGoes_35 : decode cX1_warnedGoes 35 = .ok (.iload_n 2, 1) := dk_28 (dk_at dksX1_warnedGoes_1 12 rfl rfl)
theorem dX1_warnedGoes_36 : decode cX1_warnedGoes 36 = .ok (.invokevirtual 221, 3) := dk_182 0 221 (dk_at dksX1_warnedGoes_1 13 rfl rfl)
theorem dX1_warnedGoes_39 : decode cX1_warnedGoes 39 = .ok (.return_, 1) := dk_177 (dk_at dksX1_warnedGoes_1 16 rfl rfl)
abbrev cX1_silenceOf : ByteArray := prog_9_method_43_code
def yX1_silenceOf : MethodName := ⟨RX1, "silenceOf", "(I)I"⟩
def dkwX1_silenceOf_2 : List UInt8 := [42, 180, 0, 96, 27, 46, 4, 96, 167, 0, 4, 3, 172]
abbrev dktX1_silenceOf_2 : List UInt8 := dkwX1_silenceOf_2 ++ []
def dkwX1_silenceOf_1 : List UInt8 := [27, 46, 16, 60, 108, 16, 24, 96, 42, 180, 0, 90, 27, 46, 100, 16, 24, 112, 62, 29, 28, 162, 0, 14]
abbrev dktX1_silenceOf_1 : List UInt8 := dkwX1_silenceOf_1 ++ dktX1_silenceOf_2
def dkwX1_silenceOf_0 : List UInt8 := [42, 180, 0, 93, 27, 46, 16, 24, 96, 42, 180, 0, 90, 27, 46, 100, 16, 24, 112, 61, 42, 180, 0, 75]
abbrev dktX1_silenceOf_0 : List UInt8 := dkwX1_silenceOf_0 ++ dktX1_silenceOf_1
theorem dksX1_silenceOf_0 : cX1_silenceOf.data.toList.drop 0 = dktX1_silenceOf_0 := by decide +kernel
theorem dksX1_silenceOf_1 : cX1_silenceOf.data.toList.drop 24 = dktX1_silenceOf_1 := dk_seg dksX1_silenceOf_0 24 rfl rfl
theorem dksX1_silenceOf_2 : cX1_silenceOf.data.toList.drop 48 = dktX1_silenceOf_2 := dk_seg dksX1_silenceOf_1 24 rfl rfl
theorem dX1_silenceOf_0 : decode cX1_silenceOf 0 = .ok (.aload_n 0, 1) := dk_42 (dk_at dksX1_silenceOf_0 0 rfl rfl)
theorem dX1_silenceOf_1 : decode cX1_silenceOf 1 = .ok (.getfield 93, 3) := dk_180 0 93 (dk_at dksX1_silenceOf_0 1 rfl rfl)
theorem dX1_silenceOf_4 : decode cX1_silenceOf 4 = .ok (.iload_n 1, 1) := dk_27 (dk_at dksX1_silenceOf_0 4 rfl rfl)
theorem dX1_silenceOf_5 : decode cX1_silenceOf 5 = .ok (.iaload, 1) := dk_46 (dk_at dksX1_silenceOf_0 5 rfl rfl)
theorem dX1_silenceOf_6 : decode cX1_silenceOf 6 = .ok (.bipush 24, 2) := dk_16 24 (dk_at dksX1_silenceOf_0 6 rfl rfl)
theorem dX1_silenceOf_8 : decode cX1_silenceOf 8 = .ok (.iadd, 1) := dk_96 (dk_at dksX1_silenceOf_0 8 rfl rfl)
theorem dX1_silenceOf_9 : decode cX1_silenceOf 9 = .ok (.aload_n 0, 1) := dk_42 (dk_at dksX1_silenceOf_0 9 rfl rfl)
theorem dX1_silenceOf_10 : decode cX1_silenceOf 10 = .ok (.getfield 90, 3) := dk_180 0 90 (dk_at dksX1_silenceOf_0 10 rfl rfl)
theorem dX1_silenceOf_13 : decode cX1_silenceOf 13 = .ok (.iload_n 1, 1) := dk_27 (dk_at dksX1_silenceOf_0 13 rfl rfl)
theorem dX1_silenceOf_14 : decode cX1_silenceOf 14 = .ok (.iaload, 1) := dk_46 (dk_at dksX1_silenceOf_0 14 rfl rfl)
theorem dX1_silenceOf_15 : decode cX1_silenceOf 15 = .ok (.isub, 1) := dk_100 (dk_at dksX1_silenceOf_0 15 rfl rfl)
theorem dX1_silenceOf_16 : decode cX1_silenceOf 16 = .ok (.bipush 24, 2) := dk_16 24 (dk_at dksX1_silenceOf_0 16 rfl rfl)
theorem dX1_silenceOf_18 : decode cX1_silenceOf 18 = .ok (.irem, 1) := dk_112 (dk_at dksX1_silenceOf_0 18 rfl rfl)
theorem dX1_silenceOf_19 : decode cX1_silenceOf 19 = .ok (.istore_n 2, 1) := dk_61 (dk_at dksX1_silenceOf_0 19 rfl rfl)
theorem dX1_silenceOf_20 : decode cX1_silenceOf 20 = .ok (.aload_n 0, 1) := dk_42 (dk_at dksX1_silenceOf_0 20 rfl rfl)
theorem dX1_silenceOf_21 : decode cX1_silenceOf 21 = .ok (.getfield 75, 3) := dk_180 0 75 (dk_at dksX1_silenceOf_0 21 rfl rfl)
theorem dX1_silenceOf_24 : decode cX1_silenceOf 24 = .ok (.iload_n 1, 1) := dk_27 (dk_at dksX1_silenceOf_1 0 rfl rfl)
theorem dX1_silenceOf_25 : decode cX1_silenceOf 25 = .ok (.iaload, 1) := dk_46 (dk_at dksX1_silenceOf_1 1 rfl rfl)
theorem dX1_silenceOf_26 : decode cX1_silenceOf 26 = .ok (.bipush 60, 2) := dk_16 60 (dk_at dksX1_silenceOf_1 2 rfl rfl)
theorem dX1_silenceOf_28 : decode cX1_silenceOf 28 = .ok (.idiv, 1) := dk_108 (dk_at dksX1_silenceOf_1 4 rfl rfl)
theorem dX1_silenceOf_29 : decode cX1_silenceOf 29 = .ok (.bipush 24, 2) := dk_16 24 (dk_at dksX1_silenceOf_1 5 rfl rfl)
theorem dX1_silenceOf_31 : decode cX1_silenceOf 31 = .ok (.iadd, 1) := dk_96 (dk_at dksX1_silenceOf_1 7 rfl rfl)
theorem dX1_silenceOf_32 : decode cX1_silenceOf 32 = .ok (.aload_n 0, 1) := dk_42 (dk_at dksX1_silenceOf_1 8 rfl rfl)
theorem dX1_silenceOf_33 : decode cX1_silenceOf 33 = .ok (.getfield 90, 3) := dk_180 0 90 (dk_at dksX1_silenceOf_1 9 rfl rfl)
theorem dX1_silenceOf_36 : decode cX1_silenceOf 36 = .ok (.iload_n 1, 1) := dk_27 (dk_at dksX1_silenceOf_1 12 rfl rfl)
theorem dX1_silenceOf_37 : decode cX1_silenceOf 37 = .ok (.iaload, 1) := dk_46 (dk_at dksX1_silenceOf_1 13 rfl rfl)
theorem dX1_silenceOf_38 : decode cX1_silenceOf 38 = .ok (.isub, 1) := dk_100 (dk_at dksX1_silenceOf_1 14 rfl rfl)
theorem dX1_silenceOf_39 : decode cX1_silenceOf 39 = .ok (.bipush 24, 2) := dk_16 24 (dk_at dksX1_silenceOf_1 15 rfl rfl)
theorem dX1_silenceOf_41 : decode cX1_silenceOf 41 = .ok (.irem, 1) := dk_112 (dk_at dksX1_silenceOf_1 17 rfl rfl)
theorem dX1_silenceOf_42 : decode cX1_silenceOf 42 = .ok (.istore_n 3, 1) := dk_62 (dk_at dksX1_silenceOf_1 18 rfl rfl)
theorem dX1_silenceOf_43 : decode cX1_silenceOf 43 = .ok (.iload_n 3, 1) := dk_29 (dk_at dksX1_silenceOf_1 19 rfl rfl)
theorem dX1_silenceOf_44 : decode cX1_silenceOf 44 = .ok (.iload_n 2, 1) := dk_28 (dk_at dksX1_silenceOf_1 20 rfl rfl)
theorem dX1_silenceOf_45 : decode cX1_silenceOf 45 = .ok (.if_icmp .ge 14, 3) := dk_162 0 14 (dk_at dksX1_silenceOf_1 21 rfl rfl)
theorem dX1_silenceOf_48 : decode cX1_silenceOf 48 = .ok (.aload_n 0, 1) := dk_42 (dk_at dksX1_silenceOf_2 0 rfl rfl)
theorem dX1_silenceOf_49 : decode cX1_silenceOf 49 = .ok (.getfield 96, 3) := dk_180 0 96 (dk_at dksX1_silenceOf_2 1 rfl rfl)
theorem dX1_silenceOf_52 : decode cX1_silenceOf 52 = .ok (.iload_n 1, 1) := dk_27 (dk_at dksX1_silenceOf_2 4 rfl rfl)
theorem dX1_silenceOf_53 : decode cX1_silenceOf 53 = .ok (.iaload, 1) := dk_46 (dk_at dksX1_silenceOf_2 5 rfl rfl)
theorem dX1_silenceOf_54 : decode cX1_silenceOf 54 = .ok (.iconst 1, 1) := dk_4 (dk_at dksX1_silenceOf_2 6 rfl rfl)
theorem dX1_silenceOf_55 : decode cX1_silenceOf 55 = .ok (.iadd, 1) := dk_96 (dk_at dksX1_silenceOf_2 7 rfl rfl)
theorem dX1_silenceOf_56 : decode cX1_silenceOf 56 = .ok (.goto 4, 3) := dk_167 0 4 (dk_at dksX1_silenceOf_2 8 rfl rfl)
theorem dX1_silenceOf_59 : decode cX1_silenceOf 59 = .ok (.iconst 0, 1) := dk_3 (dk_at dksX1_silenceOf_2 11 rfl rfl)
theorem dX1_silenceOf_60 : decode cX1_silenceOf 60 = .ok (.ireturn, 1) := dk_172 (dk_at dksX1_silenceOf_2 12 rfl rfl)
abbrev cX1_offGoes : ByteArray := prog_9_method_47_code
def yX1_offGoes : MethodName := ⟨RX1, "offGoes", "(IZ)V"⟩
def dkwX1_offGoes_8 : List UInt8 := [46, 112, 79, 177]
abbrev dktX1_offGoes_8 : List UInt8 := dkwX1_offGoes_8 ++ []
def dkwX1_offGoes_7 : List UInt8 := [29, 46, 96, 46, 96, 79, 42, 180, 0, 35, 29, 42, 180, 0, 35, 29, 46, 4, 96, 42, 180, 0, 29, 29]
abbrev dktX1_offGoes_7 : List UInt8 := dkwX1_offGoes_7 ++ dktX1_offGoes_8
def dkwX1_offGoes_6 : List UInt8 := [46, 79, 167, 0, 49, 42, 180, 0, 56, 29, 92, 46, 42, 180, 0, 32, 16, 24, 29, 104, 42, 180, 0, 35]
abbrev dktX1_offGoes_6 : List UInt8 := dkwX1_offGoes_6 ++ dktX1_offGoes_7
def dkwX1_offGoes_5 : List UInt8 := [180, 0, 56, 29, 42, 180, 0, 32, 16, 24, 29, 104, 21, 4, 4, 100, 42, 180, 0, 29, 29, 46, 112, 96]
abbrev dktX1_offGoes_5 : List UInt8 := dkwX1_offGoes_5 ++ dktX1_offGoes_6
def dkwX1_offGoes_4 : List UInt8 := [180, 0, 56, 29, 92, 46, 4, 96, 79, 167, 0, 89, 42, 180, 0, 26, 29, 46, 5, 160, 0, 33, 42]
abbrev dktX1_offGoes_4 : List UInt8 := dkwX1_offGoes_4 ++ dktX1_offGoes_5
def dkwX1_offGoes_3 : List UInt8 := [21, 4, 7, 160, 0, 7, 4, 167, 0, 4, 3, 84, 42, 180, 0, 26, 29, 46, 154, 0, 16, 42]
abbrev dktX1_offGoes_3 : List UInt8 := dkwX1_offGoes_3 ++ dktX1_offGoes_4
def dkwX1_offGoes_2 : List UInt8 := [46, 42, 180, 0, 29, 29, 46, 4, 100, 160, 0, 7, 4, 167, 0, 22, 3, 167, 0, 18, 28, 153, 0, 13]
abbrev dktX1_offGoes_2 : List UInt8 := dkwX1_offGoes_2 ++ dktX1_offGoes_3
def dkwX1_offGoes_1 : List UInt8 := [27, 182, 0, 215, 54, 4, 42, 180, 0, 68, 29, 42, 29, 182, 0, 180, 153, 0, 28, 42, 180, 0, 35, 29]
abbrev dktX1_offGoes_1 : List UInt8 := dkwX1_offGoes_1 ++ dktX1_offGoes_2
def dkwX1_offGoes_0 : List UInt8 := [42, 180, 0, 99, 27, 28, 184, 0, 200, 46, 62, 28, 153, 0, 11, 42, 27, 182, 0, 212, 167, 0, 8, 42]
abbrev dktX1_offGoes_0 : List UInt8 := dkwX1_offGoes_0 ++ dktX1_offGoes_1
theorem dksX1_offGoes_0 : cX1_offGoes.data.toList.drop 0 = dktX1_offGoes_0 := by decide +kernel
theorem dksX1_offGoes_1 : cX1_offGoes.data.toList.drop 24 = dktX1_offGoes_1 := dk_seg dksX1_offGoes_0 24 rfl rfl
theorem dksX1_offGoes_2 : cX1_offGoes.data.toList.drop 48 = dktX1_offGoes_2 := dk_seg dksX1_offGoes_1 24 rfl rfl
theorem dksX1_offGoes_3 : cX1_offGoes.data.toList.drop 72 = dktX1_offGoes_3 := dk_seg dksX1_offGoes_2 24 rfl rfl
theorem dksX1_offGoes_4 : cX1_offGoes.data.toList.drop 94 = dktX1_offGoes_4 := dk_seg dksX1_offGoes_3 22 rfl rfl
theorem dksX1_offGoes_5 : cX1_offGoes.data.toList.drop 117 = dktX1_offGoes_5 := dk_seg dksX1_offGoes_4 23 rfl rfl
theorem dksX1_offGoes_6 : cX1_offGoes.data.toList.drop 141 = dktX1_offGoes_6 := dk_seg dksX1_offGoes_5 24 rfl rfl
theorem dksX1_offGoes_7 : cX1_offGoes.data.toList.drop 165 = dktX1_offGoes_7 := dk_seg dksX1_offGoes_6 24 rfl rfl
theorem dksX1_offGoes_8 : cX1_offGoes.data.toList.drop 189 = dktX1_offGoes_8 := dk_seg dksX1_offGoes_7 24 rfl rfl
theorem dX1_offGoes_0 : decode cX1_offGoes 0 = .ok (.aload_n 0, 1) := dk_42 (dk_at dksX1_offGoes_0 0 rfl rfl)
theorem dX1_offGoes_1 : decode cX1_offGoes 1 = .ok (.getfield 99, 3) := dk_180 0 99 (dk_at dksX1_offGoes_0 1 rfl rfl)
theorem dX1_offGoes_4 : decode cX1_offGoes 4 = .ok (.iload_n 1, 1) := dk_27 (dk_at dksX1_offGoes_0 4 rfl rfl)
theorem dX1_offGoes_5 : decode cX1_offGoes 5 = .ok (.iload_n 2, 1) := dk_28 (dk_at dksX1_offGoes_0 5 rfl rfl)
theorem dX1_offGoes_6 : decode cX1_offGoes 6 = .ok (.invokestatic 200, 3) := dk_184 0 200 (dk_at dksX1_offGoes_0 6 rfl rfl)
theorem dX1_offGoes_9 : decode cX1_offGoes 9 = .ok (.iaload, 1) := dk_46 (dk_at dksX1_offGoes_0 9 rfl rfl)
theorem dX1_offGoes_10 : decode cX1_offGoes 10 = .ok (.istore_n 3, 1) := dk_62 (dk_at dksX1_offGoes_0 10 rfl rfl)
theorem dX1_offGoes_11 : decode cX1_offGoes 11 = .ok (.iload_n 2, 1) := dk_28 (dk_at dksX1_offGoes_0 11 rfl rfl)
theorem dX1_offGoes_12 : decode cX1_offGoes 12 = .ok (.ifCond .eq 11, 3) := dk_153 0 11 (dk_at dksX1_offGoes_0 12 rfl rfl)
theorem dX1_offGoes_15 : decode cX1_offGoes 15 = .ok (.aload_n 0, 1) := dk_42 (dk_at dksX1_offGoes_0 15 rfl rfl)
theorem dX1_offGoes_16 : decode cX1_offGoes 16 = .ok (.iload_n 1, 1) := dk_27 (dk_at dksX1_offGoes_0 16 rfl rfl)
theorem dX1_offGoes_17 : decode cX1_offGoes 17 = .ok (.invokevirtual 212, 3) := dk_182 0 212 (dk_at dksX1_offGoes_0 17 rfl rfl)
theorem dX1_offGoes_20 : decode cX1_offGoes 20 = .ok (.goto 8, 3) := dk_167 0 8 (dk_at dksX1_offGoes_0 20 rfl rfl)
theorem dX1_offGoes_23 : decode cX1_offGoes 23 = .ok (.aload_n 0, 1) := dk_42 (dk_at dksX1_offGoes_0 23 rfl rfl)
theorem dX1_offGoes_24 : decode cX1_offGoes 24 = .ok (.iload_n 1, 1) := dk_27 (dk_at dksX1_offGoes_1 0 rfl rfl)
theorem dX1_offGoes_25 : decode cX1_offGoes 25 = .ok (.invokevirtual 215, 3) := dk_182 0 215 (dk_at dksX1_offGoes_1 1 rfl rfl)
theorem dX1_offGoes_28 : decode cX1_offGoes 28 = .ok (.istore 4, 2) := dk_54 4 (dk_at dksX1_offGoes_1 4 rfl rfl)
theorem dX1_offGoes_30 : decode cX1_offGoes 30 = .ok (.aload_n 0, 1) := dk_42 (dk_at dksX1_offGoes_1 6 rfl rfl)
theorem dX1_offGoes_31 : decode cX1_offGoes 31 = .ok (.getfield 68, 3) := dk_180 0 68 (dk_at dksX1_offGoes_1 7 rfl rfl)
theorem dX1_offGoes_34 : decode cX1_offGoes 34 = .ok (.iload_n 3, 1) := dk_29 (dk_at dksX1_offGoes_1 10 rfl rfl)
theorem dX1_offGoes_35 : decode cX1_offGoes 35 = .ok (.aload_n 0, 1) := dk_42 (dk_at dksX1_offGoes_1 11 rfl rfl)
theorem dX1_offGoes_36 : decode cX1_offGoes 36 = .ok (.iload_n 3, 1) := dk_29 (dk_at dksX1_offGoes_1 12 rfl rfl)
theorem dX1_offGoes_37 : decode cX1_offGoes 37 = .ok (.invokevirtual 180, 3) := dk_182 0 180 (dk_at dksX1_offGoes_1 13 rfl rfl)
theorem dX1_offGoes_40 : decode cX1_offGoes 40 = .ok (.ifCond .eq 28, 3) := dk_153 0 28 (dk_at dksX1_offGoes_1 16 rfl rfl)
theorem dX1_offGoes_43 : decode cX1_offGoes 43 = .ok (.aload_n 0, 1) := dk_42 (dk_at dksX1_offGoes_1 19 rfl rfl)
theorem dX1_offGoes_44 : decode cX1_offGoes 44 = .ok (.getfield 35, 3) := dk_180 0 35 (dk_at dksX1_offGoes_1 20 rfl rfl)
theorem dX1_offGoes_47 : decode cX1_offGoes 47 = .ok (.iload_n 3, 1) := dk_29 (dk_at dksX1_offGoes_1 23 rfl rfl)
theorem dX1_offGoes_48 : decode cX1_offGoes 48 = .ok (.iaload, 1) := dk_46 (dk_at dksX1_offGoes_2 0 rfl rfl)
theorem dX1_offGoes_49 : decode cX1_offGoes 49 = .ok (.aload_n 0, 1) := dk_42 (dk_at dksX1_offGoes_2 1 rfl rfl)
theorem dX1_offGoes_50 : decode cX1_offGoes 50 = .ok (.getfield 29, 3) := dk_180 0 29 (dk_at dksX1_offGoes_2 2 rfl rfl)
theorem dX1_offGoes_53 : decode cX1_offGoes 53 = .ok (.iload_n 3, 1) := dk_29 (dk_at dksX1_offGoes_2 5 rfl rfl)
theorem dX1_offGoes_54 : decode cX1_offGoes 54 = .ok (.iaload, 1) := dk_46 (dk_at dksX1_offGoes_2 6 rfl rfl)
theorem dX1_offGoes_55 : decode cX1_offGoes 55 = .ok (.iconst 1, 1) := dk_4 (dk_at dksX1_offGoes_2 7 rfl rfl)
theorem dX1_offGoes_56 : decode cX1_offGoes 56 = .ok (.isub, 1) := dk_100 (dk_at dksX1_offGoes_2 8 rfl rfl)
theorem dX1_offGoes_57 : decode cX1_offGoes 57 = .ok (.if_icmp .ne 7, 3) := dk_160 0 7 (dk_at dksX1_offGoes_2 9 rfl rfl)
theorem dX1_offGoes_60 : decode cX1_offGoes 60 = .ok (.iconst 1, 1) := dk_4 (dk_at dksX1_offGoes_2 12 rfl rfl)
theorem dX1_offGoes_61 : decode cX1_offGoes 61 = .ok (.goto 22, 3) := dk_167 0 22 (dk_at dksX1_offGoes_2 13 rfl rfl)
theorem dX1_offGoes_64 : decode cX1_offGoes 64 = .ok (.iconst 0, 1) := dk_3 (dk_at dksX1_offGoes_2 16 rfl rfl)
theorem dX1_offGoes_65 : decode cX1_offGoes 65 = .ok (.goto 18, 3) := dk_167 0 18 (dk_at dksX1_offGoes_2 17 rfl rfl)
theorem dX1_offGoes_68 : decode cX1_offGoes 68 = .ok (.iload_n 2, 1) := dk_28 (dk_at dksX1_offGoes_2 20 rfl rfl)
theorem dX1_offGoes_69 : decode cX1_offGoes 69 = .ok (.ifCond .eq 13, 3) := dk_153 0 13 (dk_at dksX1_offGoes_2 21 rfl rfl)
theorem dX1_offGoes_72 : decode cX1_offGoes 72 = .ok (.iload 4, 2) := dk_21 4 (dk_at dksX1_offGoes_3 0 rfl rfl)
theorem dX1_offGoes_74 : decode cX1_offGoes 74 = .ok (.iconst 4, 1) := dk_7 (dk_at dksX1_offGoes_3 2 rfl rfl)
theorem dX1_offGoes_75 : decode cX1_offGoes 75 = .ok (.if_icmp .ne 7, 3) := dk_160 0 7 (dk_at dksX1_offGoes_3 3 rfl rfl)
theorem dX1_offGoes_78 : decode cX1_offGoes 78 = .ok (.iconst 1, 1) := dk_4 (dk_at dksX1_offGoes_3 6 rfl rfl)
theorem dX1_offGoes_79 : decode cX1_offGoes 79 = .ok (.goto 4, 3) := dk_167 0 4 (dk_at dksX1_offGoes_3 7 rfl rfl)
theorem dX1_offGoes_82 : decode cX1_offGoes 82 = .ok (.iconst 0, 1) := dk_3 (dk_at dksX1_offGoes_3 10 rfl rfl)
theorem dX1_offGoes_83 : decode cX1_offGoes 83 = .ok (.bastore, 1) := dk_84 (dk_at dksX1_offGoes_3 11 rfl rfl)
theorem dX1_offGoes_84 : decode cX1_offGoes 84 = .ok (.aload_n 0, 1) := dk_42 (dk_at dksX1_offGoes_3 12 rfl rfl)
theorem dX1_offGoes_85 : decode cX1_offGoes 85 = .ok (.getfield 26, 3) := dk_180 0 26 (dk_at dksX1_offGoes_3 13 rfl rfl)
theorem dX1_offGoes_88 : decode cX1_offGoes 88 = .ok (.iload_n 3, 1) := dk_29 (dk_at dksX1_offGoes_3 16 rfl rfl)
theorem dX1_offGoes_89 : decode cX1_offGoes 89 = .ok (.iaload, 1) := dk_46 (dk_at dksX1_offGoes_3 17 rfl rfl)
theorem dX1_offGoes_90 : decode cX1_offGoes 90 = .ok (.ifCond .ne 16, 3) := dk_154 0 16 (dk_at dksX1_offGoes_3 18 rfl rfl)
theorem dX1_offGoes_93 : decode cX1_offGoes 93 = .ok (.aload_n 0, 1) := dk_42 (dk_at dksX1_offGoes_3 21 rfl rfl)
theorem dX1_offGoes_94 : decode cX1_offGoes 94 = .ok (.getfield 56, 3) := dk_180 0 56 (dk_at dksX1_offGoes_4 0 rfl rfl)
theorem dX1_offGoes_97 : decode cX1_offGoes 97 = .ok (.iload_n 3, 1) := dk_29 (dk_at dksX1_offGoes_4 3 rfl rfl)
theorem dX1_offGoes_98 : decode cX1_offGoes 98 = .ok (.dup2, 1) := dk_92 (dk_at dksX1_offGoes_4 4 rfl rfl)
theorem dX1_offGoes_99 : decode cX1_offGoes 99 = .ok (.iaload, 1) := dk_46 (dk_at dksX1_offGoes_4 5 rfl rfl)
theorem dX1_offGoes_100 : decode cX1_offGoes 100 = .ok (.iconst 1, 1) := dk_4 (dk_at dksX1_offGoes_4 6 rfl rfl)
theorem dX1_offGoes_101 : decode cX1_offGoes 101 = .ok (.iadd, 1) := dk_96 (dk_at dksX1_offGoes_4 7 rfl rfl)
theorem dX1_offGoes_102 : decode cX1_offGoes 102 = .ok (.iastore, 1) := dk_79 (dk_at dksX1_offGoes_4 8 rfl rfl)
theorem dX1_offGoes_103 : decode cX1_offGoes 103 = .ok (.goto 89, 3) := dk_167 0 89 (dk_at dksX1_offGoes_4 9 rfl rfl)
theorem dX1_offGoes_106 : decode cX1_offGoes 106 = .ok (.aload_n 0, 1) := dk_42 (dk_at dksX1_offGoes_4 12 rfl rfl)
theorem dX1_offGoes_107 : decode cX1_offGoes 107 = .ok (.getfield 26, 3) := dk_180 0 26 (dk_at dksX1_offGoes_4 13 rfl rfl)
theorem dX1_offGoes_110 : decode cX1_offGoes 110 = .ok (.iload_n 3, 1) := dk_29 (dk_at dksX1_offGoes_4 16 rfl rfl)
theorem dX1_offGoes_111 : decode cX1_offGoes 111 = .ok (.iaload, 1) := dk_46 (dk_at dksX1_offGoes_4 17 rfl rfl)
theorem dX1_offGoes_112 : decode cX1_offGoes 112 = .ok (.iconst 2, 1) := dk_5 (dk_at dksX1_offGoes_4 18 rfl rfl)
theorem dX1_offGoes_113 : decode cX1_offGoes 113 = .ok (.if_icmp .ne 33, 3) := dk_160 0 33 (dk_at dksX1_offGoes_4 19 rfl rfl)
theorem dX1_offGoes_116 : decode cX1_offGoes 116 = .ok (.aload_n 0, 1) := dk_42 (dk_at dksX1_offGoes_4 22 rfl rfl)
theorem dX1_offGoes_117 : decode cX1_offGoes 117 = .ok (.getfield 56, 3) := dk_180 0 56 (dk_at dksX1_offGoes_5 0 rfl rfl)
theorem dX1_offGoes_120 : decode cX1_offGoes 120 = .ok (.iload_n 3, 1) := dk_29 (dk_at dksX1_offGoes_5 3 rfl rfl)
theorem dX1_offGoes_121 : decode cX1_offGoes 121 = .ok (.aload_n 0, 1) := dk_42 (dk_at dksX1_offGoes_5 4 rfl rfl)
theorem dX1_offGoes_122 : decode cX1_offGoes 122 = .ok (.getfield 32, 3) := dk_180 0 32 (dk_at dksX1_offGoes_5 5 rfl rfl)
theorem dX1_offGoes_125 : decode cX1_offGoes 125 = .ok (.bipush 24, 2) := dk_16 24 (dk_at dksX1_offGoes_5 8 rfl rfl)
theorem dX1_offGoes_127 : decode cX1_offGoes 127 = .ok (.iload_n 3, 1) := dk_29 (dk_at dksX1_offGoes_5 10 rfl rfl)
theorem dX1_offGoes_128 : decode cX1_offGoes 128 = .ok (.imul, 1) := dk_104 (dk_at dksX1_offGoes_5 11 rfl rfl)
theorem dX1_offGoes_129 : decode cX1_offGoes 129 = .ok (.iload 4, 2) := dk_21 4 (dk_at dksX1_offGoes_5 12 rfl rfl)
theorem dX1_offGoes_131 : decode cX1_offGoes 131 = .ok (.iconst 1, 1) := dk_4 (dk_at dksX1_offGoes_5 14 rfl rfl)
theorem dX1_offGoes_132 : decode cX1_offGoes 132 = .ok (.isub, 1) := dk_100 (dk_at dksX1_offGoes_5 15 rfl rfl)
theorem dX1_offGoes_133 : decode cX1_offGoes 133 = .ok (.aload_n 0, 1) := dk_42 (dk_at dksX1_offGoes_5 16 rfl rfl)
theorem dX1_offGoes_134 : decode cX1_offGoes 134 = .ok (.getfield 29, 3) := dk_180 0 29 (dk_at dksX1_offGoes_5 17 rfl rfl)
theorem dX1_offGoes_137 : decode cX1_offGoes 137 = .ok (.iload_n 3, 1) := dk_29 (dk_at dksX1_offGoes_5 20 rfl rfl)
theorem dX1_offGoes_138 : decode cX1_offGoes 138 = .ok (.iaload, 1) := dk_46 (dk_at dksX1_offGoes_5 21 rfl rfl)
theorem dX1_offGoes_139 : decode cX1_offGoes 139 = .ok (.irem, 1) := dk_112 (dk_at dksX1_offGoes_5 22 rfl rfl)
theorem dX1_offGoes_140 : decode cX1_offGoes 140 = .ok (.iadd, 1) := dk_96 (dk_at dksX1_offGoes_5 23 rfl rfl)
theorem dX1_offGoes_141 : decode cX1_offGoes 141 = .ok (.iaload, 1) := dk_46 (dk_at dksX1_offGoes_6 0 rfl rfl)
theorem dX1_offGoes_142 : decode cX1_offGoes 142 = .ok (.iastore, 1) := dk_79 (dk_at dksX1_offGoes_6 1 rfl rfl)
theorem dX1_offGoes_143 : decode cX1_offGoes 143 = .ok (.goto 49, 3) := dk_167 0 49 (dk_at dksX1_offGoes_6 2 rfl rfl)
theorem dX1_offGoes_146 : decode cX1_offGoes 146 = .ok (.aload_n 0, 1) := dk_42 (dk_at dksX1_offGoes_6 5 rfl rfl)
theorem dX1_offGoes_147 : decode cX1_offGoes 147 = .ok (.getfield 56, 3) := dk_180 0 56 (dk_at dksX1_offGoes_6 6 rfl rfl)
theorem dX1_offGoes_150 : decode cX1_offGoes 150 = .ok (.iload_n 3, 1) := dk_29 (dk_at dksX1_offGoes_6 9 rfl rfl)
theorem dX1_offGoes_151 : decode cX1_offGoes 151 = .ok (.dup2, 1) := dk_92 (dk_at dksX1_offGoes_6 10 rfl rfl)
theorem dX1_offGoes_152 : decode cX1_offGoes 152 = .ok (.iaload, 1) := dk_46 (dk_at dksX1_offGoes_6 11 rfl rfl)
theorem dX1_offGoes_153 : decode cX1_offGoes 153 = .ok (.aload_n 0, 1) := dk_42 (dk_at dksX1_offGoes_6 12 rfl rfl)
theorem dX1_offGoes_154 : decode cX1_offGoes 154 = .ok (.getfield 32, 3) := dk_180 0 32 (dk_at dksX1_offGoes_6 13 rfl rfl)
theorem dX1_offGoes_157 : decode cX1_offGoes 157 = .ok (.bipush 24, 2) := dk_16 24 (dk_at dksX1_offGoes_6 16 rfl rfl)
theorem dX1_offGoes_159 : decode cX1_offGoes 159 = .ok (.iload_n 3, 1) := dk_29 (dk_at dksX1_offGoes_6 18 rfl rfl)
theorem dX1_offGoes_160 : decode cX1_offGoes 160 = .ok (.imul, 1) := dk_104 (dk_at dksX1_offGoes_6 19 rfl rfl)
theorem dX1_offGoes_161 : decode cX1_offGoes 161 = .ok (.aload_n 0, 1) := dk_42 (dk_at dksX1_offGoes_6 20 rfl rfl)
theorem dX1_offGoes_162 : decode cX1_offGoes 162 = .ok (.getfield 35, 3) := dk_180 0 35 (dk_at dksX1_offGoes_6 21 rfl rfl)
theorem dX1_offGoes_165 : decode cX1_offGoes 165 = .ok (.iload_n 3, 1) := dk_29 (dk_at dksX1_offGoes_7 0 rfl rfl)
theorem dX1_offGoes_166 : decode cX1_offGoes 166 = .ok (.iaload, 1) := dk_46 (dk_at dksX1_offGoes_7 1 rfl rfl)
theorem dX1_offGoes_167 : decode cX1_offGoes 167 = .ok (.iadd, 1) := dk_96 (dk_at dksX1_offGoes_7 2 rfl rfl)
theorem dX1_offGoes_168 : decode cX1_offGoes 168 = .ok (.iaload, 1) := dk_46 (dk_at dksX1_offGoes_7 3 rfl rfl)
theorem dX1_offGoes_169 : decode cX1_offGoes 169 = .ok (.iadd, 1) := dk_96 (dk_at dksX1_offGoes_7 4 rfl rfl)
theorem dX1_offGoes_170 : decode cX1_offGoes 170 = .ok (.iastore, 1) := dk_79 (dk_at dksX1_offGoes_7 5 rfl rfl)
theorem dX1_offGoes_171 : decode cX1_offGoes 171 = .ok (.aload_n 0, 1) := dk_42 (dk_at dksX1_offGoes_7 6 rfl rfl)
theorem dX1_offGoes_172 : decode cX1_offGoes 172 = .ok (.getfield 35, 3) := dk_180 0 35 (dk_at dksX1_offGoes_7 7 rfl rfl)
theorem dX1_offGoes_175 : decode cX1_offGoes 175 = .ok (.iload_n 3, 1) := dk_29 (dk_at dksX1_offGoes_7 10 rfl rfl)
theorem dX1_offGoes_176 : decode cX1_offGoes 176 = .ok (.aload_n 0, 1) := dk_42 (dk_at dksX1_offGoes_7 11 rfl rfl)
theorem dX1_offGoes_177 : decode cX1_offGoes 177 = .ok (.getfield 35, 3) := dk_180 0 35 (dk_at dksX1_offGoes_7 12 rfl rfl)
theorem dX1_offGoes_180 : decode cX1_offGoes 180 = .ok (.iload_n 3, 1) := dk_29 (dk_at dksX1_offGoes_7 15 rfl rfl)
theorem dX1_offGoes_181 : decode cX1_offGoes 181 = .ok (.iaload, 1) := dk_46 (dk_at dksX1_offGoes_7 16 rfl rfl)
theorem dX1_offGoes_182 : decode cX1_offGoes 182 = .ok (.iconst 1, 1) := dk_4 (dk_at dksX1_offGoes_7 17 rfl rfl)
theorem dX1_offGoes_183 : decode cX1_offGoes 183 = .ok (.iadd, 1) := dk_96 (dk_at dksX1_offGoes_7 18 rfl rfl)
theorem dX1_offGoes_184 : decode cX1_offGoes 184 = .ok (.aload_n 0, 1) := dk_42 (dk_at dksX1_offGoes_7 19 rfl rfl)
theorem dX1_offGoes_185 : decode cX1_offGoes 185 = .ok (.getfield 29, 3) := dk_180 0 29 (dk_at dksX1_offGoes_7 20 rfl rfl)
theorem dX1_offGoes_188 : decode cX1_offGoes 188 = .ok (.iload_n 3, 1) := dk_29 (dk_at dksX1_offGoes_7 23 rfl rfl)
theorem dX1_offGoes_189 : decode cX1_offGoes 189 = .ok (.iaload, 1) := dk_46 (dk_at dksX1_offGoes_8 0 rfl rfl)
theorem dX1_offGoes_190 : decode cX1_offGoes 190 = .ok (.irem, 1) := dk_112 (dk_at dksX1_offGoes_8 1 rfl rfl)
theorem dX1_offGoes_191 : decode cX1_offGoes 191 = .ok (.iastore, 1) := dk_79 (dk_at dksX1_offGoes_8 2 rfl rfl)
theorem dX1_offGoes_192 : decode cX1_offGoes 192 = .ok (.return_, 1) := dk_177 (dk_at dksX1_offGoes_8 3 rfl rfl)
abbrev cX1_quarterNow : ByteArray := prog_9_method_46_code
def yX1_quarterNow : MethodName := ⟨RX1, "quarterNow", "(I)I"⟩
def dkwX1_quarterNow_0 : List UInt8 := [42, 180, 0, 75, 27, 46, 16, 60, 112, 16, 15, 108, 61, 28, 154, 0, 7, 7, 167, 0, 4, 28, 172]
abbrev dktX1_quarterNow_0 : List UInt8 := dkwX1_quarterNow_0 ++ []
theorem dksX1_quarterNow_0 : cX1_quarterNow.data.toList.drop 0 = dktX1_quarterNow_0 := by decide +kernel
theorem dX1_quarterNow_0 : decode cX1_quarterNow 0 = .ok (.aload_n 0, 1) := dk_42 (dk_at dksX1_quarterNow_0 0 rfl rfl)
theorem dX1_quarterNow_1 : decode cX1_quarterNow 1 = .ok (.getfield 75, 3) := dk_180 0 75 (dk_at dksX1_quarterNow_0 1 rfl rfl)
theorem dX1_quarterNow_4 : decode cX1_quarterNow 4 = .ok (.iload_n 1, 1) := dk_27 (dk_at dksX1_quarterNow_0 4 rfl rfl)
theorem dX1_quarterNow_5 : decode cX1_quarterNow 5 = .ok (.iaload, 1) := dk_46 (dk_at dksX1_quarterNow_0 5 rfl rfl)
theorem dX1_quarterNow_6 : decode cX1_quarterNow 6 = .ok (.bipush 60, 2) := dk_16 60 (dk_at dksX1_quarterNow_0 6 rfl rfl)
theorem dX1_quarterNow_8 : decode cX1_quarterNow 8 = .ok (.irem, 1) := dk_112 (dk_at dksX1_quarterNow_0 8 rfl rfl)
theorem dX1_quarterNow_9 : decode cX1_quarterNow 9 = .ok (.bipush 15, 2) := dk_16 15 (dk_at dksX1_quarterNow_0 9 rfl rfl)
theorem dX1_quarterNow_11 : decode cX1_quarterNow 11 = .ok (.idiv, 1) := dk_108 (dk_at dksX1_quarterNow_0 11 rfl rfl)
theorem dX1_quarterNow_12 : decode cX1_quarterNow 12 = .ok (.istore_n 2, 1) := dk_61 (dk_at dksX1_quarterNow_0 12 rfl rfl)
theorem dX1_quarterNow_13 : decode cX1_quarterNow 13 = .ok (.iload_n 2, 1) := dk_28 (dk_at dksX1_quarterNow_0 13 rfl rfl)
theorem dX1_quarterNow_14 : decode cX1_quarterNow 14 = .ok (.ifCond .ne 7, 3) := dk_154 0 7 (dk_at dksX1_quarterNow_0 14 rfl rfl)
theorem dX1_quarterNow_17 : decode cX1_quarterNow 17 = .ok (.iconst 4, 1) := dk_7 (dk_at dksX1_quarterNow_0 17 rfl rfl)
theorem dX1_quarterNow_18 : decode cX1_quarterNow 18 = .ok (.goto 4, 3) := dk_167 0 4 (dk_at dksX1_quarterNow_0 18 rfl rfl)
theorem dX1_quarterNow_21 : decode cX1_quarterNow 21 = .ok (.iload_n 2, 1) := dk_28 (dk_at dksX1_quarterNow_0 21 rfl rfl)
theorem dX1_quarterNow_22 : decode cX1_quarterNow 22 = .ok (.ireturn, 1) := dk_172 (dk_at dksX1_quarterNow_0 22 rfl rfl)
abbrev cX1_hourNow : ByteArray := prog_9_method_45_code
def yX1_hourNow : MethodName := ⟨RX1, "hourNow", "(I)I"⟩
def dkwX1_hourNow_0 : List UInt8 := [42, 180, 0, 75, 27, 46, 184, 0, 209, 172]
abbrev dktX1_hourNow_0 : List UInt8 := dkwX1_hourNow_0 ++ []
theorem dksX1_hourNow_0 : cX1_hourNow.data.toList.drop 0 = dktX1_hourNow_0 := by decide +kernel
theorem dX1_hourNow_0 : decode cX1_hourNow 0 = .ok (.aload_n 0, 1) := dk_42 (dk_at dksX1_hourNow_0 0 rfl rfl)
theorem dX1_hourNow_1 : decode cX1_hourNow 1 = .ok (.getfield 75, 3) := dk_180 0 75 (dk_at dksX1_hourNow_0 1 rfl rfl)
theorem dX1_hourNow_4 : decode cX1_hourNow 4 = .ok (.iload_n 1, 1) := dk_27 (dk_at dksX1_hourNow_0 4 rfl rfl)
theorem dX1_hourNow_5 : decode cX1_hourNow 5 = .ok (.iaload, 1) := dk_46 (dk_at dksX1_hourNow_0 5 rfl rfl)
theorem dX1_hourNow_6 : decode cX1_hourNow 6 = .ok (.invokestatic 209, 3) := dk_184 0 209 (dk_at dksX1_hourNow_0 6 rfl rfl)
theorem dX1_hourNow_9 : decode cX1_hourNow 9 = .ok (.ireturn, 1) := dk_172 (dk_at dksX1_hourNow_0 9 rfl rfl)
abbrev cX1_hourOf : ByteArray := prog_9_method_44_code
def yX1_hourOf : MethodName := ⟨RX1, "hourOf", "(I)I"⟩
def dkwX1_hourOf_0 : List UInt8 := [26, 16, 60, 108, 16, 11, 96, 16, 12, 112, 4, 96, 172]
abbrev dktX1_hourOf_0 : List UInt8 := dkwX1_hourOf_0 ++ []
theorem dksX1_hourOf_0 : cX1_hourOf.data.toList.drop 0 = dktX1_hourOf_0 := by decide +kernel
theorem dX1_hourOf_0 : decode cX1_hourOf 0 = .ok (.iload_n 0, 1) := dk_26 (dk_at dksX1_hourOf_0 0 rfl rfl)
theorem dX1_hourOf_1 : decode cX1_hourOf 1 = .ok (.bipush 60, 2) := dk_16 60 (dk_at dksX1_hourOf_0 1 rfl rfl)
theorem dX1_hourOf_3 : decode cX1_hourOf 3 = .ok (.idiv, 1) := dk_108 (dk_at dksX1_hourOf_0 3 rfl rfl)
theorem dX1_hourOf_4 : decode cX1_hourOf 4 = .ok (.bipush 11, 2) := dk_16 11 (dk_at dksX1_hourOf_0 4 rfl rfl)
theorem dX1_hourOf_6 : decode cX1_hourOf 6 = .ok (.iadd, 1) := dk_96 (dk_at dksX1_hourOf_0 6 rfl rfl)
theorem dX1_hourOf_7 : decode cX1_hourOf 7 = .ok (.bipush 12, 2) := dk_16 12 (dk_at dksX1_hourOf_0 7 rfl rfl)
theorem dX1_hourOf_9 : decode cX1_hourOf 9 = .ok (.irem, 1) := dk_112 (dk_at dksX1_hourOf_0 9 rfl rfl)
theorem dX1_hourOf_10 : decode cX1_hourOf 10 = .ok (.iconst 1, 1) := dk_4 (dk_at dksX1_hourOf_0 10 rfl rfl)
theorem dX1_hourOf_11 : decode cX1_hourOf 11 = .ok (.iadd, 1) := dk_96 (dk_at dksX1_hourOf_0 11 rfl rfl)
theorem dX1_hourOf_12 : decode cX1_hourOf 12 = .ok (.ireturn, 1) := dk_172 (dk_at dksX1_hourOf_0 12 rfl rfl)
abbrev cX1_back : ByteArray := prog_9_method_51_code
def yX1_back : MethodName := ⟨RX1, "back", "(II)I"⟩
def dkwX1_back_2 : List UInt8 := [180, 0, 75, 27, 46, 172]
abbrev dktX1_back_2 : List UInt8 := dkwX1_back_2 ++ []
def dkwX1_back_1 : List UInt8 := [172, 42, 180, 0, 75, 27, 42, 180, 0, 75, 27, 46, 17, 11, 64, 96, 28, 100, 17, 5, 160, 112, 79, 42]
abbrev dktX1_back_1 : List UInt8 := dkwX1_back_1 ++ dktX1_back_2
def dkwX1_back_0 : List UInt8 := [28, 3, 17, 5, 220, 184, 0, 145, 154, 0, 5, 2, 172, 42, 27, 182, 0, 203, 62, 29, 156, 0, 5, 29]
abbrev dktX1_back_0 : List UInt8 := dkwX1_back_0 ++ dktX1_back_1
theorem dksX1_back_0 : cX1_back.data.toList.drop 0 = dktX1_back_0 := by decide +kernel
theorem dksX1_back_1 : cX1_back.data.toList.drop 24 = dktX1_back_1 := dk_seg dksX1_back_0 24 rfl rfl
theorem dksX1_back_2 : cX1_back.data.toList.drop 48 = dktX1_back_2 := dk_seg dksX1_back_1 24 rfl rfl
theorem dX1_back_0 : decode cX1_back 0 = .ok (.iload_n 2, 1) := dk_28 (dk_at dksX1_back_0 0 rfl rfl)
theorem dX1_back_1 : decode cX1_back 1 = .ok (.iconst 0, 1) := dk_3 (dk_at dksX1_back_0 1 rfl rfl)
theorem dX1_back_2 : decode cX1_back 2 = .ok (.sipush 1500, 3) := dk_17 5 220 (dk_at dksX1_back_0 2 rfl rfl)
theorem dX1_back_5 : decode cX1_back 5 = .ok (.invokestatic 145, 3) := dk_184 0 145 (dk_at dksX1_back_0 5 rfl rfl)
theorem dX1_back_8 : decode cX1_back 8 = .ok (.ifCond .ne 5, 3) := dk_154 0 5 (dk_at dksX1_back_0 8 rfl rfl)
theorem dX1_back_11 : decode cX1_back 11 = .ok (.iconst (-1), 1) := dk_2 (dk_at dksX1_back_0 11 rfl rfl)
theorem dX1_back_12 : decode cX1_back 12 = .ok (.ireturn, 1) := dk_172 (dk_at dksX1_back_0 12 rfl rfl)
theorem dX1_back_13 : decode cX1_back 13 = .ok (.aload_n 0, 1) := dk_42 (dk_at dksX1_back_0 13 rfl rfl)
theorem dX1_back_14 : decode cX1_back 14 = .ok (.iload_n 1, 1) := dk_27 (dk_at dksX1_back_0 14 rfl rfl)
theorem dX1_back_15 : decode cX1_back 15 = .ok (.invokevirtual 203, 3) := dk_182 0 203 (dk_at dksX1_back_0 15 rfl rfl)
theorem dX1_back_18 : decode cX1_back 18 = .ok (.istore_n 3, 1) := dk_62 (dk_at dksX1_back_0 18 rfl rfl)
theorem dX1_back_19 : decode cX1_back 19 = .ok (.iload_n 3, 1) := dk_29 (dk_at dksX1_back_0 19 rfl rfl)
theorem dX1_back_20 : decode cX1_back 20 = .ok (.ifCond .ge 5, 3) := dk_156 0 5 (dk_at dksX1_back_0 20 rfl rfl)
theorem dX1_back_23 : decode cX1_back 23 = .ok (.iload_n 3, 1) := dk_29 (dk_at dksX1_back_0 23 rfl rfl)
theorem dX1_back_24 : decode cX1_back 24 = .ok (.ireturn, 1) := dk_172 (dk_at dksX1_back_1 0 rfl rfl)
theorem dX1_back_25 : decode cX1_back 25 = .ok (.aload_n 0, 1) := dk_42 (dk_at dksX1_back_1 1 rfl rfl)
theorem dX1_back_26 : decode cX1_back 26 = .ok (.getfield 75, 3) := dk_180 0 75 (dk_at dksX1_back_1 2 rfl rfl)
theorem dX1_back_29 : decode cX1_back 29 = .ok (.iload_n 1, 1) := dk_27 (dk_at dksX1_back_1 5 rfl rfl)
theorem dX1_back_30 : decode cX1_back 30 = .ok (.aload_n 0, 1) := dk_42 (dk_at dksX1_back_1 6 rfl rfl)
theorem dX1_back_31 : decode cX1_back 31 = .ok (.getfield 75, 3) := dk_180 0 75 (dk_at dksX1_back_1 7 rfl rfl)
theorem dX1_back_34 : decode cX1_back 34 = .ok (.iload_n 1, 1) := dk_27 (dk_at dksX1_back_1 10 rfl rfl)
theorem dX1_back_35 : decode cX1_back 35 = .ok (.iaload, 1) := dk_46 (dk_at dksX1_back_1 11 rfl rfl)
theorem dX1_back_36 : decode cX1_back 36 = .ok (.sipush 2880, 3) := dk_17 11 64 (dk_at dksX1_back_1 12 rfl rfl)
theorem dX1_back_39 : decode cX1_back 39 = .ok (.iadd, 1) := dk_96 (dk_at dksX1_back_1 15 rfl rfl)
theorem dX1_back_40 : decode cX1_back 40 = .ok (.iload_n 2, 1) := dk_28 (dk_at dksX1_back_1 16 rfl rfl)
theorem dX1_back_41 : decode cX1_back 41 = .ok (.isub, 1) := dk_100 (dk_at dksX1_back_1 17 rfl rfl)
theorem dX1_back_42 : decode cX1_back 42 = .ok (.sipush 1440, 3) := dk_17 5 160 (dk_at dksX1_back_1 18 rfl rfl)
theorem dX1_back_45 : decode cX1_back 45 = .ok (.irem, 1) := dk_112 (dk_at dksX1_back_1 21 rfl rfl)
theorem dX1_back_46 : decode cX1_back 46 = .ok (.iastore, 1) := dk_79 (dk_at dksX1_back_1 22 rfl rfl)
theorem dX1_back_47 : decode cX1_back 47 = .ok (.aload_n 0, 1) := dk_42 (dk_at dksX1_back_1 23 rfl rfl)
theorem dX1_back_48 : decode cX1_back 48 = .ok (.getfield 75, 3) := dk_180 0 75 (dk_at dksX1_back_2 0 rfl rfl)
theorem dX1_back_51 : decode cX1_back 51 = .ok (.iload_n 1, 1) := dk_27 (dk_at dksX1_back_2 3 rfl rfl)
theorem dX1_back_52 : decode cX1_back 52 = .ok (.iaload, 1) := dk_46 (dk_at dksX1_back_2 4 rfl rfl)
theorem dX1_back_53 : decode cX1_back 53 = .ok (.ireturn, 1) := dk_172 (dk_at dksX1_back_2 5 rfl rfl)
abbrev cX1_rate : ByteArray := prog_9_method_52_code
def yX1_rate : MethodName := ⟨RX1, "rate", "(II)I"⟩
def dkwX1_rate_1 : List UInt8 := [156, 0, 5, 29, 172, 42, 180, 0, 78, 27, 46, 54, 4, 42, 180, 0, 78, 27, 28, 79, 21, 4, 172]
abbrev dktX1_rate_1 : List UInt8 := dkwX1_rate_1 ++ []
def dkwX1_rate_0 : List UInt8 := [28, 17, 241, 240, 17, 14, 16, 184, 0, 145, 154, 0, 5, 2, 172, 42, 27, 182, 0, 203, 62, 29]
abbrev dktX1_rate_0 : List UInt8 := dkwX1_rate_0 ++ dktX1_rate_1
theorem dksX1_rate_0 : cX1_rate.data.toList.drop 0 = dktX1_rate_0 := by decide +kernel
theorem dksX1_rate_1 : cX1_rate.data.toList.drop 22 = dktX1_rate_1 := dk_seg dksX1_rate_0 22 rfl rfl
theorem dX1_rate_0 : decode cX1_rate 0 = .ok (.iload_n 2, 1) := dk_28 (dk_at dksX1_rate_0 0 rfl rfl)
theorem dX1_rate_1 : decode cX1_rate 1 = .ok (.sipush (-3600), 3) := dk_17 241 240 (dk_at dksX1_rate_0 1 rfl rfl)
theorem dX1_rate_4 : decode cX1_rate 4 = .ok (.sipush 3600, 3) := dk_17 14 16 (dk_at dksX1_rate_0 4 rfl rfl)
theorem dX1_rate_7 : decode cX1_rate 7 = .ok (.invokestatic 145, 3) := dk_184 0 145 (dk_at dksX1_rate_0 7 rfl rfl)
theorem dX1_rate_10 : decode cX1_rate 10 = .ok (.ifCond .ne 5, 3) := dk_154 0 5 (dk_at dksX1_rate_0 10 rfl rfl)
theorem dX1_rate_13 : decode cX1_rate 13 = .ok (.iconst (-1), 1) := dk_2 (dk_at dksX1_rate_0 13 rfl rfl)
theorem dX1_rate_14 : decode cX1_rate 14 = .ok (.ireturn, 1) := dk_172 (dk_at dksX1_rate_0 14 rfl rfl)
theorem dX1_rate_15 : decode cX1_rate 15 = .ok (.aload_n 0, 1) := dk_42 (dk_at dksX1_rate_0 15 rfl rfl)
theorem dX1_rate_16 : decode cX1_rate 16 = .ok (.iload_n 1, 1) := dk_27 (dk_at dksX1_rate_0 16 rfl rfl)
theorem dX1_rate_17 : decode cX1_rate 17 = .ok (.invokevirtual 203, 3) := dk_182 0 203 (dk_at dksX1_rate_0 17 rfl rfl)
theorem dX1_rate_20 : decode cX1_rate 20 = .ok (.istore_n 3, 1) := dk_62 (dk_at dksX1_rate_0 20 rfl rfl)
theorem dX1_rate_21 : decode cX1_rate 21 = .ok (.iload_n 3, 1) := dk_29 (dk_at dksX1_rate_0 21 rfl rfl)
theorem dX1_rate_22 : decode cX1_rate 22 = .ok (.ifCond .ge 5, 3) := dk_156 0 5 (dk_at dksX1_rate_1 0 rfl rfl)
theorem dX1_rate_25 : decode cX1_rate 25 = .ok (.iload_n 3, 1) := dk_29 (dk_at dksX1_rate_1 3 rfl rfl)
theorem dX1_rate_26 : decode cX1_rate 26 = .ok (.ireturn, 1) := dk_172 (dk_at dksX1_rate_1 4 rfl rfl)
theorem dX1_rate_27 : decode cX1_rate 27 = .ok (.aload_n 0, 1) := dk_42 (dk_at dksX1_rate_1 5 rfl rfl)
theorem dX1_rate_28 : decode cX1_rate 28 = .ok (.getfield 78, 3) := dk_180 0 78 (dk_at dksX1_rate_1 6 rfl rfl)
theorem dX1_rate_31 : decode cX1_rate 31 = .ok (.iload_n 1, 1) := dk_27 (dk_at dksX1_rate_1 9 rfl rfl)
theorem dX1_rate_32 : decode cX1_rate 32 = .ok (.iaload, 1) := dk_46 (dk_at dksX1_rate_1 10 rfl rfl)
theorem dX1_rate_33 : decode cX1_rate 33 = .ok (.istore 4, 2) := dk_54 4 (dk_at dksX1_rate_1 11 rfl rfl)
theorem dX1_rate_35 : decode cX1_rate 35 = .ok (.aload_n 0, 1) := dk_42 (dk_at dksX1_rate_1 13 rfl rfl)
theorem dX1_rate_36 : decode cX1_rate 36 = .ok (.getfield 78, 3) := dk_180 0 78 (dk_at dksX1_rate_1 14 rfl rfl)
theorem dX1_rate_39 : decode cX1_rate 39 = .ok (.iload_n 1, 1) := dk_27 (dk_at dksX1_rate_1 17 rfl rfl)
theorem dX1_rate_40 : decode cX1_rate 40 = .ok (.iload_n 2, 1) := dk_28 (dk_at dksX1_rate_1 18 rfl rfl)
theorem dX1_rate_41 : decode cX1_rate 41 = .ok (.iastore, 1) := dk_79 (dk_at dksX1_rate_1 19 rfl rfl)
theorem dX1_rate_42 : decode cX1_rate 42 = .ok (.iload 4, 2) := dk_21 4 (dk_at dksX1_rate_1 20 rfl rfl)
theorem dX1_rate_44 : decode cX1_rate 44 = .ok (.ireturn, 1) := dk_172 (dk_at dksX1_rate_1 22 rfl rfl)
abbrev cX1_go : ByteArray := prog_9_method_53_code
def yX1_go : MethodName := ⟨RX1, "go", "(IZ)I"⟩
def dkwX1_go_1 : List UInt8 := [167, 0, 4, 3, 54, 4, 42, 180, 0, 87, 27, 28, 84, 21, 4, 172]
abbrev dktX1_go_1 : List UInt8 := dkwX1_go_1 ++ []
def dkwX1_go_0 : List UInt8 := [42, 27, 182, 0, 203, 62, 29, 156, 0, 5, 29, 172, 42, 180, 0, 87, 27, 51, 153, 0, 7, 4]
abbrev dktX1_go_0 : List UInt8 := dkwX1_go_0 ++ dktX1_go_1
theorem dksX1_go_0 : cX1_go.data.toList.drop 0 = dktX1_go_0 := by decide +kernel
theorem dksX1_go_1 : cX1_go.data.toList.drop 22 = dktX1_go_1 := dk_seg dksX1_go_0 22 rfl rfl
theorem dX1_go_0 : decode cX1_go 0 = .ok (.aload_n 0, 1) := dk_42 (dk_at dksX1_go_0 0 rfl rfl)
theorem dX1_go_1 : decode cX1_go 1 = .ok (.iload_n 1, 1) := dk_27 (dk_at dksX1_go_0 1 rfl rfl)
theorem dX1_go_2 : decode cX1_go 2 = .ok (.invokevirtual 203, 3) := dk_182 0 203 (dk_at dksX1_go_0 2 rfl rfl)
theorem dX1_go_5 : decode cX1_go 5 = .ok (.istore_n 3, 1) := dk_62 (dk_at dksX1_go_0 5 rfl rfl)
theorem dX1_go_6 : decode cX1_go 6 = .ok (.iload_n 3, 1) := dk_29 (dk_at dksX1_go_0 6 rfl rfl)
theorem dX1_go_7 : decode cX1_go 7 = .ok (.ifCond .ge 5, 3) := dk_156 0 5 (dk_at dksX1_go_0 7 rfl rfl)
theorem dX1_go_10 : decode cX1_go 10 = .ok (.iload_n 3, 1) := dk_29 (dk_at dksX1_go_0 10 rfl rfl)
theorem dX1_go_11 : decode cX1_go 11 = .ok (.ireturn, 1) := dk_172 (dk_at dksX1_go_0 11 rfl rfl)
theorem dX1_go_12 : decode cX1_go 12 = .ok (.aload_n 0, 1) := dk_42 (dk_at dksX1_go_0 12 rfl rfl)
theorem dX1_go_13 : decode cX1_go 13 = .ok (.getfield 87, 3) := dk_180 0 87 (dk_at dksX1_go_0 13 rfl rfl)
theorem dX1_go_16 : decode cX1_go 16 = .ok (.iload_n 1, 1) := dk_27 (dk_at dksX1_go_0 16 rfl rfl)
theorem dX1_go_17 : decode cX1_go 17 = .ok (.baload, 1) := dk_51 (dk_at dksX1_go_0 17 rfl rfl)
theorem dX1_go_18 : decode cX1_go 18 = .ok (.ifCond .eq 7, 3) := dk_153 0 7 (dk_at dksX1_go_0 18 rfl rfl)
theorem dX1_go_21 : decode cX1_go 21 = .ok (.iconst 1, 1) := dk_4 (dk_at dksX1_go_0 21 rfl rfl)
theorem dX1_go_22 : decode cX1_go 22 = .ok (.goto 4, 3) := dk_167 0 4 (dk_at dksX1_go_1 0 rfl rfl)
theorem dX1_go_25 : decode cX1_go 25 = .ok (.iconst 0, 1) := dk_3 (dk_at dksX1_go_1 3 rfl rfl)
theorem dX1_go_26 : decode cX1_go 26 = .ok (.istore 4, 2) := dk_54 4 (dk_at dksX1_go_1 4 rfl rfl)
theorem dX1_go_28 : decode cX1_go 28 = .ok (.aload_n 0, 1) := dk_42 (dk_at dksX1_go_1 6 rfl rfl)
theorem dX1_go_29 : decode cX1_go 29 = .ok (.getfield 87, 3) := dk_180 0 87 (dk_at dksX1_go_1 7 rfl rfl)
theorem dX1_go_32 : decode cX1_go 32 = .ok (.iload_n 1, 1) := dk_27 (dk_at dksX1_go_1 10 rfl rfl)
theorem dX1_go_33 : decode cX1_go 33 = .ok (.iload_n 2, 1) := dk_28 (dk_at dksX1_go_1 11 rfl rfl)
theorem dX1_go_34 : decode cX1_go 34 = .ok (.bastore, 1) := dk_84 (dk_at dksX1_go_1 12 rfl rfl)
theorem dX1_go_35 : decode cX1_go 35 = .ok (.iload 4, 2) := dk_21 4 (dk_at dksX1_go_1 13 rfl rfl)
theorem dX1_go_37 : decode cX1_go 37 = .ok (.ireturn, 1) := dk_172 (dk_at dksX1_go_1 15 rfl rfl)
abbrev cX1_windGoing : ByteArray := prog_9_method_54_code
def yX1_windGoing : MethodName := ⟨RX1, "windGoing", "(II)I"⟩
def dkwX1_windGoing_1 : List UInt8 := [42, 180, 0, 81, 27, 46, 54, 4, 42, 180, 0, 81, 27, 28, 79, 21, 4, 172]
abbrev dktX1_windGoing_1 : List UInt8 := dkwX1_windGoing_1 ++ []
def dkwX1_windGoing_0 : List UInt8 := [28, 3, 18, 179, 184, 0, 145, 154, 0, 5, 2, 172, 42, 27, 182, 0, 203, 62, 29, 156, 0, 5, 29, 172]
abbrev dktX1_windGoing_0 : List UInt8 := dkwX1_windGoing_0 ++ dktX1_windGoing_1
theorem dksX1_windGoing_0 : cX1_windGoing.data.toList.drop 0 = dktX1_windGoing_0 := by decide +kernel
theorem dksX1_windGoing_1 : cX1_windGoing.data.toList.drop 24 = dktX1_windGoing_1 := dk_seg dksX1_windGoing_0 24 rfl rfl
theorem dX1_windGoing_0 : decode cX1_windGoing 0 = .ok (.iload_n 2, 1) := dk_28 (dk_at dksX1_windGoing_0 0 rfl rfl)
theorem dX1_windGoing_1 : decode cX1_windGoing 1 = .ok (.iconst 0, 1) := dk_3 (dk_at dksX1_windGoing_0 1 rfl rfl)
theorem dX1_windGoing_2 : decode cX1_windGoing 2 = .ok (.ldc 179, 2) := dk_18 179 (dk_at dksX1_windGoing_0 2 rfl rfl)
theorem dX1_windGoing_4 : decode cX1_windGoing 4 = .ok (.invokestatic 145, 3) := dk_184 0 145 (dk_at dksX1_windGoing_0 4 rfl rfl)
theorem dX1_windGoing_7 : decode cX1_windGoing 7 = .ok (.ifCond .ne 5, 3) := dk_154 0 5 (dk_at dksX1_windGoing_0 7 rfl rfl)
theorem dX1_windGoing_10 : decode cX1_windGoing 10 = .ok (.iconst (-1), 1) := dk_2 (dk_at dksX1_windGoing_0 10 rfl rfl)
theorem dX1_windGoing_11 : decode cX1_windGoing 11 = .ok (.ireturn, 1) := dk_172 (dk_at dksX1_windGoing_0 11 rfl rfl)
theorem dX1_windGoing_12 : decode cX1_windGoing 12 = .ok (.aload_n 0, 1) := dk_42 (dk_at dksX1_windGoing_0 12 rfl rfl)
theorem dX1_windGoing_13 : decode cX1_windGoing 13 = .ok (.iload_n 1, 1) := dk_27 (dk_at dksX1_windGoing_0 13 rfl rfl)
theorem dX1_windGoing_14 : decode cX1_windGoing 14 = .ok (.invokevirtual 203, 3) := dk_182 0 203 (dk_at dksX1_windGoing_0 14 rfl rfl)
theorem dX1_windGoing_17 : decode cX1_windGoing 17 = .ok (.istore_n 3, 1) := dk_62 (dk_at dksX1_windGoing_0 17 rfl rfl)
theorem dX1_windGoing_18 : decode cX1_windGoing 18 = .ok (.iload_n 3, 1) := dk_29 (dk_at dksX1_windGoing_0 18 rfl rfl)
theorem dX1_windGoing_19 : decode cX1_windGoing 19 = .ok (.ifCond .ge 5, 3) := dk_156 0 5 (dk_at dksX1_windGoing_0 19 rfl rfl)
theorem dX1_windGoing_22 : decode cX1_windGoing 22 = .ok (.iload_n 3, 1) := dk_29 (dk_at dksX1_windGoing_0 22 rfl rfl)
theorem dX1_windGoing_23 : decode cX1_windGoing 23 = .ok (.ireturn, 1) := dk_172 (dk_at dksX1_windGoing_0 23 rfl rfl)
theorem dX1_windGoing_24 : decode cX1_windGoing 24 = .ok (.aload_n 0, 1) := dk_42 (dk_at dksX1_windGoing_1 0 rfl rfl)
theorem dX1_windGoing_25 : decode cX1_windGoing 25 = .ok (.getfield 81, 3) := dk_180 0 81 (dk_at dksX1_windGoing_1 1 rfl rfl)
theorem dX1_windGoing_28 : decode cX1_windGoing 28 = .ok (.iload_n 1, 1) := dk_27 (dk_at dksX1_windGoing_1 4 rfl rfl)
theorem dX1_windGoing_29 : decode cX1_windGoing 29 = .ok (.iaload, 1) := dk_46 (dk_at dksX1_windGoing_1 5 rfl rfl)
theorem dX1_windGoing_30 : decode cX1_windGoing 30 = .ok (.istore 4, 2) := dk_54 4 (dk_at dksX1_windGoing_1 6 rfl rfl)
theorem dX1_windGoing_32 : decode cX1_windGoing 32 = .ok (.aload_n 0, 1) := dk_42 (dk_at dksX1_windGoing_1 8 rfl rfl)
theorem dX1_windGoing_33 : decode cX1_windGoing 33 = .ok (.getfield 81, 3) := dk_180 0 81 (dk_at dksX1_windGoing_1 9 rfl rfl)
theorem dX1_windGoing_36 : decode cX1_windGoing 36 = .ok (.iload_n 1, 1) := dk_27 (dk_at dksX1_windGoing_1 12 rfl rfl)
theorem dX1_windGoing_37 : decode cX1_windGoing 37 = .ok (.iload_n 2, 1) := dk_28 (dk_at dksX1_windGoing_1 13 rfl rfl)
theorem dX1_windGoing_38 : decode cX1_windGoing 38 = .ok (.iastore, 1) := dk_79 (dk_at dksX1_windGoing_1 14 rfl rfl)
theorem dX1_windGoing_39 : decode cX1_windGoing 39 = .ok (.iload 4, 2) := dk_21 4 (dk_at dksX1_windGoing_1 15 rfl rfl)
theorem dX1_windGoing_41 : decode cX1_windGoing 41 = .ok (.ireturn, 1) := dk_172 (dk_at dksX1_windGoing_1 17 rfl rfl)
abbrev cX1_silence : ByteArray := prog_9_method_55_code
def yX1_silence : MethodName := ⟨RX1, "silence", "(IIII)I"⟩
def dkwX1_silence_2 : List UInt8 := [180, 0, 90, 27, 28, 79, 42, 180, 0, 93, 27, 29, 79, 42, 180, 0, 96, 27, 21, 4, 79, 4, 172]
abbrev dktX1_silence_2 : List UInt8 := dkwX1_silence_2 ++ []
def dkwX1_silence_1 : List UInt8 := [184, 0, 145, 154, 0, 5, 2, 172, 42, 27, 182, 0, 203, 54, 5, 21, 5, 156, 0, 6, 21, 5, 172, 42]
abbrev dktX1_silence_1 : List UInt8 := dkwX1_silence_1 ++ dktX1_silence_2
def dkwX1_silence_0 : List UInt8 := [28, 3, 16, 23, 184, 0, 145, 153, 0, 23, 29, 3, 16, 23, 184, 0, 145, 153, 0, 13, 21, 4, 3, 4]
abbrev dktX1_silence_0 : List UInt8 := dkwX1_silence_0 ++ dktX1_silence_1
theorem dksX1_silence_0 : cX1_silence.data.toList.drop 0 = dktX1_silence_0 := by decide +kernel
theorem dksX1_silence_1 : cX1_silence.data.toList.drop 24 = dktX1_silence_1 := dk_seg dksX1_silence_0 24 rfl rfl
theorem dksX1_silence_2 : cX1_silence.data.toList.drop 48 = dktX1_silence_2 := dk_seg dksX1_silence_1 24 rfl rfl
theorem dX1_silence_0 : decode cX1_silence 0 = .ok (.iload_n 2, 1) := dk_28 (dk_at dksX1_silence_0 0 rfl rfl)
theorem dX1_silence_1 : decode cX1_silence 1 = .ok (.iconst 0, 1) := dk_3 (dk_at dksX1_silence_0 1 rfl rfl)
theorem dX1_silence_2 : decode cX1_silence 2 = .ok (.bipush 23, 2) := dk_16 23 (dk_at dksX1_silence_0 2 rfl rfl)
theorem dX1_silence_4 : decode cX1_silence 4 = .ok (.invokestatic 145, 3) := dk_184 0 145 (dk_at dksX1_silence_0 4 rfl rfl)
theorem dX1_silence_7 : decode cX1_silence 7 = .ok (.ifCond .eq 23, 3) := dk_153 0 23 (dk_at dksX1_silence_0 7 rfl rfl)
theorem dX1_silence_10 : decode cX1_silence 10 = .ok (.iload_n 3, 1) := dk_29 (dk_at dksX1_silence_0 10 rfl rfl)
theorem dX1_silence_11 : decode cX1_silence 11 = .ok (.iconst 0, 1) := dk_3 (dk_at dksX1_silence_0 11 rfl rfl)
theorem dX1_silence_12 : decode cX1_silence 12 = .ok (.bipush 23, 2) := dk_16 23 (dk_at dksX1_silence_0 12 rfl rfl)
theorem dX1_silence_14 : decode cX1_silence 14 = .ok (.invokestatic 145, 3) := dk_184 0 145 (dk_at dksX1_silence_0 14 rfl rfl)
theorem dX1_silence_17 : decode cX1_silence 17 = .ok (.ifCond .eq 13, 3) := dk_153 0 13 (dk_at dksX1_silence_0 17 rfl rfl)
theorem dX1_silence_20 : decode cX1_silence 20 = .ok (.iload 4, 2) := dk_21 4 (dk_at dksX1_silence_0 20 rfl rfl)
theorem dX1_silence_22 : decode cX1_silence 22 = .ok (.iconst 0, 1) := dk_3 (dk_at dksX1_silence_0 22 rfl rfl)
theorem dX1_silence_23 : decode cX1_silence 23 = .ok (.iconst 1, 1) := dk_4 (dk_at dksX1_silence_0 23 rfl rfl)
theorem dX1_silence_24 : decode cX1_silence 24 = .ok (.invokestatic 145, 3) := dk_184 0 145 (dk_at dksX1_silence_1 0 rfl rfl)
theorem dX1_silence_27 : decode cX1_silence 27 = .ok (.ifCond .ne 5, 3) := dk_154 0 5 (dk_at dksX1_silence_1 3 rfl rfl)
theorem dX1_silence_30 : decode cX1_silence 30 = .ok (.iconst (-1), 1) := dk_2 (dk_at dksX1_silence_1 6 rfl rfl)
theorem dX1_silence_31 : decode cX1_silence 31 = .ok (.ireturn, 1) := dk_172 (dk_at dksX1_silence_1 7 rfl rfl)
theorem dX1_silence_32 : decode cX1_silence 32 = .ok (.aload_n 0, 1) := dk_42 (dk_at dksX1_silence_1 8 rfl rfl)
theorem dX1_silence_33 : decode cX1_silence 33 = .ok (.iload_n 1, 1) := dk_27 (dk_at dksX1_silence_1 9 rfl rfl)
theorem dX1_silence_34 : decode cX1_silence 34 = .ok (.invokevirtual 203, 3) := dk_182 0 203 (dk_at dksX1_silence_1 10 rfl rfl)
theorem dX1_silence_37 : decode cX1_silence 37 = .ok (.istore 5, 2) := dk_54 5 (dk_at dksX1_silence_1 13 rfl rfl)
theorem dX1_silence_39 : decode cX1_silence 39 = .ok (.iload 5, 2) := dk_21 5 (dk_at dksX1_silence_1 15 rfl rfl)
theorem dX1_silence_41 : decode cX1_silence 41 = .ok (.ifCond .ge 6, 3) := dk_156 0 6 (dk_at dksX1_silence_1 17 rfl rfl)
theorem dX1_silence_44 : decode cX1_silence 44 = .ok (.iload 5, 2) := dk_21 5 (dk_at dksX1_silence_1 20 rfl rfl)
theorem dX1_silence_46 : decode cX1_silence 46 = .ok (.ireturn, 1) := dk_172 (dk_at dksX1_silence_1 22 rfl rfl)
theorem dX1_silence_47 : decode cX1_silence 47 = .ok (.aload_n 0, 1) := dk_42 (dk_at dksX1_silence_1 23 rfl rfl)
theorem dX1_silence_48 : decode cX1_silence 48 = .ok (.getfield 90, 3) := dk_180 0 90 (dk_at dksX1_silence_2 0 rfl rfl)
theorem dX1_silence_51 : decode cX1_silence 51 = .ok (.iload_n 1, 1) := dk_27 (dk_at dksX1_silence_2 3 rfl rfl)
theorem dX1_silence_52 : decode cX1_silence 52 = .ok (.iload_n 2, 1) := dk_28 (dk_at dksX1_silence_2 4 rfl rfl)
theorem dX1_silence_53 : decode cX1_silence 53 = .ok (.iastore, 1) := dk_79 (dk_at dksX1_silence_2 5 rfl rfl)
theorem dX1_silence_54 : decode cX1_silence 54 = .ok (.aload_n 0, 1) := dk_42 (dk_at dksX1_silence_2 6 rfl rfl)
theorem dX1_silence_55 : decode cX1_silence 55 = .ok (.getfield 93, 3) := dk_180 0 93 (dk_at dksX1_silence_2 7 rfl rfl)
theorem dX1_silence_58 : decode cX1_silence 58 = .ok (.iload_n 1, 1) := dk_27 (dk_at dksX1_silence_2 10 rfl rfl)
theorem dX1_silence_59 : decode cX1_silence 59 = .ok (.iload_n 3, 1) := dk_29 (dk_at dksX1_silence_2 11 rfl rfl)
theorem dX1_silence_60 : decode cX1_silence 60 = .ok (.iastore, 1) := dk_79 (dk_at dksX1_silence_2 12 rfl rfl)
theorem dX1_silence_61 : decode cX1_silence 61 = .ok (.aload_n 0, 1) := dk_42 (dk_at dksX1_silence_2 13 rfl rfl)
theorem dX1_silence_62 : decode cX1_silence 62 = .ok (.getfield 96, 3) := dk_180 0 96 (dk_at dksX1_silence_2 14 rfl rfl)
theorem dX1_silence_65 : decode cX1_silence 65 = .ok (.iload_n 1, 1) := dk_27 (dk_at dksX1_silence_2 17 rfl rfl)
theorem dX1_silence_66 : decode cX1_silence 66 = .ok (.iload 4, 2) := dk_21 4 (dk_at dksX1_silence_2 18 rfl rfl)
theorem dX1_silence_68 : decode cX1_silence 68 = .ok (.iastore, 1) := dk_79 (dk_at dksX1_silence_2 20 rfl rfl)
theorem dX1_silence_69 : decode cX1_silence 69 = .ok (.iconst 1, 1) := dk_4 (dk_at dksX1_silence_2 21 rfl rfl)
theorem dX1_silence_70 : decode cX1_silence 70 = .ok (.ireturn, 1) := dk_172 (dk_at dksX1_silence_2 22 rfl rfl)
abbrev cX1_letOff : ByteArray := prog_9_method_56_code
def yX1_letOff : MethodName := ⟨RX1, "letOff", "(IZ)I"⟩
def dkwX1_letOff_1 : List UInt8 := [180, 0, 99, 27, 28, 184, 0, 200, 46, 46, 172]
abbrev dktX1_letOff_1 : List UInt8 := dkwX1_letOff_1 ++ []
def dkwX1_letOff_0 : List UInt8 := [42, 27, 28, 182, 0, 206, 62, 29, 156, 0, 5, 29, 172, 42, 27, 28, 182, 0, 221, 42, 180, 0, 56, 42]
abbrev dktX1_letOff_0 : List UInt8 := dkwX1_letOff_0 ++ dktX1_letOff_1
theorem dksX1_letOff_0 : cX1_letOff.data.toList.drop 0 = dktX1_letOff_0 := by decide +kernel
theorem dksX1_letOff_1 : cX1_letOff.data.toList.drop 24 = dktX1_letOff_1 := dk_seg dksX1_letOff_0 24 rfl rfl
theorem dX1_letOff_0 : decode cX1_letOff 0 = .ok (.aload_n 0, 1) := dk_42 (dk_at dksX1_letOff_0 0 rfl rfl)
theorem dX1_letOff_1 : decode cX1_letOff 1 = .ok (.iload_n 1, 1) := dk_27 (dk_at dksX1_letOff_0 1 rfl rfl)
theorem dX1_letOff_2 : decode cX1_letOff 2 = .ok (.iload_n 2, 1) := dk_28 (dk_at dksX1_letOff_0 2 rfl rfl)
theorem dX1_letOff_3 : decode cX1_letOff 3 = .ok (.invokevirtual 206, 3) := dk_182 0 206 (dk_at dksX1_letOff_0 3 rfl rfl)
theorem dX1_letOff_6 : decode cX1_letOff 6 = .ok (.istore_n 3, 1) := dk_62 (dk_at dksX1_letOff_0 6 rfl rfl)
theorem dX1_letOff_7 : decode cX1_letOff 7 = .ok (.iload_n 3, 1) := dk_29 (dk_at dksX1_letOff_0 7 rfl rfl)
theorem dX1_letOff_8 : decode cX1_letOff 8 = .ok (.ifCond .ge 5, 3) := dk_156 0 5 (dk_at dksX1_letOff_0 8 rfl rfl)
theorem dX1_letOff_11 : decode cX1_letOff 11 = .ok (.iload_n 3, 1) := dk_29 (dk_at dksX1_letOff_0 11 rfl rfl)
theorem dX1_letOff_12 : decode cX1_letOff 12 = .ok (.ireturn, 1) := dk_172 (dk_at dksX1_letOff_0 12 rfl rfl)
theorem dX1_letOff_13 : decode cX1_letOff 13 = .ok (.aload_n 0, 1) := dk_42 (dk_at dksX1_letOff_0 13 rfl rfl)
theorem dX1_letOff_14 : decode cX1_letOff 14 = .ok (.iload_n 1, 1) := dk_27 (dk_at dksX1_letOff_0 14 rfl rfl)
theorem dX1_letOff_15 : decode cX1_letOff 15 = .ok (.iload_n 2, 1) := dk_28 (dk_at dksX1_letOff_0 15 rfl rfl)
theorem dX1_letOff_16 : decode cX1_letOff 16 = .ok (.invokevirtual 221, 3) := dk_182 0 221 (dk_at dksX1_letOff_0 16 rfl rfl)
theorem dX1_letOff_19 : decode cX1_letOff 19 = .ok (.aload_n 0, 1) := dk_42 (dk_at dksX1_letOff_0 19 rfl rfl)
theorem dX1_letOff_20 : decode cX1_letOff 20 = .ok (.getfield 56, 3) := dk_180 0 56 (dk_at dksX1_letOff_0 20 rfl rfl)
theorem dX1_letOff_23 : decode cX1_letOff 23 = .ok (.aload_n 0, 1) := dk_42 (dk_at dksX1_letOff_0 23 rfl rfl)
theorem dX1_letOff_24 : decode cX1_letOff 24 = .ok (.getfield 99, 3) := dk_180 0 99 (dk_at dksX1_letOff_1 0 rfl rfl)
theorem dX1_letOff_27 : decode cX1_letOff 27 = .ok (.iload_n 1, 1) := dk_27 (dk_at dksX1_letOff_1 3 rfl rfl)
theorem dX1_letOff_28 : decode cX1_letOff 28 = .ok (.iload_n 2, 1) := dk_28 (dk_at dksX1_letOff_1 4 rfl rfl)
theorem dX1_letOff_29 : decode cX1_letOff 29 = .ok (.invokestatic 200, 3) := dk_184 0 200 (dk_at dksX1_letOff_1 5 rfl rfl)
theorem dX1_letOff_32 : decode cX1_letOff 32 = .ok (.iaload, 1) := dk_46 (dk_at dksX1_letOff_1 8 rfl rfl)
theorem dX1_letOff_33 : decode cX1_letOff 33 = .ok (.iaload, 1) := dk_46 (dk_at dksX1_letOff_1 9 rfl rfl)
theorem dX1_letOff_34 : decode cX1_letOff 34 = .ok (.ireturn, 1) := dk_172 (dk_at dksX1_letOff_1 10 rfl rfl)
abbrev cX1_runOut : ByteArray := prog_9_method_59_code
def yX1_runOut : MethodName := ⟨RX1, "runOut", "(IZ)I"⟩
def dkwX1_runOut_0 : List UInt8 := [42, 27, 28, 182, 0, 206, 62, 29, 156, 0, 7, 29, 167, 0, 11, 42, 27, 28, 18, 243, 182, 0, 244, 172]
abbrev dktX1_runOut_0 : List UInt8 := dkwX1_runOut_0 ++ []
theorem dksX1_runOut_0 : cX1_runOut.data.toList.drop 0 = dktX1_runOut_0 := by decide +kernel
theorem dX1_runOut_0 : decode cX1_runOut 0 = .ok (.aload_n 0, 1) := dk_42 (dk_at dksX1_runOut_0 0 rfl rfl)
theorem dX1_runOut_1 : decode cX1_runOut 1 = .ok (.iload_n 1, 1) := dk_27 (dk_at dksX1_runOut_0 1 rfl rfl)
theorem dX1_runOut_2 : decode cX1_runOut 2 = .ok (.iload_n 2, 1) := dk_28 (dk_at dksX1_runOut_0 2 rfl rfl)
theorem dX1_runOut_3 : decode cX1_runOut 3 = .ok (.invokevirtual 206, 3) := dk_182 0 206 (dk_at dksX1_runOut_0 3 rfl rfl)
theorem dX1_runOut_6 : decode cX1_runOut 6 = .ok (.istore_n 3, 1) := dk_62 (dk_at dksX1_runOut_0 6 rfl rfl)
theorem dX1_runOut_7 : decode cX1_runOut 7 = .ok (.iload_n 3, 1) := dk_29 (dk_at dksX1_runOut_0 7 rfl rfl)
theorem dX1_runOut_8 : decode cX1_runOut 8 = .ok (.ifCond .ge 7, 3) := dk_156 0 7 (dk_at dksX1_runOut_0 8 rfl rfl)
theorem dX1_runOut_11 : decode cX1_runOut 11 = .ok (.iload_n 3, 1) := dk_29 (dk_at dksX1_runOut_0 11 rfl rfl)
theorem dX1_runOut_12 : decode cX1_runOut 12 = .ok (.goto 11, 3) := dk_167 0 11 (dk_at dksX1_runOut_0 12 rfl rfl)
theorem dX1_runOut_15 : decode cX1_runOut 15 = .ok (.aload_n 0, 1) := dk_42 (dk_at dksX1_runOut_0 15 rfl rfl)
theorem dX1_runOut_16 : decode cX1_runOut 16 = .ok (.iload_n 1, 1) := dk_27 (dk_at dksX1_runOut_0 16 rfl rfl)
theorem dX1_runOut_17 : decode cX1_runOut 17 = .ok (.iload_n 2, 1) := dk_28 (dk_at dksX1_runOut_0 17 rfl rfl)
theorem dX1_runOut_18 : decode cX1_runOut 18 = .ok (.ldc 243, 2) := dk_18 243 (dk_at dksX1_runOut_0 18 rfl rfl)
theorem dX1_runOut_20 : decode cX1_runOut 20 = .ok (.invokevirtual 244, 3) := dk_182 0 244 (dk_at dksX1_runOut_0 20 rfl rfl)
theorem dX1_runOut_23 : decode cX1_runOut 23 = .ok (.ireturn, 1) := dk_172 (dk_at dksX1_runOut_0 23 rfl rfl)
abbrev cX1_runs : ByteArray := prog_9_method_57_code
def yX1_runs : MethodName := ⟨RX1, "runs", "(IZI)I"⟩
def dkwX1_runs_13 : List UInt8 := [182, 0, 221, 21, 6, 172]
abbrev dktX1_runs_13 : List UInt8 := dkwX1_runs_13 ++ []
def dkwX1_runs_12 : List UInt8 := [180, 0, 99, 5, 27, 104, 46, 155, 0, 18, 42, 27, 182, 0, 218, 5, 159, 0, 9, 42, 27, 3]
abbrev dktX1_runs_12 : List UInt8 := dkwX1_runs_12 ++ dktX1_runs_13
def dkwX1_runs_11 : List UInt8 := [158, 0, 49, 42, 180, 0, 56, 21, 4, 46, 154, 0, 39, 42, 180, 0, 68, 21, 4, 51, 153, 0, 29, 42]
abbrev dktX1_runs_11 : List UInt8 := dkwX1_runs_11 ++ dktX1_runs_12
def dkwX1_runs_10 : List UInt8 := [21, 7, 158, 0, 14, 42, 27, 21, 4, 21, 7, 21, 8, 182, 0, 234, 28, 153, 0, 54, 21, 6]
abbrev dktX1_runs_10 : List UInt8 := dkwX1_runs_10 ++ dktX1_runs_11
def dkwX1_runs_9 : List UInt8 := [42, 180, 0, 65, 21, 4, 92, 46, 21, 6, 96, 79, 42, 89, 180, 0, 231, 21, 6, 96, 181, 0, 231]
abbrev dktX1_runs_9 : List UInt8 := dkwX1_runs_9 ++ dktX1_runs_10
def dkwX1_runs_8 : List UInt8 := [21, 4, 92, 46, 4, 100, 79, 42, 180, 0, 53, 21, 4, 92, 46, 4, 100, 79, 132, 6, 1, 167, 255, 86]
abbrev dktX1_runs_8 : List UInt8 := dkwX1_runs_8 ++ dktX1_runs_9
def dkwX1_runs_7 : List UInt8 := [21, 10, 154, 0, 7, 3, 167, 0, 4, 4, 96, 54, 7, 21, 8, 21, 10, 128, 54, 8, 42, 180, 0, 56]
abbrev dktX1_runs_7 : List UInt8 := dkwX1_runs_7 ++ dktX1_runs_8
def dkwX1_runs_6 : List UInt8 := [153, 0, 7, 3, 167, 0, 15, 21, 9, 42, 180, 0, 62, 21, 4, 46, 2, 130, 126, 54, 10, 21, 7]
abbrev dktX1_runs_6 : List UInt8 := dkwX1_runs_6 ++ dktX1_runs_7
def dkwX1_runs_5 : List UInt8 := [42, 180, 0, 44, 21, 4, 46, 4, 96, 42, 180, 0, 38, 21, 4, 46, 112, 167, 0, 4, 3, 79, 21, 5]
abbrev dktX1_runs_5 : List UInt8 := dkwX1_runs_5 ++ dktX1_runs_6
def dkwX1_runs_4 : List UInt8 := [46, 167, 0, 4, 4, 54, 9, 42, 180, 0, 44, 21, 4, 42, 180, 0, 26, 21, 4, 46, 6, 160, 0, 23]
abbrev dktX1_runs_4 : List UInt8 := dkwX1_runs_4 ++ dktX1_runs_5
def dkwX1_runs_3 : List UInt8 := [21, 4, 46, 6, 160, 0, 24, 42, 180, 0, 41, 16, 48, 21, 4, 104, 42, 180, 0, 44, 21, 4, 46, 96]
abbrev dktX1_runs_3 : List UInt8 := dkwX1_runs_3 ++ dktX1_runs_4
def dkwX1_runs_2 : List UInt8 := [158, 0, 166, 42, 180, 0, 53, 21, 4, 46, 158, 0, 156, 21, 6, 29, 162, 0, 150, 42, 180, 0, 26]
abbrev dktX1_runs_2 : List UInt8 := dkwX1_runs_2 ++ dktX1_runs_3
def dkwX1_runs_1 : List UInt8 := [167, 0, 4, 3, 54, 5, 3, 54, 6, 3, 54, 7, 3, 54, 8, 42, 180, 0, 56, 21, 4, 46]
abbrev dktX1_runs_1 : List UInt8 := dkwX1_runs_1 ++ dktX1_runs_2
def dkwX1_runs_0 : List UInt8 := [42, 180, 0, 99, 27, 28, 184, 0, 200, 46, 54, 4, 42, 27, 182, 0, 218, 4, 160, 0, 7, 4]
abbrev dktX1_runs_0 : List UInt8 := dkwX1_runs_0 ++ dktX1_runs_1
theorem dksX1_runs_0 : cX1_runs.data.toList.drop 0 = dktX1_runs_0 := by decide +kernel
theorem dksX1_runs_1 : cX1_runs.data.toList.drop 22 = dktX1_runs_1 := dk_seg dksX1_runs_0 22 rfl rfl
theorem dksX1_runs_2 : cX1_runs.data.toList.drop 44 = dktX1_runs_2 := dk_seg dksX1_runs_1 22 rfl rfl
theorem dksX1_runs_3 : cX1_runs.data.toList.drop 67 = dktX1_runs_3 := dk_seg dksX1_runs_2 23 rfl rfl
theorem dksX1_runs_4 : cX1_runs.data.toList.drop 91 = dktX1_runs_4 := dk_seg dksX1_runs_3 24 rfl rfl
theorem dksX1_runs_5 : cX1_runs.data.toList.drop 115 = dktX1_runs_5 := dk_seg dksX1_runs_4 24 rfl rfl
theorem dksX1_runs_6 : cX1_runs.data.toList.drop 139 = dktX1_runs_6 := dk_seg dksX1_runs_5 24 rfl rfl
theorem dksX1_runs_7 : cX1_runs.data.toList.drop 162 = dktX1_runs_7 := dk_seg dksX1_runs_6 23 rfl rfl
theorem dksX1_runs_8 : cX1_runs.data.toList.drop 186 = dktX1_runs_8 := dk_seg dksX1_runs_7 24 rfl rfl
theorem dksX1_runs_9 : cX1_runs.data.toList.drop 210 = dktX1_runs_9 := dk_seg dksX1_runs_8 24 rfl rfl
theorem dksX1_runs_10 : cX1_runs.data.toList.drop 233 = dktX1_runs_10 := dk_seg dksX1_runs_9 23 rfl rfl
theorem dksX1_runs_11 : cX1_runs.data.toList.drop 255 = dktX1_runs_11 := dk_seg dksX1_runs_10 22 rfl rfl
theorem dksX1_runs_12 : cX1_runs.data.toList.drop 279 = dktX1_runs_12 := dk_seg dksX1_runs_11 24 rfl rfl
theorem dksX1_runs_13 : cX1_runs.data.toList.drop 301 = dktX1_runs_13 := dk_seg dksX1_runs_12 22 rfl rfl
theorem dX1_runs_0 : decode cX1_runs 0 = .ok (.aload_n 0, 1) := dk_42 (dk_at dksX1_runs_0 0 rfl rfl)
theorem dX1_runs_1 : decode cX1_runs 1 = .ok (.getfield 99, 3) := dk_180 0 99 (dk_at dksX1_runs_0 1 rfl rfl)
theorem dX1_runs_4 : decode cX1_runs 4 = .ok (.iload_n 1, 1) := dk_27 (dk_at dksX1_runs_0 4 rfl rfl)
theorem dX1_runs_5 : decode cX1_runs 5 = .ok (.iload_n 2, 1) := dk_28 (dk_at dksX1_runs_0 5 rfl rfl)
theorem dX1_runs_6 : decode cX1_runs 6 = .ok (.invokestatic 200, 3) := dk_184 0 200 (dk_at dksX1_runs_0 6 rfl rfl)
theorem dX1_runs_9 : decode cX1_runs 9 = .ok (.iaload, 1) := dk_46 (dk_at dksX1_runs_0 9 rfl rfl)
theorem dX1_runs_10 : decode cX1_runs 10 = .ok (.istore 4, 2) := dk_54 4 (dk_at dksX1_runs_0 10 rfl rfl)
theorem dX1_runs_12 : decode cX1_runs 12 = .ok (.aload_n 0, 1) := dk_42 (dk_at dksX1_runs_0 12 rfl rfl)
theorem dX1_runs_13 : decode cX1_runs 13 = .ok (.iload_n 1, 1) := dk_27 (dk_at dksX1_runs_0 13 rfl rfl)
theorem dX1_runs_14 : decode cX1_runs 14 = .ok (.invokevirtual 218, 3) := dk_182 0 218 (dk_at dksX1_runs_0 14 rfl rfl)
theorem dX1_runs_17 : decode cX1_runs 17 = .ok (.iconst 1, 1) := dk_4 (dk_at dksX1_runs_0 17 rfl rfl)
theorem dX1_runs_18 : decode cX1_runs 18 = .ok (.if_icmp .ne 7, 3) := dk_160 0 7 (dk_at dksX1_runs_0 18 rfl rfl)
theorem dX1_runs_21 : decode cX1_runs 21 = .ok (.iconst 1, 1) := dk_4 (dk_at dksX1_runs_0 21 rfl rfl)
theorem dX1_runs_22 : decode cX1_runs 22 = .ok (.goto 4, 3) := dk_167 0 4 (dk_at dksX1_runs_1 0 rfl rfl)
theorem dX1_runs_25 : decode cX1_runs 25 = .ok (.iconst 0, 1) := dk_3 (dk_at dksX1_runs_1 3 rfl rfl)
theorem dX1_runs_26 : decode cX1_runs 26 = .ok (.istore 5, 2) := dk_54 5 (dk_at dksX1_runs_1 4 rfl rfl)
theorem dX1_runs_28 : decode cX1_runs 28 = .ok (.iconst 0, 1) := dk_3 (dk_at dksX1_runs_1 6 rfl rfl)
theorem dX1_runs_29 : decode cX1_runs 29 = .ok (.istore 6, 2) := dk_54 6 (dk_at dksX1_runs_1 7 rfl rfl)
theorem dX1_runs_31 : decode cX1_runs 31 = .ok (.iconst 0, 1) := dk_3 (dk_at dksX1_runs_1 9 rfl rfl)
theorem dX1_runs_32 : decode cX1_runs 32 = .ok (.istore 7, 2) := dk_54 7 (dk_at dksX1_runs_1 10 rfl rfl)
theorem dX1_runs_34 : decode cX1_runs 34 = .ok (.iconst 0, 1) := dk_3 (dk_at dksX1_runs_1 12 rfl rfl)
theorem dX1_runs_35 : decode cX1_runs 35 = .ok (.istore 8, 2) := dk_54 8 (dk_at dksX1_runs_1 13 rfl rfl)
theorem dX1_runs_37 : decode cX1_runs 37 = .ok (.aload_n 0, 1) := dk_42 (dk_at dksX1_runs_1 15 rfl rfl)
theorem dX1_runs_38 : decode cX1_runs 38 = .ok (.getfield 56, 3) := dk_180 0 56 (dk_at dksX1_runs_1 16 rfl rfl)
theorem dX1_runs_41 : decode cX1_runs 41 = .ok (.iload 4, 2) := dk_21 4 (dk_at dksX1_runs_1 19 rfl rfl)
theorem dX1_runs_43 : decode cX1_runs 43 = .ok (.iaload, 1) := dk_46 (dk_at dksX1_runs_1 21 rfl rfl)
theorem dX1_runs_44 : decode cX1_runs 44 = .ok (.ifCond .le 166, 3) := dk_158 0 166 (dk_at dksX1_runs_2 0 rfl rfl)
theorem dX1_runs_47 : decode cX1_runs 47 = .ok (.aload_n 0, 1) := dk_42 (dk_at dksX1_runs_2 3 rfl rfl)
theorem dX1_runs_48 : decode cX1_runs 48 = .ok (.getfield 53, 3) := dk_180 0 53 (dk_at dksX1_runs_2 4 rfl rfl)
theorem dX1_runs_51 : decode cX1_runs 51 = .ok (.iload 4, 2) := dk_21 4 (dk_at dksX1_runs_2 7 rfl rfl)
theorem dX1_runs_53 : decode cX1_runs 53 = .ok (.iaload, 1) := dk_46 (dk_at dksX1_runs_2 9 rfl rfl)
theorem dX1_runs_54 : decode cX1_runs 54 = .ok (.ifCond .le 156, 3) := dk_158 0 156 (dk_at dksX1_runs_2 10 rfl rfl)
theorem dX1_runs_57 : decode cX1_runs 57 = .ok (.iload 6, 2) := dk_21 6 (dk_at dksX1_runs_2 13 rfl rfl)
theorem dX1_runs_59 : decode cX1_runs 59 = .ok (.iload_n 3, 1) := dk_29 (dk_at dksX1_runs_2 15 rfl rfl)
theorem dX1_runs_60 : decode cX1_runs 60 = .ok (.if_icmp .ge 150, 3) := dk_162 0 150 (dk_at dksX1_runs_2 16 rfl rfl)
theorem dX1_runs_63 : decode cX1_runs 63 = .ok (.aload_n 0, 1) := dk_42 (dk_at dksX1_runs_2 19 rfl rfl)
theorem dX1_runs_64 : decode cX1_runs 64 = .ok (.getfield 26, 3) := dk_180 0 26 (dk_at dksX1_runs_2 20 rfl rfl)
theorem dX1_runs_67 : decode cX1_runs 67 = .ok (.iload 4, 2) := dk_21 4 (dk_at dksX1_runs_3 0 rfl rfl)
theorem dX1_runs_69 : decode cX1_runs 69 = .ok (.iaload, 1) := dk_46 (dk_at dksX1_runs_3 2 rfl rfl)
theorem dX1_runs_70 : decode cX1_runs 70 = .ok (.iconst 3, 1) := dk_6 (dk_at dksX1_runs_3 3 rfl rfl)
theorem dX1_runs_71 : decode cX1_runs 71 = .ok (.if_icmp .ne 24, 3) := dk_160 0 24 (dk_at dksX1_runs_3 4 rfl rfl)
theorem dX1_runs_74 : decode cX1_runs 74 = .ok (.aload_n 0, 1) := dk_42 (dk_at dksX1_runs_3 7 rfl rfl)
theorem dX1_runs_75 : decode cX1_runs 75 = .ok (.getfield 41, 3) := dk_180 0 41 (dk_at dksX1_runs_3 8 rfl rfl)
theorem dX1_runs_78 : decode cX1_runs 78 = .ok (.bipush 48, 2) := dk_16 48 (dk_at dksX1_runs_3 11 rfl rfl)
theorem dX1_runs_80 : decode cX1_runs 80 = .ok (.iload 4, 2) := dk_21 4 (dk_at dksX1_runs_3 13 rfl rfl)
theorem dX1_runs_82 : decode cX1_runs 82 = .ok (.imul, 1) := dk_104 (dk_at dksX1_runs_3 15 rfl rfl)
theorem dX1_runs_83 : decode cX1_runs 83 = .ok (.aload_n 0, 1) := dk_42 (dk_at dksX1_runs_3 16 rfl rfl)
theorem dX1_runs_84 : decode cX1_runs 84 = .ok (.getfield 44, 3) := dk_180 0 44 (dk_at dksX1_runs_3 17 rfl rfl)
theorem dX1_runs_87 : decode cX1_runs 87 = .ok (.iload 4, 2) := dk_21 4 (dk_at dksX1_runs_3 20 rfl rfl)
theorem dX1_runs_89 : decode cX1_runs 89 = .ok (.iaload, 1) := dk_46 (dk_at dksX1_runs_3 22 rfl rfl)
theorem dX1_runs_90 : decode cX1_runs 90 = .ok (.iadd, 1) := dk_96 (dk_at dksX1_runs_3 23 rfl rfl)
theorem dX1_runs_91 : decode cX1_runs 91 = .ok (.iaload, 1) := dk_46 (dk_at dksX1_runs_4 0 rfl rfl)
theorem dX1_runs_92 : decode cX1_runs 92 = .ok (.goto 4, 3) := dk_167 0 4 (dk_at dksX1_runs_4 1 rfl rfl)
theorem dX1_runs_95 : decode cX1_runs 95 = .ok (.iconst 1, 1) := dk_4 (dk_at dksX1_runs_4 4 rfl rfl)
theorem dX1_runs_96 : decode cX1_runs 96 = .ok (.istore 9, 2) := dk_54 9 (dk_at dksX1_runs_4 5 rfl rfl)
theorem dX1_runs_98 : decode cX1_runs 98 = .ok (.aload_n 0, 1) := dk_42 (dk_at dksX1_runs_4 7 rfl rfl)
theorem dX1_runs_99 : decode cX1_runs 99 = .ok (.getfield 44, 3) := dk_180 0 44 (dk_at dksX1_runs_4 8 rfl rfl)
theorem dX1_runs_102 : decode cX1_runs 102 = .ok (.iload 4, 2) := dk_21 4 (dk_at dksX1_runs_4 11 rfl rfl)
theorem dX1_runs_104 : decode cX1_runs 104 = .ok (.aload_n 0, 1) := dk_42 (dk_at dksX1_runs_4 13 rfl rfl)
theorem dX1_runs_105 : decode cX1_runs 105 = .ok (.getfield 26, 3) := dk_180 0 26 (dk_at dksX1_runs_4 14 rfl rfl)
theorem dX1_runs_108 : decode cX1_runs 108 = .ok (.iload 4, 2) := dk_21 4 (dk_at dksX1_runs_4 17 rfl rfl)
theorem dX1_runs_110 : decode cX1_runs 110 = .ok (.iaload, 1) := dk_46 (dk_at dksX1_runs_4 19 rfl rfl)
theorem dX1_runs_111 : decode cX1_runs 111 = .ok (.iconst 3, 1) := dk_6 (dk_at dksX1_runs_4 20 rfl rfl)
theorem dX1_runs_112 : decode cX1_runs 112 = .ok (.if_icmp .ne 23, 3) := dk_160 0 23 (dk_at dksX1_runs_4 21 rfl rfl)
theorem dX1_runs_115 : decode cX1_runs 115 = .ok (.aload_n 0, 1) := dk_42 (dk_at dksX1_runs_5 0 rfl rfl)
theorem dX1_runs_116 : decode cX1_runs 116 = .ok (.getfield 44, 3) := dk_180 0 44 (dk_at dksX1_runs_5 1 rfl rfl)
theorem dX1_runs_119 : decode cX1_runs 119 = .ok (.iload 4, 2) := dk_21 4 (dk_at dksX1_runs_5 4 rfl rfl)
theorem dX1_runs_121 : decode cX1_runs 121 = .ok (.iaload, 1) := dk_46 (dk_at dksX1_runs_5 6 rfl rfl)
theorem dX1_runs_122 : decode cX1_runs 122 = .ok (.iconst 1, 1) := dk_4 (dk_at dksX1_runs_5 7 rfl rfl)
theorem dX1_runs_123 : decode cX1_runs 123 = .ok (.iadd, 1) := dk_96 (dk_at dksX1_runs_5 8 rfl rfl)
theorem dX1_runs_124 : decode cX1_runs 124 = .ok (.aload_n 0, 1) := dk_42 (dk_at dksX1_runs_5 9 rfl rfl)
theorem dX1_runs_125 : decode cX1_runs 125 = .ok (.getfield 38, 3) := dk_180 0 38 (dk_at dksX1_runs_5 10 rfl rfl)
theorem dX1_runs_128 : decode cX1_runs 128 = .ok (.iload 4, 2) := dk_21 4 (dk_at dksX1_runs_5 13 rfl rfl)
theorem dX1_runs_130 : decode cX1_runs 130 = .ok (.iaload, 1) := dk_46 (dk_at dksX1_runs_5 15 rfl rfl)
theorem dX1_runs_131 : decode cX1_runs 131 = .ok (.irem, 1) := dk_112 (dk_at dksX1_runs_5 16 rfl rfl)
theorem dX1_runs_132 : decode cX1_runs 132 = .ok (.goto 4, 3) := dk_167 0 4 (dk_at dksX1_runs_5 17 rfl rfl)
theorem dX1_runs_135 : decode cX1_runs 135 = .ok (.iconst 0, 1) := dk_3 (dk_at dksX1_runs_5 20 rfl rfl)
theorem dX1_runs_136 : decode cX1_runs 136 = .ok (.iastore, 1) := dk_79 (dk_at dksX1_runs_5 21 rfl rfl)
theorem dX1_runs_137 : decode cX1_runs 137 = .ok (.iload 5, 2) := dk_21 5 (dk_at dksX1_runs_5 22 rfl rfl)
theorem dX1_runs_139 : decode cX1_runs 139 = .ok (.ifCond .eq 7, 3) := dk_153 0 7 (dk_at dksX1_runs_6 0 rfl rfl)
theorem dX1_runs_142 : decode cX1_runs 142 = .ok (.iconst 0, 1) := dk_3 (dk_at dksX1_runs_6 3 rfl rfl)
theorem dX1_runs_143 : decode cX1_runs 143 = .ok (.goto 15, 3) := dk_167 0 15 (dk_at dksX1_runs_6 4 rfl rfl)
theorem dX1_runs_146 : decode cX1_runs 146 = .ok (.iload 9, 2) := dk_21 9 (dk_at dksX1_runs_6 7 rfl rfl)
theorem dX1_runs_148 : decode cX1_runs 148 = .ok (.aload_n 0, 1) := dk_42 (dk_at dksX1_runs_6 9 rfl rfl)
theorem dX1_runs_149 : decode cX1_runs 149 = .ok (.getfield 62, 3) := dk_180 0 62 (dk_at dksX1_runs_6 10 rfl rfl)
theorem dX1_runs_152 : decode cX1_runs 152 = .ok (.iload 4, 2) := dk_21 4 (dk_at dksX1_runs_6 13 rfl rfl)
theorem dX1_runs_154 : decode cX1_runs 154 = .ok (.iaload, 1) := dk_46 (dk_at dksX1_runs_6 15 rfl rfl)
theorem dX1_runs_155 : decode cX1_runs 155 = .ok (.iconst (-1), 1) := dk_2 (dk_at dksX1_runs_6 16 rfl rfl)
theorem dX1_runs_156 : decode cX1_runs 156 = .ok (.ixor, 1) := dk_130 (dk_at dksX1_runs_6 17 rfl rfl)
theorem dX1_runs_157 : decode cX1_runs 157 = .ok (.iand, 1) := dk_126 (dk_at dksX1_runs_6 18 rfl rfl)
theorem dX1_runs_158 : decode cX1_runs 158 = .ok (.istore 10, 2) := dk_54 10 (dk_at dksX1_runs_6 19 rfl rfl)
theorem dX1_runs_160 : decode cX1_runs 160 = .ok (.iload 7, 2) := dk_21 7 (dk_at dksX1_runs_6 21 rfl rfl)
theorem dX1_runs_162 : decode cX1_runs 162 = .ok (.iload 10, 2) := dk_21 10 (dk_at dksX1_runs_7 0 rfl rfl)
theorem dX1_runs_164 : decode cX1_runs 164 = .ok (.ifCond .ne 7, 3) := dk_154 0 7 (dk_at dksX1_runs_7 2 rfl rfl)
theorem dX1_runs_167 : decode cX1_runs 167 = .ok (.iconst 0, 1) := dk_3 (dk_at dksX1_runs_7 5 rfl rfl)
theorem dX1_runs_168 : decode cX1_runs 168 = .ok (.goto 4, 3) := dk_167 0 4 (dk_at dksX1_runs_7 6 rfl rfl)
theorem dX1_runs_171 : decode cX1_runs 171 = .ok (.iconst 1, 1) := dk_4 (dk_at dksX1_runs_7 9 rfl rfl)
theorem dX1_runs_172 : decode cX1_runs 172 = .ok (.iadd, 1) := dk_96 (dk_at dksX1_runs_7 10 rfl rfl)
theorem dX1_runs_173 : decode cX1_runs 173 = .ok (.istore 7, 2) := dk_54 7 (dk_at dksX1_runs_7 11 rfl rfl)
theorem dX1_runs_175 : decode cX1_runs 175 = .ok (.iload 8, 2) := dk_21 8 (dk_at dksX1_runs_7 13 rfl rfl)
theorem dX1_runs_177 : decode cX1_runs 177 = .ok (.iload 10, 2) := dk_21 10 (dk_at dksX1_runs_7 15 rfl rfl)
theorem dX1_runs_179 : decode cX1_runs 179 = .ok (.ior, 1) := dk_128 (dk_at dksX1_runs_7 17 rfl rfl)
theorem dX1_runs_180 : decode cX1_runs 180 = .ok (.istore 8, 2) := dk_54 8 (dk_at dksX1_runs_7 18 rfl rfl)
theorem dX1_runs_182 : decode cX1_runs 182 = .ok (.aload_n 0, 1) := dk_42 (dk_at dksX1_runs_7 20 rfl rfl)
theorem dX1_runs_183 : decode cX1_runs 183 = .ok (.getfield 56, 3) := dk_180 0 56 (dk_at dksX1_runs_7 21 rfl rfl)
theorem dX1_runs_186 : decode cX1_runs 186 = .ok (.iload 4, 2) := dk_21 4 (dk_at dksX1_runs_8 0 rfl rfl)
theorem dX1_runs_188 : decode cX1_runs 188 = .ok (.dup2, 1) := dk_92 (dk_at dksX1_runs_8 2 rfl rfl)
theorem dX1_runs_189 : decode cX1_runs 189 = .ok (.iaload, 1) := dk_46 (dk_at dksX1_runs_8 3 rfl rfl)
theorem dX1_runs_190 : decode cX1_runs 190 = .ok (.iconst 1, 1) := dk_4 (dk_at dksX1_runs_8 4 rfl rfl)
theorem dX1_runs_191 : decode cX1_runs 191 = .ok (.isub, 1) := dk_100 (dk_at dksX1_runs_8 5 rfl rfl)
theorem dX1_runs_192 : decode cX1_runs 192 = .ok (.iastore, 1) := dk_79 (dk_at dksX1_runs_8 6 rfl rfl)
theorem dX1_runs_193 : decode cX1_runs 193 = .ok (.aload_n 0, 1) := dk_42 (dk_at dksX1_runs_8 7 rfl rfl)
theorem dX1_runs_194 : decode cX1_runs 194 = .ok (.getfield 53, 3) := dk_180 0 53 (dk_at dksX1_runs_8 8 rfl rfl)
theorem dX1_runs_197 : decode cX1_runs 197 = .ok (.iload 4, 2) := dk_21 4 (dk_at dksX1_runs_8 11 rfl rfl)
theorem dX1_runs_199 : decode cX1_runs 199 = .ok (.dup2, 1) := dk_92 (dk_at dksX1_runs_8 13 rfl rfl)
theorem dX1_runs_200 : decode cX1_runs 200 = .ok (.iaload, 1) := dk_46 (dk_at dksX1_runs_8 14 rfl rfl)
theorem dX1_runs_201 : decode cX1_runs 201 = .ok (.iconst 1, 1) := dk_4 (dk_at dksX1_runs_8 15 rfl rfl)
theorem dX1_runs_202 : decode cX1_runs 202 = .ok (.isub, 1) := dk_100 (dk_at dksX1_runs_8 16 rfl rfl)
theorem dX1_runs_203 : decode cX1_runs 203 = .ok (.iastore, 1) := dk_79 (dk_at dksX1_runs_8 17 rfl rfl)
theorem dX1_runs_204 : decode cX1_runs 204 = .ok (.iinc 6 1, 3) := dk_132 6 1 (dk_at dksX1_runs_8 18 rfl rfl)
theorem dX1_runs_207 : decode cX1_runs 207 = .ok (.goto (-170), 3) := dk_167 255 86 (dk_at dksX1_runs_8 21 rfl rfl)
theorem dX1_runs_210 : decode cX1_runs 210 = .ok (.aload_n 0, 1) := dk_42 (dk_at dksX1_runs_9 0 rfl rfl)
theorem dX1_runs_211 : decode cX1_runs 211 = .ok (.getfield 65, 3) := dk_180 0 65 (dk_at dksX1_runs_9 1 rfl rfl)
theorem dX1_runs_214 : decode cX1_runs 214 = .ok (.iload 4, 2) := dk_21 4 (dk_at dksX1_runs_9 4 rfl rfl)
theorem dX1_runs_216 : decode cX1_runs 216 = .ok (.dup2, 1) := dk_92 (dk_at dksX1_runs_9 6 rfl rfl)
theorem dX1_runs_217 : decode cX1_runs 217 = .ok (.iaload, 1) := dk_46 (dk_at dksX1_runs_9 7 rfl rfl)
theorem dX1_runs_218 : decode cX1_runs 218 = .ok (.iload 6, 2) := dk_21 6 (dk_at dksX1_runs_9 8 rfl rfl)
theorem dX1_runs_220 : decode cX1_runs 220 = .ok (.iadd, 1) := dk_96 (dk_at dksX1_runs_9 10 rfl rfl)
theorem dX1_runs_221 : decode cX1_runs 221 = .ok (.iastore, 1) := dk_79 (dk_at dksX1_runs_9 11 rfl rfl)
theorem dX1_runs_222 : decode cX1_runs 222 = .ok (.aload_n 0, 1) := dk_42 (dk_at dksX1_runs_9 12 rfl rfl)
theorem dX1_runs_223 : decode cX1_runs 223 = .ok (.dup, 1) := dk_89 (dk_at dksX1_runs_9 13 rfl rfl)
theorem dX1_runs_224 : decode cX1_runs 224 = .ok (.getfield 231, 3) := dk_180 0 231 (dk_at dksX1_runs_9 14 rfl rfl)
theorem dX1_runs_227 : decode cX1_runs 227 = .ok (.iload 6, 2) := dk_21 6 (dk_at dksX1_runs_9 17 rfl rfl)
theorem dX1_runs_229 : decode cX1_runs 229 = .ok (.iadd, 1) := dk_96 (dk_at dksX1_runs_9 19 rfl rfl)
theorem dX1_runs_230 : decode cX1_runs 230 = .ok (.putfield 231, 3) := dk_181 0 231 (dk_at dksX1_runs_9 20 rfl rfl)
theorem dX1_runs_233 : decode cX1_runs 233 = .ok (.iload 7, 2) := dk_21 7 (dk_at dksX1_runs_10 0 rfl rfl)
theorem dX1_runs_235 : decode cX1_runs 235 = .ok (.ifCond .le 14, 3) := dk_158 0 14 (dk_at dksX1_runs_10 2 rfl rfl)
theorem dX1_runs_238 : decode cX1_runs 238 = .ok (.aload_n 0, 1) := dk_42 (dk_at dksX1_runs_10 5 rfl rfl)
theorem dX1_runs_239 : decode cX1_runs 239 = .ok (.iload_n 1, 1) := dk_27 (dk_at dksX1_runs_10 6 rfl rfl)
theorem dX1_runs_240 : decode cX1_runs 240 = .ok (.iload 4, 2) := dk_21 4 (dk_at dksX1_runs_10 7 rfl rfl)
theorem dX1_runs_242 : decode cX1_runs 242 = .ok (.iload 7, 2) := dk_21 7 (dk_at dksX1_runs_10 9 rfl rfl)
theorem dX1_runs_244 : decode cX1_runs 244 = .ok (.iload 8, 2) := dk_21 8 (dk_at dksX1_runs_10 11 rfl rfl)
theorem dX1_runs_246 : decode cX1_runs 246 = .ok (.invokevirtual 234, 3) := dk_182 0 234 (dk_at dksX1_runs_10 13 rfl rfl)
theorem dX1_runs_249 : decode cX1_runs 249 = .ok (.iload_n 2, 1) := dk_28 (dk_at dksX1_runs_10 16 rfl rfl)
theorem dX1_runs_250 : decode cX1_runs 250 = .ok (.ifCond .eq 54, 3) := dk_153 0 54 (dk_at dksX1_runs_10 17 rfl rfl)
theorem dX1_runs_253 : decode cX1_runs 253 = .ok (.iload 6, 2) := dk_21 6 (dk_at dksX1_runs_10 20 rfl rfl)
theorem dX1_runs_255 : decode cX1_runs 255 = .ok (.ifCond .le 49, 3) := dk_158 0 49 (dk_at dksX1_runs_11 0 rfl rfl)
theorem dX1_runs_258 : decode cX1_runs 258 = .ok (.aload_n 0, 1) := dk_42 (dk_at dksX1_runs_11 3 rfl rfl)
theorem dX1_runs_259 : decode cX1_runs 259 = .ok (.getfield 56, 3) := dk_180 0 56 (dk_at dksX1_runs_11 4 rfl rfl)
theorem dX1_runs_262 : decode cX1_runs 262 = .ok (.iload 4, 2) := dk_21 4 (dk_at dksX1_runs_11 7 rfl rfl)
theorem dX1_runs_264 : decode cX1_runs 264 = .ok (.iaload, 1) := dk_46 (dk_at dksX1_runs_11 9 rfl rfl)
theorem dX1_runs_265 : decode cX1_runs 265 = .ok (.ifCond .ne 39, 3) := dk_154 0 39 (dk_at dksX1_runs_11 10 rfl rfl)
theorem dX1_runs_268 : decode cX1_runs 268 = .ok (.aload_n 0, 1) := dk_42 (dk_at dksX1_runs_11 13 rfl rfl)
theorem dX1_runs_269 : decode cX1_runs 269 = .ok (.getfield 68, 3) := dk_180 0 68 (dk_at dksX1_runs_11 14 rfl rfl)
theorem dX1_runs_272 : decode cX1_runs 272 = .ok (.iload 4, 2) := dk_21 4 (dk_at dksX1_runs_11 17 rfl rfl)
theorem dX1_runs_274 : decode cX1_runs 274 = .ok (.baload, 1) := dk_51 (dk_at dksX1_runs_11 19 rfl rfl)
theorem dX1_runs_275 : decode cX1_runs 275 = .ok (.ifCond .eq 29, 3) := dk_153 0 29 (dk_at dksX1_runs_11 20 rfl rfl)
theorem dX1_runs_278 : decode cX1_runs 278 = .ok (.aload_n 0, 1) := dk_42 (dk_at dksX1_runs_11 23 rfl rfl)
theorem dX1_runs_279 : decode cX1_runs 279 = .ok (.getfield 99, 3) := dk_180 0 99 (dk_at dksX1_runs_12 0 rfl rfl)
theorem dX1_runs_282 : decode cX1_runs 282 = .ok (.iconst 2, 1) := dk_5 (dk_at dksX1_runs_12 3 rfl rfl)
theorem dX1_runs_283 : decode cX1_runs 283 = .ok (.iload_n 1, 1) := dk_27 (dk_at dksX1_runs_12 4 rfl rfl)
theorem dX1_runs_284 : decode cX1_runs 284 = .ok (.imul, 1) := dk_104 (dk_at dksX1_runs_12 5 rfl rfl)
theorem dX1_runs_285 : decode cX1_runs 285 = .ok (.iaload, 1) := dk_46 (dk_at dksX1_runs_12 6 rfl rfl)
theorem dX1_runs_286 : decode cX1_runs 286 = .ok (.ifCond .lt 18, 3) := dk_155 0 18 (dk_at dksX1_runs_12 7 rfl rfl)
theorem dX1_runs_289 : decode cX1_runs 289 = .ok (.aload_n 0, 1) := dk_42 (dk_at dksX1_runs_12 10 rfl rfl)
theorem dX1_runs_290 : decode cX1_runs 290 = .ok (.iload_n 1, 1) := dk_27 (dk_at dksX1_runs_12 11 rfl rfl)
theorem dX1_runs_291 : decode cX1_runs 291 = .ok (.invokevirtual 218, 3) := dk_182 0 218 (dk_at dksX1_runs_12 12 rfl rfl)
theorem dX1_runs_294 : decode cX1_runs 294 = .ok (.iconst 2, 1) := dk_5 (dk_at dksX1_runs_12 15 rfl rfl)
theorem dX1_runs_295 : decode cX1_runs 295 = .ok (.if_icmp .eq 9, 3) := dk_159 0 9 (dk_at dksX1_runs_12 16 rfl rfl)
theorem dX1_runs_298 : decode cX1_runs 298 = .ok (.aload_n 0, 1) := dk_42 (dk_at dksX1_runs_12 19 rfl rfl)
theorem dX1_runs_299 : decode cX1_runs 299 = .ok (.iload_n 1, 1) := dk_27 (dk_at dksX1_runs_12 20 rfl rfl)
theorem dX1_runs_300 : decode cX1_runs 300 = .ok (.iconst 0, 1) := dk_3 (dk_at dksX1_runs_12 21 rfl rfl)
theorem dX1_runs_301 : decode cX1_runs 301 = .ok (.invokevirtual 221, 3) := dk_182 0 221 (dk_at dksX1_runs_13 0 rfl rfl)
theorem dX1_runs_304 : decode cX1_runs 304 = .ok (.iload 6, 2) := dk_21 6 (dk_at dksX1_runs_13 3 rfl rfl)
theorem dX1_runs_306 : decode cX1_runs 306 = .ok (.ireturn, 1) := dk_172 (dk_at dksX1_runs_13 5 rfl rfl)
abbrev cX1_writeLog : ByteArray := prog_9_method_58_code
def yX1_writeLog : MethodName := ⟨RX1, "writeLog", "(IIII)V"⟩
def dkwX1_writeLog_5 : List UInt8 := [21, 5, 6, 96, 21, 4, 79, 42, 180, 0, 105, 27, 92, 46, 4, 96, 79, 177]
abbrev dktX1_writeLog_5 : List UInt8 := dkwX1_writeLog_5 ++ []
def dkwX1_writeLog_4 : List UInt8 := [180, 0, 108, 21, 5, 4, 96, 28, 79, 42, 180, 0, 108, 21, 5, 5, 96, 29, 79, 42, 180, 0, 108]
abbrev dktX1_writeLog_4 : List UInt8 := dkwX1_writeLog_4 ++ dktX1_writeLog_5
def dkwX1_writeLog_3 : List UInt8 := [7, 42, 180, 0, 105, 27, 46, 104, 96, 54, 5, 42, 180, 0, 108, 21, 5, 42, 180, 0, 238, 79, 42]
abbrev dktX1_writeLog_3 : List UInt8 := dkwX1_writeLog_3 ++ dktX1_writeLog_4
def dkwX1_writeLog_2 : List UInt8 := [96, 46, 79, 132, 5, 1, 167, 255, 217, 42, 180, 0, 105, 27, 92, 46, 4, 100, 79, 17, 0, 240, 27, 104]
abbrev dktX1_writeLog_2 : List UInt8 := dkwX1_writeLog_2 ++ dktX1_writeLog_3
def dkwX1_writeLog_1 : List UInt8 := [180, 0, 108, 17, 0, 240, 27, 104, 21, 5, 96, 42, 180, 0, 108, 17, 0, 240, 27, 104, 21, 5, 96, 7]
abbrev dktX1_writeLog_1 : List UInt8 := dkwX1_writeLog_1 ++ dktX1_writeLog_2
def dkwX1_writeLog_0 : List UInt8 := [42, 180, 0, 105, 27, 46, 16, 60, 160, 0, 58, 3, 54, 5, 21, 5, 17, 0, 236, 162, 0, 37, 42]
abbrev dktX1_writeLog_0 : List UInt8 := dkwX1_writeLog_0 ++ dktX1_writeLog_1
theorem dksX1_writeLog_0 : cX1_writeLog.data.toList.drop 0 = dktX1_writeLog_0 := by decide +kernel
theorem dksX1_writeLog_1 : cX1_writeLog.data.toList.drop 23 = dktX1_writeLog_1 := dk_seg dksX1_writeLog_0 23 rfl rfl
theorem dksX1_writeLog_2 : cX1_writeLog.data.toList.drop 47 = dktX1_writeLog_2 := dk_seg dksX1_writeLog_1 24 rfl rfl
theorem dksX1_writeLog_3 : cX1_writeLog.data.toList.drop 71 = dktX1_writeLog_3 := dk_seg dksX1_writeLog_2 24 rfl rfl
theorem dksX1_writeLog_4 : cX1_writeLog.data.toList.drop 94 = dktX1_writeLog_4 := dk_seg dksX1_writeLog_3 23 rfl rfl
theorem dksX1_writeLog_5 : cX1_writeLog.data.toList.drop 117 = dktX1_writeLog_5 := dk_seg dksX1_writeLog_4 23 rfl rfl
theorem dX1_writeLog_0 : decode cX1_writeLog 0 = .ok (.aload_n 0, 1) := dk_42 (dk_at dksX1_writeLog_0 0 rfl rfl)
theorem dX1_writeLog_1 : decode cX1_writeLog 1 = .ok (.getfield 105, 3) := dk_180 0 105 (dk_at dksX1_writeLog_0 1 rfl rfl)
theorem dX1_writeLog_4 : decode cX1_writeLog 4 = .ok (.iload_n 1, 1) := dk_27 (dk_at dksX1_writeLog_0 4 rfl rfl)
theorem dX1_writeLog_5 : decode cX1_writeLog 5 = .ok (.iaload, 1) := dk_46 (dk_at dksX1_writeLog_0 5 rfl rfl)
theorem dX1_writeLog_6 : decode cX1_writeLog 6 = .ok (.bipush 60, 2) := dk_16 60 (dk_at dksX1_writeLog_0 6 rfl rfl)
theorem dX1_writeLog_8 : decode cX1_writeLog 8 = .ok (.if_icmp .ne 58, 3) := dk_160 0 58 (dk_at dksX1_writeLog_0 8 rfl rfl)
theorem dX1_writeLog_11 : decode cX1_writeLog 11 = .ok (.iconst 0, 1) := dk_3 (dk_at dksX1_writeLog_0 11 rfl rfl)
theorem dX1_writeLog_12 : decode cX1_writeLog 12 = .ok (.istore 5, 2) := dk_54 5 (dk_at dksX1_writeLog_0 12 rfl rfl)
theorem dX1_writeLog_14 : decode cX1_writeLog 14 = .ok (.iload 5, 2) := dk_21 5 (dk_at dksX1_writeLog_0 14 rfl rfl)
theorem dX1_writeLog_16 : decode cX1_writeLog 16 = .ok (.sipush 236, 3) := dk_17 0 236 (dk_at dksX1_writeLog_0 16 rfl rfl)
theorem dX1_writeLog_19 : decode cX1_writeLog 19 = .ok (.if_icmp .ge 37, 3) := dk_162 0 37 (dk_at dksX1_writeLog_0 19 rfl rfl)
theorem dX1_writeLog_22 : decode cX1_writeLog 22 = .ok (.aload_n 0, 1) := dk_42 (dk_at dksX1_writeLog_0 22 rfl rfl)
theorem dX1_writeLog_23 : decode cX1_writeLog 23 = .ok (.getfield 108, 3) := dk_180 0 108 (dk_at dksX1_writeLog_1 0 rfl rfl)
theorem dX1_writeLog_26 : decode cX1_writeLog 26 = .ok (.sipush 240, 3) := dk_17 0 240 (dk_at dksX1_writeLog_1 3 rfl rfl)
theorem dX1_writeLog_29 : decode cX1_writeLog 29 = .ok (.iload_n 1, 1) := dk_27 (dk_at dksX1_writeLog_1 6 rfl rfl)
theorem dX1_writeLog_30 : decode cX1_writeLog 30 = .ok (.imul, 1) := dk_104 (dk_at dksX1_writeLog_1 7 rfl rfl)
theorem dX1_writeLog_31 : decode cX1_writeLog 31 = .ok (.iload 5, 2) := dk_21 5 (dk_at dksX1_writeLog_1 8 rfl rfl)
theorem dX1_writeLog_33 : decode cX1_writeLog 33 = .ok (.iadd, 1) := dk_96 (dk_at dksX1_writeLog_1 10 rfl rfl)
theorem dX1_writeLog_34 : decode cX1_writeLog 34 = .ok (.aload_n 0, 1) := dk_42 (dk_at dksX1_writeLog_1 11 rfl rfl)
theorem dX1_writeLog_35 : decode cX1_writeLog 35 = .ok (.getfield 108, 3) := dk_180 0 108 (dk_at dksX1_writeLog_1 12 rfl rfl)
theorem dX1_writeLog_38 : decode cX1_writeLog 38 = .ok (.sipush 240, 3) := dk_17 0 240 (dk_at dksX1_writeLog_1 15 rfl rfl)
theorem dX1_writeLog_41 : decode cX1_writeLog 41 = .ok (.iload_n 1, 1) := dk_27 (dk_at dksX1_writeLog_1 18 rfl rfl)
theorem dX1_writeLog_42 : decode cX1_writeLog 42 = .ok (.imul, 1) := dk_104 (dk_at dksX1_writeLog_1 19 rfl rfl)
theorem dX1_writeLog_43 : decode cX1_writeLog 43 = .ok (.iload 5, 2) := dk_21 5 (dk_at dksX1_writeLog_1 20 rfl rfl)
theorem dX1_writeLog_45 : decode cX1_writeLog 45 = .ok (.iadd, 1) := dk_96 (dk_at dksX1_writeLog_1 22 rfl rfl)
theorem dX1_writeLog_46 : decode cX1_writeLog 46 = .ok (.iconst 4, 1) := dk_7 (dk_at dksX1_writeLog_1 23 rfl rfl)
theorem dX1_writeLog_47 : decode cX1_writeLog 47 = .ok (.iadd, 1) := dk_96 (dk_at dksX1_writeLog_2 0 rfl rfl)
theorem dX1_writeLog_48 : decode cX1_writeLog 48 = .ok (.iaload, 1) := dk_46 (dk_at dksX1_writeLog_2 1 rfl rfl)
theorem dX1_writeLog_49 : decode cX1_writeLog 49 = .ok (.iastore, 1) := dk_79 (dk_at dksX1_writeLog_2 2 rfl rfl)
theorem dX1_writeLog_50 : decode cX1_writeLog 50 = .ok (.iinc 5 1, 3) := dk_132 5 1 (dk_at dksX1_writeLog_2 3 rfl rfl)
theorem dX1_writeLog_53 : decode cX1_writeLog 53 = .ok (.goto (-39), 3) := dk_167 255 217 (dk_at dksX1_writeLog_2 6 rfl rfl)
theorem dX1_writeLog_56 : decode cX1_writeLog 56 = .ok (.aload_n 0, 1) := dk_42 (dk_at dksX1_writeLog_2 9 rfl rfl)
theorem dX1_writeLog_57 : decode cX1_writeLog 57 = .ok (.getfield 105, 3) := dk_180 0 105 (dk_at dksX1_writeLog_2 10 rfl rfl)
theorem dX1_writeLog_60 : decode cX1_writeLog 60 = .ok (.iload_n 1, 1) := dk_27 (dk_at dksX1_writeLog_2 13 rfl rfl)
theorem dX1_writeLog_61 : decode cX1_writeLog 61 = .ok (.dup2, 1) := dk_92 (dk_at dksX1_writeLog_2 14 rfl rfl)
theorem dX1_writeLog_62 : decode cX1_writeLog 62 = .ok (.iaload, 1) := dk_46 (dk_at dksX1_writeLog_2 15 rfl rfl)
theorem dX1_writeLog_63 : decode cX1_writeLog 63 = .ok (.iconst 1, 1) := dk_4 (dk_at dksX1_writeLog_2 16 rfl rfl)
theorem dX1_writeLog_64 : decode cX1_writeLog 64 = .ok (.isub, 1) := dk_100 (dk_at dksX1_writeLog_2 17 rfl rfl)
theorem dX1_writeLog_65 : decode cX1_writeLog 65 = .ok (.iastore, 1) := dk_79 (dk_at dksX1_writeLog_2 18 rfl rfl)
theorem dX1_writeLog_66 : decode cX1_writeLog 66 = .ok (.sipush 240, 3) := dk_17 0 240 (dk_at dksX1_writeLog_2 19 rfl rfl)
theorem dX1_writeLog_69 : decode cX1_writeLog 69 = .ok (.iload_n 1, 1) := dk_27 (dk_at dksX1_writeLog_2 22 rfl rfl)
theorem dX1_writeLog_70 : decode cX1_writeLog 70 = .ok (.imul, 1) := dk_104 (dk_at dksX1_writeLog_2 23 rfl rfl)
theorem dX1_writeLog_71 : decode cX1_writeLog 71 = .ok (.iconst 4, 1) := dk_7 (dk_at dksX1_writeLog_3 0 rfl rfl)
theorem dX1_writeLog_72 : decode cX1_writeLog 72 = .ok (.aload_n 0, 1) := dk_42 (dk_at dksX1_writeLog_3 1 rfl rfl)
theorem dX1_writeLog_73 : decode cX1_writeLog 73 = .ok (.getfield 105, 3) := dk_180 0 105 (dk_at dksX1_writeLog_3 2 rfl rfl)
theorem dX1_writeLog_76 : decode cX1_writeLog 76 = .ok (.iload_n 1, 1) := dk_27 (dk_at dksX1_writeLog_3 5 rfl rfl)
theorem dX1_writeLog_77 : decode cX1_writeLog 77 = .ok (.iaload, 1) := dk_46 (dk_at dksX1_writeLog_3 6 rfl rfl)
theorem dX1_writeLog_78 : decode cX1_writeLog 78 = .ok (.imul, 1) := dk_104 (dk_at dksX1_writeLog_3 7 rfl rfl)
theorem dX1_writeLog_79 : decode cX1_writeLog 79 = .ok (.iadd, 1) := dk_96 (dk_at dksX1_writeLog_3 8 rfl rfl)
theorem dX1_writeLog_80 : decode cX1_writeLog 80 = .ok (.istore 5, 2) := dk_54 5 (dk_at dksX1_writeLog_3 9 rfl rfl)
theorem dX1_writeLog_82 : decode cX1_writeLog 82 = .ok (.aload_n 0, 1) := dk_42 (dk_at dksX1_writeLog_3 11 rfl rfl)
theorem dX1_writeLog_83 : decode cX1_writeLog 83 = .ok (.getfield 108, 3) := dk_180 0 108 (dk_at dksX1_writeLog_3 12 rfl rfl)
theorem dX1_writeLog_86 : decode cX1_writeLog 86 = .ok (.iload 5, 2) := dk_21 5 (dk_at dksX1_writeLog_3 15 rfl rfl)
theorem dX1_writeLog_88 : decode cX1_writeLog 88 = .ok (.aload_n 0, 1) := dk_42 (dk_at dksX1_writeLog_3 17 rfl rfl)
theorem dX1_writeLog_89 : decode cX1_writeLog 89 = .ok (.getfield 238, 3) := dk_180 0 238 (dk_at dksX1_writeLog_3 18 rfl rfl)
theorem dX1_writeLog_92 : decode cX1_writeLog 92 = .ok (.iastore, 1) := dk_79 (dk_at dksX1_writeLog_3 21 rfl rfl)
theorem dX1_writeLog_93 : decode cX1_writeLog 93 = .ok (.aload_n 0, 1) := dk_42 (dk_at dksX1_writeLog_3 22 rfl rfl)
theorem dX1_writeLog_94 : decode cX1_writeLog 94 = .ok (.getfield 108, 3) := dk_180 0 108 (dk_at dksX1_writeLog_4 0 rfl rfl)
theorem dX1_writeLog_97 : decode cX1_writeLog 97 = .ok (.iload 5, 2) := dk_21 5 (dk_at dksX1_writeLog_4 3 rfl rfl)
theorem dX1_writeLog_99 : decode cX1_writeLog 99 = .ok (.iconst 1, 1) := dk_4 (dk_at dksX1_writeLog_4 5 rfl rfl)
theorem dX1_writeLog_100 : decode cX1_writeLog 100 = .ok (.iadd, 1) := dk_96 (dk_at dksX1_writeLog_4 6 rfl rfl)
theorem dX1_writeLog_101 : decode cX1_writeLog 101 = .ok (.iload_n 2, 1) := dk_28 (dk_at dksX1_writeLog_4 7 rfl rfl)
theorem dX1_writeLog_102 : decode cX1_writeLog 102 = .ok (.iastore, 1) := dk_79 (dk_at dksX1_writeLog_4 8 rfl rfl)
theorem dX1_writeLog_103 : decode cX1_writeLog 103 = .ok (.aload_n 0, 1) := dk_42 (dk_at dksX1_writeLog_4 9 rfl rfl)
theorem dX1_writeLog_104 : decode cX1_writeLog 104 = .ok (.getfield 108, 3) := dk_180 0 108 (dk_at dksX1_writeLog_4 10 rfl rfl)
theorem dX1_writeLog_107 : decode cX1_writeLog 107 = .ok (.iload 5, 2) := dk_21 5 (dk_at dksX1_writeLog_4 13 rfl rfl)
theorem dX1_writeLog_109 : decode cX1_writeLog 109 = .ok (.iconst 2, 1) := dk_5 (dk_at dksX1_writeLog_4 15 rfl rfl)
theorem dX1_writeLog_110 : decode cX1_writeLog 110 = .ok (.iadd, 1) := dk_96 (dk_at dksX1_writeLog_4 16 rfl rfl)
theorem dX1_writeLog_111 : decode cX1_writeLog 111 = .ok (.iload_n 3, 1) := dk_29 (dk_at dksX1_writeLog_4 17 rfl rfl)
theorem dX1_writeLog_112 : decode cX1_writeLog 112 = .ok (.iastore, 1) := dk_79 (dk_at dksX1_writeLog_4 18 rfl rfl)
theorem dX1_writeLog_113 : decode cX1_writeLog 113 = .ok (.aload_n 0, 1) := dk_42 (dk_at dksX1_writeLog_4 19 rfl rfl)
theorem dX1_writeLog_114 : decode cX1_writeLog 114 = .ok (.getfield 108, 3) := dk_180 0 108 (dk_at dksX1_writeLog_4 20 rfl rfl)
theorem dX1_writeLog_117 : decode cX1_writeLog 117 = .ok (.iload 5, 2) := dk_21 5 (dk_at dksX1_writeLog_5 0 rfl rfl)
theorem dX1_writeLog_119 : decode cX1_writeLog 119 = .ok (.iconst 3, 1) := dk_6 (dk_at dksX1_writeLog_5 2 rfl rfl)
theorem dX1_writeLog_120 : decode cX1_writeLog 120 = .ok (.iadd, 1) := dk_96 (dk_at dksX1_writeLog_5 3 rfl rfl)
theorem dX1_writeLog_121 : decode cX1_writeLog 121 = .ok (.iload 4, 2) := dk_21 4 (dk_at dksX1_writeLog_5 4 rfl rfl)
theorem dX1_writeLog_123 : decode cX1_writeLog 123 = .ok (.iastore, 1) := dk_79 (dk_at dksX1_writeLog_5 6 rfl rfl)
theorem dX1_writeLog_124 : decode cX1_writeLog 124 = .ok (.aload_n 0, 1) := dk_42 (dk_at dksX1_writeLog_5 7 rfl rfl)
theorem dX1_writeLog_125 : decode cX1_writeLog 125 = .ok (.getfield 105, 3) := dk_180 0 105 (dk_at dksX1_writeLog_5 8 rfl rfl)
theorem dX1_writeLog_128 : decode cX1_writeLog 128 = .ok (.iload_n 1, 1) := dk_27 (dk_at dksX1_writeLog_5 11 rfl rfl)
theorem dX1_writeLog_129 : decode cX1_writeLog 129 = .ok (.dup2, 1) := dk_92 (dk_at dksX1_writeLog_5 12 rfl rfl)
theorem dX1_writeLog_130 : decode cX1_writeLog 130 = .ok (.iaload, 1) := dk_46 (dk_at dksX1_writeLog_5 13 rfl rfl)
theorem dX1_writeLog_131 : decode cX1_writeLog 131 = .ok (.iconst 1, 1) := dk_4 (dk_at dksX1_writeLog_5 14 rfl rfl)
theorem dX1_writeLog_132 : decode cX1_writeLog 132 = .ok (.iadd, 1) := dk_96 (dk_at dksX1_writeLog_5 15 rfl rfl)
theorem dX1_writeLog_133 : decode cX1_writeLog 133 = .ok (.iastore, 1) := dk_79 (dk_at dksX1_writeLog_5 16 rfl rfl)
theorem dX1_writeLog_134 : decode cX1_writeLog 134 = .ok (.return_, 1) := dk_177 (dk_at dksX1_writeLog_5 17 rfl rfl)
abbrev cX1_pass : ByteArray := prog_9_method_61_code
def yX1_pass : MethodName := ⟨RX1, "pass", "(I)I"⟩
def dkwX1_pass_3 : List UInt8 := [132, 2, 1, 167, 255, 211, 42, 180, 0, 238, 172]
abbrev dktX1_pass_3 : List UInt8 := dkwX1_pass_3 ++ []
def dkwX1_pass_2 : List UInt8 := [153, 0, 8, 42, 29, 182, 0, 250, 132, 3, 1, 167, 255, 234, 42, 89, 180, 0, 238, 4, 96, 181, 0, 238]
abbrev dktX1_pass_2 : List UInt8 := dkwX1_pass_2 ++ dktX1_pass_3
def dkwX1_pass_1 : List UInt8 := [16, 254, 172, 3, 61, 28, 27, 162, 0, 46, 3, 62, 29, 7, 162, 0, 23, 42, 180, 0, 72, 29, 51]
abbrev dktX1_pass_1 : List UInt8 := dkwX1_pass_1 ++ dktX1_pass_2
def dkwX1_pass_0 : List UInt8 := [27, 3, 17, 11, 184, 184, 0, 145, 154, 0, 5, 2, 172, 42, 180, 0, 238, 27, 96, 18, 249, 164, 0, 6]
abbrev dktX1_pass_0 : List UInt8 := dkwX1_pass_0 ++ dktX1_pass_1
theorem dksX1_pass_0 : cX1_pass.data.toList.drop 0 = dktX1_pass_0 := by decide +kernel
theorem dksX1_pass_1 : cX1_pass.data.toList.drop 24 = dktX1_pass_1 := dk_seg dksX1_pass_0 24 rfl rfl
theorem dksX1_pass_2 : cX1_pass.data.toList.drop 47 = dktX1_pass_2 := dk_seg dksX1_pass_1 23 rfl rfl
theorem dksX1_pass_3 : cX1_pass.data.toList.drop 71 = dktX1_pass_3 := dk_seg dksX1_pass_2 24 rfl rfl
theorem dX1_pass_0 : decode cX1_pass 0 = .ok (.iload_n 1, 1) := dk_27 (dk_at dksX1_pass_0 0 rfl rfl)
theorem dX1_pass_1 : decode cX1_pass 1 = .ok (.iconst 0, 1) := dk_3 (dk_at dksX1_pass_0 1 rfl rfl)
theorem dX1_pass_2 : decode cX1_pass 2 = .ok (.sipush 3000, 3) := dk_17 11 184 (dk_at dksX1_pass_0 2 rfl rfl)
theorem dX1_pass_5 : decode cX1_pass 5 = .ok (.invokestatic 145, 3) := dk_184 0 145 (dk_at dksX1_pass_0 5 rfl rfl)
theorem dX1_pass_8 : decode cX1_pass 8 = .ok (.ifCond .ne 5, 3) := dk_154 0 5 (dk_at dksX1_pass_0 8 rfl rfl)
theorem dX1_pass_11 : decode cX1_pass 11 = .ok (.iconst (-1), 1) := dk_2 (dk_at dksX1_pass_0 11 rfl rfl)
theorem dX1_pass_12 : decode cX1_pass 12 = .ok (.ireturn, 1) := dk_172 (dk_at dksX1_pass_0 12 rfl rfl)
theorem dX1_pass_13 : decode cX1_pass 13 = .ok (.aload_n 0, 1) := dk_42 (dk_at dksX1_pass_0 13 rfl rfl)
theorem dX1_pass_14 : decode cX1_pass 14 = .ok (.getfield 238, 3) := dk_180 0 238 (dk_at dksX1_pass_0 14 rfl rfl)
theorem dX1_pass_17 : decode cX1_pass 17 = .ok (.iload_n 1, 1) := dk_27 (dk_at dksX1_pass_0 17 rfl rfl)
theorem dX1_pass_18 : decode cX1_pass 18 = .ok (.iadd, 1) := dk_96 (dk_at dksX1_pass_0 18 rfl rfl)
theorem dX1_pass_19 : decode cX1_pass 19 = .ok (.ldc 249, 2) := dk_18 249 (dk_at dksX1_pass_0 19 rfl rfl)
theorem dX1_pass_21 : decode cX1_pass 21 = .ok (.if_icmp .le 6, 3) := dk_164 0 6 (dk_at dksX1_pass_0 21 rfl rfl)
theorem dX1_pass_24 : decode cX1_pass 24 = .ok (.bipush (-2), 2) := dk_16 254 (dk_at dksX1_pass_1 0 rfl rfl)
theorem dX1_pass_26 : decode cX1_pass 26 = .ok (.ireturn, 1) := dk_172 (dk_at dksX1_pass_1 2 rfl rfl)
theorem dX1_pass_27 : decode cX1_pass 27 = .ok (.iconst 0, 1) := dk_3 (dk_at dksX1_pass_1 3 rfl rfl)
theorem dX1_pass_28 : decode cX1_pass 28 = .ok (.istore_n 2, 1) := dk_61 (dk_at dksX1_pass_1 4 rfl rfl)
theorem dX1_pass_29 : decode cX1_pass 29 = .ok (.iload_n 2, 1) := dk_28 (dk_at dksX1_pass_1 5 rfl rfl)
theorem dX1_pass_30 : decode cX1_pass 30 = .ok (.iload_n 1, 1) := dk_27 (dk_at dksX1_pass_1 6 rfl rfl)
theorem dX1_pass_31 : decode cX1_pass 31 = .ok (.if_icmp .ge 46, 3) := dk_162 0 46 (dk_at dksX1_pass_1 7 rfl rfl)
theorem dX1_pass_34 : decode cX1_pass 34 = .ok (.iconst 0, 1) := dk_3 (dk_at dksX1_pass_1 10 rfl rfl)
theorem dX1_pass_35 : decode cX1_pass 35 = .ok (.istore_n 3, 1) := dk_62 (dk_at dksX1_pass_1 11 rfl rfl)
theorem dX1_pass_36 : decode cX1_pass 36 = .ok (.iload_n 3, 1) := dk_29 (dk_at dksX1_pass_1 12 rfl rfl)
theorem dX1_pass_37 : decode cX1_pass 37 = .ok (.iconst 4, 1) := dk_7 (dk_at dksX1_pass_1 13 rfl rfl)
theorem dX1_pass_38 : decode cX1_pass 38 = .ok (.if_icmp .ge 23, 3) := dk_162 0 23 (dk_at dksX1_pass_1 14 rfl rfl)
theorem dX1_pass_41 : decode cX1_pass 41 = .ok (.aload_n 0, 1) := dk_42 (dk_at dksX1_pass_1 17 rfl rfl)
theorem dX1_pass_42 : decode cX1_pass 42 = .ok (.getfield 72, 3) := dk_180 0 72 (dk_at dksX1_pass_1 18 rfl rfl)
theorem dX1_pass_45 : decode cX1_pass 45 = .ok (.iload_n 3, 1) := dk_29 (dk_at dksX1_pass_1 21 rfl rfl)
theorem dX1_pass_46 : decode cX1_pass 46 = .ok (.baload, 1) := dk_51 (dk_at dksX1_pass_1 22 rfl rfl)
theorem dX1_pass_47 : decode cX1_pass 47 = .ok (.ifCond .eq 8, 3) := dk_153 0 8 (dk_at dksX1_pass_2 0 rfl rfl)
theorem dX1_pass_50 : decode cX1_pass 50 = .ok (.aload_n 0, 1) := dk_42 (dk_at dksX1_pass_2 3 rfl rfl)
theorem dX1_pass_51 : decode cX1_pass 51 = .ok (.iload_n 3, 1) := dk_29 (dk_at dksX1_pass_2 4 rfl rfl)
theorem dX1_pass_52 : decode cX1_pass 52 = .ok (.invokevirtual 250, 3) := dk_182 0 250 (dk_at dksX1_pass_2 5 rfl rfl)
theorem dX1_pass_55 : decode cX1_pass 55 = .ok (.iinc 3 1, 3) := dk_132 3 1 (dk_at dksX1_pass_2 8 rfl rfl)
theorem dX1_pass_58 : decode cX1_pass 58 = .ok (.goto (-22), 3) := dk_167 255 234 (dk_at dksX1_pass_2 11 rfl rfl)
theorem dX1_pass_61 : decode cX1_pass 61 = .ok (.aload_n 0, 1) := dk_42 (dk_at dksX1_pass_2 14 rfl rfl)
theorem dX1_pass_62 : decode cX1_pass 62 = .ok (.dup, 1) := dk_89 (dk_at dksX1_pass_2 15 rfl rfl)
theorem dX1_pass_63 : decode cX1_pass 63 = .ok (.getfield 238, 3) := dk_180 0 238 (dk_at dksX1_pass_2 16 rfl rfl)
theorem dX1_pass_66 : decode cX1_pass 66 = .ok (.iconst 1, 1) := dk_4 (dk_at dksX1_pass_2 19 rfl rfl)
theorem dX1_pass_67 : decode cX1_pass 67 = .ok (.iadd, 1) := dk_96 (dk_at dksX1_pass_2 20 rfl rfl)
theorem dX1_pass_68 : decode cX1_pass 68 = .ok (.putfield 238, 3) := dk_181 0 238 (dk_at dksX1_pass_2 21 rfl rfl)
theorem dX1_pass_71 : decode cX1_pass 71 = .ok (.iinc 2 1, 3) := dk_132 2 1 (dk_at dksX1_pass_3 0 rfl rfl)
theorem dX1_pass_74 : decode cX1_pass 74 = .ok (.goto (-45), 3) := dk_167 255 211 (dk_at dksX1_pass_3 3 rfl rfl)
theorem dX1_pass_77 : decode cX1_pass 77 = .ok (.aload_n 0, 1) := dk_42 (dk_at dksX1_pass_3 6 rfl rfl)
theorem dX1_pass_78 : decode cX1_pass 78 = .ok (.getfield 238, 3) := dk_180 0 238 (dk_at dksX1_pass_3 7 rfl rfl)
theorem dX1_pass_81 : decode cX1_pass 81 = .ok (.ireturn, 1) := dk_172 (dk_at dksX1_pass_3 10 rfl rfl)
abbrev cX1_minuteOf : ByteArray := prog_9_method_60_code
def yX1_minuteOf : MethodName := ⟨RX1, "minuteOf", "(I)V"⟩
def dkwX1_minuteOf_5 : List UInt8 := [42, 180, 0, 99, 5, 27, 104, 28, 96, 46, 46, 182, 0, 244, 62, 132, 2, 255, 167, 255, 205, 177]
abbrev dktX1_minuteOf_5 : List UInt8 := dkwX1_minuteOf_5 ++ []
def dkwX1_minuteOf_4 : List UInt8 := [27, 104, 28, 96, 46, 155, 0, 34, 42, 27, 28, 4, 160, 0, 7, 4, 167, 0, 4, 3, 42, 180, 0, 47]
abbrev dktX1_minuteOf_4 : List UInt8 := dkwX1_minuteOf_4 ++ dktX1_minuteOf_5
def dkwX1_minuteOf_3 : List UInt8 := [92, 46, 4, 100, 79, 42, 27, 182, 0, 228, 167, 255, 210, 4, 61, 28, 155, 0, 53, 42, 180, 0, 99, 5]
abbrev dktX1_minuteOf_3 : List UInt8 := dkwX1_minuteOf_3 ++ dktX1_minuteOf_4
def dkwX1_minuteOf_2 : List UInt8 := [180, 0, 81, 27, 46, 158, 0, 32, 42, 180, 0, 84, 27, 92, 46, 18, 248, 100, 79, 42, 180, 0, 81, 27]
abbrev dktX1_minuteOf_2 : List UInt8 := dkwX1_minuteOf_2 ++ dktX1_minuteOf_3
def dkwX1_minuteOf_1 : List UInt8 := [46, 18, 248, 42, 180, 0, 78, 27, 46, 96, 96, 79, 42, 180, 0, 84, 27, 46, 18, 248, 161, 0, 41, 42]
abbrev dktX1_minuteOf_1 : List UInt8 := dkwX1_minuteOf_1 ++ dktX1_minuteOf_2
def dkwX1_minuteOf_0 : List UInt8 := [42, 180, 0, 87, 27, 51, 153, 0, 79, 42, 180, 0, 81, 27, 46, 158, 0, 70, 42, 180, 0, 84, 27, 92]
abbrev dktX1_minuteOf_0 : List UInt8 := dkwX1_minuteOf_0 ++ dktX1_minuteOf_1
theorem dksX1_minuteOf_0 : cX1_minuteOf.data.toList.drop 0 = dktX1_minuteOf_0 := by decide +kernel
theorem dksX1_minuteOf_1 : cX1_minuteOf.data.toList.drop 24 = dktX1_minuteOf_1 := dk_seg dksX1_minuteOf_0 24 rfl rfl
theorem dksX1_minuteOf_2 : cX1_minuteOf.data.toList.drop 48 = dktX1_minuteOf_2 := dk_seg dksX1_minuteOf_1 24 rfl rfl
theorem dksX1_minuteOf_3 : cX1_minuteOf.data.toList.drop 72 = dktX1_minuteOf_3 := dk_seg dksX1_minuteOf_2 24 rfl rfl
theorem dksX1_minuteOf_4 : cX1_minuteOf.data.toList.drop 96 = dktX1_minuteOf_4 := dk_seg dksX1_minuteOf_3 24 rfl rfl
theorem dksX1_minuteOf_5 : cX1_minuteOf.data.toList.drop 120 = dktX1_minuteOf_5 := dk_seg dksX1_minuteOf_4 24 rfl rfl
theorem dX1_minuteOf_0 : decode cX1_minuteOf 0 = .ok (.aload_n 0, 1) := dk_42 (dk_at dksX1_minuteOf_0 0 rfl rfl)
theorem dX1_minuteOf_1 : decode cX1_minuteOf 1 = .ok (.getfield 87, 3) := dk_180 0 87 (dk_at dksX1_minuteOf_0 1 rfl rfl)
theorem dX1_minuteOf_4 : decode cX1_minuteOf 4 = .ok (.iload_n 1, 1) := dk_27 (dk_at dksX1_minuteOf_0 4 rfl rfl)
theorem dX1_minuteOf_5 : decode cX1_minuteOf 5 = .ok (.baload, 1) := dk_51 (dk_at dksX1_minuteOf_0 5 rfl rfl)
theorem dX1_minuteOf_6 : decode cX1_minuteOf 6 = .ok (.ifCond .eq 79, 3) := dk_153 0 79 (dk_at dksX1_minuteOf_0 6 rfl rfl)
theorem dX1_minuteOf_9 : decode cX1_minuteOf 9 = .ok (.aload_n 0, 1) := dk_42 (dk_at dksX1_minuteOf_0 9 rfl rfl)
theorem dX1_minuteOf_10 : decode cX1_minuteOf 10 = .ok (.getfield 81, 3) := dk_180 0 81 (dk_at dksX1_minuteOf_0 10 rfl rfl)
theorem dX1_minuteOf_13 : decode cX1_minuteOf 13 = .ok (.iload_n 1, 1) := dk_27 (dk_at dksX1_minuteOf_0 13 rfl rfl)
theorem dX1_minuteOf_14 : decode cX1_minuteOf 14 = .ok (.iaload, 1) := dk_46 (dk_at dksX1_minuteOf_0 14 rfl rfl)
theorem dX1_minuteOf_15 : decode cX1_minuteOf 15 = .ok (.ifCond .le 70, 3) := dk_158 0 70 (dk_at dksX1_minuteOf_0 15 rfl rfl)
theorem dX1_minuteOf_18 : decode cX1_minuteOf 18 = .ok (.aload_n 0, 1) := dk_42 (dk_at dksX1_minuteOf_0 18 rfl rfl)
theorem dX1_minuteOf_19 : decode cX1_minuteOf 19 = .ok (.getfield 84, 3) := dk_180 0 84 (dk_at dksX1_minuteOf_0 19 rfl rfl)
theorem dX1_minuteOf_22 : decode cX1_minuteOf 22 = .ok (.iload_n 1, 1) := dk_27 (dk_at dksX1_minuteOf_0 22 rfl rfl)
theorem dX1_minuteOf_23 : decode cX1_minuteOf 23 = .ok (.dup2, 1) := dk_92 (dk_at dksX1_minuteOf_0 23 rfl rfl)
theorem dX1_minuteOf_24 : decode cX1_minuteOf 24 = .ok (.iaload, 1) := dk_46 (dk_at dksX1_minuteOf_1 0 rfl rfl)
theorem dX1_minuteOf_25 : decode cX1_minuteOf 25 = .ok (.ldc 248, 2) := dk_18 248 (dk_at dksX1_minuteOf_1 1 rfl rfl)
theorem dX1_minuteOf_27 : decode cX1_minuteOf 27 = .ok (.aload_n 0, 1) := dk_42 (dk_at dksX1_minuteOf_1 3 rfl rfl)
theorem dX1_minuteOf_28 : decode cX1_minuteOf 28 = .ok (.getfield 78, 3) := dk_180 0 78 (dk_at dksX1_minuteOf_1 4 rfl rfl)
theorem dX1_minuteOf_31 : decode cX1_minuteOf 31 = .ok (.iload_n 1, 1) := dk_27 (dk_at dksX1_minuteOf_1 7 rfl rfl)
theorem dX1_minuteOf_32 : decode cX1_minuteOf 32 = .ok (.iaload, 1) := dk_46 (dk_at dksX1_minuteOf_1 8 rfl rfl)
theorem dX1_minuteOf_33 : decode cX1_minuteOf 33 = .ok (.iadd, 1) := dk_96 (dk_at dksX1_minuteOf_1 9 rfl rfl)
theorem dX1_minuteOf_34 : decode cX1_minuteOf 34 = .ok (.iadd, 1) := dk_96 (dk_at dksX1_minuteOf_1 10 rfl rfl)
theorem dX1_minuteOf_35 : decode cX1_minuteOf 35 = .ok (.iastore, 1) := dk_79 (dk_at dksX1_minuteOf_1 11 rfl rfl)
theorem dX1_minuteOf_36 : decode cX1_minuteOf 36 = .ok (.aload_n 0, 1) := dk_42 (dk_at dksX1_minuteOf_1 12 rfl rfl)
theorem dX1_minuteOf_37 : decode cX1_minuteOf 37 = .ok (.getfield 84, 3) := dk_180 0 84 (dk_at dksX1_minuteOf_1 13 rfl rfl)
theorem dX1_minuteOf_40 : decode cX1_minuteOf 40 = .ok (.iload_n 1, 1) := dk_27 (dk_at dksX1_minuteOf_1 16 rfl rfl)
theorem dX1_minuteOf_41 : decode cX1_minuteOf 41 = .ok (.iaload, 1) := dk_46 (dk_at dksX1_minuteOf_1 17 rfl rfl)
theorem dX1_minuteOf_42 : decode cX1_minuteOf 42 = .ok (.ldc 248, 2) := dk_18 248 (dk_at dksX1_minuteOf_1 18 rfl rfl)
theorem dX1_minuteOf_44 : decode cX1_minuteOf 44 = .ok (.if_icmp .lt 41, 3) := dk_161 0 41 (dk_at dksX1_minuteOf_1 20 rfl rfl)
theorem dX1_minuteOf_47 : decode cX1_minuteOf 47 = .ok (.aload_n 0, 1) := dk_42 (dk_at dksX1_minuteOf_1 23 rfl rfl)
theorem dX1_minuteOf_48 : decode cX1_minuteOf 48 = .ok (.getfield 81, 3) := dk_180 0 81 (dk_at dksX1_minuteOf_2 0 rfl rfl)
theorem dX1_minuteOf_51 : decode cX1_minuteOf 51 = .ok (.iload_n 1, 1) := dk_27 (dk_at dksX1_minuteOf_2 3 rfl rfl)
theorem dX1_minuteOf_52 : decode cX1_minuteOf 52 = .ok (.iaload, 1) := dk_46 (dk_at dksX1_minuteOf_2 4 rfl rfl)
theorem dX1_minuteOf_53 : decode cX1_minuteOf 53 = .ok (.ifCond .le 32, 3) := dk_158 0 32 (dk_at dksX1_minuteOf_2 5 rfl rfl)
theorem dX1_minuteOf_56 : decode cX1_minuteOf 56 = .ok (.aload_n 0, 1) := dk_42 (dk_at dksX1_minuteOf_2 8 rfl rfl)
theorem dX1_minuteOf_57 : decode cX1_minuteOf 57 = .ok (.getfield 84, 3) := dk_180 0 84 (dk_at dksX1_minuteOf_2 9 rfl rfl)
theorem dX1_minuteOf_60 : decode cX1_minuteOf 60 = .ok (.iload_n 1, 1) := dk_27 (dk_at dksX1_minuteOf_2 12 rfl rfl)
theorem dX1_minuteOf_61 : decode cX1_minuteOf 61 = .ok (.dup2, 1) := dk_92 (dk_at dksX1_minuteOf_2 13 rfl rfl)
theorem dX1_minuteOf_62 : decode cX1_minuteOf 62 = .ok (.iaload, 1) := dk_46 (dk_at dksX1_minuteOf_2 14 rfl rfl)
theorem dX1_minuteOf_63 : decode cX1_minuteOf 63 = .ok (.ldc 248, 2) := dk_18 248 (dk_at dksX1_minuteOf_2 15 rfl rfl)
theorem dX1_minuteOf_65 : decode cX1_minuteOf 65 = .ok (.isub, 1) := dk_100 (dk_at dksX1_minuteOf_2 17 rfl rfl)
theorem dX1_minuteOf_66 : decode cX1_minuteOf 66 = .ok (.iastore, 1) := dk_79 (dk_at dksX1_minuteOf_2 18 rfl rfl)
theorem dX1_minuteOf_67 : decode cX1_minuteOf 67 = .ok (.aload_n 0, 1) := dk_42 (dk_at dksX1_minuteOf_2 19 rfl rfl)
theorem dX1_minuteOf_68 : decode cX1_minuteOf 68 = .ok (.getfield 81, 3) := dk_180 0 81 (dk_at dksX1_minuteOf_2 20 rfl rfl)
theorem dX1_minuteOf_71 : decode cX1_minuteOf 71 = .ok (.iload_n 1, 1) := dk_27 (dk_at dksX1_minuteOf_2 23 rfl rfl)
theorem dX1_minuteOf_72 : decode cX1_minuteOf 72 = .ok (.dup2, 1) := dk_92 (dk_at dksX1_minuteOf_3 0 rfl rfl)
theorem dX1_minuteOf_73 : decode cX1_minuteOf 73 = .ok (.iaload, 1) := dk_46 (dk_at dksX1_minuteOf_3 1 rfl rfl)
theorem dX1_minuteOf_74 : decode cX1_minuteOf 74 = .ok (.iconst 1, 1) := dk_4 (dk_at dksX1_minuteOf_3 2 rfl rfl)
theorem dX1_minuteOf_75 : decode cX1_minuteOf 75 = .ok (.isub, 1) := dk_100 (dk_at dksX1_minuteOf_3 3 rfl rfl)
theorem dX1_minuteOf_76 : decode cX1_minuteOf 76 = .ok (.iastore, 1) := dk_79 (dk_at dksX1_minuteOf_3 4 rfl rfl)
theorem dX1_minuteOf_77 : decode cX1_minuteOf 77 = .ok (.aload_n 0, 1) := dk_42 (dk_at dksX1_minuteOf_3 5 rfl rfl)
theorem dX1_minuteOf_78 : decode cX1_minuteOf 78 = .ok (.iload_n 1, 1) := dk_27 (dk_at dksX1_minuteOf_3 6 rfl rfl)
theorem dX1_minuteOf_79 : decode cX1_minuteOf 79 = .ok (.invokevirtual 228, 3) := dk_182 0 228 (dk_at dksX1_minuteOf_3 7 rfl rfl)
theorem dX1_minuteOf_82 : decode cX1_minuteOf 82 = .ok (.goto (-46), 3) := dk_167 255 210 (dk_at dksX1_minuteOf_3 10 rfl rfl)
theorem dX1_minuteOf_85 : decode cX1_minuteOf 85 = .ok (.iconst 1, 1) := dk_4 (dk_at dksX1_minuteOf_3 13 rfl rfl)
theorem dX1_minuteOf_86 : decode cX1_minuteOf 86 = .ok (.istore_n 2, 1) := dk_61 (dk_at dksX1_minuteOf_3 14 rfl rfl)
theorem dX1_minuteOf_87 : decode cX1_minuteOf 87 = .ok (.iload_n 2, 1) := dk_28 (dk_at dksX1_minuteOf_3 15 rfl rfl)
theorem dX1_minuteOf_88 : decode cX1_minuteOf 88 = .ok (.ifCond .lt 53, 3) := dk_155 0 53 (dk_at dksX1_minuteOf_3 16 rfl rfl)
theorem dX1_minuteOf_91 : decode cX1_minuteOf 91 = .ok (.aload_n 0, 1) := dk_42 (dk_at dksX1_minuteOf_3 19 rfl rfl)
theorem dX1_minuteOf_92 : decode cX1_minuteOf 92 = .ok (.getfield 99, 3) := dk_180 0 99 (dk_at dksX1_minuteOf_3 20 rfl rfl)
theorem dX1_minuteOf_95 : decode cX1_minuteOf 95 = .ok (.iconst 2, 1) := dk_5 (dk_at dksX1_minuteOf_3 23 rfl rfl)
theorem dX1_minuteOf_96 : decode cX1_minuteOf 96 = .ok (.iload_n 1, 1) := dk_27 (dk_at dksX1_minuteOf_4 0 rfl rfl)
theorem dX1_minuteOf_97 : decode cX1_minuteOf 97 = .ok (.imul, 1) := dk_104 (dk_at dksX1_minuteOf_4 1 rfl rfl)
theorem dX1_minuteOf_98 : decode cX1_minuteOf 98 = .ok (.iload_n 2, 1) := dk_28 (dk_at dksX1_minuteOf_4 2 rfl rfl)
theorem dX1_minuteOf_99 : decode cX1_minuteOf 99 = .ok (.iadd, 1) := dk_96 (dk_at dksX1_minuteOf_4 3 rfl rfl)
theorem dX1_minuteOf_100 : decode cX1_minuteOf 100 = .ok (.iaload, 1) := dk_46 (dk_at dksX1_minuteOf_4 4 rfl rfl)
theorem dX1_minuteOf_101 : decode cX1_minuteOf 101 = .ok (.ifCond .lt 34, 3) := dk_155 0 34 (dk_at dksX1_minuteOf_4 5 rfl rfl)
theorem dX1_minuteOf_104 : decode cX1_minuteOf 104 = .ok (.aload_n 0, 1) := dk_42 (dk_at dksX1_minuteOf_4 8 rfl rfl)
theorem dX1_minuteOf_105 : decode cX1_minuteOf 105 = .ok (.iload_n 1, 1) := dk_27 (dk_at dksX1_minuteOf_4 9 rfl rfl)
theorem dX1_minuteOf_106 : decode cX1_minuteOf 106 = .ok (.iload_n 2, 1) := dk_28 (dk_at dksX1_minuteOf_4 10 rfl rfl)
theorem dX1_minuteOf_107 : decode cX1_minuteOf 107 = .ok (.iconst 1, 1) := dk_4 (dk_at dksX1_minuteOf_4 11 rfl rfl)
theorem dX1_minuteOf_108 : decode cX1_minuteOf 108 = .ok (.if_icmp .ne 7, 3) := dk_160 0 7 (dk_at dksX1_minuteOf_4 12 rfl rfl)
theorem dX1_minuteOf_111 : decode cX1_minuteOf 111 = .ok (.iconst 1, 1) := dk_4 (dk_at dksX1_minuteOf_4 15 rfl rfl)
theorem dX1_minuteOf_112 : decode cX1_minuteOf 112 = .ok (.goto 4, 3) := dk_167 0 4 (dk_at dksX1_minuteOf_4 16 rfl rfl)
theorem dX1_minuteOf_115 : decode cX1_minuteOf 115 = .ok (.iconst 0, 1) := dk_3 (dk_at dksX1_minuteOf_4 19 rfl rfl)
theorem dX1_minuteOf_116 : decode cX1_minuteOf 116 = .ok (.aload_n 0, 1) := dk_42 (dk_at dksX1_minuteOf_4 20 rfl rfl)
theorem dX1_minuteOf_117 : decode cX1_minuteOf 117 = .ok (.getfield 47, 3) := dk_180 0 47 (dk_at dksX1_minuteOf_4 21 rfl rfl)
theorem dX1_minuteOf_120 : decode cX1_minuteOf 120 = .ok (.aload_n 0, 1) := dk_42 (dk_at dksX1_minuteOf_5 0 rfl rfl)
theorem dX1_minuteOf_121 : decode cX1_minuteOf 121 = .ok (.getfield 99, 3) := dk_180 0 99 (dk_at dksX1_minuteOf_5 1 rfl rfl)
theorem dX1_minuteOf_124 : decode cX1_minuteOf 124 = .ok (.iconst 2, 1) := dk_5 (dk_at dksX1_minuteOf_5 4 rfl rfl)
theorem dX1_minuteOf_125 : decode cX1_minuteOf 125 = .ok (.iload_n 1, 1) := dk_27 (dk_at dksX1_minuteOf_5 5 rfl rfl)
theorem dX1_minuteOf_126 : decode cX1_minuteOf 126 = .ok (.imul, 1) := dk_104 (dk_at dksX1_minuteOf_5 6 rfl rfl)
theorem dX1_minuteOf_127 : decode cX1_minuteOf 127 = .ok (.iload_n 2, 1) := dk_28 (dk_at dksX1_minuteOf_5 7 rfl rfl)
theorem dX1_minuteOf_128 : decode cX1_minuteOf 128 = .ok (.iadd, 1) := dk_96 (dk_at dksX1_minuteOf_5 8 rfl rfl)
theorem dX1_minuteOf_129 : decode cX1_minuteOf 129 = .ok (.iaload, 1) := dk_46 (dk_at dksX1_minuteOf_5 9 rfl rfl)
theorem dX1_minuteOf_130 : decode cX1_minuteOf 130 = .ok (.iaload, 1) := dk_46 (dk_at dksX1_minuteOf_5 10 rfl rfl)
theorem dX1_minuteOf_131 : decode cX1_minuteOf 131 = .ok (.invokevirtual 244, 3) := dk_182 0 244 (dk_at dksX1_minuteOf_5 11 rfl rfl)
theorem dX1_minuteOf_134 : decode cX1_minuteOf 134 = .ok (.istore_n 3, 1) := dk_62 (dk_at dksX1_minuteOf_5 14 rfl rfl)
theorem dX1_minuteOf_135 : decode cX1_minuteOf 135 = .ok (.iinc 2 (-1), 3) := dk_132 2 255 (dk_at dksX1_minuteOf_5 15 rfl rfl)
theorem dX1_minuteOf_138 : decode cX1_minuteOf 138 = .ok (.goto (-51), 3) := dk_167 255 205 (dk_at dksX1_minuteOf_5 18 rfl rfl)
theorem dX1_minuteOf_141 : decode cX1_minuteOf 141 = .ok (.return_, 1) := dk_177 (dk_at dksX1_minuteOf_5 21 rfl rfl)
abbrev cX1_tells : ByteArray := prog_9_method_63_code
def yX1_tells : MethodName := ⟨RX1, "tells", "(II)I"⟩
def dkwX1_tells_1 : List UInt8 := [167, 0, 9, 42, 27, 28, 182, 0, 253, 172]
abbrev dktX1_tells_1 : List UInt8 := dkwX1_tells_1 ++ []
def dkwX1_tells_0 : List UInt8 := [28, 3, 16, 8, 184, 0, 145, 154, 0, 5, 2, 172, 42, 27, 182, 0, 203, 62, 29, 156, 0, 7, 29]
abbrev dktX1_tells_0 : List UInt8 := dkwX1_tells_0 ++ dktX1_tells_1
theorem dksX1_tells_0 : cX1_tells.data.toList.drop 0 = dktX1_tells_0 := by decide +kernel
theorem dksX1_tells_1 : cX1_tells.data.toList.drop 23 = dktX1_tells_1 := dk_seg dksX1_tells_0 23 rfl rfl
theorem dX1_tells_0 : decode cX1_tells 0 = .ok (.iload_n 2, 1) := dk_28 (dk_at dksX1_tells_0 0 rfl rfl)
theorem dX1_tells_1 : decode cX1_tells 1 = .ok (.iconst 0, 1) := dk_3 (dk_at dksX1_tells_0 1 rfl rfl)
theorem dX1_tells_2 : decode cX1_tells 2 = .ok (.bipush 8, 2) := dk_16 8 (dk_at dksX1_tells_0 2 rfl rfl)
theorem dX1_tells_4 : decode cX1_tells 4 = .ok (.invokestatic 145, 3) := dk_184 0 145 (dk_at dksX1_tells_0 4 rfl rfl)
theorem dX1_tells_7 : decode cX1_tells 7 = .ok (.ifCond .ne 5, 3) := dk_154 0 5 (dk_at dksX1_tells_0 7 rfl rfl)
theorem dX1_tells_10 : decode cX1_tells 10 = .ok (.iconst (-1), 1) := dk_2 (dk_at dksX1_tells_0 10 rfl rfl)
theorem dX1_tells_11 : decode cX1_tells 11 = .ok (.ireturn, 1) := dk_172 (dk_at dksX1_tells_0 11 rfl rfl)
theorem dX1_tells_12 : decode cX1_tells 12 = .ok (.aload_n 0, 1) := dk_42 (dk_at dksX1_tells_0 12 rfl rfl)
theorem dX1_tells_13 : decode cX1_tells 13 = .ok (.iload_n 1, 1) := dk_27 (dk_at dksX1_tells_0 13 rfl rfl)
theorem dX1_tells_14 : decode cX1_tells 14 = .ok (.invokevirtual 203, 3) := dk_182 0 203 (dk_at dksX1_tells_0 14 rfl rfl)
theorem dX1_tells_17 : decode cX1_tells 17 = .ok (.istore_n 3, 1) := dk_62 (dk_at dksX1_tells_0 17 rfl rfl)
theorem dX1_tells_18 : decode cX1_tells 18 = .ok (.iload_n 3, 1) := dk_29 (dk_at dksX1_tells_0 18 rfl rfl)
theorem dX1_tells_19 : decode cX1_tells 19 = .ok (.ifCond .ge 7, 3) := dk_156 0 7 (dk_at dksX1_tells_0 19 rfl rfl)
theorem dX1_tells_22 : decode cX1_tells 22 = .ok (.iload_n 3, 1) := dk_29 (dk_at dksX1_tells_0 22 rfl rfl)
theorem dX1_tells_23 : decode cX1_tells 23 = .ok (.goto 9, 3) := dk_167 0 9 (dk_at dksX1_tells_1 0 rfl rfl)
theorem dX1_tells_26 : decode cX1_tells 26 = .ok (.aload_n 0, 1) := dk_42 (dk_at dksX1_tells_1 3 rfl rfl)
theorem dX1_tells_27 : decode cX1_tells 27 = .ok (.iload_n 1, 1) := dk_27 (dk_at dksX1_tells_1 4 rfl rfl)
theorem dX1_tells_28 : decode cX1_tells 28 = .ok (.iload_n 2, 1) := dk_28 (dk_at dksX1_tells_1 5 rfl rfl)
theorem dX1_tells_29 : decode cX1_tells 29 = .ok (.invokevirtual 253, 3) := dk_182 0 253 (dk_at dksX1_tells_1 6 rfl rfl)
theorem dX1_tells_32 : decode cX1_tells 32 = .ok (.ireturn, 1) := dk_172 (dk_at dksX1_tells_1 9 rfl rfl)
abbrev cX1_towerTells : ByteArray := prog_9_method_62_code
def yX1_towerTells : MethodName := ⟨RX1, "towerTells", "(II)I"⟩
def dkwX1_towerTells_6 : List UInt8 := [42, 27, 182, 0, 218, 172]
abbrev dktX1_towerTells_6 : List UInt8 := dkwX1_towerTells_6 ++ []
def dkwX1_towerTells_5 : List UInt8 := [167, 0, 4, 3, 172, 42, 180, 0, 102, 5, 27, 104, 4, 96, 51, 153, 0, 7, 4, 167, 0, 4, 3, 172]
abbrev dktX1_towerTells_5 : List UInt8 := dkwX1_towerTells_5 ++ dktX1_towerTells_6
def dkwX1_towerTells_4 : List UInt8 := [180, 0, 99, 5, 27, 104, 4, 96, 46, 172, 42, 180, 0, 102, 5, 27, 104, 51, 153, 0, 7, 4]
abbrev dktX1_towerTells_4 : List UInt8 := dkwX1_towerTells_4 ++ dktX1_towerTells_5
def dkwX1_towerTells_3 : List UInt8 := [180, 0, 87, 27, 51, 153, 0, 7, 4, 167, 0, 4, 3, 172, 42, 180, 0, 99, 5, 27, 104, 46, 172, 42]
abbrev dktX1_towerTells_3 : List UInt8 := dkwX1_towerTells_3 ++ dktX1_towerTells_4
def dkwX1_towerTells_2 : List UInt8 := [42, 180, 0, 75, 27, 46, 172, 42, 180, 0, 84, 27, 46, 172, 42, 180, 0, 81, 27, 46, 172, 42]
abbrev dktX1_towerTells_2 : List UInt8 := dkwX1_towerTells_2 ++ dktX1_towerTells_3
def dkwX1_towerTells_1 : List UInt8 := [170, 0, 0, 0, 0, 0, 139, 0, 0, 0, 0, 0, 0, 0, 7, 0, 0, 0, 47, 0, 0, 0, 54, 0, 0, 0, 61, 0, 0, 0, 68, 0, 0, 0, 83, 0, 0, 0, 92, 0, 0, 0, 103, 0, 0, 0, 120]
abbrev dktX1_towerTells_1 : List UInt8 := dkwX1_towerTells_1 ++ dktX1_towerTells_2
def dkwX1_towerTells_0 : List UInt8 := [28]
abbrev dktX1_towerTells_0 : List UInt8 := dkwX1_towerTells_0 ++ dktX1_towerTells_1
theorem dksX1_towerTells_0 : cX1_towerTells.data.toList.drop 0 = dktX1_towerTells_0 := by decide +kernel
theorem dksX1_towerTells_1 : cX1_towerTells.data.toList.drop 1 = dktX1_towerTells_1 := dk_seg dksX1_towerTells_0 1 rfl rfl
theorem dksX1_towerTells_2 : cX1_towerTells.data.toList.drop 48 = dktX1_towerTells_2 := dk_seg dksX1_towerTells_1 47 rfl rfl
theorem dksX1_towerTells_3 : cX1_towerTells.data.toList.drop 70 = dktX1_towerTells_3 := dk_seg dksX1_towerTells_2 22 rfl rfl
theorem dksX1_towerTells_4 : cX1_towerTells.data.toList.drop 94 = dktX1_towerTells_4 := dk_seg dksX1_towerTells_3 24 rfl rfl
theorem dksX1_towerTells_5 : cX1_towerTells.data.toList.drop 116 = dktX1_towerTells_5 := dk_seg dksX1_towerTells_4 22 rfl rfl
theorem dksX1_towerTells_6 : cX1_towerTells.data.toList.drop 140 = dktX1_towerTells_6 := dk_seg dksX1_towerTells_5 24 rfl rfl
theorem dX1_towerTells_0 : decode cX1_towerTells 0 = .ok (.iload_n 2, 1) := dk_28 (dk_at dksX1_towerTells_0 0 rfl rfl)
theorem dX1_towerTells_1 : decode cX1_towerTells 1 = .ok (.tableswitch 139 0 7 #[47, 54, 61, 68, 83, 92, 103, 120], 47) := by decide +kernel
theorem dX1_towerTells_48 : decode cX1_towerTells 48 = .ok (.aload_n 0, 1) := dk_42 (dk_at dksX1_towerTells_2 0 rfl rfl)
theorem dX1_towerTells_49 : decode cX1_towerTells 49 = .ok (.getfield 75, 3) := dk_180 0 75 (dk_at dksX1_towerTells_2 1 rfl rfl)
theorem dX1_towerTells_52 : decode cX1_towerTells 52 = .ok (.iload_n 1, 1) := dk_27 (dk_at dksX1_towerTells_2 4 rfl rfl)
theorem dX1_towerTells_53 : decode cX1_towerTells 53 = .ok (.iaload, 1) := dk_46 (dk_at dksX1_towerTells_2 5 rfl rfl)
theorem dX1_towerTells_54 : decode cX1_towerTells 54 = .ok (.ireturn, 1) := dk_172 (dk_at dksX1_towerTells_2 6 rfl rfl)
theorem dX1_towerTells_55 : decode cX1_towerTells 55 = .ok (.aload_n 0, 1) := dk_42 (dk_at dksX1_towerTells_2 7 rfl rfl)
theorem dX1_towerTells_56 : decode cX1_towerTells 56 = .ok (.getfield 84, 3) := dk_180 0 84 (dk_at dksX1_towerTells_2 8 rfl rfl)
theorem dX1_towerTells_59 : decode cX1_towerTells 59 = .ok (.iload_n 1, 1) := dk_27 (dk_at dksX1_towerTells_2 11 rfl rfl)
theorem dX1_towerTells_60 : decode cX1_towerTells 60 = .ok (.iaload, 1) := dk_46 (dk_at dksX1_towerTells_2 12 rfl rfl)
theorem dX1_towerTells_61 : decode cX1_towerTells 61 = .ok (.ireturn, 1) := dk_172 (dk_at dksX1_towerTells_2 13 rfl rfl)
theorem dX1_towerTells_62 : decode cX1_towerTells 62 = .ok (.aload_n 0, 1) := dk_42 (dk_at dksX1_towerTells_2 14 rfl rfl)
theorem dX1_towerTells_63 : decode cX1_towerTells 63 = .ok (.getfield 81, 3) := dk_180 0 81 (dk_at dksX1_towerTells_2 15 rfl rfl)
theorem dX1_towerTells_66 : decode cX1_towerTells 66 = .ok (.iload_n 1, 1) := dk_27 (dk_at dksX1_towerTells_2 18 rfl rfl)
theorem dX1_towerTells_67 : decode cX1_towerTells 67 = .ok (.iaload, 1) := dk_46 (dk_at dksX1_towerTells_2 19 rfl rfl)
theorem dX1_towerTells_68 : decode cX1_towerTells 68 = .ok (.ireturn, 1) := dk_172 (dk_at dksX1_towerTells_2 20 rfl rfl)
theorem dX1_towerTells_69 : decode cX1_towerTells 69 = .ok (.aload_n 0, 1) := dk_42 (dk_at dksX1_towerTells_2 21 rfl rfl)
theorem dX1_towerTells_70 : decode cX1_towerTells 70 = .ok (.getfield 87, 3) := dk_180 0 87 (dk_at dksX1_towerTells_3 0 rfl rfl)
theorem dX1_towerTells_73 : decode cX1_towerTells 73 = .ok (.iload_n 1, 1) := dk_27 (dk_at dksX1_towerTells_3 3 rfl rfl)
theorem dX1_towerTells_74 : decode cX1_towerTells 74 = .ok (.baload, 1) := dk_51 (dk_at dksX1_towerTells_3 4 rfl rfl)
theorem dX1_towerTells_75 : decode cX1_towerTells 75 = .ok (.ifCond .eq 7, 3) := dk_153 0 7 (dk_at dksX1_towerTells_3 5 rfl rfl)
theorem dX1_towerTells_78 : decode cX1_towerTells 78 = .ok (.iconst 1, 1) := dk_4 (dk_at dksX1_towerTells_3 8 rfl rfl)
theorem dX1_towerTells_79 : decode cX1_towerTells 79 = .ok (.goto 4, 3) := dk_167 0 4 (dk_at dksX1_towerTells_3 9 rfl rfl)
theorem dX1_towerTells_82 : decode cX1_towerTells 82 = .ok (.iconst 0, 1) := dk_3 (dk_at dksX1_towerTells_3 12 rfl rfl)
theorem dX1_towerTells_83 : decode cX1_towerTells 83 = .ok (.ireturn, 1) := dk_172 (dk_at dksX1_towerTells_3 13 rfl rfl)
theorem dX1_towerTells_84 : decode cX1_towerTells 84 = .ok (.aload_n 0, 1) := dk_42 (dk_at dksX1_towerTells_3 14 rfl rfl)
theorem dX1_towerTells_85 : decode cX1_towerTells 85 = .ok (.getfield 99, 3) := dk_180 0 99 (dk_at dksX1_towerTells_3 15 rfl rfl)
theorem dX1_towerTells_88 : decode cX1_towerTells 88 = .ok (.iconst 2, 1) := dk_5 (dk_at dksX1_towerTells_3 18 rfl rfl)
theorem dX1_towerTells_89 : decode cX1_towerTells 89 = .ok (.iload_n 1, 1) := dk_27 (dk_at dksX1_towerTells_3 19 rfl rfl)
theorem dX1_towerTells_90 : decode cX1_towerTells 90 = .ok (.imul, 1) := dk_104 (dk_at dksX1_towerTells_3 20 rfl rfl)
theorem dX1_towerTells_91 : decode cX1_towerTells 91 = .ok (.iaload, 1) := dk_46 (dk_at dksX1_towerTells_3 21 rfl rfl)
theorem dX1_towerTells_92 : decode cX1_towerTells 92 = .ok (.ireturn, 1) := dk_172 (dk_at dksX1_towerTells_3 22 rfl rfl)
theorem dX1_towerTells_93 : decode cX1_towerTells 93 = .ok (.aload_n 0, 1) := dk_42 (dk_at dksX1_towerTells_3 23 rfl rfl)
theorem dX1_towerTells_94 : decode cX1_towerTells 94 = .ok (.getfield 99, 3) := dk_180 0 99 (dk_at dksX1_towerTells_4 0 rfl rfl)
theorem dX1_towerTells_97 : decode cX1_towerTells 97 = .ok (.iconst 2, 1) := dk_5 (dk_at dksX1_towerTells_4 3 rfl rfl)
theorem dX1_towerTells_98 : decode cX1_towerTells 98 = .ok (.iload_n 1, 1) := dk_27 (dk_at dksX1_towerTells_4 4 rfl rfl)
theorem dX1_towerTells_99 : decode cX1_towerTells 99 = .ok (.imul, 1) := dk_104 (dk_at dksX1_towerTells_4 5 rfl rfl)
theorem dX1_towerTells_100 : decode cX1_towerTells 100 = .ok (.iconst 1, 1) := dk_4 (dk_at dksX1_towerTells_4 6 rfl rfl)
theorem dX1_towerTells_101 : decode cX1_towerTells 101 = .ok (.iadd, 1) := dk_96 (dk_at dksX1_towerTells_4 7 rfl rfl)
theorem dX1_towerTells_102 : decode cX1_towerTells 102 = .ok (.iaload, 1) := dk_46 (dk_at dksX1_towerTells_4 8 rfl rfl)
theorem dX1_towerTells_103 : decode cX1_towerTells 103 = .ok (.ireturn, 1) := dk_172 (dk_at dksX1_towerTells_4 9 rfl rfl)
theorem dX1_towerTells_104 : decode cX1_towerTells 104 = .ok (.aload_n 0, 1) := dk_42 (dk_at dksX1_towerTells_4 10 rfl rfl)
theorem dX1_towerTells_105 : decode cX1_towerTells 105 = .ok (.getfield 102, 3) := dk_180 0 102 (dk_at dksX1_towerTells_4 11 rfl rfl)
theorem dX1_towerTells_108 : decode cX1_towerTells 108 = .ok (.iconst 2, 1) := dk_5 (dk_at dksX1_towerTells_4 14 rfl rfl)
theorem dX1_towerTells_109 : decode cX1_towerTells 109 = .ok (.iload_n 1, 1) := dk_27 (dk_at dksX1_towerTells_4 15 rfl rfl)
theorem dX1_towerTells_110 : decode cX1_towerTells 110 = .ok (.imul, 1) := dk_104 (dk_at dksX1_towerTells_4 16 rfl rfl)
theorem dX1_towerTells_111 : decode cX1_towerTells 111 = .ok (.baload, 1) := dk_51 (dk_at dksX1_towerTells_4 17 rfl rfl)
theorem dX1_towerTells_112 : decode cX1_towerTells 112 = .ok (.ifCond .eq 7, 3) := dk_153 0 7 (dk_at dksX1_towerTells_4 18 rfl rfl)
theorem dX1_towerTells_115 : decode cX1_towerTells 115 = .ok (.iconst 1, 1) := dk_4 (dk_at dksX1_towerTells_4 21 rfl rfl)
theorem dX1_towerTells_116 : decode cX1_towerTells 116 = .ok (.goto 4, 3) := dk_167 0 4 (dk_at dksX1_towerTells_5 0 rfl rfl)
theorem dX1_towerTells_119 : decode cX1_towerTells 119 = .ok (.iconst 0, 1) := dk_3 (dk_at dksX1_towerTells_5 3 rfl rfl)
theorem dX1_towerTells_120 : decode cX1_towerTells 120 = .ok (.ireturn, 1) := dk_172 (dk_at dksX1_towerTells_5 4 rfl rfl)
theorem dX1_towerTells_121 : decode cX1_towerTells 121 = .ok (.aload_n 0, 1) := dk_42 (dk_at dksX1_towerTells_5 5 rfl rfl)
theorem dX1_towerTells_122 : decode cX1_towerTells 122 = .ok (.getfield 102, 3) := dk_180 0 102 (dk_at dksX1_towerTells_5 6 rfl rfl)
theorem dX1_towerTells_125 : decode cX1_towerTells 125 = .ok (.iconst 2, 1) := dk_5 (dk_at dksX1_towerTells_5 9 rfl rfl)
theorem dX1_towerTells_126 : decode cX1_towerTells 126 = .ok (.iload_n 1, 1) := dk_27 (dk_at dksX1_towerTells_5 10 rfl rfl)
theorem dX1_towerTells_127 : decode cX1_towerTells 127 = .ok (.imul, 1) := dk_104 (dk_at dksX1_towerTells_5 11 rfl rfl)
theorem dX1_towerTells_128 : decode cX1_towerTells 128 = .ok (.iconst 1, 1) := dk_4 (dk_at dksX1_towerTells_5 12 rfl rfl)
theorem dX1_towerTells_129 : decode cX1_towerTells 129 = .ok (.iadd, 1) := dk_96 (dk_at dksX1_towerTells_5 13 rfl rfl)
theorem dX1_towerTells_130 : decode cX1_towerTells 130 = .ok (.baload, 1) := dk_51 (dk_at dksX1_towerTells_5 14 rfl rfl)
theorem dX1_towerTells_131 : decode cX1_towerTells 131 = .ok (.ifCond .eq 7, 3) := dk_153 0 7 (dk_at dksX1_towerTells_5 15 rfl rfl)
theorem dX1_towerTells_134 : decode cX1_towerTells 134 = .ok (.iconst 1, 1) := dk_4 (dk_at dksX1_towerTells_5 18 rfl rfl)
theorem dX1_towerTells_135 : decode cX1_towerTells 135 = .ok (.goto 4, 3) := dk_167 0 4 (dk_at dksX1_towerTells_5 19 rfl rfl)
theorem dX1_towerTells_138 : decode cX1_towerTells 138 = .ok (.iconst 0, 1) := dk_3 (dk_at dksX1_towerTells_5 22 rfl rfl)
theorem dX1_towerTells_139 : decode cX1_towerTells 139 = .ok (.ireturn, 1) := dk_172 (dk_at dksX1_towerTells_5 23 rfl rfl)
theorem dX1_towerTells_140 : decode cX1_towerTells 140 = .ok (.aload_n 0, 1) := dk_42 (dk_at dksX1_towerTells_6 0 rfl rfl)
theorem dX1_towerTells_141 : decode cX1_towerTells 141 = .ok (.iload_n 1, 1) := dk_27 (dk_at dksX1_towerTells_6 1 rfl rfl)
theorem dX1_towerTells_142 : decode cX1_towerTells 142 = .ok (.invokevirtual 218, 3) := dk_182 0 218 (dk_at dksX1_towerTells_6 2 rfl rfl)
theorem dX1_towerTells_145 : decode cX1_towerTells 145 = .ok (.ireturn, 1) := dk_172 (dk_at dksX1_towerTells_6 5 rfl rfl)
abbrev cX1_log : ByteArray := prog_9_method_64_code
def yX1_log : MethodName := ⟨RX1, "log", "(III)I"⟩
def dkwX1_log_3 : List UInt8 := [16, 247, 172]
abbrev dktX1_log_3 : List UInt8 := dkwX1_log_3 ++ []
def dkwX1_log_2 : List UInt8 := [17, 0, 240, 27, 104, 7, 42, 180, 0, 105, 27, 46, 4, 100, 28, 100, 104, 96, 29, 96, 46, 167, 0, 5]
abbrev dktX1_log_2 : List UInt8 := dkwX1_log_2 ++ dktX1_log_3
def dkwX1_log_1 : List UInt8 := [21, 4, 172, 28, 3, 42, 180, 0, 105, 27, 46, 4, 100, 184, 0, 145, 153, 0, 31, 42, 180, 0, 108]
abbrev dktX1_log_1 : List UInt8 := dkwX1_log_1 ++ dktX1_log_2
def dkwX1_log_0 : List UInt8 := [29, 3, 6, 184, 0, 145, 154, 0, 5, 2, 172, 42, 27, 182, 0, 203, 54, 4, 21, 4, 156, 0, 6]
abbrev dktX1_log_0 : List UInt8 := dkwX1_log_0 ++ dktX1_log_1
theorem dksX1_log_0 : cX1_log.data.toList.drop 0 = dktX1_log_0 := by decide +kernel
theorem dksX1_log_1 : cX1_log.data.toList.drop 23 = dktX1_log_1 := dk_seg dksX1_log_0 23 rfl rfl
theorem dksX1_log_2 : cX1_log.data.toList.drop 46 = dktX1_log_2 := dk_seg dksX1_log_1 23 rfl rfl
theorem dksX1_log_3 : cX1_log.data.toList.drop 70 = dktX1_log_3 := dk_seg dksX1_log_2 24 rfl rfl
theorem dX1_log_0 : decode cX1_log 0 = .ok (.iload_n 3, 1) := dk_29 (dk_at dksX1_log_0 0 rfl rfl)
theorem dX1_log_1 : decode cX1_log 1 = .ok (.iconst 0, 1) := dk_3 (dk_at dksX1_log_0 1 rfl rfl)
theorem dX1_log_2 : decode cX1_log 2 = .ok (.iconst 3, 1) := dk_6 (dk_at dksX1_log_0 2 rfl rfl)
theorem dX1_log_3 : decode cX1_log 3 = .ok (.invokestatic 145, 3) := dk_184 0 145 (dk_at dksX1_log_0 3 rfl rfl)
theorem dX1_log_6 : decode cX1_log 6 = .ok (.ifCond .ne 5, 3) := dk_154 0 5 (dk_at dksX1_log_0 6 rfl rfl)
theorem dX1_log_9 : decode cX1_log 9 = .ok (.iconst (-1), 1) := dk_2 (dk_at dksX1_log_0 9 rfl rfl)
theorem dX1_log_10 : decode cX1_log 10 = .ok (.ireturn, 1) := dk_172 (dk_at dksX1_log_0 10 rfl rfl)
theorem dX1_log_11 : decode cX1_log 11 = .ok (.aload_n 0, 1) := dk_42 (dk_at dksX1_log_0 11 rfl rfl)
theorem dX1_log_12 : decode cX1_log 12 = .ok (.iload_n 1, 1) := dk_27 (dk_at dksX1_log_0 12 rfl rfl)
theorem dX1_log_13 : decode cX1_log 13 = .ok (.invokevirtual 203, 3) := dk_182 0 203 (dk_at dksX1_log_0 13 rfl rfl)
theorem dX1_log_16 : decode cX1_log 16 = .ok (.istore 4, 2) := dk_54 4 (dk_at dksX1_log_0 16 rfl rfl)
theorem dX1_log_18 : decode cX1_log 18 = .ok (.iload 4, 2) := dk_21 4 (dk_at dksX1_log_0 18 rfl rfl)
theorem dX1_log_20 : decode cX1_log 20 = .ok (.ifCond .ge 6, 3) := dk_156 0 6 (dk_at dksX1_log_0 20 rfl rfl)
theorem dX1_log_23 : decode cX1_log 23 = .ok (.iload 4, 2) := dk_21 4 (dk_at dksX1_log_1 0 rfl rfl)
theorem dX1_log_25 : decode cX1_log 25 = .ok (.ireturn, 1) := dk_172 (dk_at dksX1_log_1 2 rfl rfl)
theorem dX1_log_26 : decode cX1_log 26 = .ok (.iload_n 2, 1) := dk_28 (dk_at dksX1_log_1 3 rfl rfl)
theorem dX1_log_27 : decode cX1_log 27 = .ok (.iconst 0, 1) := dk_3 (dk_at dksX1_log_1 4 rfl rfl)
theorem dX1_log_28 : decode cX1_log 28 = .ok (.aload_n 0, 1) := dk_42 (dk_at dksX1_log_1 5 rfl rfl)
theorem dX1_log_29 : decode cX1_log 29 = .ok (.getfield 105, 3) := dk_180 0 105 (dk_at dksX1_log_1 6 rfl rfl)
theorem dX1_log_32 : decode cX1_log 32 = .ok (.iload_n 1, 1) := dk_27 (dk_at dksX1_log_1 9 rfl rfl)
theorem dX1_log_33 : decode cX1_log 33 = .ok (.iaload, 1) := dk_46 (dk_at dksX1_log_1 10 rfl rfl)
theorem dX1_log_34 : decode cX1_log 34 = .ok (.iconst 1, 1) := dk_4 (dk_at dksX1_log_1 11 rfl rfl)
theorem dX1_log_35 : decode cX1_log 35 = .ok (.isub, 1) := dk_100 (dk_at dksX1_log_1 12 rfl rfl)
theorem dX1_log_36 : decode cX1_log 36 = .ok (.invokestatic 145, 3) := dk_184 0 145 (dk_at dksX1_log_1 13 rfl rfl)
theorem dX1_log_39 : decode cX1_log 39 = .ok (.ifCond .eq 31, 3) := dk_153 0 31 (dk_at dksX1_log_1 16 rfl rfl)
theorem dX1_log_42 : decode cX1_log 42 = .ok (.aload_n 0, 1) := dk_42 (dk_at dksX1_log_1 19 rfl rfl)
theorem dX1_log_43 : decode cX1_log 43 = .ok (.getfield 108, 3) := dk_180 0 108 (dk_at dksX1_log_1 20 rfl rfl)
theorem dX1_log_46 : decode cX1_log 46 = .ok (.sipush 240, 3) := dk_17 0 240 (dk_at dksX1_log_2 0 rfl rfl)
theorem dX1_log_49 : decode cX1_log 49 = .ok (.iload_n 1, 1) := dk_27 (dk_at dksX1_log_2 3 rfl rfl)
theorem dX1_log_50 : decode cX1_log 50 = .ok (.imul, 1) := dk_104 (dk_at dksX1_log_2 4 rfl rfl)
theorem dX1_log_51 : decode cX1_log 51 = .ok (.iconst 4, 1) := dk_7 (dk_at dksX1_log_2 5 rfl rfl)
theorem dX1_log_52 : decode cX1_log 52 = .ok (.aload_n 0, 1) := dk_42 (dk_at dksX1_log_2 6 rfl rfl)
theorem dX1_log_53 : decode cX1_log 53 = .ok (.getfield 105, 3) := dk_180 0 105 (dk_at dksX1_log_2 7 rfl rfl)
theorem dX1_log_56 : decode cX1_log 56 = .ok (.iload_n 1, 1) := dk_27 (dk_at dksX1_log_2 10 rfl rfl)
theorem dX1_log_57 : decode cX1_log 57 = .ok (.iaload, 1) := dk_46 (dk_at dksX1_log_2 11 rfl rfl)
theorem dX1_log_58 : decode cX1_log 58 = .ok (.iconst 1, 1) := dk_4 (dk_at dksX1_log_2 12 rfl rfl)
theorem dX1_log_59 : decode cX1_log 59 = .ok (.isub, 1) := dk_100 (dk_at dksX1_log_2 13 rfl rfl)
theorem dX1_log_60 : decode cX1_log 60 = .ok (.iload_n 2, 1) := dk_28 (dk_at dksX1_log_2 14 rfl rfl)
theorem dX1_log_61 : decode cX1_log 61 = .ok (.isub, 1) := dk_100 (dk_at dksX1_log_2 15 rfl rfl)
theorem dX1_log_62 : decode cX1_log 62 = .ok (.imul, 1) := dk_104 (dk_at dksX1_log_2 16 rfl rfl)
theorem dX1_log_63 : decode cX1_log 63 = .ok (.iadd, 1) := dk_96 (dk_at dksX1_log_2 17 rfl rfl)
theorem dX1_log_64 : decode cX1_log 64 = .ok (.iload_n 3, 1) := dk_29 (dk_at dksX1_log_2 18 rfl rfl)
theorem dX1_log_65 : decode cX1_log 65 = .ok (.iadd, 1) := dk_96 (dk_at dksX1_log_2 19 rfl rfl)
theorem dX1_log_66 : decode cX1_log 66 = .ok (.iaload, 1) := dk_46 (dk_at dksX1_log_2 20 rfl rfl)
theorem dX1_log_67 : decode cX1_log 67 = .ok (.goto 5, 3) := dk_167 0 5 (dk_at dksX1_log_2 21 rfl rfl)
theorem dX1_log_70 : decode cX1_log 70 = .ok (.bipush (-9), 2) := dk_16 247 (dk_at dksX1_log_3 0 rfl rfl)
theorem dX1_log_72 : decode cX1_log 72 = .ok (.ireturn, 1) := dk_172 (dk_at dksX1_log_3 2 rfl rfl)
abbrev cX1_heard : ByteArray := prog_9_method_65_code
def yX1_heard : MethodName := ⟨RX1, "heard", "(III)I"⟩
def dkwX1_heard_4 : List UInt8 := [167, 255, 197, 21, 5, 172]
abbrev dktX1_heard_4 : List UInt8 := dkwX1_heard_4 ++ []
def dkwX1_heard_3 : List UInt8 := [153, 0, 15, 42, 180, 0, 108, 21, 7, 5, 96, 46, 167, 0, 4, 3, 96, 54, 5, 132, 6, 1]
abbrev dktX1_heard_3 : List UInt8 := dkwX1_heard_3 ++ dktX1_heard_4
def dkwX1_heard_2 : List UInt8 := [104, 7, 21, 6, 104, 96, 54, 7, 21, 5, 42, 180, 0, 108, 21, 7, 46, 28, 29, 184, 0, 145]
abbrev dktX1_heard_2 : List UInt8 := dkwX1_heard_2 ++ dktX1_heard_3
def dkwX1_heard_1 : List UInt8 := [21, 4, 172, 3, 54, 5, 3, 54, 6, 21, 6, 42, 180, 0, 105, 27, 46, 162, 0, 54, 17, 0, 240, 27]
abbrev dktX1_heard_1 : List UInt8 := dkwX1_heard_1 ++ dktX1_heard_2
def dkwX1_heard_0 : List UInt8 := [28, 155, 0, 8, 28, 29, 164, 0, 5, 2, 172, 42, 27, 182, 0, 203, 54, 4, 21, 4, 156, 0, 6]
abbrev dktX1_heard_0 : List UInt8 := dkwX1_heard_0 ++ dktX1_heard_1
theorem dksX1_heard_0 : cX1_heard.data.toList.drop 0 = dktX1_heard_0 := by decide +kernel
theorem dksX1_heard_1 : cX1_heard.data.toList.drop 23 = dktX1_heard_1 := dk_seg dksX1_heard_0 23 rfl rfl
theorem dksX1_heard_2 : cX1_heard.data.toList.drop 47 = dktX1_heard_2 := dk_seg dksX1_heard_1 24 rfl rfl
theorem dksX1_heard_3 : cX1_heard.data.toList.drop 69 = dktX1_heard_3 := dk_seg dksX1_heard_2 22 rfl rfl
theorem dksX1_heard_4 : cX1_heard.data.toList.drop 91 = dktX1_heard_4 := dk_seg dksX1_heard_3 22 rfl rfl
theorem dX1_heard_0 : decode cX1_heard 0 = .ok (.iload_n 2, 1) := dk_28 (dk_at dksX1_heard_0 0 rfl rfl)
theorem dX1_heard_1 : decode cX1_heard 1 = .ok (.ifCond .lt 8, 3) := dk_155 0 8 (dk_at dksX1_heard_0 1 rfl rfl)
theorem dX1_heard_4 : decode cX1_heard 4 = .ok (.iload_n 2, 1) := dk_28 (dk_at dksX1_heard_0 4 rfl rfl)
theorem dX1_heard_5 : decode cX1_heard 5 = .ok (.iload_n 3, 1) := dk_29 (dk_at dksX1_heard_0 5 rfl rfl)
theorem dX1_heard_6 : decode cX1_heard 6 = .ok (.if_icmp .le 5, 3) := dk_164 0 5 (dk_at dksX1_heard_0 6 rfl rfl)
theorem dX1_heard_9 : decode cX1_heard 9 = .ok (.iconst (-1), 1) := dk_2 (dk_at dksX1_heard_0 9 rfl rfl)
theorem dX1_heard_10 : decode cX1_heard 10 = .ok (.ireturn, 1) := dk_172 (dk_at dksX1_heard_0 10 rfl rfl)
theorem dX1_heard_11 : decode cX1_heard 11 = .ok (.aload_n 0, 1) := dk_42 (dk_at dksX1_heard_0 11 rfl rfl)
theorem dX1_heard_12 : decode cX1_heard 12 = .ok (.iload_n 1, 1) := dk_27 (dk_at dksX1_heard_0 12 rfl rfl)
theorem dX1_heard_13 : decode cX1_heard 13 = .ok (.invokevirtual 203, 3) := dk_182 0 203 (dk_at dksX1_heard_0 13 rfl rfl)
theorem dX1_heard_16 : decode cX1_heard 16 = .ok (.istore 4, 2) := dk_54 4 (dk_at dksX1_heard_0 16 rfl rfl)
theorem dX1_heard_18 : decode cX1_heard 18 = .ok (.iload 4, 2) := dk_21 4 (dk_at dksX1_heard_0 18 rfl rfl)
theorem dX1_heard_20 : decode cX1_heard 20 = .ok (.ifCond .ge 6, 3) := dk_156 0 6 (dk_at dksX1_heard_0 20 rfl rfl)
theorem dX1_heard_23 : decode cX1_heard 23 = .ok (.iload 4, 2) := dk_21 4 (dk_at dksX1_heard_1 0 rfl rfl)
theorem dX1_heard_25 : decode cX1_heard 25 = .ok (.ireturn, 1) := dk_172 (dk_at dksX1_heard_1 2 rfl rfl)
theorem dX1_heard_26 : decode cX1_heard 26 = .ok (.iconst 0, 1) := dk_3 (dk_at dksX1_heard_1 3 rfl rfl)
theorem dX1_heard_27 : decode cX1_heard 27 = .ok (.istore 5, 2) := dk_54 5 (dk_at dksX1_heard_1 4 rfl rfl)
theorem dX1_heard_29 : decode cX1_heard 29 = .ok (.iconst 0, 1) := dk_3 (dk_at dksX1_heard_1 6 rfl rfl)
theorem dX1_heard_30 : decode cX1_heard 30 = .ok (.istore 6, 2) := dk_54 6 (dk_at dksX1_heard_1 7 rfl rfl)
theorem dX1_heard_32 : decode cX1_heard 32 = .ok (.iload 6, 2) := dk_21 6 (dk_at dksX1_heard_1 9 rfl rfl)
theorem dX1_heard_34 : decode cX1_heard 34 = .ok (.aload_n 0, 1) := dk_42 (dk_at dksX1_heard_1 11 rfl rfl)
theorem dX1_heard_35 : decode cX1_heard 35 = .ok (.getfield 105, 3) := dk_180 0 105 (dk_at dksX1_heard_1 12 rfl rfl)
theorem dX1_heard_38 : decode cX1_heard 38 = .ok (.iload_n 1, 1) := dk_27 (dk_at dksX1_heard_1 15 rfl rfl)
theorem dX1_heard_39 : decode cX1_heard 39 = .ok (.iaload, 1) := dk_46 (dk_at dksX1_heard_1 16 rfl rfl)
theorem dX1_heard_40 : decode cX1_heard 40 = .ok (.if_icmp .ge 54, 3) := dk_162 0 54 (dk_at dksX1_heard_1 17 rfl rfl)
theorem dX1_heard_43 : decode cX1_heard 43 = .ok (.sipush 240, 3) := dk_17 0 240 (dk_at dksX1_heard_1 20 rfl rfl)
theorem dX1_heard_46 : decode cX1_heard 46 = .ok (.iload_n 1, 1) := dk_27 (dk_at dksX1_heard_1 23 rfl rfl)
theorem dX1_heard_47 : decode cX1_heard 47 = .ok (.imul, 1) := dk_104 (dk_at dksX1_heard_2 0 rfl rfl)
theorem dX1_heard_48 : decode cX1_heard 48 = .ok (.iconst 4, 1) := dk_7 (dk_at dksX1_heard_2 1 rfl rfl)
theorem dX1_heard_49 : decode cX1_heard 49 = .ok (.iload 6, 2) := dk_21 6 (dk_at dksX1_heard_2 2 rfl rfl)
theorem dX1_heard_51 : decode cX1_heard 51 = .ok (.imul, 1) := dk_104 (dk_at dksX1_heard_2 4 rfl rfl)
theorem dX1_heard_52 : decode cX1_heard 52 = .ok (.iadd, 1) := dk_96 (dk_at dksX1_heard_2 5 rfl rfl)
theorem dX1_heard_53 : decode cX1_heard 53 = .ok (.istore 7, 2) := dk_54 7 (dk_at dksX1_heard_2 6 rfl rfl)
theorem dX1_heard_55 : decode cX1_heard 55 = .ok (.iload 5, 2) := dk_21 5 (dk_at dksX1_heard_2 8 rfl rfl)
theorem dX1_heard_57 : decode cX1_heard 57 = .ok (.aload_n 0, 1) := dk_42 (dk_at dksX1_heard_2 10 rfl rfl)
theorem dX1_heard_58 : decode cX1_heard 58 = .ok (.getfield 108, 3) := dk_180 0 108 (dk_at dksX1_heard_2 11 rfl rfl)
theorem dX1_heard_61 : decode cX1_heard 61 = .ok (.iload 7, 2) := dk_21 7 (dk_at dksX1_heard_2 14 rfl rfl)
theorem dX1_heard_63 : decode cX1_heard 63 = .ok (.iaload, 1) := dk_46 (dk_at dksX1_heard_2 16 rfl rfl)
theorem dX1_heard_64 : decode cX1_heard 64 = .ok (.iload_n 2, 1) := dk_28 (dk_at dksX1_heard_2 17 rfl rfl)
theorem dX1_heard_65 : decode cX1_heard 65 = .ok (.iload_n 3, 1) := dk_29 (dk_at dksX1_heard_2 18 rfl rfl)
theorem dX1_heard_66 : decode cX1_heard 66 = .ok (.invokestatic 145, 3) := dk_184 0 145 (dk_at dksX1_heard_2 19 rfl rfl)
theorem dX1_heard_69 : decode cX1_heard 69 = .ok (.ifCond .eq 15, 3) := dk_153 0 15 (dk_at dksX1_heard_3 0 rfl rfl)
theorem dX1_heard_72 : decode cX1_heard 72 = .ok (.aload_n 0, 1) := dk_42 (dk_at dksX1_heard_3 3 rfl rfl)
theorem dX1_heard_73 : decode cX1_heard 73 = .ok (.getfield 108, 3) := dk_180 0 108 (dk_at dksX1_heard_3 4 rfl rfl)
theorem dX1_heard_76 : decode cX1_heard 76 = .ok (.iload 7, 2) := dk_21 7 (dk_at dksX1_heard_3 7 rfl rfl)
theorem dX1_heard_78 : decode cX1_heard 78 = .ok (.iconst 2, 1) := dk_5 (dk_at dksX1_heard_3 9 rfl rfl)
theorem dX1_heard_79 : decode cX1_heard 79 = .ok (.iadd, 1) := dk_96 (dk_at dksX1_heard_3 10 rfl rfl)
theorem dX1_heard_80 : decode cX1_heard 80 = .ok (.iaload, 1) := dk_46 (dk_at dksX1_heard_3 11 rfl rfl)
theorem dX1_heard_81 : decode cX1_heard 81 = .ok (.goto 4, 3) := dk_167 0 4 (dk_at dksX1_heard_3 12 rfl rfl)
theorem dX1_heard_84 : decode cX1_heard 84 = .ok (.iconst 0, 1) := dk_3 (dk_at dksX1_heard_3 15 rfl rfl)
theorem dX1_heard_85 : decode cX1_heard 85 = .ok (.iadd, 1) := dk_96 (dk_at dksX1_heard_3 16 rfl rfl)
theorem dX1_heard_86 : decode cX1_heard 86 = .ok (.istore 5, 2) := dk_54 5 (dk_at dksX1_heard_3 17 rfl rfl)
theorem dX1_heard_88 : decode cX1_heard 88 = .ok (.iinc 6 1, 3) := dk_132 6 1 (dk_at dksX1_heard_3 19 rfl rfl)
theorem dX1_heard_91 : decode cX1_heard 91 = .ok (.goto (-59), 3) := dk_167 255 197 (dk_at dksX1_heard_4 0 rfl rfl)
theorem dX1_heard_94 : decode cX1_heard 94 = .ok (.iload 5, 2) := dk_21 5 (dk_at dksX1_heard_4 3 rfl rfl)
theorem dX1_heard_96 : decode cX1_heard 96 = .ok (.ireturn, 1) := dk_172 (dk_at dksX1_heard_4 5 rfl rfl)
abbrev cX1_ahead : ByteArray := prog_9_method_67_code
def yX1_ahead : MethodName := ⟨RX1, "ahead", "(II)I"⟩
def dkwX1_ahead_2 : List UInt8 := [17, 5, 160, 100, 167, 0, 5, 21, 4, 172]
abbrev dktX1_ahead_2 : List UInt8 := dkwX1_ahead_2 ++ []
def dkwX1_ahead_1 : List UInt8 := [180, 0, 75, 28, 46, 100, 17, 5, 160, 112, 54, 4, 21, 4, 17, 2, 208, 164, 0, 12, 21, 4]
abbrev dktX1_ahead_1 : List UInt8 := dkwX1_ahead_1 ++ dktX1_ahead_2
def dkwX1_ahead_0 : List UInt8 := [42, 27, 28, 182, 1, 0, 62, 29, 156, 0, 5, 29, 172, 42, 180, 0, 75, 27, 46, 17, 5, 160, 96, 42]
abbrev dktX1_ahead_0 : List UInt8 := dkwX1_ahead_0 ++ dktX1_ahead_1
theorem dksX1_ahead_0 : cX1_ahead.data.toList.drop 0 = dktX1_ahead_0 := by decide +kernel
theorem dksX1_ahead_1 : cX1_ahead.data.toList.drop 24 = dktX1_ahead_1 := dk_seg dksX1_ahead_0 24 rfl rfl
theorem dksX1_ahead_2 : cX1_ahead.data.toList.drop 46 = dktX1_ahead_2 := dk_seg dksX1_ahead_1 22 rfl rfl
theorem dX1_ahead_0 : decode cX1_ahead 0 = .ok (.aload_n 0, 1) := dk_42 (dk_at dksX1_ahead_0 0 rfl rfl)
theorem dX1_ahead_1 : decode cX1_ahead 1 = .ok (.iload_n 1, 1) := dk_27 (dk_at dksX1_ahead_0 1 rfl rfl)
theorem dX1_ahead_2 : decode cX1_ahead 2 = .ok (.iload_n 2, 1) := dk_28 (dk_at dksX1_ahead_0 2 rfl rfl)
theorem dX1_ahead_3 : decode cX1_ahead 3 = .ok (.invokevirtual 256, 3) := dk_182 1 0 (dk_at dksX1_ahead_0 3 rfl rfl)
theorem dX1_ahead_6 : decode cX1_ahead 6 = .ok (.istore_n 3, 1) := dk_62 (dk_at dksX1_ahead_0 6 rfl rfl)
theorem dX1_ahead_7 : decode cX1_ahead 7 = .ok (.iload_n 3, 1) := dk_29 (dk_at dksX1_ahead_0 7 rfl rfl)
theorem dX1_ahead_8 : decode cX1_ahead 8 = .ok (.ifCond .ge 5, 3) := dk_156 0 5 (dk_at dksX1_ahead_0 8 rfl rfl)
theorem dX1_ahead_11 : decode cX1_ahead 11 = .ok (.iload_n 3, 1) := dk_29 (dk_at dksX1_ahead_0 11 rfl rfl)
theorem dX1_ahead_12 : decode cX1_ahead 12 = .ok (.ireturn, 1) := dk_172 (dk_at dksX1_ahead_0 12 rfl rfl)
theorem dX1_ahead_13 : decode cX1_ahead 13 = .ok (.aload_n 0, 1) := dk_42 (dk_at dksX1_ahead_0 13 rfl rfl)
theorem dX1_ahead_14 : decode cX1_ahead 14 = .ok (.getfield 75, 3) := dk_180 0 75 (dk_at dksX1_ahead_0 14 rfl rfl)
theorem dX1_ahead_17 : decode cX1_ahead 17 = .ok (.iload_n 1, 1) := dk_27 (dk_at dksX1_ahead_0 17 rfl rfl)
theorem dX1_ahead_18 : decode cX1_ahead 18 = .ok (.iaload, 1) := dk_46 (dk_at dksX1_ahead_0 18 rfl rfl)
theorem dX1_ahead_19 : decode cX1_ahead 19 = .ok (.sipush 1440, 3) := dk_17 5 160 (dk_at dksX1_ahead_0 19 rfl rfl)
theorem dX1_ahead_22 : decode cX1_ahead 22 = .ok (.iadd, 1) := dk_96 (dk_at dksX1_ahead_0 22 rfl rfl)
theorem dX1_ahead_23 : decode cX1_ahead 23 = .ok (.aload_n 0, 1) := dk_42 (dk_at dksX1_ahead_0 23 rfl rfl)
theorem dX1_ahead_24 : decode cX1_ahead 24 = .ok (.getfield 75, 3) := dk_180 0 75 (dk_at dksX1_ahead_1 0 rfl rfl)
theorem dX1_ahead_27 : decode cX1_ahead 27 = .ok (.iload_n 2, 1) := dk_28 (dk_at dksX1_ahead_1 3 rfl rfl)
theorem dX1_ahead_28 : decode cX1_ahead 28 = .ok (.iaload, 1) := dk_46 (dk_at dksX1_ahead_1 4 rfl rfl)
theorem dX1_ahead_29 : decode cX1_ahead 29 = .ok (.isub, 1) := dk_100 (dk_at dksX1_ahead_1 5 rfl rfl)
theorem dX1_ahead_30 : decode cX1_ahead 30 = .ok (.sipush 1440, 3) := dk_17 5 160 (dk_at dksX1_ahead_1 6 rfl rfl)
theorem dX1_ahead_33 : decode cX1_ahead 33 = .ok (.irem, 1) := dk_112 (dk_at dksX1_ahead_1 9 rfl rfl)
theorem dX1_ahead_34 : decode cX1_ahead 34 = .ok (.istore 4, 2) := dk_54 4 (dk_at dksX1_ahead_1 10 rfl rfl)
theorem dX1_ahead_36 : decode cX1_ahead 36 = .ok (.iload 4, 2) := dk_21 4 (dk_at dksX1_ahead_1 12 rfl rfl)
theorem dX1_ahead_38 : decode cX1_ahead 38 = .ok (.sipush 720, 3) := dk_17 2 208 (dk_at dksX1_ahead_1 14 rfl rfl)
theorem dX1_ahead_41 : decode cX1_ahead 41 = .ok (.if_icmp .le 12, 3) := dk_164 0 12 (dk_at dksX1_ahead_1 17 rfl rfl)
theorem dX1_ahead_44 : decode cX1_ahead 44 = .ok (.iload 4, 2) := dk_21 4 (dk_at dksX1_ahead_1 20 rfl rfl)
theorem dX1_ahead_46 : decode cX1_ahead 46 = .ok (.sipush 1440, 3) := dk_17 5 160 (dk_at dksX1_ahead_2 0 rfl rfl)
theorem dX1_ahead_49 : decode cX1_ahead 49 = .ok (.isub, 1) := dk_100 (dk_at dksX1_ahead_2 3 rfl rfl)
theorem dX1_ahead_50 : decode cX1_ahead 50 = .ok (.goto 5, 3) := dk_167 0 5 (dk_at dksX1_ahead_2 4 rfl rfl)
theorem dX1_ahead_53 : decode cX1_ahead 53 = .ok (.iload 4, 2) := dk_21 4 (dk_at dksX1_ahead_2 7 rfl rfl)
theorem dX1_ahead_55 : decode cX1_ahead 55 = .ok (.ireturn, 1) := dk_172 (dk_at dksX1_ahead_2 9 rfl rfl)
abbrev cX1_askedTwo : ByteArray := prog_9_method_66_code
def yX1_askedTwo : MethodName := ⟨RX1, "askedTwo", "(II)I"⟩
def dkwX1_askedTwo_1 : List UInt8 := [153, 0, 16, 42, 180, 0, 72, 28, 51, 153, 0, 7, 3, 167, 0, 8, 42, 4, 182, 0, 153, 172]
abbrev dktX1_askedTwo_1 : List UInt8 := dkwX1_askedTwo_1 ++ []
def dkwX1_askedTwo_0 : List UInt8 := [27, 184, 0, 193, 153, 0, 10, 28, 184, 0, 193, 154, 0, 7, 2, 167, 0, 30, 42, 180, 0, 72, 27, 51]
abbrev dktX1_askedTwo_0 : List UInt8 := dkwX1_askedTwo_0 ++ dktX1_askedTwo_1
theorem dksX1_askedTwo_0 : cX1_askedTwo.data.toList.drop 0 = dktX1_askedTwo_0 := by decide +kernel
theorem dksX1_askedTwo_1 : cX1_askedTwo.data.toList.drop 24 = dktX1_askedTwo_1 := dk_seg dksX1_askedTwo_0 24 rfl rfl
theorem dX1_askedTwo_0 : decode cX1_askedTwo 0 = .ok (.iload_n 1, 1) := dk_27 (dk_at dksX1_askedTwo_0 0 rfl rfl)
theorem dX1_askedTwo_1 : decode cX1_askedTwo 1 = .ok (.invokestatic 193, 3) := dk_184 0 193 (dk_at dksX1_askedTwo_0 1 rfl rfl)
theorem dX1_askedTwo_4 : decode cX1_askedTwo 4 = .ok (.ifCond .eq 10, 3) := dk_153 0 10 (dk_at dksX1_askedTwo_0 4 rfl rfl)
theorem dX1_askedTwo_7 : decode cX1_askedTwo 7 = .ok (.iload_n 2, 1) := dk_28 (dk_at dksX1_askedTwo_0 7 rfl rfl)
theorem dX1_askedTwo_8 : decode cX1_askedTwo 8 = .ok (.invokestatic 193, 3) := dk_184 0 193 (dk_at dksX1_askedTwo_0 8 rfl rfl)
theorem dX1_askedTwo_11 : decode cX1_askedTwo 11 = .ok (.ifCond .ne 7, 3) := dk_154 0 7 (dk_at dksX1_askedTwo_0 11 rfl rfl)
theorem dX1_askedTwo_14 : decode cX1_askedTwo 14 = .ok (.iconst (-1), 1) := dk_2 (dk_at dksX1_askedTwo_0 14 rfl rfl)
theorem dX1_askedTwo_15 : decode cX1_askedTwo 15 = .ok (.goto 30, 3) := dk_167 0 30 (dk_at dksX1_askedTwo_0 15 rfl rfl)
theorem dX1_askedTwo_18 : decode cX1_askedTwo 18 = .ok (.aload_n 0, 1) := dk_42 (dk_at dksX1_askedTwo_0 18 rfl rfl)
theorem dX1_askedTwo_19 : decode cX1_askedTwo 19 = .ok (.getfield 72, 3) := dk_180 0 72 (dk_at dksX1_askedTwo_0 19 rfl rfl)
theorem dX1_askedTwo_22 : decode cX1_askedTwo 22 = .ok (.iload_n 1, 1) := dk_27 (dk_at dksX1_askedTwo_0 22 rfl rfl)
theorem dX1_askedTwo_23 : decode cX1_askedTwo 23 = .ok (.baload, 1) := dk_51 (dk_at dksX1_askedTwo_0 23 rfl rfl)
theorem dX1_askedTwo_24 : decode cX1_askedTwo 24 = .ok (.ifCond .eq 16, 3) := dk_153 0 16 (dk_at dksX1_askedTwo_1 0 rfl rfl)
theorem dX1_askedTwo_27 : decode cX1_askedTwo 27 = .ok (.aload_n 0, 1) := dk_42 (dk_at dksX1_askedTwo_1 3 rfl rfl)
theorem dX1_askedTwo_28 : decode cX1_askedTwo 28 = .ok (.getfield 72, 3) := dk_180 0 72 (dk_at dksX1_askedTwo_1 4 rfl rfl)
theorem dX1_askedTwo_31 : decode cX1_askedTwo 31 = .ok (.iload_n 2, 1) := dk_28 (dk_at dksX1_askedTwo_1 7 rfl rfl)
theorem dX1_askedTwo_32 : decode cX1_askedTwo 32 = .ok (.baload, 1) := dk_51 (dk_at dksX1_askedTwo_1 8 rfl rfl)
theorem dX1_askedTwo_33 : decode cX1_askedTwo 33 = .ok (.ifCond .eq 7, 3) := dk_153 0 7 (dk_at dksX1_askedTwo_1 9 rfl rfl)
theorem dX1_askedTwo_36 : decode cX1_askedTwo 36 = .ok (.iconst 0, 1) := dk_3 (dk_at dksX1_askedTwo_1 12 rfl rfl)
theorem dX1_askedTwo_37 : decode cX1_askedTwo 37 = .ok (.goto 8, 3) := dk_167 0 8 (dk_at dksX1_askedTwo_1 13 rfl rfl)
theorem dX1_askedTwo_40 : decode cX1_askedTwo 40 = .ok (.aload_n 0, 1) := dk_42 (dk_at dksX1_askedTwo_1 16 rfl rfl)
theorem dX1_askedTwo_41 : decode cX1_askedTwo 41 = .ok (.iconst 1, 1) := dk_4 (dk_at dksX1_askedTwo_1 17 rfl rfl)
theorem dX1_askedTwo_42 : decode cX1_askedTwo 42 = .ok (.invokevirtual 153, 3) := dk_182 0 153 (dk_at dksX1_askedTwo_1 18 rfl rfl)
theorem dX1_askedTwo_45 : decode cX1_askedTwo 45 = .ok (.ireturn, 1) := dk_172 (dk_at dksX1_askedTwo_1 21 rfl rfl)
abbrev cX1_meet : ByteArray := prog_9_method_68_code
def yX1_meet : MethodName := ⟨RX1, "meet", "(II)I"⟩
def dkwX1_meet_7 : List UInt8 := [117, 55, 12, 22, 10, 22, 12, 97, 10, 101, 22, 12, 109, 136, 172]
abbrev dktX1_meet_7 : List UInt8 := dkwX1_meet_7 ++ []
def dkwX1_meet_6 : List UInt8 := [22, 6, 101, 167, 0, 5, 22, 6, 55, 10, 22, 8, 9, 148, 158, 0, 8, 22, 8, 167, 0, 6, 22, 8]
abbrev dktX1_meet_6 : List UInt8 := dkwX1_meet_6 ++ dktX1_meet_7
def dkwX1_meet_5 : List UInt8 := [22, 6, 9, 148, 154, 0, 7, 3, 167, 0, 5, 16, 247, 172, 22, 8, 9, 148, 158, 0, 11, 22, 4]
abbrev dktX1_meet_5 : List UInt8 := dkwX1_meet_5 ++ dktX1_meet_6
def dkwX1_meet_4 : List UInt8 := [42, 180, 0, 78, 28, 46, 100, 133, 55, 8, 22, 6, 9, 148, 153, 0, 10, 22, 8, 9, 148, 154, 0, 17]
abbrev dktX1_meet_4 : List UInt8 := dkwX1_meet_4 ++ dktX1_meet_5
def dkwX1_meet_3 : List UInt8 := [46, 133, 101, 55, 6, 22, 6, 22, 4, 113, 22, 4, 97, 22, 4, 113, 55, 6, 42, 180, 0, 78, 27, 46]
abbrev dktX1_meet_3 : List UInt8 := dkwX1_meet_3 ++ dktX1_meet_4
def dkwX1_meet_2 : List UInt8 := [180, 0, 75, 28, 46, 100, 133, 20, 1, 5, 105, 42, 180, 0, 84, 27, 46, 133, 97, 42, 180, 0, 84, 28]
abbrev dktX1_meet_2 : List UInt8 := dkwX1_meet_2 ++ dktX1_meet_3
def dkwX1_meet_1 : List UInt8 := [180, 0, 87, 28, 51, 154, 0, 6, 16, 252, 172, 20, 1, 3, 55, 4, 42, 180, 0, 75, 27, 46, 42]
abbrev dktX1_meet_1 : List UInt8 := dkwX1_meet_1 ++ dktX1_meet_2
def dkwX1_meet_0 : List UInt8 := [42, 27, 28, 182, 1, 0, 62, 29, 156, 0, 5, 29, 172, 42, 180, 0, 87, 27, 51, 153, 0, 12, 42]
abbrev dktX1_meet_0 : List UInt8 := dkwX1_meet_0 ++ dktX1_meet_1
theorem dksX1_meet_0 : cX1_meet.data.toList.drop 0 = dktX1_meet_0 := by decide +kernel
theorem dksX1_meet_1 : cX1_meet.data.toList.drop 23 = dktX1_meet_1 := dk_seg dksX1_meet_0 23 rfl rfl
theorem dksX1_meet_2 : cX1_meet.data.toList.drop 46 = dktX1_meet_2 := dk_seg dksX1_meet_1 23 rfl rfl
theorem dksX1_meet_3 : cX1_meet.data.toList.drop 70 = dktX1_meet_3 := dk_seg dksX1_meet_2 24 rfl rfl
theorem dksX1_meet_4 : cX1_meet.data.toList.drop 94 = dktX1_meet_4 := dk_seg dksX1_meet_3 24 rfl rfl
theorem dksX1_meet_5 : cX1_meet.data.toList.drop 118 = dktX1_meet_5 := dk_seg dksX1_meet_4 24 rfl rfl
theorem dksX1_meet_6 : cX1_meet.data.toList.drop 141 = dktX1_meet_6 := dk_seg dksX1_meet_5 23 rfl rfl
theorem dksX1_meet_7 : cX1_meet.data.toList.drop 165 = dktX1_meet_7 := dk_seg dksX1_meet_6 24 rfl rfl
theorem dX1_meet_0 : decode cX1_meet 0 = .ok (.aload_n 0, 1) := dk_42 (dk_at dksX1_meet_0 0 rfl rfl)
theorem dX1_meet_1 : decode cX1_meet 1 = .ok (.iload_n 1, 1) := dk_27 (dk_at dksX1_meet_0 1 rfl rfl)
theorem dX1_meet_2 : decode cX1_meet 2 = .ok (.iload_n 2, 1) := dk_28 (dk_at dksX1_meet_0 2 rfl rfl)
theorem dX1_meet_3 : decode cX1_meet 3 = .ok (.invokevirtual 256, 3) := dk_182 1 0 (dk_at dksX1_meet_0 3 rfl rfl)
theorem dX1_meet_6 : decode cX1_meet 6 = .ok (.istore_n 3, 1) := dk_62 (dk_at dksX1_meet_0 6 rfl rfl)
theorem dX1_meet_7 : decode cX1_meet 7 = .ok (.iload_n 3, 1) := dk_29 (dk_at dksX1_meet_0 7 rfl rfl)
theorem dX1_meet_8 : decode cX1_meet 8 = .ok (.ifCond .ge 5, 3) := dk_156 0 5 (dk_at dksX1_meet_0 8 rfl rfl)
theorem dX1_meet_11 : decode cX1_meet 11 = .ok (.iload_n 3, 1) := dk_29 (dk_at dksX1_meet_0 11 rfl rfl)
theorem dX1_meet_12 : decode cX1_meet 12 = .ok (.ireturn, 1) := dk_172 (dk_at dksX1_meet_0 12 rfl rfl)
theorem dX1_meet_13 : decode cX1_meet 13 = .ok (.aload_n 0, 1) := dk_42 (dk_at dksX1_meet_0 13 rfl rfl)
theorem dX1_meet_14 : decode cX1_meet 14 = .ok (.getfield 87, 3) := dk_180 0 87 (dk_at dksX1_meet_0 14 rfl rfl)
theorem dX1_meet_17 : decode cX1_meet 17 = .ok (.iload_n 1, 1) := dk_27 (dk_at dksX1_meet_0 17 rfl rfl)
theorem dX1_meet_18 : decode cX1_meet 18 = .ok (.baload, 1) := dk_51 (dk_at dksX1_meet_0 18 rfl rfl)
theorem dX1_meet_19 : decode cX1_meet 19 = .ok (.ifCond .eq 12, 3) := dk_153 0 12 (dk_at dksX1_meet_0 19 rfl rfl)
theorem dX1_meet_22 : decode cX1_meet 22 = .ok (.aload_n 0, 1) := dk_42 (dk_at dksX1_meet_0 22 rfl rfl)
theorem dX1_meet_23 : decode cX1_meet 23 = .ok (.getfield 87, 3) := dk_180 0 87 (dk_at dksX1_meet_1 0 rfl rfl)
theorem dX1_meet_26 : decode cX1_meet 26 = .ok (.iload_n 2, 1) := dk_28 (dk_at dksX1_meet_1 3 rfl rfl)
theorem dX1_meet_27 : decode cX1_meet 27 = .ok (.baload, 1) := dk_51 (dk_at dksX1_meet_1 4 rfl rfl)
theorem dX1_meet_28 : decode cX1_meet 28 = .ok (.ifCond .ne 6, 3) := dk_154 0 6 (dk_at dksX1_meet_1 5 rfl rfl)
theorem dX1_meet_31 : decode cX1_meet 31 = .ok (.bipush (-4), 2) := dk_16 252 (dk_at dksX1_meet_1 8 rfl rfl)
theorem dX1_meet_33 : decode cX1_meet 33 = .ok (.ireturn, 1) := dk_172 (dk_at dksX1_meet_1 10 rfl rfl)
theorem dX1_meet_34 : decode cX1_meet 34 = .ok (.ldc2_w 259, 3) := dk_20 1 3 (dk_at dksX1_meet_1 11 rfl rfl)
theorem dX1_meet_37 : decode cX1_meet 37 = .ok (.lstore 4, 2) := dk_55 4 (dk_at dksX1_meet_1 14 rfl rfl)
theorem dX1_meet_39 : decode cX1_meet 39 = .ok (.aload_n 0, 1) := dk_42 (dk_at dksX1_meet_1 16 rfl rfl)
theorem dX1_meet_40 : decode cX1_meet 40 = .ok (.getfield 75, 3) := dk_180 0 75 (dk_at dksX1_meet_1 17 rfl rfl)
theorem dX1_meet_43 : decode cX1_meet 43 = .ok (.iload_n 1, 1) := dk_27 (dk_at dksX1_meet_1 20 rfl rfl)
theorem dX1_meet_44 : decode cX1_meet 44 = .ok (.iaload, 1) := dk_46 (dk_at dksX1_meet_1 21 rfl rfl)
theorem dX1_meet_45 : decode cX1_meet 45 = .ok (.aload_n 0, 1) := dk_42 (dk_at dksX1_meet_1 22 rfl rfl)
theorem dX1_meet_46 : decode cX1_meet 46 = .ok (.getfield 75, 3) := dk_180 0 75 (dk_at dksX1_meet_2 0 rfl rfl)
theorem dX1_meet_49 : decode cX1_meet 49 = .ok (.iload_n 2, 1) := dk_28 (dk_at dksX1_meet_2 3 rfl rfl)
theorem dX1_meet_50 : decode cX1_meet 50 = .ok (.iaload, 1) := dk_46 (dk_at dksX1_meet_2 4 rfl rfl)
theorem dX1_meet_51 : decode cX1_meet 51 = .ok (.isub, 1) := dk_100 (dk_at dksX1_meet_2 5 rfl rfl)
theorem dX1_meet_52 : decode cX1_meet 52 = .ok (.i2l, 1) := dk_133 (dk_at dksX1_meet_2 6 rfl rfl)
theorem dX1_meet_53 : decode cX1_meet 53 = .ok (.ldc2_w 261, 3) := dk_20 1 5 (dk_at dksX1_meet_2 7 rfl rfl)
theorem dX1_meet_56 : decode cX1_meet 56 = .ok (.lmul, 1) := dk_105 (dk_at dksX1_meet_2 10 rfl rfl)
theorem dX1_meet_57 : decode cX1_meet 57 = .ok (.aload_n 0, 1) := dk_42 (dk_at dksX1_meet_2 11 rfl rfl)
theorem dX1_meet_58 : decode cX1_meet 58 = .ok (.getfield 84, 3) := dk_180 0 84 (dk_at dksX1_meet_2 12 rfl rfl)
theorem dX1_meet_61 : decode cX1_meet 61 = .ok (.iload_n 1, 1) := dk_27 (dk_at dksX1_meet_2 15 rfl rfl)
theorem dX1_meet_62 : decode cX1_meet 62 = .ok (.iaload, 1) := dk_46 (dk_at dksX1_meet_2 16 rfl rfl)
theorem dX1_meet_63 : decode cX1_meet 63 = .ok (.i2l, 1) := dk_133 (dk_at dksX1_meet_2 17 rfl rfl)
theorem dX1_meet_64 : decode cX1_meet 64 = .ok (.ladd, 1) := dk_97 (dk_at dksX1_meet_2 18 rfl rfl)
theorem dX1_meet_65 : decode cX1_meet 65 = .ok (.aload_n 0, 1) := dk_42 (dk_at dksX1_meet_2 19 rfl rfl)
theorem dX1_meet_66 : decode cX1_meet 66 = .ok (.getfield 84, 3) := dk_180 0 84 (dk_at dksX1_meet_2 20 rfl rfl)
theorem dX1_meet_69 : decode cX1_meet 69 = .ok (.iload_n 2, 1) := dk_28 (dk_at dksX1_meet_2 23 rfl rfl)
theorem dX1_meet_70 : decode cX1_meet 70 = .ok (.iaload, 1) := dk_46 (dk_at dksX1_meet_3 0 rfl rfl)
theorem dX1_meet_71 : decode cX1_meet 71 = .ok (.i2l, 1) := dk_133 (dk_at dksX1_meet_3 1 rfl rfl)
theorem dX1_meet_72 : decode cX1_meet 72 = .ok (.lsub, 1) := dk_101 (dk_at dksX1_meet_3 2 rfl rfl)
theorem dX1_meet_73 : decode cX1_meet 73 = .ok (.lstore 6, 2) := dk_55 6 (dk_at dksX1_meet_3 3 rfl rfl)
theorem dX1_meet_75 : decode cX1_meet 75 = .ok (.lload 6, 2) := dk_22 6 (dk_at dksX1_meet_3 5 rfl rfl)
theorem dX1_meet_77 : decode cX1_meet 77 = .ok (.lload 4, 2) := dk_22 4 (dk_at dksX1_meet_3 7 rfl rfl)
theorem dX1_meet_79 : decode cX1_meet 79 = .ok (.lrem, 1) := dk_113 (dk_at dksX1_meet_3 9 rfl rfl)
theorem dX1_meet_80 : decode cX1_meet 80 = .ok (.lload 4, 2) := dk_22 4 (dk_at dksX1_meet_3 10 rfl rfl)
theorem dX1_meet_82 : decode cX1_meet 82 = .ok (.ladd, 1) := dk_97 (dk_at dksX1_meet_3 12 rfl rfl)
theorem dX1_meet_83 : decode cX1_meet 83 = .ok (.lload 4, 2) := dk_22 4 (dk_at dksX1_meet_3 13 rfl rfl)
theorem dX1_meet_85 : decode cX1_meet 85 = .ok (.lrem, 1) := dk_113 (dk_at dksX1_meet_3 15 rfl rfl)
theorem dX1_meet_86 : decode cX1_meet 86 = .ok (.lstore 6, 2) := dk_55 6 (dk_at dksX1_meet_3 16 rfl rfl)
theorem dX1_meet_88 : decode cX1_meet 88 = .ok (.aload_n 0, 1) := dk_42 (dk_at dksX1_meet_3 18 rfl rfl)
theorem dX1_meet_89 : decode cX1_meet 89 = .ok (.getfield 78, 3) := dk_180 0 78 (dk_at dksX1_meet_3 19 rfl rfl)
theorem dX1_meet_92 : decode cX1_meet 92 = .ok (.iload_n 1, 1) := dk_27 (dk_at dksX1_meet_3 22 rfl rfl)
theorem dX1_meet_93 : decode cX1_meet 93 = .ok (.iaload, 1) := dk_46 (dk_at dksX1_meet_3 23 rfl rfl)
theorem dX1_meet_94 : decode cX1_meet 94 = .ok (.aload_n 0, 1) := dk_42 (dk_at dksX1_meet_4 0 rfl rfl)
theorem dX1_meet_95 : decode cX1_meet 95 = .ok (.getfield 78, 3) := dk_180 0 78 (dk_at dksX1_meet_4 1 rfl rfl)
theorem dX1_meet_98 : decode cX1_meet 98 = .ok (.iload_n 2, 1) := dk_28 (dk_at dksX1_meet_4 4 rfl rfl)
theorem dX1_meet_99 : decode cX1_meet 99 = .ok (.iaload, 1) := dk_46 (dk_at dksX1_meet_4 5 rfl rfl)
theorem dX1_meet_100 : decode cX1_meet 100 = .ok (.isub, 1) := dk_100 (dk_at dksX1_meet_4 6 rfl rfl)
theorem dX1_meet_101 : decode cX1_meet 101 = .ok (.i2l, 1) := dk_133 (dk_at dksX1_meet_4 7 rfl rfl)
theorem dX1_meet_102 : decode cX1_meet 102 = .ok (.lstore 8, 2) := dk_55 8 (dk_at dksX1_meet_4 8 rfl rfl)
theorem dX1_meet_104 : decode cX1_meet 104 = .ok (.lload 6, 2) := dk_22 6 (dk_at dksX1_meet_4 10 rfl rfl)
theorem dX1_meet_106 : decode cX1_meet 106 = .ok (.lconst 0, 1) := dk_9 (dk_at dksX1_meet_4 12 rfl rfl)
theorem dX1_meet_107 : decode cX1_meet 107 = .ok (.lcmp, 1) := dk_148 (dk_at dksX1_meet_4 13 rfl rfl)
theorem dX1_meet_108 : decode cX1_meet 108 = .ok (.ifCond .eq 10, 3) := dk_153 0 10 (dk_at dksX1_meet_4 14 rfl rfl)
theorem dX1_meet_111 : decode cX1_meet 111 = .ok (.lload 8, 2) := dk_22 8 (dk_at dksX1_meet_4 17 rfl rfl)
theorem dX1_meet_113 : decode cX1_meet 113 = .ok (.lconst 0, 1) := dk_9 (dk_at dksX1_meet_4 19 rfl rfl)
theorem dX1_meet_114 : decode cX1_meet 114 = .ok (.lcmp, 1) := dk_148 (dk_at dksX1_meet_4 20 rfl rfl)
theorem dX1_meet_115 : decode cX1_meet 115 = .ok (.ifCond .ne 17, 3) := dk_154 0 17 (dk_at dksX1_meet_4 21 rfl rfl)
theorem dX1_meet_118 : decode cX1_meet 118 = .ok (.lload 6, 2) := dk_22 6 (dk_at dksX1_meet_5 0 rfl rfl)
theorem dX1_meet_120 : decode cX1_meet 120 = .ok (.lconst 0, 1) := dk_9 (dk_at dksX1_meet_5 2 rfl rfl)
theorem dX1_meet_121 : decode cX1_meet 121 = .ok (.lcmp, 1) := dk_148 (dk_at dksX1_meet_5 3 rfl rfl)
theorem dX1_meet_122 : decode cX1_meet 122 = .ok (.ifCond .ne 7, 3) := dk_154 0 7 (dk_at dksX1_meet_5 4 rfl rfl)
theorem dX1_meet_125 : decode cX1_meet 125 = .ok (.iconst 0, 1) := dk_3 (dk_at dksX1_meet_5 7 rfl rfl)
theorem dX1_meet_126 : decode cX1_meet 126 = .ok (.goto 5, 3) := dk_167 0 5 (dk_at dksX1_meet_5 8 rfl rfl)
theorem dX1_meet_129 : decode cX1_meet 129 = .ok (.bipush (-9), 2) := dk_16 247 (dk_at dksX1_meet_5 11 rfl rfl)
theorem dX1_meet_131 : decode cX1_meet 131 = .ok (.ireturn, 1) := dk_172 (dk_at dksX1_meet_5 13 rfl rfl)
theorem dX1_meet_132 : decode cX1_meet 132 = .ok (.lload 8, 2) := dk_22 8 (dk_at dksX1_meet_5 14 rfl rfl)
theorem dX1_meet_134 : decode cX1_meet 134 = .ok (.lconst 0, 1) := dk_9 (dk_at dksX1_meet_5 16 rfl rfl)
theorem dX1_meet_135 : decode cX1_meet 135 = .ok (.lcmp, 1) := dk_148 (dk_at dksX1_meet_5 17 rfl rfl)
theorem dX1_meet_136 : decode cX1_meet 136 = .ok (.ifCond .le 11, 3) := dk_158 0 11 (dk_at dksX1_meet_5 18 rfl rfl)
theorem dX1_meet_139 : decode cX1_meet 139 = .ok (.lload 4, 2) := dk_22 4 (dk_at dksX1_meet_5 21 rfl rfl)
theorem dX1_meet_141 : decode cX1_meet 141 = .ok (.lload 6, 2) := dk_22 6 (dk_at dksX1_meet_6 0 rfl rfl)
theorem dX1_meet_143 : decode cX1_meet 143 = .ok (.lsub, 1) := dk_101 (dk_at dksX1_meet_6 2 rfl rfl)
theorem dX1_meet_144 : decode cX1_meet 144 = .ok (.goto 5, 3) := dk_167 0 5 (dk_at dksX1_meet_6 3 rfl rfl)
theorem dX1_meet_147 : decode cX1_meet 147 = .ok (.lload 6, 2) := dk_22 6 (dk_at dksX1_meet_6 6 rfl rfl)
theorem dX1_meet_149 : decode cX1_meet 149 = .ok (.lstore 10, 2) := dk_55 10 (dk_at dksX1_meet_6 8 rfl rfl)
theorem dX1_meet_151 : decode cX1_meet 151 = .ok (.lload 8, 2) := dk_22 8 (dk_at dksX1_meet_6 10 rfl rfl)
theorem dX1_meet_153 : decode cX1_meet 153 = .ok (.lconst 0, 1) := dk_9 (dk_at dksX1_meet_6 12 rfl rfl)
theorem dX1_meet_154 : decode cX1_meet 154 = .ok (.lcmp, 1) := dk_148 (dk_at dksX1_meet_6 13 rfl rfl)
theorem dX1_meet_155 : decode cX1_meet 155 = .ok (.ifCond .le 8, 3) := dk_158 0 8 (dk_at dksX1_meet_6 14 rfl rfl)
theorem dX1_meet_158 : decode cX1_meet 158 = .ok (.lload 8, 2) := dk_22 8 (dk_at dksX1_meet_6 17 rfl rfl)
theorem dX1_meet_160 : decode cX1_meet 160 = .ok (.goto 6, 3) := dk_167 0 6 (dk_at dksX1_meet_6 19 rfl rfl)
theorem dX1_meet_163 : decode cX1_meet 163 = .ok (.lload 8, 2) := dk_22 8 (dk_at dksX1_meet_6 22 rfl rfl)
theorem dX1_meet_165 : decode cX1_meet 165 = .ok (.lneg, 1) := dk_117 (dk_at dksX1_meet_7 0 rfl rfl)
theorem dX1_meet_166 : decode cX1_meet 166 = .ok (.lstore 12, 2) := dk_55 12 (dk_at dksX1_meet_7 1 rfl rfl)
theorem dX1_meet_168 : decode cX1_meet 168 = .ok (.lload 10, 2) := dk_22 10 (dk_at dksX1_meet_7 3 rfl rfl)
theorem dX1_meet_170 : decode cX1_meet 170 = .ok (.lload 12, 2) := dk_22 12 (dk_at dksX1_meet_7 5 rfl rfl)
theorem dX1_meet_172 : decode cX1_meet 172 = .ok (.ladd, 1) := dk_97 (dk_at dksX1_meet_7 7 rfl rfl)
theorem dX1_meet_173 : decode cX1_meet 173 = .ok (.lconst 1, 1) := dk_10 (dk_at dksX1_meet_7 8 rfl rfl)
theorem dX1_meet_174 : decode cX1_meet 174 = .ok (.lsub, 1) := dk_101 (dk_at dksX1_meet_7 9 rfl rfl)
theorem dX1_meet_175 : decode cX1_meet 175 = .ok (.lload 12, 2) := dk_22 12 (dk_at dksX1_meet_7 10 rfl rfl)
theorem dX1_meet_177 : decode cX1_meet 177 = .ok (.ldiv, 1) := dk_109 (dk_at dksX1_meet_7 12 rfl rfl)
theorem dX1_meet_178 : decode cX1_meet 178 = .ok (.l2i, 1) := dk_136 (dk_at dksX1_meet_7 13 rfl rfl)
theorem dX1_meet_179 : decode cX1_meet 179 = .ok (.ireturn, 1) := dk_172 (dk_at dksX1_meet_7 14 rfl rfl)
abbrev cX1_right : ByteArray := prog_9_method_72_code
def yX1_right : MethodName := ⟨RX1, "right", "(IZ)I"⟩
def dkwX1_right_1 : List UInt8 := [28, 184, 0, 200, 46, 46, 42, 27, 28, 182, 1, 13, 160, 0, 7, 4, 167, 0, 4, 3, 172]
abbrev dktX1_right_1 : List UInt8 := dkwX1_right_1 ++ []
def dkwX1_right_0 : List UInt8 := [42, 27, 28, 182, 1, 10, 62, 29, 156, 0, 7, 29, 167, 0, 32, 42, 180, 0, 35, 42, 180, 0, 99, 27]
abbrev dktX1_right_0 : List UInt8 := dkwX1_right_0 ++ dktX1_right_1
theorem dksX1_right_0 : cX1_right.data.toList.drop 0 = dktX1_right_0 := by decide +kernel
theorem dksX1_right_1 : cX1_right.data.toList.drop 24 = dktX1_right_1 := dk_seg dksX1_right_0 24 rfl rfl
theorem dX1_right_0 : decode cX1_right 0 = .ok (.aload_n 0, 1) := dk_42 (dk_at dksX1_right_0 0 rfl rfl)
theorem dX1_right_1 : decode cX1_right 1 = .ok (.iload_n 1, 1) := dk_27 (dk_at dksX1_right_0 1 rfl rfl)
theorem dX1_right_2 : decode cX1_right 2 = .ok (.iload_n 2, 1) := dk_28 (dk_at dksX1_right_0 2 rfl rfl)
theorem dX1_right_3 : decode cX1_right 3 = .ok (.invokevirtual 266, 3) := dk_182 1 10 (dk_at dksX1_right_0 3 rfl rfl)
theorem dX1_right_6 : decode cX1_right 6 = .ok (.istore_n 3, 1) := dk_62 (dk_at dksX1_right_0 6 rfl rfl)
theorem dX1_right_7 : decode cX1_right 7 = .ok (.iload_n 3, 1) := dk_29 (dk_at dksX1_right_0 7 rfl rfl)
theorem dX1_right_8 : decode cX1_right 8 = .ok (.ifCond .ge 7, 3) := dk_156 0 7 (dk_at dksX1_right_0 8 rfl rfl)
theorem dX1_right_11 : decode cX1_right 11 = .ok (.iload_n 3, 1) := dk_29 (dk_at dksX1_right_0 11 rfl rfl)
theorem dX1_right_12 : decode cX1_right 12 = .ok (.goto 32, 3) := dk_167 0 32 (dk_at dksX1_right_0 12 rfl rfl)
theorem dX1_right_15 : decode cX1_right 15 = .ok (.aload_n 0, 1) := dk_42 (dk_at dksX1_right_0 15 rfl rfl)
theorem dX1_right_16 : decode cX1_right 16 = .ok (.getfield 35, 3) := dk_180 0 35 (dk_at dksX1_right_0 16 rfl rfl)
theorem dX1_right_19 : decode cX1_right 19 = .ok (.aload_n 0, 1) := dk_42 (dk_at dksX1_right_0 19 rfl rfl)
theorem dX1_right_20 : decode cX1_right 20 = .ok (.getfield 99, 3) := dk_180 0 99 (dk_at dksX1_right_0 20 rfl rfl)
theorem dX1_right_23 : decode cX1_right 23 = .ok (.iload_n 1, 1) := dk_27 (dk_at dksX1_right_0 23 rfl rfl)
theorem dX1_right_24 : decode cX1_right 24 = .ok (.iload_n 2, 1) := dk_28 (dk_at dksX1_right_1 0 rfl rfl)
theorem dX1_right_25 : decode cX1_right 25 = .ok (.invokestatic 200, 3) := dk_184 0 200 (dk_at dksX1_right_1 1 rfl rfl)
theorem dX1_right_28 : decode cX1_right 28 = .ok (.iaload, 1) := dk_46 (dk_at dksX1_right_1 4 rfl rfl)
theorem dX1_right_29 : decode cX1_right 29 = .ok (.iaload, 1) := dk_46 (dk_at dksX1_right_1 5 rfl rfl)
theorem dX1_right_30 : decode cX1_right 30 = .ok (.aload_n 0, 1) := dk_42 (dk_at dksX1_right_1 6 rfl rfl)
theorem dX1_right_31 : decode cX1_right 31 = .ok (.iload_n 1, 1) := dk_27 (dk_at dksX1_right_1 7 rfl rfl)
theorem dX1_right_32 : decode cX1_right 32 = .ok (.iload_n 2, 1) := dk_28 (dk_at dksX1_right_1 8 rfl rfl)
theorem dX1_right_33 : decode cX1_right 33 = .ok (.invokevirtual 269, 3) := dk_182 1 13 (dk_at dksX1_right_1 9 rfl rfl)
theorem dX1_right_36 : decode cX1_right 36 = .ok (.if_icmp .ne 7, 3) := dk_160 0 7 (dk_at dksX1_right_1 12 rfl rfl)
theorem dX1_right_39 : decode cX1_right 39 = .ok (.iconst 1, 1) := dk_4 (dk_at dksX1_right_1 15 rfl rfl)
theorem dX1_right_40 : decode cX1_right 40 = .ok (.goto 4, 3) := dk_167 0 4 (dk_at dksX1_right_1 16 rfl rfl)
theorem dX1_right_43 : decode cX1_right 43 = .ok (.iconst 0, 1) := dk_3 (dk_at dksX1_right_1 19 rfl rfl)
theorem dX1_right_44 : decode cX1_right 44 = .ok (.ireturn, 1) := dk_172 (dk_at dksX1_right_1 20 rfl rfl)
abbrev cX1_askedPlate : ByteArray := prog_9_method_71_code
def yX1_askedPlate : MethodName := ⟨RX1, "askedPlate", "(IZ)I"⟩
def dkwX1_askedPlate_1 : List UInt8 := [184, 0, 200, 46, 182, 0, 180, 153, 0, 7, 3, 167, 0, 8, 42, 6, 182, 0, 153, 172]
abbrev dktX1_askedPlate_1 : List UInt8 := dkwX1_askedPlate_1 ++ []
def dkwX1_askedPlate_0 : List UInt8 := [42, 27, 28, 182, 0, 206, 62, 29, 156, 0, 7, 29, 167, 0, 29, 42, 42, 180, 0, 99, 27, 28]
abbrev dktX1_askedPlate_0 : List UInt8 := dkwX1_askedPlate_0 ++ dktX1_askedPlate_1
theorem dksX1_askedPlate_0 : cX1_askedPlate.data.toList.drop 0 = dktX1_askedPlate_0 := by decide +kernel
theorem dksX1_askedPlate_1 : cX1_askedPlate.data.toList.drop 22 = dktX1_askedPlate_1 := dk_seg dksX1_askedPlate_0 22 rfl rfl
theorem dX1_askedPlate_0 : decode cX1_askedPlate 0 = .ok (.aload_n 0, 1) := dk_42 (dk_at dksX1_askedPlate_0 0 rfl rfl)
theorem dX1_askedPlate_1 : decode cX1_askedPlate 1 = .ok (.iload_n 1, 1) := dk_27 (dk_at dksX1_askedPlate_0 1 rfl rfl)
theorem dX1_askedPlate_2 : decode cX1_askedPlate 2 = .ok (.iload_n 2, 1) := dk_28 (dk_at dksX1_askedPlate_0 2 rfl rfl)
theorem dX1_askedPlate_3 : decode cX1_askedPlate 3 = .ok (.invokevirtual 206, 3) := dk_182 0 206 (dk_at dksX1_askedPlate_0 3 rfl rfl)
theorem dX1_askedPlate_6 : decode cX1_askedPlate 6 = .ok (.istore_n 3, 1) := dk_62 (dk_at dksX1_askedPlate_0 6 rfl rfl)
theorem dX1_askedPlate_7 : decode cX1_askedPlate 7 = .ok (.iload_n 3, 1) := dk_29 (dk_at dksX1_askedPlate_0 7 rfl rfl)
theorem dX1_askedPlate_8 : decode cX1_askedPlate 8 = .ok (.ifCond .ge 7, 3) := dk_156 0 7 (dk_at dksX1_askedPlate_0 8 rfl rfl)
theorem dX1_askedPlate_11 : decode cX1_askedPlate 11 = .ok (.iload_n 3, 1) := dk_29 (dk_at dksX1_askedPlate_0 11 rfl rfl)
theorem dX1_askedPlate_12 : decode cX1_askedPlate 12 = .ok (.goto 29, 3) := dk_167 0 29 (dk_at dksX1_askedPlate_0 12 rfl rfl)
theorem dX1_askedPlate_15 : decode cX1_askedPlate 15 = .ok (.aload_n 0, 1) := dk_42 (dk_at dksX1_askedPlate_0 15 rfl rfl)
theorem dX1_askedPlate_16 : decode cX1_askedPlate 16 = .ok (.aload_n 0, 1) := dk_42 (dk_at dksX1_askedPlate_0 16 rfl rfl)
theorem dX1_askedPlate_17 : decode cX1_askedPlate 17 = .ok (.getfield 99, 3) := dk_180 0 99 (dk_at dksX1_askedPlate_0 17 rfl rfl)
theorem dX1_askedPlate_20 : decode cX1_askedPlate 20 = .ok (.iload_n 1, 1) := dk_27 (dk_at dksX1_askedPlate_0 20 rfl rfl)
theorem dX1_askedPlate_21 : decode cX1_askedPlate 21 = .ok (.iload_n 2, 1) := dk_28 (dk_at dksX1_askedPlate_0 21 rfl rfl)
theorem dX1_askedPlate_22 : decode cX1_askedPlate 22 = .ok (.invokestatic 200, 3) := dk_184 0 200 (dk_at dksX1_askedPlate_1 0 rfl rfl)
theorem dX1_askedPlate_25 : decode cX1_askedPlate 25 = .ok (.iaload, 1) := dk_46 (dk_at dksX1_askedPlate_1 3 rfl rfl)
theorem dX1_askedPlate_26 : decode cX1_askedPlate 26 = .ok (.invokevirtual 180, 3) := dk_182 0 180 (dk_at dksX1_askedPlate_1 4 rfl rfl)
theorem dX1_askedPlate_29 : decode cX1_askedPlate 29 = .ok (.ifCond .eq 7, 3) := dk_153 0 7 (dk_at dksX1_askedPlate_1 7 rfl rfl)
theorem dX1_askedPlate_32 : decode cX1_askedPlate 32 = .ok (.iconst 0, 1) := dk_3 (dk_at dksX1_askedPlate_1 10 rfl rfl)
theorem dX1_askedPlate_33 : decode cX1_askedPlate 33 = .ok (.goto 8, 3) := dk_167 0 8 (dk_at dksX1_askedPlate_1 11 rfl rfl)
theorem dX1_askedPlate_36 : decode cX1_askedPlate 36 = .ok (.aload_n 0, 1) := dk_42 (dk_at dksX1_askedPlate_1 14 rfl rfl)
theorem dX1_askedPlate_37 : decode cX1_askedPlate 37 = .ok (.iconst 3, 1) := dk_6 (dk_at dksX1_askedPlate_1 15 rfl rfl)
theorem dX1_askedPlate_38 : decode cX1_askedPlate 38 = .ok (.invokevirtual 153, 3) := dk_182 0 153 (dk_at dksX1_askedPlate_1 16 rfl rfl)
theorem dX1_askedPlate_41 : decode cX1_askedPlate 41 = .ok (.ireturn, 1) := dk_172 (dk_at dksX1_askedPlate_1 19 rfl rfl)
abbrev cX1_rightNotch : ByteArray := prog_9_method_70_code
def yX1_rightNotch : MethodName := ⟨RX1, "rightNotch", "(IZ)I"⟩
def dkwX1_rightNotch_2 : List UInt8 := [29, 46, 112, 172]
abbrev dktX1_rightNotch_2 : List UInt8 := dkwX1_rightNotch_2 ++ []
def dkwX1_rightNotch_1 : List UInt8 := [16, 15, 108, 42, 180, 0, 29, 29, 46, 112, 167, 0, 17, 42, 27, 182, 1, 7, 4, 100, 42, 180, 0, 29]
abbrev dktX1_rightNotch_1 : List UInt8 := dkwX1_rightNotch_1 ++ dktX1_rightNotch_2
def dkwX1_rightNotch_0 : List UInt8 := [42, 180, 0, 99, 27, 28, 184, 0, 200, 46, 62, 28, 153, 0, 25, 42, 180, 0, 75, 27, 46, 16, 60, 112]
abbrev dktX1_rightNotch_0 : List UInt8 := dkwX1_rightNotch_0 ++ dktX1_rightNotch_1
theorem dksX1_rightNotch_0 : cX1_rightNotch.data.toList.drop 0 = dktX1_rightNotch_0 := by decide +kernel
theorem dksX1_rightNotch_1 : cX1_rightNotch.data.toList.drop 24 = dktX1_rightNotch_1 := dk_seg dksX1_rightNotch_0 24 rfl rfl
theorem dksX1_rightNotch_2 : cX1_rightNotch.data.toList.drop 48 = dktX1_rightNotch_2 := dk_seg dksX1_rightNotch_1 24 rfl rfl
theorem dX1_rightNotch_0 : decode cX1_rightNotch 0 = .ok (.aload_n 0, 1) := dk_42 (dk_at dksX1_rightNotch_0 0 rfl rfl)
theorem dX1_rightNotch_1 : decode cX1_rightNotch 1 = .ok (.getfield 99, 3) := dk_180 0 99 (dk_at dksX1_rightNotch_0 1 rfl rfl)
theorem dX1_rightNotch_4 : decode cX1_rightNotch 4 = .ok (.iload_n 1, 1) := dk_27 (dk_at dksX1_rightNotch_0 4 rfl rfl)
theorem dX1_rightNotch_5 : decode cX1_rightNotch 5 = .ok (.iload_n 2, 1) := dk_28 (dk_at dksX1_rightNotch_0 5 rfl rfl)
theorem dX1_rightNotch_6 : decode cX1_rightNotch 6 = .ok (.invokestatic 200, 3) := dk_184 0 200 (dk_at dksX1_rightNotch_0 6 rfl rfl)
theorem dX1_rightNotch_9 : decode cX1_rightNotch 9 = .ok (.iaload, 1) := dk_46 (dk_at dksX1_rightNotch_0 9 rfl rfl)
theorem dX1_rightNotch_10 : decode cX1_rightNotch 10 = .ok (.istore_n 3, 1) := dk_62 (dk_at dksX1_rightNotch_0 10 rfl rfl)
theorem dX1_rightNotch_11 : decode cX1_rightNotch 11 = .ok (.iload_n 2, 1) := dk_28 (dk_at dksX1_rightNotch_0 11 rfl rfl)
theorem dX1_rightNotch_12 : decode cX1_rightNotch 12 = .ok (.ifCond .eq 25, 3) := dk_153 0 25 (dk_at dksX1_rightNotch_0 12 rfl rfl)
theorem dX1_rightNotch_15 : decode cX1_rightNotch 15 = .ok (.aload_n 0, 1) := dk_42 (dk_at dksX1_rightNotch_0 15 rfl rfl)
theorem dX1_rightNotch_16 : decode cX1_rightNotch 16 = .ok (.getfield 75, 3) := dk_180 0 75 (dk_at dksX1_rightNotch_0 16 rfl rfl)
theorem dX1_rightNotch_19 : decode cX1_rightNotch 19 = .ok (.iload_n 1, 1) := dk_27 (dk_at dksX1_rightNotch_0 19 rfl rfl)
theorem dX1_rightNotch_20 : decode cX1_rightNotch 20 = .ok (.iaload, 1) := dk_46 (dk_at dksX1_rightNotch_0 20 rfl rfl)
theorem dX1_rightNotch_21 : decode cX1_rightNotch 21 = .ok (.bipush 60, 2) := dk_16 60 (dk_at dksX1_rightNotch_0 21 rfl rfl)
theorem dX1_rightNotch_23 : decode cX1_rightNotch 23 = .ok (.irem, 1) := dk_112 (dk_at dksX1_rightNotch_0 23 rfl rfl)
theorem dX1_rightNotch_24 : decode cX1_rightNotch 24 = .ok (.bipush 15, 2) := dk_16 15 (dk_at dksX1_rightNotch_1 0 rfl rfl)
theorem dX1_rightNotch_26 : decode cX1_rightNotch 26 = .ok (.idiv, 1) := dk_108 (dk_at dksX1_rightNotch_1 2 rfl rfl)
theorem dX1_rightNotch_27 : decode cX1_rightNotch 27 = .ok (.aload_n 0, 1) := dk_42 (dk_at dksX1_rightNotch_1 3 rfl rfl)
theorem dX1_rightNotch_28 : decode cX1_rightNotch 28 = .ok (.getfield 29, 3) := dk_180 0 29 (dk_at dksX1_rightNotch_1 4 rfl rfl)
theorem dX1_rightNotch_31 : decode cX1_rightNotch 31 = .ok (.iload_n 3, 1) := dk_29 (dk_at dksX1_rightNotch_1 7 rfl rfl)
theorem dX1_rightNotch_32 : decode cX1_rightNotch 32 = .ok (.iaload, 1) := dk_46 (dk_at dksX1_rightNotch_1 8 rfl rfl)
theorem dX1_rightNotch_33 : decode cX1_rightNotch 33 = .ok (.irem, 1) := dk_112 (dk_at dksX1_rightNotch_1 9 rfl rfl)
theorem dX1_rightNotch_34 : decode cX1_rightNotch 34 = .ok (.goto 17, 3) := dk_167 0 17 (dk_at dksX1_rightNotch_1 10 rfl rfl)
theorem dX1_rightNotch_37 : decode cX1_rightNotch 37 = .ok (.aload_n 0, 1) := dk_42 (dk_at dksX1_rightNotch_1 13 rfl rfl)
theorem dX1_rightNotch_38 : decode cX1_rightNotch 38 = .ok (.iload_n 1, 1) := dk_27 (dk_at dksX1_rightNotch_1 14 rfl rfl)
theorem dX1_rightNotch_39 : decode cX1_rightNotch 39 = .ok (.invokevirtual 263, 3) := dk_182 1 7 (dk_at dksX1_rightNotch_1 15 rfl rfl)
theorem dX1_rightNotch_42 : decode cX1_rightNotch 42 = .ok (.iconst 1, 1) := dk_4 (dk_at dksX1_rightNotch_1 18 rfl rfl)
theorem dX1_rightNotch_43 : decode cX1_rightNotch 43 = .ok (.isub, 1) := dk_100 (dk_at dksX1_rightNotch_1 19 rfl rfl)
theorem dX1_rightNotch_44 : decode cX1_rightNotch 44 = .ok (.aload_n 0, 1) := dk_42 (dk_at dksX1_rightNotch_1 20 rfl rfl)
theorem dX1_rightNotch_45 : decode cX1_rightNotch 45 = .ok (.getfield 29, 3) := dk_180 0 29 (dk_at dksX1_rightNotch_1 21 rfl rfl)
theorem dX1_rightNotch_48 : decode cX1_rightNotch 48 = .ok (.iload_n 3, 1) := dk_29 (dk_at dksX1_rightNotch_2 0 rfl rfl)
theorem dX1_rightNotch_49 : decode cX1_rightNotch 49 = .ok (.iaload, 1) := dk_46 (dk_at dksX1_rightNotch_2 1 rfl rfl)
theorem dX1_rightNotch_50 : decode cX1_rightNotch 50 = .ok (.irem, 1) := dk_112 (dk_at dksX1_rightNotch_2 2 rfl rfl)
theorem dX1_rightNotch_51 : decode cX1_rightNotch 51 = .ok (.ireturn, 1) := dk_172 (dk_at dksX1_rightNotch_2 3 rfl rfl)
abbrev cX1_nextHour : ByteArray := prog_9_method_69_code
def yX1_nextHour : MethodName := ⟨RX1, "nextHour", "(I)I"⟩
def dkwX1_nextHour_0 : List UInt8 := [42, 180, 0, 75, 27, 46, 16, 60, 96, 17, 5, 160, 112, 184, 0, 209, 172]
abbrev dktX1_nextHour_0 : List UInt8 := dkwX1_nextHour_0 ++ []
theorem dksX1_nextHour_0 : cX1_nextHour.data.toList.drop 0 = dktX1_nextHour_0 := by decide +kernel
theorem dX1_nextHour_0 : decode cX1_nextHour 0 = .ok (.aload_n 0, 1) := dk_42 (dk_at dksX1_nextHour_0 0 rfl rfl)
theorem dX1_nextHour_1 : decode cX1_nextHour 1 = .ok (.getfield 75, 3) := dk_180 0 75 (dk_at dksX1_nextHour_0 1 rfl rfl)
theorem dX1_nextHour_4 : decode cX1_nextHour 4 = .ok (.iload_n 1, 1) := dk_27 (dk_at dksX1_nextHour_0 4 rfl rfl)
theorem dX1_nextHour_5 : decode cX1_nextHour 5 = .ok (.iaload, 1) := dk_46 (dk_at dksX1_nextHour_0 5 rfl rfl)
theorem dX1_nextHour_6 : decode cX1_nextHour 6 = .ok (.bipush 60, 2) := dk_16 60 (dk_at dksX1_nextHour_0 6 rfl rfl)
theorem dX1_nextHour_8 : decode cX1_nextHour 8 = .ok (.iadd, 1) := dk_96 (dk_at dksX1_nextHour_0 8 rfl rfl)
theorem dX1_nextHour_9 : decode cX1_nextHour 9 = .ok (.sipush 1440, 3) := dk_17 5 160 (dk_at dksX1_nextHour_0 9 rfl rfl)
theorem dX1_nextHour_12 : decode cX1_nextHour 12 = .ok (.irem, 1) := dk_112 (dk_at dksX1_nextHour_0 12 rfl rfl)
theorem dX1_nextHour_13 : decode cX1_nextHour 13 = .ok (.invokestatic 209, 3) := dk_184 0 209 (dk_at dksX1_nextHour_0 13 rfl rfl)
theorem dX1_nextHour_16 : decode cX1_nextHour 16 = .ok (.ireturn, 1) := dk_172 (dk_at dksX1_nextHour_0 16 rfl rfl)
abbrev cX1_off : ByteArray := prog_9_method_73_code
def yX1_off : MethodName := ⟨RX1, "off", "(IZ)I"⟩
def dkwX1_off_2 : List UInt8 := [42, 180, 0, 29, 21, 4, 46, 112, 172]
abbrev dktX1_off_2 : List UInt8 := dkwX1_off_2 ++ []
def dkwX1_off_1 : List UInt8 := [54, 4, 42, 180, 0, 35, 21, 4, 46, 42, 180, 0, 29, 21, 4, 46, 96, 42, 27, 28, 182, 1, 13, 100]
abbrev dktX1_off_1 : List UInt8 := dkwX1_off_1 ++ dktX1_off_2
def dkwX1_off_0 : List UInt8 := [42, 27, 28, 182, 1, 10, 62, 29, 156, 0, 5, 29, 172, 42, 180, 0, 99, 27, 28, 184, 0, 200, 46]
abbrev dktX1_off_0 : List UInt8 := dkwX1_off_0 ++ dktX1_off_1
theorem dksX1_off_0 : cX1_off.data.toList.drop 0 = dktX1_off_0 := by decide +kernel
theorem dksX1_off_1 : cX1_off.data.toList.drop 23 = dktX1_off_1 := dk_seg dksX1_off_0 23 rfl rfl
theorem dksX1_off_2 : cX1_off.data.toList.drop 47 = dktX1_off_2 := dk_seg dksX1_off_1 24 rfl rfl
theorem dX1_off_0 : decode cX1_off 0 = .ok (.aload_n 0, 1) := dk_42 (dk_at dksX1_off_0 0 rfl rfl)
theorem dX1_off_1 : decode cX1_off 1 = .ok (.iload_n 1, 1) := dk_27 (dk_at dksX1_off_0 1 rfl rfl)
theorem dX1_off_2 : decode cX1_off 2 = .ok (.iload_n 2, 1) := dk_28 (dk_at dksX1_off_0 2 rfl rfl)
theorem dX1_off_3 : decode cX1_off 3 = .ok (.invokevirtual 266, 3) := dk_182 1 10 (dk_at dksX1_off_0 3 rfl rfl)
theorem dX1_off_6 : decode cX1_off 6 = .ok (.istore_n 3, 1) := dk_62 (dk_at dksX1_off_0 6 rfl rfl)
theorem dX1_off_7 : decode cX1_off 7 = .ok (.iload_n 3, 1) := dk_29 (dk_at dksX1_off_0 7 rfl rfl)
theorem dX1_off_8 : decode cX1_off 8 = .ok (.ifCond .ge 5, 3) := dk_156 0 5 (dk_at dksX1_off_0 8 rfl rfl)
theorem dX1_off_11 : decode cX1_off 11 = .ok (.iload_n 3, 1) := dk_29 (dk_at dksX1_off_0 11 rfl rfl)
theorem dX1_off_12 : decode cX1_off 12 = .ok (.ireturn, 1) := dk_172 (dk_at dksX1_off_0 12 rfl rfl)
theorem dX1_off_13 : decode cX1_off 13 = .ok (.aload_n 0, 1) := dk_42 (dk_at dksX1_off_0 13 rfl rfl)
theorem dX1_off_14 : decode cX1_off 14 = .ok (.getfield 99, 3) := dk_180 0 99 (dk_at dksX1_off_0 14 rfl rfl)
theorem dX1_off_17 : decode cX1_off 17 = .ok (.iload_n 1, 1) := dk_27 (dk_at dksX1_off_0 17 rfl rfl)
theorem dX1_off_18 : decode cX1_off 18 = .ok (.iload_n 2, 1) := dk_28 (dk_at dksX1_off_0 18 rfl rfl)
theorem dX1_off_19 : decode cX1_off 19 = .ok (.invokestatic 200, 3) := dk_184 0 200 (dk_at dksX1_off_0 19 rfl rfl)
theorem dX1_off_22 : decode cX1_off 22 = .ok (.iaload, 1) := dk_46 (dk_at dksX1_off_0 22 rfl rfl)
theorem dX1_off_23 : decode cX1_off 23 = .ok (.istore 4, 2) := dk_54 4 (dk_at dksX1_off_1 0 rfl rfl)
theorem dX1_off_25 : decode cX1_off 25 = .ok (.aload_n 0, 1) := dk_42 (dk_at dksX1_off_1 2 rfl rfl)
theorem dX1_off_26 : decode cX1_off 26 = .ok (.getfield 35, 3) := dk_180 0 35 (dk_at dksX1_off_1 3 rfl rfl)
theorem dX1_off_29 : decode cX1_off 29 = .ok (.iload 4, 2) := dk_21 4 (dk_at dksX1_off_1 6 rfl rfl)
theorem dX1_off_31 : decode cX1_off 31 = .ok (.iaload, 1) := dk_46 (dk_at dksX1_off_1 8 rfl rfl)
theorem dX1_off_32 : decode cX1_off 32 = .ok (.aload_n 0, 1) := dk_42 (dk_at dksX1_off_1 9 rfl rfl)
theorem dX1_off_33 : decode cX1_off 33 = .ok (.getfield 29, 3) := dk_180 0 29 (dk_at dksX1_off_1 10 rfl rfl)
theorem dX1_off_36 : decode cX1_off 36 = .ok (.iload 4, 2) := dk_21 4 (dk_at dksX1_off_1 13 rfl rfl)
theorem dX1_off_38 : decode cX1_off 38 = .ok (.iaload, 1) := dk_46 (dk_at dksX1_off_1 15 rfl rfl)
theorem dX1_off_39 : decode cX1_off 39 = .ok (.iadd, 1) := dk_96 (dk_at dksX1_off_1 16 rfl rfl)
theorem dX1_off_40 : decode cX1_off 40 = .ok (.aload_n 0, 1) := dk_42 (dk_at dksX1_off_1 17 rfl rfl)
theorem dX1_off_41 : decode cX1_off 41 = .ok (.iload_n 1, 1) := dk_27 (dk_at dksX1_off_1 18 rfl rfl)
theorem dX1_off_42 : decode cX1_off 42 = .ok (.iload_n 2, 1) := dk_28 (dk_at dksX1_off_1 19 rfl rfl)
theorem dX1_off_43 : decode cX1_off 43 = .ok (.invokevirtual 269, 3) := dk_182 1 13 (dk_at dksX1_off_1 20 rfl rfl)
theorem dX1_off_46 : decode cX1_off 46 = .ok (.isub, 1) := dk_100 (dk_at dksX1_off_1 23 rfl rfl)
theorem dX1_off_47 : decode cX1_off 47 = .ok (.aload_n 0, 1) := dk_42 (dk_at dksX1_off_2 0 rfl rfl)
theorem dX1_off_48 : decode cX1_off 48 = .ok (.getfield 29, 3) := dk_180 0 29 (dk_at dksX1_off_2 1 rfl rfl)
theorem dX1_off_51 : decode cX1_off 51 = .ok (.iload 4, 2) := dk_21 4 (dk_at dksX1_off_2 4 rfl rfl)
theorem dX1_off_53 : decode cX1_off 53 = .ok (.iaload, 1) := dk_46 (dk_at dksX1_off_2 6 rfl rfl)
theorem dX1_off_54 : decode cX1_off 54 = .ok (.irem, 1) := dk_112 (dk_at dksX1_off_2 7 rfl rfl)
theorem dX1_off_55 : decode cX1_off 55 = .ok (.ireturn, 1) := dk_172 (dk_at dksX1_off_2 8 rfl rfl)
abbrev cX1_putRight : ByteArray := prog_9_method_76_code
def yX1_putRight : MethodName := ⟨RX1, "putRight", "(II)I"⟩
def dkwX1_putRight_13 : List UInt8 := [167, 255, 184, 42, 42, 180, 0, 114, 181, 1, 24, 21, 8, 17, 3, 232, 108, 172]
abbrev dktX1_putRight_13 : List UInt8 := dkwX1_putRight_13 ++ []
def dkwX1_putRight_12 : List UInt8 := [167, 255, 220, 42, 180, 0, 118, 21, 9, 21, 10, 79, 21, 7, 21, 10, 184, 1, 17, 54, 7, 132, 9, 1]
abbrev dktX1_putRight_12 : List UInt8 := dkwX1_putRight_12 ++ dktX1_putRight_13
def dkwX1_putRight_11 : List UInt8 := [42, 21, 4, 21, 7, 21, 10, 182, 1, 20, 96, 42, 180, 0, 111, 21, 7, 46, 159, 0, 9, 132, 10, 1]
abbrev dktX1_putRight_11 : List UInt8 := dkwX1_putRight_11 ++ dktX1_putRight_12
def dkwX1_putRight_10 : List UInt8 := [21, 9, 42, 180, 0, 114, 162, 0, 69, 3, 54, 10, 42, 180, 0, 111, 21, 7, 21, 10, 184, 1, 17, 46]
abbrev dktX1_putRight_10 : List UInt8 := dkwX1_putRight_10 ++ dktX1_putRight_11
def dkwX1_putRight_9 : List UInt8 := [54, 7, 42, 180, 0, 111, 21, 7, 46, 54, 8, 42, 21, 8, 17, 3, 232, 112, 181, 0, 114, 3, 54, 9]
abbrev dktX1_putRight_9 : List UInt8 := dkwX1_putRight_9 ++ dktX1_putRight_10
def dkwX1_putRight_8 : List UInt8 := [167, 255, 181, 167, 255, 167, 16, 12, 42, 180, 0, 35, 21, 4, 46, 104, 42, 27, 182, 1, 7, 96, 4, 100]
abbrev dktX1_putRight_8 : List UInt8 := dkwX1_putRight_8 ++ dktX1_putRight_9
def dkwX1_putRight_7 : List UInt8 := [162, 0, 15, 42, 180, 0, 111, 21, 7, 21, 9, 79, 4, 54, 6, 132, 8, 1, 167, 255, 198, 132, 7, 1]
abbrev dktX1_putRight_7 : List UInt8 := dkwX1_putRight_7 ++ dktX1_putRight_8
def dkwX1_putRight_6 : List UInt8 := [42, 21, 4, 21, 7, 21, 8, 182, 1, 20, 96, 54, 9, 21, 9, 42, 180, 0, 111, 21, 7, 46]
abbrev dktX1_putRight_6 : List UInt8 := dkwX1_putRight_6 ++ dktX1_putRight_7
def dkwX1_putRight_5 : List UInt8 := [162, 0, 73, 3, 54, 8, 21, 8, 6, 162, 0, 58, 42, 180, 0, 111, 21, 7, 21, 8, 184, 1, 17, 46]
abbrev dktX1_putRight_5 : List UInt8 := dkwX1_putRight_5 ++ dktX1_putRight_6
def dkwX1_putRight_4 : List UInt8 := [167, 255, 224, 4, 54, 6, 21, 6, 153, 0, 90, 3, 54, 6, 3, 54, 7, 21, 7, 17, 0, 144]
abbrev dktX1_putRight_4 : List UInt8 := dkwX1_putRight_4 ++ dktX1_putRight_5
def dkwX1_putRight_3 : List UInt8 := [42, 180, 0, 111, 21, 6, 21, 6, 21, 5, 160, 0, 7, 3, 167, 0, 6, 19, 1, 16, 79, 132, 6, 1]
abbrev dktX1_putRight_3 : List UInt8 := dkwX1_putRight_3 ++ dktX1_putRight_4
def dkwX1_putRight_2 : List UInt8 := [6, 182, 0, 153, 172, 16, 13, 28, 4, 100, 104, 54, 5, 3, 54, 6, 21, 6, 17, 0, 144, 162, 0, 30]
abbrev dktX1_putRight_2 : List UInt8 := dkwX1_putRight_2 ++ dktX1_putRight_3
def dkwX1_putRight_1 : List UInt8 := [172, 42, 180, 0, 99, 5, 27, 104, 46, 54, 4, 42, 180, 0, 29, 21, 4, 46, 16, 12, 159, 0, 9, 42]
abbrev dktX1_putRight_1 : List UInt8 := dkwX1_putRight_1 ++ dktX1_putRight_2
def dkwX1_putRight_0 : List UInt8 := [28, 4, 16, 12, 184, 0, 145, 154, 0, 5, 2, 172, 42, 27, 3, 182, 1, 10, 62, 29, 156, 0, 5, 29]
abbrev dktX1_putRight_0 : List UInt8 := dkwX1_putRight_0 ++ dktX1_putRight_1
theorem dksX1_putRight_0 : cX1_putRight.data.toList.drop 0 = dktX1_putRight_0 := by decide +kernel
theorem dksX1_putRight_1 : cX1_putRight.data.toList.drop 24 = dktX1_putRight_1 := dk_seg dksX1_putRight_0 24 rfl rfl
theorem dksX1_putRight_2 : cX1_putRight.data.toList.drop 48 = dktX1_putRight_2 := dk_seg dksX1_putRight_1 24 rfl rfl
theorem dksX1_putRight_3 : cX1_putRight.data.toList.drop 72 = dktX1_putRight_3 := dk_seg dksX1_putRight_2 24 rfl rfl
theorem dksX1_putRight_4 : cX1_putRight.data.toList.drop 96 = dktX1_putRight_4 := dk_seg dksX1_putRight_3 24 rfl rfl
theorem dksX1_putRight_5 : cX1_putRight.data.toList.drop 118 = dktX1_putRight_5 := dk_seg dksX1_putRight_4 22 rfl rfl
theorem dksX1_putRight_6 : cX1_putRight.data.toList.drop 142 = dktX1_putRight_6 := dk_seg dksX1_putRight_5 24 rfl rfl
theorem dksX1_putRight_7 : cX1_putRight.data.toList.drop 164 = dktX1_putRight_7 := dk_seg dksX1_putRight_6 22 rfl rfl
theorem dksX1_putRight_8 : cX1_putRight.data.toList.drop 188 = dktX1_putRight_8 := dk_seg dksX1_putRight_7 24 rfl rfl
theorem dksX1_putRight_9 : cX1_putRight.data.toList.drop 212 = dktX1_putRight_9 := dk_seg dksX1_putRight_8 24 rfl rfl
theorem dksX1_putRight_10 : cX1_putRight.data.toList.drop 236 = dktX1_putRight_10 := dk_seg dksX1_putRight_9 24 rfl rfl
theorem dksX1_putRight_11 : cX1_putRight.data.toList.drop 260 = dktX1_putRight_11 := dk_seg dksX1_putRight_10 24 rfl rfl
theorem dksX1_putRight_12 : cX1_putRight.data.toList.drop 284 = dktX1_putRight_12 := dk_seg dksX1_putRight_11 24 rfl rfl
theorem dksX1_putRight_13 : cX1_putRight.data.toList.drop 308 = dktX1_putRight_13 := dk_seg dksX1_putRight_12 24 rfl rfl
theorem dX1_putRight_0 : decode cX1_putRight 0 = .ok (.iload_n 2, 1) := dk_28 (dk_at dksX1_putRight_0 0 rfl rfl)
theorem dX1_putRight_1 : decode cX1_putRight 1 = .ok (.iconst 1, 1) := dk_4 (dk_at dksX1_putRight_0 1 rfl rfl)
theorem dX1_putRight_2 : decode cX1_putRight 2 = .ok (.bipush 12, 2) := dk_16 12 (dk_at dksX1_putRight_0 2 rfl rfl)
theorem dX1_putRight_4 : decode cX1_putRight 4 = .ok (.invokestatic 145, 3) := dk_184 0 145 (dk_at dksX1_putRight_0 4 rfl rfl)
theorem dX1_putRight_7 : decode cX1_putRight 7 = .ok (.ifCond .ne 5, 3) := dk_154 0 5 (dk_at dksX1_putRight_0 7 rfl rfl)
theorem dX1_putRight_10 : decode cX1_putRight 10 = .ok (.iconst (-1), 1) := dk_2 (dk_at dksX1_putRight_0 10 rfl rfl)
theorem dX1_putRight_11 : decode cX1_putRight 11 = .ok (.ireturn, 1) := dk_172 (dk_at dksX1_putRight_0 11 rfl rfl)
theorem dX1_putRight_12 : decode cX1_putRight 12 = .ok (.aload_n 0, 1) := dk_42 (dk_at dksX1_putRight_0 12 rfl rfl)
theorem dX1_putRight_13 : decode cX1_putRight 13 = .ok (.iload_n 1, 1) := dk_27 (dk_at dksX1_putRight_0 13 rfl rfl)
theorem dX1_putRight_14 : decode cX1_putRight 14 = .ok (.iconst 0, 1) := dk_3 (dk_at dksX1_putRight_0 14 rfl rfl)
theorem dX1_putRight_15 : decode cX1_putRight 15 = .ok (.invokevirtual 266, 3) := dk_182 1 10 (dk_at dksX1_putRight_0 15 rfl rfl)
theorem dX1_putRight_18 : decode cX1_putRight 18 = .ok (.istore_n 3, 1) := dk_62 (dk_at dksX1_putRight_0 18 rfl rfl)
theorem dX1_putRight_19 : decode cX1_putRight 19 = .ok (.iload_n 3, 1) := dk_29 (dk_at dksX1_putRight_0 19 rfl rfl)
theorem dX1_putRight_20 : decode cX1_putRight 20 = .ok (.ifCond .ge 5, 3) := dk_156 0 5 (dk_at dksX1_putRight_0 20 rfl rfl)
theorem dX1_putRight_23 : decode cX1_putRight 23 = .ok (.iload_n 3, 1) := dk_29 (dk_at dksX1_putRight_0 23 rfl rfl)
theorem dX1_putRight_24 : decode cX1_putRight 24 = .ok (.ireturn, 1) := dk_172 (dk_at dksX1_putRight_1 0 rfl rfl)
theorem dX1_putRight_25 : decode cX1_putRight 25 = .ok (.aload_n 0, 1) := dk_42 (dk_at dksX1_putRight_1 1 rfl rfl)
theorem dX1_putRight_26 : decode cX1_putRight 26 = .ok (.getfield 99, 3) := dk_180 0 99 (dk_at dksX1_putRight_1 2 rfl rfl)
theorem dX1_putRight_29 : decode cX1_putRight 29 = .ok (.iconst 2, 1) := dk_5 (dk_at dksX1_putRight_1 5 rfl rfl)
theorem dX1_putRight_30 : decode cX1_putRight 30 = .ok (.iload_n 1, 1) := dk_27 (dk_at dksX1_putRight_1 6 rfl rfl)
theorem dX1_putRight_31 : decode cX1_putRight 31 = .ok (.imul, 1) := dk_104 (dk_at dksX1_putRight_1 7 rfl rfl)
theorem dX1_putRight_32 : decode cX1_putRight 32 = .ok (.iaload, 1) := dk_46 (dk_at dksX1_putRight_1 8 rfl rfl)
theorem dX1_putRight_33 : decode cX1_putRight 33 = .ok (.istore 4, 2) := dk_54 4 (dk_at dksX1_putRight_1 9 rfl rfl)
theorem dX1_putRight_35 : decode cX1_putRight 35 = .ok (.aload_n 0, 1) := dk_42 (dk_at dksX1_putRight_1 11 rfl rfl)
theorem dX1_putRight_36 : decode cX1_putRight 36 = .ok (.getfield 29, 3) := dk_180 0 29 (dk_at dksX1_putRight_1 12 rfl rfl)
theorem dX1_putRight_39 : decode cX1_putRight 39 = .ok (.iload 4, 2) := dk_21 4 (dk_at dksX1_putRight_1 15 rfl rfl)
theorem dX1_putRight_41 : decode cX1_putRight 41 = .ok (.iaload, 1) := dk_46 (dk_at dksX1_putRight_1 17 rfl rfl)
theorem dX1_putRight_42 : decode cX1_putRight 42 = .ok (.bipush 12, 2) := dk_16 12 (dk_at dksX1_putRight_1 18 rfl rfl)
theorem dX1_putRight_44 : decode cX1_putRight 44 = .ok (.if_icmp .eq 9, 3) := dk_159 0 9 (dk_at dksX1_putRight_1 20 rfl rfl)
theorem dX1_putRight_47 : decode cX1_putRight 47 = .ok (.aload_n 0, 1) := dk_42 (dk_at dksX1_putRight_1 23 rfl rfl)
theorem dX1_putRight_48 : decode cX1_putRight 48 = .ok (.iconst 3, 1) := dk_6 (dk_at dksX1_putRight_2 0 rfl rfl)
theorem dX1_putRight_49 : decode cX1_putRight 49 = .ok (.invokevirtual 153, 3) := dk_182 0 153 (dk_at dksX1_putRight_2 1 rfl rfl)
theorem dX1_putRight_52 : decode cX1_putRight 52 = .ok (.ireturn, 1) := dk_172 (dk_at dksX1_putRight_2 4 rfl rfl)
theorem dX1_putRight_53 : decode cX1_putRight 53 = .ok (.bipush 13, 2) := dk_16 13 (dk_at dksX1_putRight_2 5 rfl rfl)
theorem dX1_putRight_55 : decode cX1_putRight 55 = .ok (.iload_n 2, 1) := dk_28 (dk_at dksX1_putRight_2 7 rfl rfl)
theorem dX1_putRight_56 : decode cX1_putRight 56 = .ok (.iconst 1, 1) := dk_4 (dk_at dksX1_putRight_2 8 rfl rfl)
theorem dX1_putRight_57 : decode cX1_putRight 57 = .ok (.isub, 1) := dk_100 (dk_at dksX1_putRight_2 9 rfl rfl)
theorem dX1_putRight_58 : decode cX1_putRight 58 = .ok (.imul, 1) := dk_104 (dk_at dksX1_putRight_2 10 rfl rfl)
theorem dX1_putRight_59 : decode cX1_putRight 59 = .ok (.istore 5, 2) := dk_54 5 (dk_at dksX1_putRight_2 11 rfl rfl)
theorem dX1_putRight_61 : decode cX1_putRight 61 = .ok (.iconst 0, 1) := dk_3 (dk_at dksX1_putRight_2 13 rfl rfl)
theorem dX1_putRight_62 : decode cX1_putRight 62 = .ok (.istore 6, 2) := dk_54 6 (dk_at dksX1_putRight_2 14 rfl rfl)
theorem dX1_putRight_64 : decode cX1_putRight 64 = .ok (.iload 6, 2) := dk_21 6 (dk_at dksX1_putRight_2 16 rfl rfl)
theorem dX1_putRight_66 : decode cX1_putRight 66 = .ok (.sipush 144, 3) := dk_17 0 144 (dk_at dksX1_putRight_2 18 rfl rfl)
theorem dX1_putRight_69 : decode cX1_putRight 69 = .ok (.if_icmp .ge 30, 3) := dk_162 0 30 (dk_at dksX1_putRight_2 21 rfl rfl)
theorem dX1_putRight_72 : decode cX1_putRight 72 = .ok (.aload_n 0, 1) := dk_42 (dk_at dksX1_putRight_3 0 rfl rfl)
theorem dX1_putRight_73 : decode cX1_putRight 73 = .ok (.getfield 111, 3) := dk_180 0 111 (dk_at dksX1_putRight_3 1 rfl rfl)
theorem dX1_putRight_76 : decode cX1_putRight 76 = .ok (.iload 6, 2) := dk_21 6 (dk_at dksX1_putRight_3 4 rfl rfl)
theorem dX1_putRight_78 : decode cX1_putRight 78 = .ok (.iload 6, 2) := dk_21 6 (dk_at dksX1_putRight_3 6 rfl rfl)
theorem dX1_putRight_80 : decode cX1_putRight 80 = .ok (.iload 5, 2) := dk_21 5 (dk_at dksX1_putRight_3 8 rfl rfl)
theorem dX1_putRight_82 : decode cX1_putRight 82 = .ok (.if_icmp .ne 7, 3) := dk_160 0 7 (dk_at dksX1_putRight_3 10 rfl rfl)
theorem dX1_putRight_85 : decode cX1_putRight 85 = .ok (.iconst 0, 1) := dk_3 (dk_at dksX1_putRight_3 13 rfl rfl)
theorem dX1_putRight_86 : decode cX1_putRight 86 = .ok (.goto 6, 3) := dk_167 0 6 (dk_at dksX1_putRight_3 14 rfl rfl)
theorem dX1_putRight_89 : decode cX1_putRight 89 = .ok (.ldc_w 272, 3) := dk_19 1 16 (dk_at dksX1_putRight_3 17 rfl rfl)
theorem dX1_putRight_92 : decode cX1_putRight 92 = .ok (.iastore, 1) := dk_79 (dk_at dksX1_putRight_3 20 rfl rfl)
theorem dX1_putRight_93 : decode cX1_putRight 93 = .ok (.iinc 6 1, 3) := dk_132 6 1 (dk_at dksX1_putRight_3 21 rfl rfl)
theorem dX1_putRight_96 : decode cX1_putRight 96 = .ok (.goto (-32), 3) := dk_167 255 224 (dk_at dksX1_putRight_4 0 rfl rfl)
theorem dX1_putRight_99 : decode cX1_putRight 99 = .ok (.iconst 1, 1) := dk_4 (dk_at dksX1_putRight_4 3 rfl rfl)
theorem dX1_putRight_100 : decode cX1_putRight 100 = .ok (.istore 6, 2) := dk_54 6 (dk_at dksX1_putRight_4 4 rfl rfl)
theorem dX1_putRight_102 : decode cX1_putRight 102 = .ok (.iload 6, 2) := dk_21 6 (dk_at dksX1_putRight_4 6 rfl rfl)
theorem dX1_putRight_104 : decode cX1_putRight 104 = .ok (.ifCond .eq 90, 3) := dk_153 0 90 (dk_at dksX1_putRight_4 8 rfl rfl)
theorem dX1_putRight_107 : decode cX1_putRight 107 = .ok (.iconst 0, 1) := dk_3 (dk_at dksX1_putRight_4 11 rfl rfl)
theorem dX1_putRight_108 : decode cX1_putRight 108 = .ok (.istore 6, 2) := dk_54 6 (dk_at dksX1_putRight_4 12 rfl rfl)
theorem dX1_putRight_110 : decode cX1_putRight 110 = .ok (.iconst 0, 1) := dk_3 (dk_at dksX1_putRight_4 14 rfl rfl)
theorem dX1_putRight_111 : decode cX1_putRight 111 = .ok (.istore 7, 2) := dk_54 7 (dk_at dksX1_putRight_4 15 rfl rfl)
theorem dX1_putRight_113 : decode cX1_putRight 113 = .ok (.iload 7, 2) := dk_21 7 (dk_at dksX1_putRight_4 17 rfl rfl)
theorem dX1_putRight_115 : decode cX1_putRight 115 = .ok (.sipush 144, 3) := dk_17 0 144 (dk_at dksX1_putRight_4 19 rfl rfl)
theorem dX1_putRight_118 : decode cX1_putRight 118 = .ok (.if_icmp .ge 73, 3) := dk_162 0 73 (dk_at dksX1_putRight_5 0 rfl rfl)
theorem dX1_putRight_121 : decode cX1_putRight 121 = .ok (.iconst 0, 1) := dk_3 (dk_at dksX1_putRight_5 3 rfl rfl)
theorem dX1_putRight_122 : decode cX1_putRight 122 = .ok (.istore 8, 2) := dk_54 8 (dk_at dksX1_putRight_5 4 rfl rfl)
theorem dX1_putRight_124 : decode cX1_putRight 124 = .ok (.iload 8, 2) := dk_21 8 (dk_at dksX1_putRight_5 6 rfl rfl)
theorem dX1_putRight_126 : decode cX1_putRight 126 = .ok (.iconst 3, 1) := dk_6 (dk_at dksX1_putRight_5 8 rfl rfl)
theorem dX1_putRight_127 : decode cX1_putRight 127 = .ok (.if_icmp .ge 58, 3) := dk_162 0 58 (dk_at dksX1_putRight_5 9 rfl rfl)
theorem dX1_putRight_130 : decode cX1_putRight 130 = .ok (.aload_n 0, 1) := dk_42 (dk_at dksX1_putRight_5 12 rfl rfl)
theorem dX1_putRight_131 : decode cX1_putRight 131 = .ok (.getfield 111, 3) := dk_180 0 111 (dk_at dksX1_putRight_5 13 rfl rfl)
theorem dX1_putRight_134 : decode cX1_putRight 134 = .ok (.iload 7, 2) := dk_21 7 (dk_at dksX1_putRight_5 16 rfl rfl)
theorem dX1_putRight_136 : decode cX1_putRight 136 = .ok (.iload 8, 2) := dk_21 8 (dk_at dksX1_putRight_5 18 rfl rfl)
theorem dX1_putRight_138 : decode cX1_putRight 138 = .ok (.invokestatic 273, 3) := dk_184 1 17 (dk_at dksX1_putRight_5 20 rfl rfl)
theorem dX1_putRight_141 : decode cX1_putRight 141 = .ok (.iaload, 1) := dk_46 (dk_at dksX1_putRight_5 23 rfl rfl)
theorem dX1_putRight_142 : decode cX1_putRight 142 = .ok (.aload_n 0, 1) := dk_42 (dk_at dksX1_putRight_6 0 rfl rfl)
theorem dX1_putRight_143 : decode cX1_putRight 143 = .ok (.iload 4, 2) := dk_21 4 (dk_at dksX1_putRight_6 1 rfl rfl)
theorem dX1_putRight_145 : decode cX1_putRight 145 = .ok (.iload 7, 2) := dk_21 7 (dk_at dksX1_putRight_6 3 rfl rfl)
theorem dX1_putRight_147 : decode cX1_putRight 147 = .ok (.iload 8, 2) := dk_21 8 (dk_at dksX1_putRight_6 5 rfl rfl)
theorem dX1_putRight_149 : decode cX1_putRight 149 = .ok (.invokevirtual 276, 3) := dk_182 1 20 (dk_at dksX1_putRight_6 7 rfl rfl)
theorem dX1_putRight_152 : decode cX1_putRight 152 = .ok (.iadd, 1) := dk_96 (dk_at dksX1_putRight_6 10 rfl rfl)
theorem dX1_putRight_153 : decode cX1_putRight 153 = .ok (.istore 9, 2) := dk_54 9 (dk_at dksX1_putRight_6 11 rfl rfl)
theorem dX1_putRight_155 : decode cX1_putRight 155 = .ok (.iload 9, 2) := dk_21 9 (dk_at dksX1_putRight_6 13 rfl rfl)
theorem dX1_putRight_157 : decode cX1_putRight 157 = .ok (.aload_n 0, 1) := dk_42 (dk_at dksX1_putRight_6 15 rfl rfl)
theorem dX1_putRight_158 : decode cX1_putRight 158 = .ok (.getfield 111, 3) := dk_180 0 111 (dk_at dksX1_putRight_6 16 rfl rfl)
theorem dX1_putRight_161 : decode cX1_putRight 161 = .ok (.iload 7, 2) := dk_21 7 (dk_at dksX1_putRight_6 19 rfl rfl)
theorem dX1_putRight_163 : decode cX1_putRight 163 = .ok (.iaload, 1) := dk_46 (dk_at dksX1_putRight_6 21 rfl rfl)
theorem dX1_putRight_164 : decode cX1_putRight 164 = .ok (.if_icmp .ge 15, 3) := dk_162 0 15 (dk_at dksX1_putRight_7 0 rfl rfl)
theorem dX1_putRight_167 : decode cX1_putRight 167 = .ok (.aload_n 0, 1) := dk_42 (dk_at dksX1_putRight_7 3 rfl rfl)
theorem dX1_putRight_168 : decode cX1_putRight 168 = .ok (.getfield 111, 3) := dk_180 0 111 (dk_at dksX1_putRight_7 4 rfl rfl)
theorem dX1_putRight_171 : decode cX1_putRight 171 = .ok (.iload 7, 2) := dk_21 7 (dk_at dksX1_putRight_7 7 rfl rfl)
theorem dX1_putRight_173 : decode cX1_putRight 173 = .ok (.iload 9, 2) := dk_21 9 (dk_at dksX1_putRight_7 9 rfl rfl)
theorem dX1_putRight_175 : decode cX1_putRight 175 = .ok (.iastore, 1) := dk_79 (dk_at dksX1_putRight_7 11 rfl rfl)
theorem dX1_putRight_176 : decode cX1_putRight 176 = .ok (.iconst 1, 1) := dk_4 (dk_at dksX1_putRight_7 12 rfl rfl)
theorem dX1_putRight_177 : decode cX1_putRight 177 = .ok (.istore 6, 2) := dk_54 6 (dk_at dksX1_putRight_7 13 rfl rfl)
theorem dX1_putRight_179 : decode cX1_putRight 179 = .ok (.iinc 8 1, 3) := dk_132 8 1 (dk_at dksX1_putRight_7 15 rfl rfl)
theorem dX1_putRight_182 : decode cX1_putRight 182 = .ok (.goto (-58), 3) := dk_167 255 198 (dk_at dksX1_putRight_7 18 rfl rfl)
theorem dX1_putRight_185 : decode cX1_putRight 185 = .ok (.iinc 7 1, 3) := dk_132 7 1 (dk_at dksX1_putRight_7 21 rfl rfl)
theorem dX1_putRight_188 : decode cX1_putRight 188 = .ok (.goto (-75), 3) := dk_167 255 181 (dk_at dksX1_putRight_8 0 rfl rfl)
theorem dX1_putRight_191 : decode cX1_putRight 191 = .ok (.goto (-89), 3) := dk_167 255 167 (dk_at dksX1_putRight_8 3 rfl rfl)
theorem dX1_putRight_194 : decode cX1_putRight 194 = .ok (.bipush 12, 2) := dk_16 12 (dk_at dksX1_putRight_8 6 rfl rfl)
theorem dX1_putRight_196 : decode cX1_putRight 196 = .ok (.aload_n 0, 1) := dk_42 (dk_at dksX1_putRight_8 8 rfl rfl)
theorem dX1_putRight_197 : decode cX1_putRight 197 = .ok (.getfield 35, 3) := dk_180 0 35 (dk_at dksX1_putRight_8 9 rfl rfl)
theorem dX1_putRight_200 : decode cX1_putRight 200 = .ok (.iload 4, 2) := dk_21 4 (dk_at dksX1_putRight_8 12 rfl rfl)
theorem dX1_putRight_202 : decode cX1_putRight 202 = .ok (.iaload, 1) := dk_46 (dk_at dksX1_putRight_8 14 rfl rfl)
theorem dX1_putRight_203 : decode cX1_putRight 203 = .ok (.imul, 1) := dk_104 (dk_at dksX1_putRight_8 15 rfl rfl)
theorem dX1_putRight_204 : decode cX1_putRight 204 = .ok (.aload_n 0, 1) := dk_42 (dk_at dksX1_putRight_8 16 rfl rfl)
theorem dX1_putRight_205 : decode cX1_putRight 205 = .ok (.iload_n 1, 1) := dk_27 (dk_at dksX1_putRight_8 17 rfl rfl)
theorem dX1_putRight_206 : decode cX1_putRight 206 = .ok (.invokevirtual 263, 3) := dk_182 1 7 (dk_at dksX1_putRight_8 18 rfl rfl)
theorem dX1_putRight_209 : decode cX1_putRight 209 = .ok (.iadd, 1) := dk_96 (dk_at dksX1_putRight_8 21 rfl rfl)
theorem dX1_putRight_210 : decode cX1_putRight 210 = .ok (.iconst 1, 1) := dk_4 (dk_at dksX1_putRight_8 22 rfl rfl)
theorem dX1_putRight_211 : decode cX1_putRight 211 = .ok (.isub, 1) := dk_100 (dk_at dksX1_putRight_8 23 rfl rfl)
theorem dX1_putRight_212 : decode cX1_putRight 212 = .ok (.istore 7, 2) := dk_54 7 (dk_at dksX1_putRight_9 0 rfl rfl)
theorem dX1_putRight_214 : decode cX1_putRight 214 = .ok (.aload_n 0, 1) := dk_42 (dk_at dksX1_putRight_9 2 rfl rfl)
theorem dX1_putRight_215 : decode cX1_putRight 215 = .ok (.getfield 111, 3) := dk_180 0 111 (dk_at dksX1_putRight_9 3 rfl rfl)
theorem dX1_putRight_218 : decode cX1_putRight 218 = .ok (.iload 7, 2) := dk_21 7 (dk_at dksX1_putRight_9 6 rfl rfl)
theorem dX1_putRight_220 : decode cX1_putRight 220 = .ok (.iaload, 1) := dk_46 (dk_at dksX1_putRight_9 8 rfl rfl)
theorem dX1_putRight_221 : decode cX1_putRight 221 = .ok (.istore 8, 2) := dk_54 8 (dk_at dksX1_putRight_9 9 rfl rfl)
theorem dX1_putRight_223 : decode cX1_putRight 223 = .ok (.aload_n 0, 1) := dk_42 (dk_at dksX1_putRight_9 11 rfl rfl)
theorem dX1_putRight_224 : decode cX1_putRight 224 = .ok (.iload 8, 2) := dk_21 8 (dk_at dksX1_putRight_9 12 rfl rfl)
theorem dX1_putRight_226 : decode cX1_putRight 226 = .ok (.sipush 1000, 3) := dk_17 3 232 (dk_at dksX1_putRight_9 14 rfl rfl)
theorem dX1_putRight_229 : decode cX1_putRight 229 = .ok (.irem, 1) := dk_112 (dk_at dksX1_putRight_9 17 rfl rfl)
theorem dX1_putRight_230 : decode cX1_putRight 230 = .ok (.putfield 114, 3) := dk_181 0 114 (dk_at dksX1_putRight_9 18 rfl rfl)
theorem dX1_putRight_233 : decode cX1_putRight 233 = .ok (.iconst 0, 1) := dk_3 (dk_at dksX1_putRight_9 21 rfl rfl)
theorem dX1_putRight_234 : decode cX1_putRight 234 = .ok (.istore 9, 2) := dk_54 9 (dk_at dksX1_putRight_9 22 rfl rfl)
theorem dX1_putRight_236 : decode cX1_putRight 236 = .ok (.iload 9, 2) := dk_21 9 (dk_at dksX1_putRight_10 0 rfl rfl)
theorem dX1_putRight_238 : decode cX1_putRight 238 = .ok (.aload_n 0, 1) := dk_42 (dk_at dksX1_putRight_10 2 rfl rfl)
theorem dX1_putRight_239 : decode cX1_putRight 239 = .ok (.getfield 114, 3) := dk_180 0 114 (dk_at dksX1_putRight_10 3 rfl rfl)
theorem dX1_putRight_242 : decode cX1_putRight 242 = .ok (.if_icmp .ge 69, 3) := dk_162 0 69 (dk_at dksX1_putRight_10 6 rfl rfl)
theorem dX1_putRight_245 : decode cX1_putRight 245 = .ok (.iconst 0, 1) := dk_3 (dk_at dksX1_putRight_10 9 rfl rfl)
theorem dX1_putRight_246 : decode cX1_putRight 246 = .ok (.istore 10, 2) := dk_54 10 (dk_at dksX1_putRight_10 10 rfl rfl)
theorem dX1_putRight_248 : decode cX1_putRight 248 = .ok (.aload_n 0, 1) := dk_42 (dk_at dksX1_putRight_10 12 rfl rfl)
theorem dX1_putRight_249 : decode cX1_putRight 249 = .ok (.getfield 111, 3) := dk_180 0 111 (dk_at dksX1_putRight_10 13 rfl rfl)
theorem dX1_putRight_252 : decode cX1_putRight 252 = .ok (.iload 7, 2) := dk_21 7 (dk_at dksX1_putRight_10 16 rfl rfl)
theorem dX1_putRight_254 : decode cX1_putRight 254 = .ok (.iload 10, 2) := dk_21 10 (dk_at dksX1_putRight_10 18 rfl rfl)
theorem dX1_putRight_256 : decode cX1_putRight 256 = .ok (.invokestatic 273, 3) := dk_184 1 17 (dk_at dksX1_putRight_10 20 rfl rfl)
theorem dX1_putRight_259 : decode cX1_putRight 259 = .ok (.iaload, 1) := dk_46 (dk_at dksX1_putRight_10 23 rfl rfl)
theorem dX1_putRight_260 : decode cX1_putRight 260 = .ok (.aload_n 0, 1) := dk_42 (dk_at dksX1_putRight_11 0 rfl rfl)
theorem dX1_putRight_261 : decode cX1_putRight 261 = .ok (.iload 4, 2) := dk_21 4 (dk_at dksX1_putRight_11 1 rfl rfl)
theorem dX1_putRight_263 : decode cX1_putRight 263 = .ok (.iload 7, 2) := dk_21 7 (dk_at dksX1_putRight_11 3 rfl rfl)
theorem dX1_putRight_265 : decode cX1_putRight 265 = .ok (.iload 10, 2) := dk_21 10 (dk_at dksX1_putRight_11 5 rfl rfl)
theorem dX1_putRight_267 : decode cX1_putRight 267 = .ok (.invokevirtual 276, 3) := dk_182 1 20 (dk_at dksX1_putRight_11 7 rfl rfl)
theorem dX1_putRight_270 : decode cX1_putRight 270 = .ok (.iadd, 1) := dk_96 (dk_at dksX1_putRight_11 10 rfl rfl)
theorem dX1_putRight_271 : decode cX1_putRight 271 = .ok (.aload_n 0, 1) := dk_42 (dk_at dksX1_putRight_11 11 rfl rfl)
theorem dX1_putRight_272 : decode cX1_putRight 272 = .ok (.getfield 111, 3) := dk_180 0 111 (dk_at dksX1_putRight_11 12 rfl rfl)
theorem dX1_putRight_275 : decode cX1_putRight 275 = .ok (.iload 7, 2) := dk_21 7 (dk_at dksX1_putRight_11 15 rfl rfl)
theorem dX1_putRight_277 : decode cX1_putRight 277 = .ok (.iaload, 1) := dk_46 (dk_at dksX1_putRight_11 17 rfl rfl)
theorem dX1_putRight_278 : decode cX1_putRight 278 = .ok (.if_icmp .eq 9, 3) := dk_159 0 9 (dk_at dksX1_putRight_11 18 rfl rfl)
theorem dX1_putRight_281 : decode cX1_putRight 281 = .ok (.iinc 10 1, 3) := dk_132 10 1 (dk_at dksX1_putRight_11 21 rfl rfl)
theorem dX1_putRight_284 : decode cX1_putRight 284 = .ok (.goto (-36), 3) := dk_167 255 220 (dk_at dksX1_putRight_12 0 rfl rfl)
theorem dX1_putRight_287 : decode cX1_putRight 287 = .ok (.aload_n 0, 1) := dk_42 (dk_at dksX1_putRight_12 3 rfl rfl)
theorem dX1_putRight_288 : decode cX1_putRight 288 = .ok (.getfield 118, 3) := dk_180 0 118 (dk_at dksX1_putRight_12 4 rfl rfl)
theorem dX1_putRight_291 : decode cX1_putRight 291 = .ok (.iload 9, 2) := dk_21 9 (dk_at dksX1_putRight_12 7 rfl rfl)
theorem dX1_putRight_293 : decode cX1_putRight 293 = .ok (.iload 10, 2) := dk_21 10 (dk_at dksX1_putRight_12 9 rfl rfl)
theorem dX1_putRight_295 : decode cX1_putRight 295 = .ok (.iastore, 1) := dk_79 (dk_at dksX1_putRight_12 11 rfl rfl)
theorem dX1_putRight_296 : decode cX1_putRight 296 = .ok (.iload 7, 2) := dk_21 7 (dk_at dksX1_putRight_12 12 rfl rfl)
theorem dX1_putRight_298 : decode cX1_putRight 298 = .ok (.iload 10, 2) := dk_21 10 (dk_at dksX1_putRight_12 14 rfl rfl)
theorem dX1_putRight_300 : decode cX1_putRight 300 = .ok (.invokestatic 273, 3) := dk_184 1 17 (dk_at dksX1_putRight_12 16 rfl rfl)
theorem dX1_putRight_303 : decode cX1_putRight 303 = .ok (.istore 7, 2) := dk_54 7 (dk_at dksX1_putRight_12 19 rfl rfl)
theorem dX1_putRight_305 : decode cX1_putRight 305 = .ok (.iinc 9 1, 3) := dk_132 9 1 (dk_at dksX1_putRight_12 21 rfl rfl)
theorem dX1_putRight_308 : decode cX1_putRight 308 = .ok (.goto (-72), 3) := dk_167 255 184 (dk_at dksX1_putRight_13 0 rfl rfl)
theorem dX1_putRight_311 : decode cX1_putRight 311 = .ok (.aload_n 0, 1) := dk_42 (dk_at dksX1_putRight_13 3 rfl rfl)
theorem dX1_putRight_312 : decode cX1_putRight 312 = .ok (.aload_n 0, 1) := dk_42 (dk_at dksX1_putRight_13 4 rfl rfl)
theorem dX1_putRight_313 : decode cX1_putRight 313 = .ok (.getfield 114, 3) := dk_180 0 114 (dk_at dksX1_putRight_13 5 rfl rfl)
theorem dX1_putRight_316 : decode cX1_putRight 316 = .ok (.putfield 280, 3) := dk_181 1 24 (dk_at dksX1_putRight_13 8 rfl rfl)
theorem dX1_putRight_319 : decode cX1_putRight 319 = .ok (.iload 8, 2) := dk_21 8 (dk_at dksX1_putRight_13 11 rfl rfl)
theorem dX1_putRight_321 : decode cX1_putRight 321 = .ok (.sipush 1000, 3) := dk_17 3 232 (dk_at dksX1_putRight_13 13 rfl rfl)
theorem dX1_putRight_324 : decode cX1_putRight 324 = .ok (.idiv, 1) := dk_108 (dk_at dksX1_putRight_13 16 rfl rfl)
theorem dX1_putRight_325 : decode cX1_putRight 325 = .ok (.ireturn, 1) := dk_172 (dk_at dksX1_putRight_13 17 rfl rfl)
abbrev cX1_after : ByteArray := prog_9_method_74_code
def yX1_after : MethodName := ⟨RX1, "after", "(II)I"⟩
def dkwX1_after_2 : List UInt8 := [96, 167, 0, 15, 16, 12, 28, 104, 29, 16, 11, 96, 16, 12, 112, 96, 172]
abbrev dktX1_after_2 : List UInt8 := dkwX1_after_2 ++ []
def dkwX1_after_1 : List UInt8 := [96, 167, 0, 39, 27, 4, 160, 0, 22, 16, 12, 28, 4, 96, 16, 12, 112, 104, 29, 4, 96, 16, 12, 112]
abbrev dktX1_after_1 : List UInt8 := dkwX1_after_1 ++ dktX1_after_2
def dkwX1_after_0 : List UInt8 := [26, 16, 12, 108, 61, 26, 16, 12, 112, 62, 27, 154, 0, 17, 16, 12, 28, 4, 96, 16, 12, 112, 104, 29]
abbrev dktX1_after_0 : List UInt8 := dkwX1_after_0 ++ dktX1_after_1
theorem dksX1_after_0 : cX1_after.data.toList.drop 0 = dktX1_after_0 := by decide +kernel
theorem dksX1_after_1 : cX1_after.data.toList.drop 24 = dktX1_after_1 := dk_seg dksX1_after_0 24 rfl rfl
theorem dksX1_after_2 : cX1_after.data.toList.drop 48 = dktX1_after_2 := dk_seg dksX1_after_1 24 rfl rfl
theorem dX1_after_0 : decode cX1_after 0 = .ok (.iload_n 0, 1) := dk_26 (dk_at dksX1_after_0 0 rfl rfl)
theorem dX1_after_1 : decode cX1_after 1 = .ok (.bipush 12, 2) := dk_16 12 (dk_at dksX1_after_0 1 rfl rfl)
theorem dX1_after_3 : decode cX1_after 3 = .ok (.idiv, 1) := dk_108 (dk_at dksX1_after_0 3 rfl rfl)
theorem dX1_after_4 : decode cX1_after 4 = .ok (.istore_n 2, 1) := dk_61 (dk_at dksX1_after_0 4 rfl rfl)
theorem dX1_after_5 : decode cX1_after 5 = .ok (.iload_n 0, 1) := dk_26 (dk_at dksX1_after_0 5 rfl rfl)
theorem dX1_after_6 : decode cX1_after 6 = .ok (.bipush 12, 2) := dk_16 12 (dk_at dksX1_after_0 6 rfl rfl)
theorem dX1_after_8 : decode cX1_after 8 = .ok (.irem, 1) := dk_112 (dk_at dksX1_after_0 8 rfl rfl)
theorem dX1_after_9 : decode cX1_after 9 = .ok (.istore_n 3, 1) := dk_62 (dk_at dksX1_after_0 9 rfl rfl)
theorem dX1_after_10 : decode cX1_after 10 = .ok (.iload_n 1, 1) := dk_27 (dk_at dksX1_after_0 10 rfl rfl)
theorem dX1_after_11 : decode cX1_after 11 = .ok (.ifCond .ne 17, 3) := dk_154 0 17 (dk_at dksX1_after_0 11 rfl rfl)
theorem dX1_after_14 : decode cX1_after 14 = .ok (.bipush 12, 2) := dk_16 12 (dk_at dksX1_after_0 14 rfl rfl)
theorem dX1_after_16 : decode cX1_after 16 = .ok (.iload_n 2, 1) := dk_28 (dk_at dksX1_after_0 16 rfl rfl)
theorem dX1_after_17 : decode cX1_after 17 = .ok (.iconst 1, 1) := dk_4 (dk_at dksX1_after_0 17 rfl rfl)
theorem dX1_after_18 : decode cX1_after 18 = .ok (.iadd, 1) := dk_96 (dk_at dksX1_after_0 18 rfl rfl)
theorem dX1_after_19 : decode cX1_after 19 = .ok (.bipush 12, 2) := dk_16 12 (dk_at dksX1_after_0 19 rfl rfl)
theorem dX1_after_21 : decode cX1_after 21 = .ok (.irem, 1) := dk_112 (dk_at dksX1_after_0 21 rfl rfl)
theorem dX1_after_22 : decode cX1_after 22 = .ok (.imul, 1) := dk_104 (dk_at dksX1_after_0 22 rfl rfl)
theorem dX1_after_23 : decode cX1_after 23 = .ok (.iload_n 3, 1) := dk_29 (dk_at dksX1_after_0 23 rfl rfl)
theorem dX1_after_24 : decode cX1_after 24 = .ok (.iadd, 1) := dk_96 (dk_at dksX1_after_1 0 rfl rfl)
theorem dX1_after_25 : decode cX1_after 25 = .ok (.goto 39, 3) := dk_167 0 39 (dk_at dksX1_after_1 1 rfl rfl)
theorem dX1_after_28 : decode cX1_after 28 = .ok (.iload_n 1, 1) := dk_27 (dk_at dksX1_after_1 4 rfl rfl)
theorem dX1_after_29 : decode cX1_after 29 = .ok (.iconst 1, 1) := dk_4 (dk_at dksX1_after_1 5 rfl rfl)
theorem dX1_after_30 : decode cX1_after 30 = .ok (.if_icmp .ne 22, 3) := dk_160 0 22 (dk_at dksX1_after_1 6 rfl rfl)
theorem dX1_after_33 : decode cX1_after 33 = .ok (.bipush 12, 2) := dk_16 12 (dk_at dksX1_after_1 9 rfl rfl)
theorem dX1_after_35 : decode cX1_after 35 = .ok (.iload_n 2, 1) := dk_28 (dk_at dksX1_after_1 11 rfl rfl)
theorem dX1_after_36 : decode cX1_after 36 = .ok (.iconst 1, 1) := dk_4 (dk_at dksX1_after_1 12 rfl rfl)
theorem dX1_after_37 : decode cX1_after 37 = .ok (.iadd, 1) := dk_96 (dk_at dksX1_after_1 13 rfl rfl)
theorem dX1_after_38 : decode cX1_after 38 = .ok (.bipush 12, 2) := dk_16 12 (dk_at dksX1_after_1 14 rfl rfl)
theorem dX1_after_40 : decode cX1_after 40 = .ok (.irem, 1) := dk_112 (dk_at dksX1_after_1 16 rfl rfl)
theorem dX1_after_41 : decode cX1_after 41 = .ok (.imul, 1) := dk_104 (dk_at dksX1_after_1 17 rfl rfl)
theorem dX1_after_42 : decode cX1_after 42 = .ok (.iload_n 3, 1) := dk_29 (dk_at dksX1_after_1 18 rfl rfl)
theorem dX1_after_43 : decode cX1_after 43 = .ok (.iconst 1, 1) := dk_4 (dk_at dksX1_after_1 19 rfl rfl)
theorem dX1_after_44 : decode cX1_after 44 = .ok (.iadd, 1) := dk_96 (dk_at dksX1_after_1 20 rfl rfl)
theorem dX1_after_45 : decode cX1_after 45 = .ok (.bipush 12, 2) := dk_16 12 (dk_at dksX1_after_1 21 rfl rfl)
theorem dX1_after_47 : decode cX1_after 47 = .ok (.irem, 1) := dk_112 (dk_at dksX1_after_1 23 rfl rfl)
theorem dX1_after_48 : decode cX1_after 48 = .ok (.iadd, 1) := dk_96 (dk_at dksX1_after_2 0 rfl rfl)
theorem dX1_after_49 : decode cX1_after 49 = .ok (.goto 15, 3) := dk_167 0 15 (dk_at dksX1_after_2 1 rfl rfl)
theorem dX1_after_52 : decode cX1_after 52 = .ok (.bipush 12, 2) := dk_16 12 (dk_at dksX1_after_2 4 rfl rfl)
theorem dX1_after_54 : decode cX1_after 54 = .ok (.iload_n 2, 1) := dk_28 (dk_at dksX1_after_2 6 rfl rfl)
theorem dX1_after_55 : decode cX1_after 55 = .ok (.imul, 1) := dk_104 (dk_at dksX1_after_2 7 rfl rfl)
theorem dX1_after_56 : decode cX1_after 56 = .ok (.iload_n 3, 1) := dk_29 (dk_at dksX1_after_2 8 rfl rfl)
theorem dX1_after_57 : decode cX1_after 57 = .ok (.bipush 11, 2) := dk_16 11 (dk_at dksX1_after_2 9 rfl rfl)
theorem dX1_after_59 : decode cX1_after 59 = .ok (.iadd, 1) := dk_96 (dk_at dksX1_after_2 11 rfl rfl)
theorem dX1_after_60 : decode cX1_after 60 = .ok (.bipush 12, 2) := dk_16 12 (dk_at dksX1_after_2 12 rfl rfl)
theorem dX1_after_62 : decode cX1_after 62 = .ok (.irem, 1) := dk_112 (dk_at dksX1_after_2 14 rfl rfl)
theorem dX1_after_63 : decode cX1_after 63 = .ok (.iadd, 1) := dk_96 (dk_at dksX1_after_2 15 rfl rfl)
theorem dX1_after_64 : decode cX1_after 64 = .ok (.ireturn, 1) := dk_172 (dk_at dksX1_after_2 16 rfl rfl)
abbrev cX1_costOf : ByteArray := prog_9_method_75_code
def yX1_costOf : MethodName := ⟨RX1, "costOf", "(III)I"⟩
def dkwX1_costOf_1 : List UInt8 := [96, 46, 104, 4, 96, 172]
abbrev dktX1_costOf_1 : List UInt8 := dkwX1_costOf_1 ++ []
def dkwX1_costOf_0 : List UInt8 := [17, 3, 232, 29, 5, 160, 0, 7, 3, 167, 0, 17, 42, 180, 0, 32, 16, 24, 27, 104, 28, 16, 12, 108]
abbrev dktX1_costOf_0 : List UInt8 := dkwX1_costOf_0 ++ dktX1_costOf_1
theorem dksX1_costOf_0 : cX1_costOf.data.toList.drop 0 = dktX1_costOf_0 := by decide +kernel
theorem dksX1_costOf_1 : cX1_costOf.data.toList.drop 24 = dktX1_costOf_1 := dk_seg dksX1_costOf_0 24 rfl rfl
theorem dX1_costOf_0 : decode cX1_costOf 0 = .ok (.sipush 1000, 3) := dk_17 3 232 (dk_at dksX1_costOf_0 0 rfl rfl)
theorem dX1_costOf_3 : decode cX1_costOf 3 = .ok (.iload_n 3, 1) := dk_29 (dk_at dksX1_costOf_0 3 rfl rfl)
theorem dX1_costOf_4 : decode cX1_costOf 4 = .ok (.iconst 2, 1) := dk_5 (dk_at dksX1_costOf_0 4 rfl rfl)
theorem dX1_costOf_5 : decode cX1_costOf 5 = .ok (.if_icmp .ne 7, 3) := dk_160 0 7 (dk_at dksX1_costOf_0 5 rfl rfl)
theorem dX1_costOf_8 : decode cX1_costOf 8 = .ok (.iconst 0, 1) := dk_3 (dk_at dksX1_costOf_0 8 rfl rfl)
theorem dX1_costOf_9 : decode cX1_costOf 9 = .ok (.goto 17, 3) := dk_167 0 17 (dk_at dksX1_costOf_0 9 rfl rfl)
theorem dX1_costOf_12 : decode cX1_costOf 12 = .ok (.aload_n 0, 1) := dk_42 (dk_at dksX1_costOf_0 12 rfl rfl)
theorem dX1_costOf_13 : decode cX1_costOf 13 = .ok (.getfield 32, 3) := dk_180 0 32 (dk_at dksX1_costOf_0 13 rfl rfl)
theorem dX1_costOf_16 : decode cX1_costOf 16 = .ok (.bipush 24, 2) := dk_16 24 (dk_at dksX1_costOf_0 16 rfl rfl)
theorem dX1_costOf_18 : decode cX1_costOf 18 = .ok (.iload_n 1, 1) := dk_27 (dk_at dksX1_costOf_0 18 rfl rfl)
theorem dX1_costOf_19 : decode cX1_costOf 19 = .ok (.imul, 1) := dk_104 (dk_at dksX1_costOf_0 19 rfl rfl)
theorem dX1_costOf_20 : decode cX1_costOf 20 = .ok (.iload_n 2, 1) := dk_28 (dk_at dksX1_costOf_0 20 rfl rfl)
theorem dX1_costOf_21 : decode cX1_costOf 21 = .ok (.bipush 12, 2) := dk_16 12 (dk_at dksX1_costOf_0 21 rfl rfl)
theorem dX1_costOf_23 : decode cX1_costOf 23 = .ok (.idiv, 1) := dk_108 (dk_at dksX1_costOf_0 23 rfl rfl)
theorem dX1_costOf_24 : decode cX1_costOf 24 = .ok (.iadd, 1) := dk_96 (dk_at dksX1_costOf_1 0 rfl rfl)
theorem dX1_costOf_25 : decode cX1_costOf 25 = .ok (.iaload, 1) := dk_46 (dk_at dksX1_costOf_1 1 rfl rfl)
theorem dX1_costOf_26 : decode cX1_costOf 26 = .ok (.imul, 1) := dk_104 (dk_at dksX1_costOf_1 2 rfl rfl)
theorem dX1_costOf_27 : decode cX1_costOf 27 = .ok (.iconst 1, 1) := dk_4 (dk_at dksX1_costOf_1 3 rfl rfl)
theorem dX1_costOf_28 : decode cX1_costOf 28 = .ok (.iadd, 1) := dk_96 (dk_at dksX1_costOf_1 4 rfl rfl)
theorem dX1_costOf_29 : decode cX1_costOf 29 = .ok (.ireturn, 1) := dk_172 (dk_at dksX1_costOf_1 5 rfl rfl)
abbrev cX1_act : ByteArray := prog_9_method_77_code
def yX1_act : MethodName := ⟨RX1, "act", "(I)I"⟩
def dkwX1_act_1 : List UInt8 := [16, 247, 172]
abbrev dktX1_act_1 : List UInt8 := dkwX1_act_1 ++ []
def dkwX1_act_0 : List UInt8 := [27, 3, 42, 180, 0, 114, 4, 100, 184, 0, 145, 153, 0, 12, 42, 180, 0, 118, 27, 46, 167, 0, 5]
abbrev dktX1_act_0 : List UInt8 := dkwX1_act_0 ++ dktX1_act_1
theorem dksX1_act_0 : cX1_act.data.toList.drop 0 = dktX1_act_0 := by decide +kernel
theorem dksX1_act_1 : cX1_act.data.toList.drop 23 = dktX1_act_1 := dk_seg dksX1_act_0 23 rfl rfl
theorem dX1_act_0 : decode cX1_act 0 = .ok (.iload_n 1, 1) := dk_27 (dk_at dksX1_act_0 0 rfl rfl)
theorem dX1_act_1 : decode cX1_act 1 = .ok (.iconst 0, 1) := dk_3 (dk_at dksX1_act_0 1 rfl rfl)
theorem dX1_act_2 : decode cX1_act 2 = .ok (.aload_n 0, 1) := dk_42 (dk_at dksX1_act_0 2 rfl rfl)
theorem dX1_act_3 : decode cX1_act 3 = .ok (.getfield 114, 3) := dk_180 0 114 (dk_at dksX1_act_0 3 rfl rfl)
theorem dX1_act_6 : decode cX1_act 6 = .ok (.iconst 1, 1) := dk_4 (dk_at dksX1_act_0 6 rfl rfl)
theorem dX1_act_7 : decode cX1_act 7 = .ok (.isub, 1) := dk_100 (dk_at dksX1_act_0 7 rfl rfl)
theorem dX1_act_8 : decode cX1_act 8 = .ok (.invokestatic 145, 3) := dk_184 0 145 (dk_at dksX1_act_0 8 rfl rfl)
theorem dX1_act_11 : decode cX1_act 11 = .ok (.ifCond .eq 12, 3) := dk_153 0 12 (dk_at dksX1_act_0 11 rfl rfl)
theorem dX1_act_14 : decode cX1_act 14 = .ok (.aload_n 0, 1) := dk_42 (dk_at dksX1_act_0 14 rfl rfl)
theorem dX1_act_15 : decode cX1_act 15 = .ok (.getfield 118, 3) := dk_180 0 118 (dk_at dksX1_act_0 15 rfl rfl)
theorem dX1_act_18 : decode cX1_act 18 = .ok (.iload_n 1, 1) := dk_27 (dk_at dksX1_act_0 18 rfl rfl)
theorem dX1_act_19 : decode cX1_act 19 = .ok (.iaload, 1) := dk_46 (dk_at dksX1_act_0 19 rfl rfl)
theorem dX1_act_20 : decode cX1_act 20 = .ok (.goto 5, 3) := dk_167 0 5 (dk_at dksX1_act_0 20 rfl rfl)
theorem dX1_act_23 : decode cX1_act 23 = .ok (.bipush (-9), 2) := dk_16 247 (dk_at dksX1_act_1 0 rfl rfl)
theorem dX1_act_25 : decode cX1_act 25 = .ok (.ireturn, 1) := dk_172 (dk_at dksX1_act_1 2 rfl rfl)
abbrev cX1_due : ByteArray := prog_9_method_80_code
def yX1_due : MethodName := ⟨RX1, "due", "(IIIII)I"⟩
def dkwX1_due_1 : List UInt8 := [21, 5, 184, 1, 27, 153, 0, 16, 27, 28, 29, 21, 4, 21, 5, 184, 1, 30, 167, 0, 4, 2, 172]
abbrev dktX1_due_1 : List UInt8 := dkwX1_due_1 ++ []
def dkwX1_due_0 : List UInt8 := [27, 4, 16, 12, 184, 0, 145, 153, 0, 37, 28, 3, 16, 47, 184, 0, 145, 153, 0, 27, 29, 21, 4]
abbrev dktX1_due_0 : List UInt8 := dkwX1_due_0 ++ dktX1_due_1
theorem dksX1_due_0 : cX1_due.data.toList.drop 0 = dktX1_due_0 := by decide +kernel
theorem dksX1_due_1 : cX1_due.data.toList.drop 23 = dktX1_due_1 := dk_seg dksX1_due_0 23 rfl rfl
theorem dX1_due_0 : decode cX1_due 0 = .ok (.iload_n 1, 1) := dk_27 (dk_at dksX1_due_0 0 rfl rfl)
theorem dX1_due_1 : decode cX1_due 1 = .ok (.iconst 1, 1) := dk_4 (dk_at dksX1_due_0 1 rfl rfl)
theorem dX1_due_2 : decode cX1_due 2 = .ok (.bipush 12, 2) := dk_16 12 (dk_at dksX1_due_0 2 rfl rfl)
theorem dX1_due_4 : decode cX1_due 4 = .ok (.invokestatic 145, 3) := dk_184 0 145 (dk_at dksX1_due_0 4 rfl rfl)
theorem dX1_due_7 : decode cX1_due 7 = .ok (.ifCond .eq 37, 3) := dk_153 0 37 (dk_at dksX1_due_0 7 rfl rfl)
theorem dX1_due_10 : decode cX1_due 10 = .ok (.iload_n 2, 1) := dk_28 (dk_at dksX1_due_0 10 rfl rfl)
theorem dX1_due_11 : decode cX1_due 11 = .ok (.iconst 0, 1) := dk_3 (dk_at dksX1_due_0 11 rfl rfl)
theorem dX1_due_12 : decode cX1_due 12 = .ok (.bipush 47, 2) := dk_16 47 (dk_at dksX1_due_0 12 rfl rfl)
theorem dX1_due_14 : decode cX1_due 14 = .ok (.invokestatic 145, 3) := dk_184 0 145 (dk_at dksX1_due_0 14 rfl rfl)
theorem dX1_due_17 : decode cX1_due 17 = .ok (.ifCond .eq 27, 3) := dk_153 0 27 (dk_at dksX1_due_0 17 rfl rfl)
theorem dX1_due_20 : decode cX1_due 20 = .ok (.iload_n 3, 1) := dk_29 (dk_at dksX1_due_0 20 rfl rfl)
theorem dX1_due_21 : decode cX1_due 21 = .ok (.iload 4, 2) := dk_21 4 (dk_at dksX1_due_0 21 rfl rfl)
theorem dX1_due_23 : decode cX1_due 23 = .ok (.iload 5, 2) := dk_21 5 (dk_at dksX1_due_1 0 rfl rfl)
theorem dX1_due_25 : decode cX1_due 25 = .ok (.invokestatic 283, 3) := dk_184 1 27 (dk_at dksX1_due_1 2 rfl rfl)
theorem dX1_due_28 : decode cX1_due 28 = .ok (.ifCond .eq 16, 3) := dk_153 0 16 (dk_at dksX1_due_1 5 rfl rfl)
theorem dX1_due_31 : decode cX1_due 31 = .ok (.iload_n 1, 1) := dk_27 (dk_at dksX1_due_1 8 rfl rfl)
theorem dX1_due_32 : decode cX1_due 32 = .ok (.iload_n 2, 1) := dk_28 (dk_at dksX1_due_1 9 rfl rfl)
theorem dX1_due_33 : decode cX1_due 33 = .ok (.iload_n 3, 1) := dk_29 (dk_at dksX1_due_1 10 rfl rfl)
theorem dX1_due_34 : decode cX1_due 34 = .ok (.iload 4, 2) := dk_21 4 (dk_at dksX1_due_1 11 rfl rfl)
theorem dX1_due_36 : decode cX1_due 36 = .ok (.iload 5, 2) := dk_21 5 (dk_at dksX1_due_1 13 rfl rfl)
theorem dX1_due_38 : decode cX1_due 38 = .ok (.invokestatic 286, 3) := dk_184 1 30 (dk_at dksX1_due_1 15 rfl rfl)
theorem dX1_due_41 : decode cX1_due 41 = .ok (.goto 4, 3) := dk_167 0 4 (dk_at dksX1_due_1 18 rfl rfl)
theorem dX1_due_44 : decode cX1_due 44 = .ok (.iconst (-1), 1) := dk_2 (dk_at dksX1_due_1 21 rfl rfl)
theorem dX1_due_45 : decode cX1_due 45 = .ok (.ireturn, 1) := dk_172 (dk_at dksX1_due_1 22 rfl rfl)
abbrev cX1_isFault : ByteArray := prog_9_method_78_code
def yX1_isFault : MethodName := ⟨RX1, "isFault", "(III)Z"⟩
def dkwX1_isFault_5 : List UInt8 := [16, 47, 184, 0, 145, 153, 0, 17, 28, 27, 16, 47, 184, 0, 145, 153, 0, 7, 4, 167, 0, 4, 3, 172]
abbrev dktX1_isFault_5 : List UInt8 := dkwX1_isFault_5 ++ []
def dkwX1_isFault_4 : List UInt8 := [153, 0, 7, 4, 167, 0, 4, 3, 172, 27, 4, 16, 11, 184, 0, 145, 172, 26, 7, 160, 0, 27, 27, 3]
abbrev dktX1_isFault_4 : List UInt8 := dkwX1_isFault_4 ++ dktX1_isFault_5
def dkwX1_isFault_3 : List UInt8 := [167, 0, 4, 3, 172, 27, 4, 16, 12, 184, 0, 145, 153, 0, 17, 28, 3, 16, 24, 184, 0, 145]
abbrev dktX1_isFault_3 : List UInt8 := dkwX1_isFault_3 ++ dktX1_isFault_4
def dkwX1_isFault_2 : List UInt8 := [4, 172, 27, 4, 16, 11, 184, 0, 145, 153, 0, 17, 28, 3, 16, 47, 184, 0, 145, 153, 0, 7, 4]
abbrev dktX1_isFault_2 : List UInt8 := dkwX1_isFault_2 ++ dktX1_isFault_3
def dkwX1_isFault_1 : List UInt8 := [170, 0, 0, 0, 0, 0, 93, 0, 0, 0, 0, 0, 0, 0, 3, 0, 0, 0, 31, 0, 0, 0, 33, 0, 0, 0, 59, 0, 0, 0, 85]
abbrev dktX1_isFault_1 : List UInt8 := dkwX1_isFault_1 ++ dktX1_isFault_2
def dkwX1_isFault_0 : List UInt8 := [26]
abbrev dktX1_isFault_0 : List UInt8 := dkwX1_isFault_0 ++ dktX1_isFault_1
theorem dksX1_isFault_0 : cX1_isFault.data.toList.drop 0 = dktX1_isFault_0 := by decide +kernel
theorem dksX1_isFault_1 : cX1_isFault.data.toList.drop 1 = dktX1_isFault_1 := dk_seg dksX1_isFault_0 1 rfl rfl
theorem dksX1_isFault_2 : cX1_isFault.data.toList.drop 32 = dktX1_isFault_2 := dk_seg dksX1_isFault_1 31 rfl rfl
theorem dksX1_isFault_3 : cX1_isFault.data.toList.drop 55 = dktX1_isFault_3 := dk_seg dksX1_isFault_2 23 rfl rfl
theorem dksX1_isFault_4 : cX1_isFault.data.toList.drop 77 = dktX1_isFault_4 := dk_seg dksX1_isFault_3 22 rfl rfl
theorem dksX1_isFault_5 : cX1_isFault.data.toList.drop 101 = dktX1_isFault_5 := dk_seg dksX1_isFault_4 24 rfl rfl
theorem dX1_isFault_0 : decode cX1_isFault 0 = .ok (.iload_n 0, 1) := dk_26 (dk_at dksX1_isFault_0 0 rfl rfl)
theorem dX1_isFault_1 : decode cX1_isFault 1 = .ok (.tableswitch 93 0 3 #[31, 33, 59, 85], 31) := by decide +kernel
theorem dX1_isFault_32 : decode cX1_isFault 32 = .ok (.iconst 1, 1) := dk_4 (dk_at dksX1_isFault_2 0 rfl rfl)
theorem dX1_isFault_33 : decode cX1_isFault 33 = .ok (.ireturn, 1) := dk_172 (dk_at dksX1_isFault_2 1 rfl rfl)
theorem dX1_isFault_34 : decode cX1_isFault 34 = .ok (.iload_n 1, 1) := dk_27 (dk_at dksX1_isFault_2 2 rfl rfl)
theorem dX1_isFault_35 : decode cX1_isFault 35 = .ok (.iconst 1, 1) := dk_4 (dk_at dksX1_isFault_2 3 rfl rfl)
theorem dX1_isFault_36 : decode cX1_isFault 36 = .ok (.bipush 11, 2) := dk_16 11 (dk_at dksX1_isFault_2 4 rfl rfl)
theorem dX1_isFault_38 : decode cX1_isFault 38 = .ok (.invokestatic 145, 3) := dk_184 0 145 (dk_at dksX1_isFault_2 6 rfl rfl)
theorem dX1_isFault_41 : decode cX1_isFault 41 = .ok (.ifCond .eq 17, 3) := dk_153 0 17 (dk_at dksX1_isFault_2 9 rfl rfl)
theorem dX1_isFault_44 : decode cX1_isFault 44 = .ok (.iload_n 2, 1) := dk_28 (dk_at dksX1_isFault_2 12 rfl rfl)
theorem dX1_isFault_45 : decode cX1_isFault 45 = .ok (.iconst 0, 1) := dk_3 (dk_at dksX1_isFault_2 13 rfl rfl)
theorem dX1_isFault_46 : decode cX1_isFault 46 = .ok (.bipush 47, 2) := dk_16 47 (dk_at dksX1_isFault_2 14 rfl rfl)
theorem dX1_isFault_48 : decode cX1_isFault 48 = .ok (.invokestatic 145, 3) := dk_184 0 145 (dk_at dksX1_isFault_2 16 rfl rfl)
theorem dX1_isFault_51 : decode cX1_isFault 51 = .ok (.ifCond .eq 7, 3) := dk_153 0 7 (dk_at dksX1_isFault_2 19 rfl rfl)
theorem dX1_isFault_54 : decode cX1_isFault 54 = .ok (.iconst 1, 1) := dk_4 (dk_at dksX1_isFault_2 22 rfl rfl)
theorem dX1_isFault_55 : decode cX1_isFault 55 = .ok (.goto 4, 3) := dk_167 0 4 (dk_at dksX1_isFault_3 0 rfl rfl)
theorem dX1_isFault_58 : decode cX1_isFault 58 = .ok (.iconst 0, 1) := dk_3 (dk_at dksX1_isFault_3 3 rfl rfl)
theorem dX1_isFault_59 : decode cX1_isFault 59 = .ok (.ireturn, 1) := dk_172 (dk_at dksX1_isFault_3 4 rfl rfl)
theorem dX1_isFault_60 : decode cX1_isFault 60 = .ok (.iload_n 1, 1) := dk_27 (dk_at dksX1_isFault_3 5 rfl rfl)
theorem dX1_isFault_61 : decode cX1_isFault 61 = .ok (.iconst 1, 1) := dk_4 (dk_at dksX1_isFault_3 6 rfl rfl)
theorem dX1_isFault_62 : decode cX1_isFault 62 = .ok (.bipush 12, 2) := dk_16 12 (dk_at dksX1_isFault_3 7 rfl rfl)
theorem dX1_isFault_64 : decode cX1_isFault 64 = .ok (.invokestatic 145, 3) := dk_184 0 145 (dk_at dksX1_isFault_3 9 rfl rfl)
theorem dX1_isFault_67 : decode cX1_isFault 67 = .ok (.ifCond .eq 17, 3) := dk_153 0 17 (dk_at dksX1_isFault_3 12 rfl rfl)
theorem dX1_isFault_70 : decode cX1_isFault 70 = .ok (.iload_n 2, 1) := dk_28 (dk_at dksX1_isFault_3 15 rfl rfl)
theorem dX1_isFault_71 : decode cX1_isFault 71 = .ok (.iconst 0, 1) := dk_3 (dk_at dksX1_isFault_3 16 rfl rfl)
theorem dX1_isFault_72 : decode cX1_isFault 72 = .ok (.bipush 24, 2) := dk_16 24 (dk_at dksX1_isFault_3 17 rfl rfl)
theorem dX1_isFault_74 : decode cX1_isFault 74 = .ok (.invokestatic 145, 3) := dk_184 0 145 (dk_at dksX1_isFault_3 19 rfl rfl)
theorem dX1_isFault_77 : decode cX1_isFault 77 = .ok (.ifCond .eq 7, 3) := dk_153 0 7 (dk_at dksX1_isFault_4 0 rfl rfl)
theorem dX1_isFault_80 : decode cX1_isFault 80 = .ok (.iconst 1, 1) := dk_4 (dk_at dksX1_isFault_4 3 rfl rfl)
theorem dX1_isFault_81 : decode cX1_isFault 81 = .ok (.goto 4, 3) := dk_167 0 4 (dk_at dksX1_isFault_4 4 rfl rfl)
theorem dX1_isFault_84 : decode cX1_isFault 84 = .ok (.iconst 0, 1) := dk_3 (dk_at dksX1_isFault_4 7 rfl rfl)
theorem dX1_isFault_85 : decode cX1_isFault 85 = .ok (.ireturn, 1) := dk_172 (dk_at dksX1_isFault_4 8 rfl rfl)
theorem dX1_isFault_86 : decode cX1_isFault 86 = .ok (.iload_n 1, 1) := dk_27 (dk_at dksX1_isFault_4 9 rfl rfl)
theorem dX1_isFault_87 : decode cX1_isFault 87 = .ok (.iconst 1, 1) := dk_4 (dk_at dksX1_isFault_4 10 rfl rfl)
theorem dX1_isFault_88 : decode cX1_isFault 88 = .ok (.bipush 11, 2) := dk_16 11 (dk_at dksX1_isFault_4 11 rfl rfl)
theorem dX1_isFault_90 : decode cX1_isFault 90 = .ok (.invokestatic 145, 3) := dk_184 0 145 (dk_at dksX1_isFault_4 13 rfl rfl)
theorem dX1_isFault_93 : decode cX1_isFault 93 = .ok (.ireturn, 1) := dk_172 (dk_at dksX1_isFault_4 16 rfl rfl)
theorem dX1_isFault_94 : decode cX1_isFault 94 = .ok (.iload_n 0, 1) := dk_26 (dk_at dksX1_isFault_4 17 rfl rfl)
theorem dX1_isFault_95 : decode cX1_isFault 95 = .ok (.iconst 4, 1) := dk_7 (dk_at dksX1_isFault_4 18 rfl rfl)
theorem dX1_isFault_96 : decode cX1_isFault 96 = .ok (.if_icmp .ne 27, 3) := dk_160 0 27 (dk_at dksX1_isFault_4 19 rfl rfl)
theorem dX1_isFault_99 : decode cX1_isFault 99 = .ok (.iload_n 1, 1) := dk_27 (dk_at dksX1_isFault_4 22 rfl rfl)
theorem dX1_isFault_100 : decode cX1_isFault 100 = .ok (.iconst 0, 1) := dk_3 (dk_at dksX1_isFault_4 23 rfl rfl)
theorem dX1_isFault_101 : decode cX1_isFault 101 = .ok (.bipush 47, 2) := dk_16 47 (dk_at dksX1_isFault_5 0 rfl rfl)
theorem dX1_isFault_103 : decode cX1_isFault 103 = .ok (.invokestatic 145, 3) := dk_184 0 145 (dk_at dksX1_isFault_5 2 rfl rfl)
theorem dX1_isFault_106 : decode cX1_isFault 106 = .ok (.ifCond .eq 17, 3) := dk_153 0 17 (dk_at dksX1_isFault_5 5 rfl rfl)
theorem dX1_isFault_109 : decode cX1_isFault 109 = .ok (.iload_n 2, 1) := dk_28 (dk_at dksX1_isFault_5 8 rfl rfl)
theorem dX1_isFault_110 : decode cX1_isFault 110 = .ok (.iload_n 1, 1) := dk_27 (dk_at dksX1_isFault_5 9 rfl rfl)
theorem dX1_isFault_111 : decode cX1_isFault 111 = .ok (.bipush 47, 2) := dk_16 47 (dk_at dksX1_isFault_5 10 rfl rfl)
theorem dX1_isFault_113 : decode cX1_isFault 113 = .ok (.invokestatic 145, 3) := dk_184 0 145 (dk_at dksX1_isFault_5 12 rfl rfl)
theorem dX1_isFault_116 : decode cX1_isFault 116 = .ok (.ifCond .eq 7, 3) := dk_153 0 7 (dk_at dksX1_isFault_5 15 rfl rfl)
theorem dX1_isFault_119 : decode cX1_isFault 119 = .ok (.iconst 1, 1) := dk_4 (dk_at dksX1_isFault_5 18 rfl rfl)
theorem dX1_isFault_120 : decode cX1_isFault 120 = .ok (.goto 4, 3) := dk_167 0 4 (dk_at dksX1_isFault_5 19 rfl rfl)
theorem dX1_isFault_123 : decode cX1_isFault 123 = .ok (.iconst 0, 1) := dk_3 (dk_at dksX1_isFault_5 22 rfl rfl)
theorem dX1_isFault_124 : decode cX1_isFault 124 = .ok (.ireturn, 1) := dk_172 (dk_at dksX1_isFault_5 23 rfl rfl)
abbrev cX1_dueAt : ByteArray := prog_9_method_79_code
def yX1_dueAt : MethodName := ⟨RX1, "dueAt", "(IIIII)I"⟩
def dkwX1_dueAt_5 : List UInt8 := [172]
abbrev dktX1_dueAt_5 : List UInt8 := dkwX1_dueAt_5 ++ []
def dkwX1_dueAt_4 : List UInt8 := [167, 0, 4, 3, 172, 27, 29, 21, 4, 184, 0, 145, 153, 0, 7, 3, 167, 0, 5, 21, 5, 172, 21, 5]
abbrev dktX1_dueAt_4 : List UInt8 := dkwX1_dueAt_4 ++ dktX1_dueAt_5
def dkwX1_dueAt_3 : List UInt8 := [21, 5, 29, 160, 0, 8, 21, 4, 167, 0, 5, 21, 5, 172, 21, 5, 29, 164, 0, 10, 21, 5, 29, 100]
abbrev dktX1_dueAt_3 : List UInt8 := dkwX1_dueAt_3 ++ dktX1_dueAt_4
def dkwX1_dueAt_2 : List UInt8 := [27, 21, 4, 162, 0, 8, 21, 5, 167, 0, 14, 21, 5, 4, 100, 29, 96, 16, 12, 112, 4, 96, 172]
abbrev dktX1_dueAt_2 : List UInt8 := dkwX1_dueAt_2 ++ dktX1_dueAt_3
def dkwX1_dueAt_1 : List UInt8 := [170, 0, 0, 0, 0, 0, 100, 0, 0, 0, 1, 0, 0, 0, 4, 0, 0, 0, 31, 0, 0, 0, 54, 0, 0, 0, 68, 0, 0, 0, 83]
abbrev dktX1_dueAt_1 : List UInt8 := dkwX1_dueAt_1 ++ dktX1_dueAt_2
def dkwX1_dueAt_0 : List UInt8 := [26, 4, 100, 27, 96, 16, 12, 112, 4, 96, 54, 5, 28]
abbrev dktX1_dueAt_0 : List UInt8 := dkwX1_dueAt_0 ++ dktX1_dueAt_1
theorem dksX1_dueAt_0 : cX1_dueAt.data.toList.drop 0 = dktX1_dueAt_0 := by decide +kernel
theorem dksX1_dueAt_1 : cX1_dueAt.data.toList.drop 13 = dktX1_dueAt_1 := dk_seg dksX1_dueAt_0 13 rfl rfl
theorem dksX1_dueAt_2 : cX1_dueAt.data.toList.drop 44 = dktX1_dueAt_2 := dk_seg dksX1_dueAt_1 31 rfl rfl
theorem dksX1_dueAt_3 : cX1_dueAt.data.toList.drop 67 = dktX1_dueAt_3 := dk_seg dksX1_dueAt_2 23 rfl rfl
theorem dksX1_dueAt_4 : cX1_dueAt.data.toList.drop 91 = dktX1_dueAt_4 := dk_seg dksX1_dueAt_3 24 rfl rfl
theorem dksX1_dueAt_5 : cX1_dueAt.data.toList.drop 115 = dktX1_dueAt_5 := dk_seg dksX1_dueAt_4 24 rfl rfl
theorem dX1_dueAt_0 : decode cX1_dueAt 0 = .ok (.iload_n 0, 1) := dk_26 (dk_at dksX1_dueAt_0 0 rfl rfl)
theorem dX1_dueAt_1 : decode cX1_dueAt 1 = .ok (.iconst 1, 1) := dk_4 (dk_at dksX1_dueAt_0 1 rfl rfl)
theorem dX1_dueAt_2 : decode cX1_dueAt 2 = .ok (.isub, 1) := dk_100 (dk_at dksX1_dueAt_0 2 rfl rfl)
theorem dX1_dueAt_3 : decode cX1_dueAt 3 = .ok (.iload_n 1, 1) := dk_27 (dk_at dksX1_dueAt_0 3 rfl rfl)
theorem dX1_dueAt_4 : decode cX1_dueAt 4 = .ok (.iadd, 1) := dk_96 (dk_at dksX1_dueAt_0 4 rfl rfl)
theorem dX1_dueAt_5 : decode cX1_dueAt 5 = .ok (.bipush 12, 2) := dk_16 12 (dk_at dksX1_dueAt_0 5 rfl rfl)
theorem dX1_dueAt_7 : decode cX1_dueAt 7 = .ok (.irem, 1) := dk_112 (dk_at dksX1_dueAt_0 7 rfl rfl)
theorem dX1_dueAt_8 : decode cX1_dueAt 8 = .ok (.iconst 1, 1) := dk_4 (dk_at dksX1_dueAt_0 8 rfl rfl)
theorem dX1_dueAt_9 : decode cX1_dueAt 9 = .ok (.iadd, 1) := dk_96 (dk_at dksX1_dueAt_0 9 rfl rfl)
theorem dX1_dueAt_10 : decode cX1_dueAt 10 = .ok (.istore 5, 2) := dk_54 5 (dk_at dksX1_dueAt_0 10 rfl rfl)
theorem dX1_dueAt_12 : decode cX1_dueAt 12 = .ok (.iload_n 2, 1) := dk_28 (dk_at dksX1_dueAt_0 12 rfl rfl)
theorem dX1_dueAt_13 : decode cX1_dueAt 13 = .ok (.tableswitch 100 1 4 #[31, 54, 68, 83], 31) := by decide +kernel
theorem dX1_dueAt_44 : decode cX1_dueAt 44 = .ok (.iload_n 1, 1) := dk_27 (dk_at dksX1_dueAt_2 0 rfl rfl)
theorem dX1_dueAt_45 : decode cX1_dueAt 45 = .ok (.iload 4, 2) := dk_21 4 (dk_at dksX1_dueAt_2 1 rfl rfl)
theorem dX1_dueAt_47 : decode cX1_dueAt 47 = .ok (.if_icmp .ge 8, 3) := dk_162 0 8 (dk_at dksX1_dueAt_2 3 rfl rfl)
theorem dX1_dueAt_50 : decode cX1_dueAt 50 = .ok (.iload 5, 2) := dk_21 5 (dk_at dksX1_dueAt_2 6 rfl rfl)
theorem dX1_dueAt_52 : decode cX1_dueAt 52 = .ok (.goto 14, 3) := dk_167 0 14 (dk_at dksX1_dueAt_2 8 rfl rfl)
theorem dX1_dueAt_55 : decode cX1_dueAt 55 = .ok (.iload 5, 2) := dk_21 5 (dk_at dksX1_dueAt_2 11 rfl rfl)
theorem dX1_dueAt_57 : decode cX1_dueAt 57 = .ok (.iconst 1, 1) := dk_4 (dk_at dksX1_dueAt_2 13 rfl rfl)
theorem dX1_dueAt_58 : decode cX1_dueAt 58 = .ok (.isub, 1) := dk_100 (dk_at dksX1_dueAt_2 14 rfl rfl)
theorem dX1_dueAt_59 : decode cX1_dueAt 59 = .ok (.iload_n 3, 1) := dk_29 (dk_at dksX1_dueAt_2 15 rfl rfl)
theorem dX1_dueAt_60 : decode cX1_dueAt 60 = .ok (.iadd, 1) := dk_96 (dk_at dksX1_dueAt_2 16 rfl rfl)
theorem dX1_dueAt_61 : decode cX1_dueAt 61 = .ok (.bipush 12, 2) := dk_16 12 (dk_at dksX1_dueAt_2 17 rfl rfl)
theorem dX1_dueAt_63 : decode cX1_dueAt 63 = .ok (.irem, 1) := dk_112 (dk_at dksX1_dueAt_2 19 rfl rfl)
theorem dX1_dueAt_64 : decode cX1_dueAt 64 = .ok (.iconst 1, 1) := dk_4 (dk_at dksX1_dueAt_2 20 rfl rfl)
theorem dX1_dueAt_65 : decode cX1_dueAt 65 = .ok (.iadd, 1) := dk_96 (dk_at dksX1_dueAt_2 21 rfl rfl)
theorem dX1_dueAt_66 : decode cX1_dueAt 66 = .ok (.ireturn, 1) := dk_172 (dk_at dksX1_dueAt_2 22 rfl rfl)
theorem dX1_dueAt_67 : decode cX1_dueAt 67 = .ok (.iload 5, 2) := dk_21 5 (dk_at dksX1_dueAt_3 0 rfl rfl)
theorem dX1_dueAt_69 : decode cX1_dueAt 69 = .ok (.iload_n 3, 1) := dk_29 (dk_at dksX1_dueAt_3 2 rfl rfl)
theorem dX1_dueAt_70 : decode cX1_dueAt 70 = .ok (.if_icmp .ne 8, 3) := dk_160 0 8 (dk_at dksX1_dueAt_3 3 rfl rfl)
theorem dX1_dueAt_73 : decode cX1_dueAt 73 = .ok (.iload 4, 2) := dk_21 4 (dk_at dksX1_dueAt_3 6 rfl rfl)
theorem dX1_dueAt_75 : decode cX1_dueAt 75 = .ok (.goto 5, 3) := dk_167 0 5 (dk_at dksX1_dueAt_3 8 rfl rfl)
theorem dX1_dueAt_78 : decode cX1_dueAt 78 = .ok (.iload 5, 2) := dk_21 5 (dk_at dksX1_dueAt_3 11 rfl rfl)
theorem dX1_dueAt_80 : decode cX1_dueAt 80 = .ok (.ireturn, 1) := dk_172 (dk_at dksX1_dueAt_3 13 rfl rfl)
theorem dX1_dueAt_81 : decode cX1_dueAt 81 = .ok (.iload 5, 2) := dk_21 5 (dk_at dksX1_dueAt_3 14 rfl rfl)
theorem dX1_dueAt_83 : decode cX1_dueAt 83 = .ok (.iload_n 3, 1) := dk_29 (dk_at dksX1_dueAt_3 16 rfl rfl)
theorem dX1_dueAt_84 : decode cX1_dueAt 84 = .ok (.if_icmp .le 10, 3) := dk_164 0 10 (dk_at dksX1_dueAt_3 17 rfl rfl)
theorem dX1_dueAt_87 : decode cX1_dueAt 87 = .ok (.iload 5, 2) := dk_21 5 (dk_at dksX1_dueAt_3 20 rfl rfl)
theorem dX1_dueAt_89 : decode cX1_dueAt 89 = .ok (.iload_n 3, 1) := dk_29 (dk_at dksX1_dueAt_3 22 rfl rfl)
theorem dX1_dueAt_90 : decode cX1_dueAt 90 = .ok (.isub, 1) := dk_100 (dk_at dksX1_dueAt_3 23 rfl rfl)
theorem dX1_dueAt_91 : decode cX1_dueAt 91 = .ok (.goto 4, 3) := dk_167 0 4 (dk_at dksX1_dueAt_4 0 rfl rfl)
theorem dX1_dueAt_94 : decode cX1_dueAt 94 = .ok (.iconst 0, 1) := dk_3 (dk_at dksX1_dueAt_4 3 rfl rfl)
theorem dX1_dueAt_95 : decode cX1_dueAt 95 = .ok (.ireturn, 1) := dk_172 (dk_at dksX1_dueAt_4 4 rfl rfl)
theorem dX1_dueAt_96 : decode cX1_dueAt 96 = .ok (.iload_n 1, 1) := dk_27 (dk_at dksX1_dueAt_4 5 rfl rfl)
theorem dX1_dueAt_97 : decode cX1_dueAt 97 = .ok (.iload_n 3, 1) := dk_29 (dk_at dksX1_dueAt_4 6 rfl rfl)
theorem dX1_dueAt_98 : decode cX1_dueAt 98 = .ok (.iload 4, 2) := dk_21 4 (dk_at dksX1_dueAt_4 7 rfl rfl)
theorem dX1_dueAt_100 : decode cX1_dueAt 100 = .ok (.invokestatic 145, 3) := dk_184 0 145 (dk_at dksX1_dueAt_4 9 rfl rfl)
theorem dX1_dueAt_103 : decode cX1_dueAt 103 = .ok (.ifCond .eq 7, 3) := dk_153 0 7 (dk_at dksX1_dueAt_4 12 rfl rfl)
theorem dX1_dueAt_106 : decode cX1_dueAt 106 = .ok (.iconst 0, 1) := dk_3 (dk_at dksX1_dueAt_4 15 rfl rfl)
theorem dX1_dueAt_107 : decode cX1_dueAt 107 = .ok (.goto 5, 3) := dk_167 0 5 (dk_at dksX1_dueAt_4 16 rfl rfl)
theorem dX1_dueAt_110 : decode cX1_dueAt 110 = .ok (.iload 5, 2) := dk_21 5 (dk_at dksX1_dueAt_4 19 rfl rfl)
theorem dX1_dueAt_112 : decode cX1_dueAt 112 = .ok (.ireturn, 1) := dk_172 (dk_at dksX1_dueAt_4 21 rfl rfl)
theorem dX1_dueAt_113 : decode cX1_dueAt 113 = .ok (.iload 5, 2) := dk_21 5 (dk_at dksX1_dueAt_4 22 rfl rfl)
theorem dX1_dueAt_115 : decode cX1_dueAt 115 = .ok (.ireturn, 1) := dk_172 (dk_at dksX1_dueAt_5 0 rfl rfl)
abbrev cX1_misfits : ByteArray := prog_9_method_82_code
def yX1_misfits : MethodName := ⟨RX1, "misfits", "(IIIII)I"⟩
def dkwX1_misfits_2 : List UInt8 := [182, 1, 34, 172]
abbrev dktX1_misfits_2 : List UInt8 := dkwX1_misfits_2 ++ []
def dkwX1_misfits_1 : List UInt8 := [27, 182, 0, 157, 54, 6, 21, 6, 156, 0, 8, 21, 6, 167, 0, 14, 42, 27, 28, 29, 21, 4, 21, 5]
abbrev dktX1_misfits_1 : List UInt8 := dkwX1_misfits_1 ++ dktX1_misfits_2
def dkwX1_misfits_0 : List UInt8 := [28, 4, 16, 12, 184, 0, 145, 153, 0, 14, 29, 21, 4, 21, 5, 184, 1, 27, 154, 0, 5, 2, 172, 42]
abbrev dktX1_misfits_0 : List UInt8 := dkwX1_misfits_0 ++ dktX1_misfits_1
theorem dksX1_misfits_0 : cX1_misfits.data.toList.drop 0 = dktX1_misfits_0 := by decide +kernel
theorem dksX1_misfits_1 : cX1_misfits.data.toList.drop 24 = dktX1_misfits_1 := dk_seg dksX1_misfits_0 24 rfl rfl
theorem dksX1_misfits_2 : cX1_misfits.data.toList.drop 48 = dktX1_misfits_2 := dk_seg dksX1_misfits_1 24 rfl rfl
theorem dX1_misfits_0 : decode cX1_misfits 0 = .ok (.iload_n 2, 1) := dk_28 (dk_at dksX1_misfits_0 0 rfl rfl)
theorem dX1_misfits_1 : decode cX1_misfits 1 = .ok (.iconst 1, 1) := dk_4 (dk_at dksX1_misfits_0 1 rfl rfl)
theorem dX1_misfits_2 : decode cX1_misfits 2 = .ok (.bipush 12, 2) := dk_16 12 (dk_at dksX1_misfits_0 2 rfl rfl)
theorem dX1_misfits_4 : decode cX1_misfits 4 = .ok (.invokestatic 145, 3) := dk_184 0 145 (dk_at dksX1_misfits_0 4 rfl rfl)
theorem dX1_misfits_7 : decode cX1_misfits 7 = .ok (.ifCond .eq 14, 3) := dk_153 0 14 (dk_at dksX1_misfits_0 7 rfl rfl)
theorem dX1_misfits_10 : decode cX1_misfits 10 = .ok (.iload_n 3, 1) := dk_29 (dk_at dksX1_misfits_0 10 rfl rfl)
theorem dX1_misfits_11 : decode cX1_misfits 11 = .ok (.iload 4, 2) := dk_21 4 (dk_at dksX1_misfits_0 11 rfl rfl)
theorem dX1_misfits_13 : decode cX1_misfits 13 = .ok (.iload 5, 2) := dk_21 5 (dk_at dksX1_misfits_0 13 rfl rfl)
theorem dX1_misfits_15 : decode cX1_misfits 15 = .ok (.invokestatic 283, 3) := dk_184 1 27 (dk_at dksX1_misfits_0 15 rfl rfl)
theorem dX1_misfits_18 : decode cX1_misfits 18 = .ok (.ifCond .ne 5, 3) := dk_154 0 5 (dk_at dksX1_misfits_0 18 rfl rfl)
theorem dX1_misfits_21 : decode cX1_misfits 21 = .ok (.iconst (-1), 1) := dk_2 (dk_at dksX1_misfits_0 21 rfl rfl)
theorem dX1_misfits_22 : decode cX1_misfits 22 = .ok (.ireturn, 1) := dk_172 (dk_at dksX1_misfits_0 22 rfl rfl)
theorem dX1_misfits_23 : decode cX1_misfits 23 = .ok (.aload_n 0, 1) := dk_42 (dk_at dksX1_misfits_0 23 rfl rfl)
theorem dX1_misfits_24 : decode cX1_misfits 24 = .ok (.iload_n 1, 1) := dk_27 (dk_at dksX1_misfits_1 0 rfl rfl)
theorem dX1_misfits_25 : decode cX1_misfits 25 = .ok (.invokevirtual 157, 3) := dk_182 0 157 (dk_at dksX1_misfits_1 1 rfl rfl)
theorem dX1_misfits_28 : decode cX1_misfits 28 = .ok (.istore 6, 2) := dk_54 6 (dk_at dksX1_misfits_1 4 rfl rfl)
theorem dX1_misfits_30 : decode cX1_misfits 30 = .ok (.iload 6, 2) := dk_21 6 (dk_at dksX1_misfits_1 6 rfl rfl)
theorem dX1_misfits_32 : decode cX1_misfits 32 = .ok (.ifCond .ge 8, 3) := dk_156 0 8 (dk_at dksX1_misfits_1 8 rfl rfl)
theorem dX1_misfits_35 : decode cX1_misfits 35 = .ok (.iload 6, 2) := dk_21 6 (dk_at dksX1_misfits_1 11 rfl rfl)
theorem dX1_misfits_37 : decode cX1_misfits 37 = .ok (.goto 14, 3) := dk_167 0 14 (dk_at dksX1_misfits_1 13 rfl rfl)
theorem dX1_misfits_40 : decode cX1_misfits 40 = .ok (.aload_n 0, 1) := dk_42 (dk_at dksX1_misfits_1 16 rfl rfl)
theorem dX1_misfits_41 : decode cX1_misfits 41 = .ok (.iload_n 1, 1) := dk_27 (dk_at dksX1_misfits_1 17 rfl rfl)
theorem dX1_misfits_42 : decode cX1_misfits 42 = .ok (.iload_n 2, 1) := dk_28 (dk_at dksX1_misfits_1 18 rfl rfl)
theorem dX1_misfits_43 : decode cX1_misfits 43 = .ok (.iload_n 3, 1) := dk_29 (dk_at dksX1_misfits_1 19 rfl rfl)
theorem dX1_misfits_44 : decode cX1_misfits 44 = .ok (.iload 4, 2) := dk_21 4 (dk_at dksX1_misfits_1 20 rfl rfl)
theorem dX1_misfits_46 : decode cX1_misfits 46 = .ok (.iload 5, 2) := dk_21 5 (dk_at dksX1_misfits_1 22 rfl rfl)
theorem dX1_misfits_48 : decode cX1_misfits 48 = .ok (.invokevirtual 290, 3) := dk_182 1 34 (dk_at dksX1_misfits_2 0 rfl rfl)
theorem dX1_misfits_51 : decode cX1_misfits 51 = .ok (.ireturn, 1) := dk_172 (dk_at dksX1_misfits_2 3 rfl rfl)
abbrev cX1_misfitsOf : ByteArray := prog_9_method_81_code
def yX1_misfitsOf : MethodName := ⟨RX1, "misfitsOf", "(IIIII)I"⟩
def dkwX1_misfitsOf_2 : List UInt8 := [184, 1, 30, 159, 0, 7, 4, 167, 0, 4, 3, 96, 54, 6, 132, 7, 1, 167, 255, 197, 21, 6, 172]
abbrev dktX1_misfitsOf_2 : List UInt8 := dkwX1_misfitsOf_2 ++ []
def dkwX1_misfitsOf_1 : List UInt8 := [104, 21, 7, 96, 46, 54, 8, 21, 6, 21, 8, 155, 0, 23, 21, 8, 28, 21, 7, 29, 21, 4, 21, 5]
abbrev dktX1_misfitsOf_1 : List UInt8 := dkwX1_misfitsOf_1 ++ dktX1_misfitsOf_2
def dkwX1_misfitsOf_0 : List UInt8 := [3, 54, 6, 3, 54, 7, 21, 7, 42, 180, 0, 17, 27, 46, 162, 0, 54, 42, 180, 0, 20, 16, 48, 27]
abbrev dktX1_misfitsOf_0 : List UInt8 := dkwX1_misfitsOf_0 ++ dktX1_misfitsOf_1
theorem dksX1_misfitsOf_0 : cX1_misfitsOf.data.toList.drop 0 = dktX1_misfitsOf_0 := by decide +kernel
theorem dksX1_misfitsOf_1 : cX1_misfitsOf.data.toList.drop 24 = dktX1_misfitsOf_1 := dk_seg dksX1_misfitsOf_0 24 rfl rfl
theorem dksX1_misfitsOf_2 : cX1_misfitsOf.data.toList.drop 48 = dktX1_misfitsOf_2 := dk_seg dksX1_misfitsOf_1 24 rfl rfl
theorem dX1_misfitsOf_0 : decode cX1_misfitsOf 0 = .ok (.iconst 0, 1) := dk_3 (dk_at dksX1_misfitsOf_0 0 rfl rfl)
theorem dX1_misfitsOf_1 : decode cX1_misfitsOf 1 = .ok (.istore 6, 2) := dk_54 6 (dk_at dksX1_misfitsOf_0 1 rfl rfl)
theorem dX1_misfitsOf_3 : decode cX1_misfitsOf 3 = .ok (.iconst 0, 1) := dk_3 (dk_at dksX1_misfitsOf_0 3 rfl rfl)
theorem dX1_misfitsOf_4 : decode cX1_misfitsOf 4 = .ok (.istore 7, 2) := dk_54 7 (dk_at dksX1_misfitsOf_0 4 rfl rfl)
theorem dX1_misfitsOf_6 : decode cX1_misfitsOf 6 = .ok (.iload 7, 2) := dk_21 7 (dk_at dksX1_misfitsOf_0 6 rfl rfl)
theorem dX1_misfitsOf_8 : decode cX1_misfitsOf 8 = .ok (.aload_n 0, 1) := dk_42 (dk_at dksX1_misfitsOf_0 8 rfl rfl)
theorem dX1_misfitsOf_9 : decode cX1_misfitsOf 9 = .ok (.getfield 17, 3) := dk_180 0 17 (dk_at dksX1_misfitsOf_0 9 rfl rfl)
theorem dX1_misfitsOf_12 : decode cX1_misfitsOf 12 = .ok (.iload_n 1, 1) := dk_27 (dk_at dksX1_misfitsOf_0 12 rfl rfl)
theorem dX1_misfitsOf_13 : decode cX1_misfitsOf 13 = .ok (.iaload, 1) := dk_46 (dk_at dksX1_misfitsOf_0 13 rfl rfl)
theorem dX1_misfitsOf_14 : decode cX1_misfitsOf 14 = .ok (.if_icmp .ge 54, 3) := dk_162 0 54 (dk_at dksX1_misfitsOf_0 14 rfl rfl)
theorem dX1_misfitsOf_17 : decode cX1_misfitsOf 17 = .ok (.aload_n 0, 1) := dk_42 (dk_at dksX1_misfitsOf_0 17 rfl rfl)
theorem dX1_misfitsOf_18 : decode cX1_misfitsOf 18 = .ok (.getfield 20, 3) := dk_180 0 20 (dk_at dksX1_misfitsOf_0 18 rfl rfl)
theorem dX1_misfitsOf_21 : decode cX1_misfitsOf 21 = .ok (.bipush 48, 2) := dk_16 48 (dk_at dksX1_misfitsOf_0 21 rfl rfl)
theorem dX1_misfitsOf_23 : decode cX1_misfitsOf 23 = .ok (.iload_n 1, 1) := dk_27 (dk_at dksX1_misfitsOf_0 23 rfl rfl)
theorem dX1_misfitsOf_24 : decode cX1_misfitsOf 24 = .ok (.imul, 1) := dk_104 (dk_at dksX1_misfitsOf_1 0 rfl rfl)
theorem dX1_misfitsOf_25 : decode cX1_misfitsOf 25 = .ok (.iload 7, 2) := dk_21 7 (dk_at dksX1_misfitsOf_1 1 rfl rfl)
theorem dX1_misfitsOf_27 : decode cX1_misfitsOf 27 = .ok (.iadd, 1) := dk_96 (dk_at dksX1_misfitsOf_1 3 rfl rfl)
theorem dX1_misfitsOf_28 : decode cX1_misfitsOf 28 = .ok (.iaload, 1) := dk_46 (dk_at dksX1_misfitsOf_1 4 rfl rfl)
theorem dX1_misfitsOf_29 : decode cX1_misfitsOf 29 = .ok (.istore 8, 2) := dk_54 8 (dk_at dksX1_misfitsOf_1 5 rfl rfl)
theorem dX1_misfitsOf_31 : decode cX1_misfitsOf 31 = .ok (.iload 6, 2) := dk_21 6 (dk_at dksX1_misfitsOf_1 7 rfl rfl)
theorem dX1_misfitsOf_33 : decode cX1_misfitsOf 33 = .ok (.iload 8, 2) := dk_21 8 (dk_at dksX1_misfitsOf_1 9 rfl rfl)
theorem dX1_misfitsOf_35 : decode cX1_misfitsOf 35 = .ok (.ifCond .lt 23, 3) := dk_155 0 23 (dk_at dksX1_misfitsOf_1 11 rfl rfl)
theorem dX1_misfitsOf_38 : decode cX1_misfitsOf 38 = .ok (.iload 8, 2) := dk_21 8 (dk_at dksX1_misfitsOf_1 14 rfl rfl)
theorem dX1_misfitsOf_40 : decode cX1_misfitsOf 40 = .ok (.iload_n 2, 1) := dk_28 (dk_at dksX1_misfitsOf_1 16 rfl rfl)
theorem dX1_misfitsOf_41 : decode cX1_misfitsOf 41 = .ok (.iload 7, 2) := dk_21 7 (dk_at dksX1_misfitsOf_1 17 rfl rfl)
theorem dX1_misfitsOf_43 : decode cX1_misfitsOf 43 = .ok (.iload_n 3, 1) := dk_29 (dk_at dksX1_misfitsOf_1 19 rfl rfl)
theorem dX1_misfitsOf_44 : decode cX1_misfitsOf 44 = .ok (.iload 4, 2) := dk_21 4 (dk_at dksX1_misfitsOf_1 20 rfl rfl)
theorem dX1_misfitsOf_46 : decode cX1_misfitsOf 46 = .ok (.iload 5, 2) := dk_21 5 (dk_at dksX1_misfitsOf_1 22 rfl rfl)
theorem dX1_misfitsOf_48 : decode cX1_misfitsOf 48 = .ok (.invokestatic 286, 3) := dk_184 1 30 (dk_at dksX1_misfitsOf_2 0 rfl rfl)
theorem dX1_misfitsOf_51 : decode cX1_misfitsOf 51 = .ok (.if_icmp .eq 7, 3) := dk_159 0 7 (dk_at dksX1_misfitsOf_2 3 rfl rfl)
theorem dX1_misfitsOf_54 : decode cX1_misfitsOf 54 = .ok (.iconst 1, 1) := dk_4 (dk_at dksX1_misfitsOf_2 6 rfl rfl)
theorem dX1_misfitsOf_55 : decode cX1_misfitsOf 55 = .ok (.goto 4, 3) := dk_167 0 4 (dk_at dksX1_misfitsOf_2 7 rfl rfl)
theorem dX1_misfitsOf_58 : decode cX1_misfitsOf 58 = .ok (.iconst 0, 1) := dk_3 (dk_at dksX1_misfitsOf_2 10 rfl rfl)
theorem dX1_misfitsOf_59 : decode cX1_misfitsOf 59 = .ok (.iadd, 1) := dk_96 (dk_at dksX1_misfitsOf_2 11 rfl rfl)
theorem dX1_misfitsOf_60 : decode cX1_misfitsOf 60 = .ok (.istore 6, 2) := dk_54 6 (dk_at dksX1_misfitsOf_2 12 rfl rfl)
theorem dX1_misfitsOf_62 : decode cX1_misfitsOf 62 = .ok (.iinc 7 1, 3) := dk_132 7 1 (dk_at dksX1_misfitsOf_2 14 rfl rfl)
theorem dX1_misfitsOf_65 : decode cX1_misfitsOf 65 = .ok (.goto (-59), 3) := dk_167 255 197 (dk_at dksX1_misfitsOf_2 17 rfl rfl)
theorem dX1_misfitsOf_68 : decode cX1_misfitsOf 68 = .ok (.iload 6, 2) := dk_21 6 (dk_at dksX1_misfitsOf_2 20 rfl rfl)
theorem dX1_misfitsOf_70 : decode cX1_misfitsOf 70 = .ok (.ireturn, 1) := dk_172 (dk_at dksX1_misfitsOf_2 22 rfl rfl)
abbrev cX1_fault : ByteArray := prog_9_method_85_code
def yX1_fault : MethodName := ⟨RX1, "fault", "(II)I"⟩
def dkwX1_fault_3 : List UInt8 := [180, 1, 51, 172]
abbrev dktX1_fault_3 : List UInt8 := dkwX1_fault_3 ++ []
def dkwX1_fault_2 : List UInt8 := [181, 0, 133, 42, 42, 180, 0, 121, 5, 46, 181, 0, 136, 42, 42, 180, 1, 40, 181, 1, 24, 42]
abbrev dktX1_fault_2 : List UInt8 := dkwX1_fault_2 ++ dktX1_fault_3
def dkwX1_fault_1 : List UInt8 := [42, 27, 28, 182, 1, 47, 42, 42, 180, 0, 121, 3, 46, 181, 1, 51, 42, 42, 180, 0, 121, 4, 46]
abbrev dktX1_fault_1 : List UInt8 := dkwX1_fault_1 ++ dktX1_fault_2
def dkwX1_fault_0 : List UInt8 := [28, 4, 16, 12, 184, 0, 145, 154, 0, 5, 2, 172, 42, 27, 182, 0, 157, 62, 29, 156, 0, 5, 29, 172]
abbrev dktX1_fault_0 : List UInt8 := dkwX1_fault_0 ++ dktX1_fault_1
theorem dksX1_fault_0 : cX1_fault.data.toList.drop 0 = dktX1_fault_0 := by decide +kernel
theorem dksX1_fault_1 : cX1_fault.data.toList.drop 24 = dktX1_fault_1 := dk_seg dksX1_fault_0 24 rfl rfl
theorem dksX1_fault_2 : cX1_fault.data.toList.drop 47 = dktX1_fault_2 := dk_seg dksX1_fault_1 23 rfl rfl
theorem dksX1_fault_3 : cX1_fault.data.toList.drop 69 = dktX1_fault_3 := dk_seg dksX1_fault_2 22 rfl rfl
theorem dX1_fault_0 : decode cX1_fault 0 = .ok (.iload_n 2, 1) := dk_28 (dk_at dksX1_fault_0 0 rfl rfl)
theorem dX1_fault_1 : decode cX1_fault 1 = .ok (.iconst 1, 1) := dk_4 (dk_at dksX1_fault_0 1 rfl rfl)
theorem dX1_fault_2 : decode cX1_fault 2 = .ok (.bipush 12, 2) := dk_16 12 (dk_at dksX1_fault_0 2 rfl rfl)
theorem dX1_fault_4 : decode cX1_fault 4 = .ok (.invokestatic 145, 3) := dk_184 0 145 (dk_at dksX1_fault_0 4 rfl rfl)
theorem dX1_fault_7 : decode cX1_fault 7 = .ok (.ifCond .ne 5, 3) := dk_154 0 5 (dk_at dksX1_fault_0 7 rfl rfl)
theorem dX1_fault_10 : decode cX1_fault 10 = .ok (.iconst (-1), 1) := dk_2 (dk_at dksX1_fault_0 10 rfl rfl)
theorem dX1_fault_11 : decode cX1_fault 11 = .ok (.ireturn, 1) := dk_172 (dk_at dksX1_fault_0 11 rfl rfl)
theorem dX1_fault_12 : decode cX1_fault 12 = .ok (.aload_n 0, 1) := dk_42 (dk_at dksX1_fault_0 12 rfl rfl)
theorem dX1_fault_13 : decode cX1_fault 13 = .ok (.iload_n 1, 1) := dk_27 (dk_at dksX1_fault_0 13 rfl rfl)
theorem dX1_fault_14 : decode cX1_fault 14 = .ok (.invokevirtual 157, 3) := dk_182 0 157 (dk_at dksX1_fault_0 14 rfl rfl)
theorem dX1_fault_17 : decode cX1_fault 17 = .ok (.istore_n 3, 1) := dk_62 (dk_at dksX1_fault_0 17 rfl rfl)
theorem dX1_fault_18 : decode cX1_fault 18 = .ok (.iload_n 3, 1) := dk_29 (dk_at dksX1_fault_0 18 rfl rfl)
theorem dX1_fault_19 : decode cX1_fault 19 = .ok (.ifCond .ge 5, 3) := dk_156 0 5 (dk_at dksX1_fault_0 19 rfl rfl)
theorem dX1_fault_22 : decode cX1_fault 22 = .ok (.iload_n 3, 1) := dk_29 (dk_at dksX1_fault_0 22 rfl rfl)
theorem dX1_fault_23 : decode cX1_fault 23 = .ok (.ireturn, 1) := dk_172 (dk_at dksX1_fault_0 23 rfl rfl)
theorem dX1_fault_24 : decode cX1_fault 24 = .ok (.aload_n 0, 1) := dk_42 (dk_at dksX1_fault_1 0 rfl rfl)
theorem dX1_fault_25 : decode cX1_fault 25 = .ok (.iload_n 1, 1) := dk_27 (dk_at dksX1_fault_1 1 rfl rfl)
theorem dX1_fault_26 : decode cX1_fault 26 = .ok (.iload_n 2, 1) := dk_28 (dk_at dksX1_fault_1 2 rfl rfl)
theorem dX1_fault_27 : decode cX1_fault 27 = .ok (.invokevirtual 303, 3) := dk_182 1 47 (dk_at dksX1_fault_1 3 rfl rfl)
theorem dX1_fault_30 : decode cX1_fault 30 = .ok (.aload_n 0, 1) := dk_42 (dk_at dksX1_fault_1 6 rfl rfl)
theorem dX1_fault_31 : decode cX1_fault 31 = .ok (.aload_n 0, 1) := dk_42 (dk_at dksX1_fault_1 7 rfl rfl)
theorem dX1_fault_32 : decode cX1_fault 32 = .ok (.getfield 121, 3) := dk_180 0 121 (dk_at dksX1_fault_1 8 rfl rfl)
theorem dX1_fault_35 : decode cX1_fault 35 = .ok (.iconst 0, 1) := dk_3 (dk_at dksX1_fault_1 11 rfl rfl)
theorem dX1_fault_36 : decode cX1_fault 36 = .ok (.iaload, 1) := dk_46 (dk_at dksX1_fault_1 12 rfl rfl)
theorem dX1_fault_37 : decode cX1_fault 37 = .ok (.putfield 307, 3) := dk_181 1 51 (dk_at dksX1_fault_1 13 rfl rfl)
theorem dX1_fault_40 : decode cX1_fault 40 = .ok (.aload_n 0, 1) := dk_42 (dk_at dksX1_fault_1 16 rfl rfl)
theorem dX1_fault_41 : decode cX1_fault 41 = .ok (.aload_n 0, 1) := dk_42 (dk_at dksX1_fault_1 17 rfl rfl)
theorem dX1_fault_42 : decode cX1_fault 42 = .ok (.getfield 121, 3) := dk_180 0 121 (dk_at dksX1_fault_1 18 rfl rfl)
theorem dX1_fault_45 : decode cX1_fault 45 = .ok (.iconst 1, 1) := dk_4 (dk_at dksX1_fault_1 21 rfl rfl)
theorem dX1_fault_46 : decode cX1_fault 46 = .ok (.iaload, 1) := dk_46 (dk_at dksX1_fault_1 22 rfl rfl)
theorem dX1_fault_47 : decode cX1_fault 47 = .ok (.putfield 133, 3) := dk_181 0 133 (dk_at dksX1_fault_2 0 rfl rfl)
theorem dX1_fault_50 : decode cX1_fault 50 = .ok (.aload_n 0, 1) := dk_42 (dk_at dksX1_fault_2 3 rfl rfl)
theorem dX1_fault_51 : decode cX1_fault 51 = .ok (.aload_n 0, 1) := dk_42 (dk_at dksX1_fault_2 4 rfl rfl)
theorem dX1_fault_52 : decode cX1_fault 52 = .ok (.getfield 121, 3) := dk_180 0 121 (dk_at dksX1_fault_2 5 rfl rfl)
theorem dX1_fault_55 : decode cX1_fault 55 = .ok (.iconst 2, 1) := dk_5 (dk_at dksX1_fault_2 8 rfl rfl)
theorem dX1_fault_56 : decode cX1_fault 56 = .ok (.iaload, 1) := dk_46 (dk_at dksX1_fault_2 9 rfl rfl)
theorem dX1_fault_57 : decode cX1_fault 57 = .ok (.putfield 136, 3) := dk_181 0 136 (dk_at dksX1_fault_2 10 rfl rfl)
theorem dX1_fault_60 : decode cX1_fault 60 = .ok (.aload_n 0, 1) := dk_42 (dk_at dksX1_fault_2 13 rfl rfl)
theorem dX1_fault_61 : decode cX1_fault 61 = .ok (.aload_n 0, 1) := dk_42 (dk_at dksX1_fault_2 14 rfl rfl)
theorem dX1_fault_62 : decode cX1_fault 62 = .ok (.getfield 296, 3) := dk_180 1 40 (dk_at dksX1_fault_2 15 rfl rfl)
theorem dX1_fault_65 : decode cX1_fault 65 = .ok (.putfield 280, 3) := dk_181 1 24 (dk_at dksX1_fault_2 18 rfl rfl)
theorem dX1_fault_68 : decode cX1_fault 68 = .ok (.aload_n 0, 1) := dk_42 (dk_at dksX1_fault_2 21 rfl rfl)
theorem dX1_fault_69 : decode cX1_fault 69 = .ok (.getfield 307, 3) := dk_180 1 51 (dk_at dksX1_fault_3 0 rfl rfl)
theorem dX1_fault_72 : decode cX1_fault 72 = .ok (.ireturn, 1) := dk_172 (dk_at dksX1_fault_3 3 rfl rfl)
abbrev cX1_tryAll : ByteArray := prog_9_method_84_code
def yX1_tryAll : MethodName := ⟨RX1, "tryAll", "(II)V"⟩
def dkwX1_tryAll_4 : List UInt8 := [167, 255, 186, 132, 3, 1, 167, 255, 172, 177]
abbrev dktX1_tryAll_4 : List UInt8 := dkwX1_tryAll_4 ++ []
def dkwX1_tryAll_3 : List UInt8 := [154, 0, 14, 42, 27, 28, 29, 21, 4, 21, 5, 182, 1, 43, 132, 5, 1, 167, 255, 202, 132, 4, 1]
abbrev dktX1_tryAll_3 : List UInt8 := dkwX1_tryAll_3 ++ dktX1_tryAll_4
def dkwX1_tryAll_2 : List UInt8 := [16, 48, 162, 0, 40, 29, 21, 4, 21, 5, 184, 1, 27, 153, 0, 23, 29, 157, 0, 8, 21, 4]
abbrev dktX1_tryAll_2 : List UInt8 := dkwX1_tryAll_2 ++ dktX1_tryAll_3
def dkwX1_tryAll_1 : List UInt8 := [16, 48, 162, 0, 69, 3, 54, 5, 21, 5, 29, 153, 0, 8, 29, 6, 160, 0, 7, 4, 167, 0, 5]
abbrev dktX1_tryAll_1 : List UInt8 := dkwX1_tryAll_1 ++ dktX1_tryAll_2
def dkwX1_tryAll_0 : List UInt8 := [42, 16, 247, 181, 1, 40, 42, 3, 181, 1, 37, 3, 62, 29, 8, 162, 0, 85, 3, 54, 4, 21, 4]
abbrev dktX1_tryAll_0 : List UInt8 := dkwX1_tryAll_0 ++ dktX1_tryAll_1
theorem dksX1_tryAll_0 : cX1_tryAll.data.toList.drop 0 = dktX1_tryAll_0 := by decide +kernel
theorem dksX1_tryAll_1 : cX1_tryAll.data.toList.drop 23 = dktX1_tryAll_1 := dk_seg dksX1_tryAll_0 23 rfl rfl
theorem dksX1_tryAll_2 : cX1_tryAll.data.toList.drop 46 = dktX1_tryAll_2 := dk_seg dksX1_tryAll_1 23 rfl rfl
theorem dksX1_tryAll_3 : cX1_tryAll.data.toList.drop 68 = dktX1_tryAll_3 := dk_seg dksX1_tryAll_2 22 rfl rfl
theorem dksX1_tryAll_4 : cX1_tryAll.data.toList.drop 91 = dktX1_tryAll_4 := dk_seg dksX1_tryAll_3 23 rfl rfl
theorem dX1_tryAll_0 : decode cX1_tryAll 0 = .ok (.aload_n 0, 1) := dk_42 (dk_at dksX1_tryAll_0 0 rfl rfl)
theorem dX1_tryAll_1 : decode cX1_tryAll 1 = .ok (.bipush (-9), 2) := dk_16 247 (dk_at dksX1_tryAll_0 1 rfl rfl)
theorem dX1_tryAll_3 : decode cX1_tryAll 3 = .ok (.putfield 296, 3) := dk_181 1 40 (dk_at dksX1_tryAll_0 3 rfl rfl)
theorem dX1_tryAll_6 : decode cX1_tryAll 6 = .ok (.aload_n 0, 1) := dk_42 (dk_at dksX1_tryAll_0 6 rfl rfl)
theorem dX1_tryAll_7 : decode cX1_tryAll 7 = .ok (.iconst 0, 1) := dk_3 (dk_at dksX1_tryAll_0 7 rfl rfl)
theorem dX1_tryAll_8 : decode cX1_tryAll 8 = .ok (.putfield 293, 3) := dk_181 1 37 (dk_at dksX1_tryAll_0 8 rfl rfl)
theorem dX1_tryAll_11 : decode cX1_tryAll 11 = .ok (.iconst 0, 1) := dk_3 (dk_at dksX1_tryAll_0 11 rfl rfl)
theorem dX1_tryAll_12 : decode cX1_tryAll 12 = .ok (.istore_n 3, 1) := dk_62 (dk_at dksX1_tryAll_0 12 rfl rfl)
theorem dX1_tryAll_13 : decode cX1_tryAll 13 = .ok (.iload_n 3, 1) := dk_29 (dk_at dksX1_tryAll_0 13 rfl rfl)
theorem dX1_tryAll_14 : decode cX1_tryAll 14 = .ok (.iconst 5, 1) := dk_8 (dk_at dksX1_tryAll_0 14 rfl rfl)
theorem dX1_tryAll_15 : decode cX1_tryAll 15 = .ok (.if_icmp .ge 85, 3) := dk_162 0 85 (dk_at dksX1_tryAll_0 15 rfl rfl)
theorem dX1_tryAll_18 : decode cX1_tryAll 18 = .ok (.iconst 0, 1) := dk_3 (dk_at dksX1_tryAll_0 18 rfl rfl)
theorem dX1_tryAll_19 : decode cX1_tryAll 19 = .ok (.istore 4, 2) := dk_54 4 (dk_at dksX1_tryAll_0 19 rfl rfl)
theorem dX1_tryAll_21 : decode cX1_tryAll 21 = .ok (.iload 4, 2) := dk_21 4 (dk_at dksX1_tryAll_0 21 rfl rfl)
theorem dX1_tryAll_23 : decode cX1_tryAll 23 = .ok (.bipush 48, 2) := dk_16 48 (dk_at dksX1_tryAll_1 0 rfl rfl)
theorem dX1_tryAll_25 : decode cX1_tryAll 25 = .ok (.if_icmp .ge 69, 3) := dk_162 0 69 (dk_at dksX1_tryAll_1 2 rfl rfl)
theorem dX1_tryAll_28 : decode cX1_tryAll 28 = .ok (.iconst 0, 1) := dk_3 (dk_at dksX1_tryAll_1 5 rfl rfl)
theorem dX1_tryAll_29 : decode cX1_tryAll 29 = .ok (.istore 5, 2) := dk_54 5 (dk_at dksX1_tryAll_1 6 rfl rfl)
theorem dX1_tryAll_31 : decode cX1_tryAll 31 = .ok (.iload 5, 2) := dk_21 5 (dk_at dksX1_tryAll_1 8 rfl rfl)
theorem dX1_tryAll_33 : decode cX1_tryAll 33 = .ok (.iload_n 3, 1) := dk_29 (dk_at dksX1_tryAll_1 10 rfl rfl)
theorem dX1_tryAll_34 : decode cX1_tryAll 34 = .ok (.ifCond .eq 8, 3) := dk_153 0 8 (dk_at dksX1_tryAll_1 11 rfl rfl)
theorem dX1_tryAll_37 : decode cX1_tryAll 37 = .ok (.iload_n 3, 1) := dk_29 (dk_at dksX1_tryAll_1 14 rfl rfl)
theorem dX1_tryAll_38 : decode cX1_tryAll 38 = .ok (.iconst 3, 1) := dk_6 (dk_at dksX1_tryAll_1 15 rfl rfl)
theorem dX1_tryAll_39 : decode cX1_tryAll 39 = .ok (.if_icmp .ne 7, 3) := dk_160 0 7 (dk_at dksX1_tryAll_1 16 rfl rfl)
theorem dX1_tryAll_42 : decode cX1_tryAll 42 = .ok (.iconst 1, 1) := dk_4 (dk_at dksX1_tryAll_1 19 rfl rfl)
theorem dX1_tryAll_43 : decode cX1_tryAll 43 = .ok (.goto 5, 3) := dk_167 0 5 (dk_at dksX1_tryAll_1 20 rfl rfl)
theorem dX1_tryAll_46 : decode cX1_tryAll 46 = .ok (.bipush 48, 2) := dk_16 48 (dk_at dksX1_tryAll_2 0 rfl rfl)
theorem dX1_tryAll_48 : decode cX1_tryAll 48 = .ok (.if_icmp .ge 40, 3) := dk_162 0 40 (dk_at dksX1_tryAll_2 2 rfl rfl)
theorem dX1_tryAll_51 : decode cX1_tryAll 51 = .ok (.iload_n 3, 1) := dk_29 (dk_at dksX1_tryAll_2 5 rfl rfl)
theorem dX1_tryAll_52 : decode cX1_tryAll 52 = .ok (.iload 4, 2) := dk_21 4 (dk_at dksX1_tryAll_2 6 rfl rfl)
theorem dX1_tryAll_54 : decode cX1_tryAll 54 = .ok (.iload 5, 2) := dk_21 5 (dk_at dksX1_tryAll_2 8 rfl rfl)
theorem dX1_tryAll_56 : decode cX1_tryAll 56 = .ok (.invokestatic 283, 3) := dk_184 1 27 (dk_at dksX1_tryAll_2 10 rfl rfl)
theorem dX1_tryAll_59 : decode cX1_tryAll 59 = .ok (.ifCond .eq 23, 3) := dk_153 0 23 (dk_at dksX1_tryAll_2 13 rfl rfl)
theorem dX1_tryAll_62 : decode cX1_tryAll 62 = .ok (.iload_n 3, 1) := dk_29 (dk_at dksX1_tryAll_2 16 rfl rfl)
theorem dX1_tryAll_63 : decode cX1_tryAll 63 = .ok (.ifCond .gt 8, 3) := dk_157 0 8 (dk_at dksX1_tryAll_2 17 rfl rfl)
theorem dX1_tryAll_66 : decode cX1_tryAll 66 = .ok (.iload 4, 2) := dk_21 4 (dk_at dksX1_tryAll_2 20 rfl rfl)
theorem dX1_tryAll_68 : decode cX1_tryAll 68 = .ok (.ifCond .ne 14, 3) := dk_154 0 14 (dk_at dksX1_tryAll_3 0 rfl rfl)
theorem dX1_tryAll_71 : decode cX1_tryAll 71 = .ok (.aload_n 0, 1) := dk_42 (dk_at dksX1_tryAll_3 3 rfl rfl)
theorem dX1_tryAll_72 : decode cX1_tryAll 72 = .ok (.iload_n 1, 1) := dk_27 (dk_at dksX1_tryAll_3 4 rfl rfl)
theorem dX1_tryAll_73 : decode cX1_tryAll 73 = .ok (.iload_n 2, 1) := dk_28 (dk_at dksX1_tryAll_3 5 rfl rfl)
theorem dX1_tryAll_74 : decode cX1_tryAll 74 = .ok (.iload_n 3, 1) := dk_29 (dk_at dksX1_tryAll_3 6 rfl rfl)
theorem dX1_tryAll_75 : decode cX1_tryAll 75 = .ok (.iload 4, 2) := dk_21 4 (dk_at dksX1_tryAll_3 7 rfl rfl)
theorem dX1_tryAll_77 : decode cX1_tryAll 77 = .ok (.iload 5, 2) := dk_21 5 (dk_at dksX1_tryAll_3 9 rfl rfl)
theorem dX1_tryAll_79 : decode cX1_tryAll 79 = .ok (.invokevirtual 299, 3) := dk_182 1 43 (dk_at dksX1_tryAll_3 11 rfl rfl)
theorem dX1_tryAll_82 : decode cX1_tryAll 82 = .ok (.iinc 5 1, 3) := dk_132 5 1 (dk_at dksX1_tryAll_3 14 rfl rfl)
theorem dX1_tryAll_85 : decode cX1_tryAll 85 = .ok (.goto (-54), 3) := dk_167 255 202 (dk_at dksX1_tryAll_3 17 rfl rfl)
theorem dX1_tryAll_88 : decode cX1_tryAll 88 = .ok (.iinc 4 1, 3) := dk_132 4 1 (dk_at dksX1_tryAll_3 20 rfl rfl)
theorem dX1_tryAll_91 : decode cX1_tryAll 91 = .ok (.goto (-70), 3) := dk_167 255 186 (dk_at dksX1_tryAll_4 0 rfl rfl)
theorem dX1_tryAll_94 : decode cX1_tryAll 94 = .ok (.iinc 3 1, 3) := dk_132 3 1 (dk_at dksX1_tryAll_4 3 rfl rfl)
theorem dX1_tryAll_97 : decode cX1_tryAll 97 = .ok (.goto (-84), 3) := dk_167 255 172 (dk_at dksX1_tryAll_4 6 rfl rfl)
theorem dX1_tryAll_100 : decode cX1_tryAll 100 = .ok (.return_, 1) := dk_177 (dk_at dksX1_tryAll_4 9 rfl rfl)
abbrev cX1_tryFault : ByteArray := prog_9_method_83_code
def yX1_tryFault : MethodName := ⟨RX1, "tryFault", "(IIIII)V"⟩
def dkwX1_tryFault_4 : List UInt8 := [167, 0, 5, 21, 5, 79, 177]
abbrev dktX1_tryFault_4 : List UInt8 := dkwX1_tryFault_4 ++ []
def dkwX1_tryFault_3 : List UInt8 := [167, 0, 5, 21, 4, 79, 42, 180, 0, 121, 5, 29, 153, 0, 8, 29, 6, 160, 0, 8, 16, 247]
abbrev dktX1_tryFault_3 : List UInt8 := dkwX1_tryFault_3 ++ dktX1_tryFault_4
def dkwX1_tryFault_2 : List UInt8 := [42, 21, 6, 181, 1, 40, 42, 180, 0, 121, 3, 29, 79, 42, 180, 0, 121, 4, 29, 154, 0, 8, 16, 247]
abbrev dktX1_tryFault_2 : List UInt8 := dkwX1_tryFault_2 ++ dktX1_tryFault_3
def dkwX1_tryFault_1 : List UInt8 := [167, 0, 4, 3, 96, 181, 1, 37, 42, 180, 1, 40, 155, 0, 12, 21, 6, 42, 180, 1, 40, 162, 0, 55]
abbrev dktX1_tryFault_1 : List UInt8 := dkwX1_tryFault_1 ++ dktX1_tryFault_2
def dkwX1_tryFault_0 : List UInt8 := [42, 27, 28, 29, 21, 4, 21, 5, 182, 1, 34, 54, 6, 42, 89, 180, 1, 37, 21, 6, 154, 0, 7, 4]
abbrev dktX1_tryFault_0 : List UInt8 := dkwX1_tryFault_0 ++ dktX1_tryFault_1
theorem dksX1_tryFault_0 : cX1_tryFault.data.toList.drop 0 = dktX1_tryFault_0 := by decide +kernel
theorem dksX1_tryFault_1 : cX1_tryFault.data.toList.drop 24 = dktX1_tryFault_1 := dk_seg dksX1_tryFault_0 24 rfl rfl
theorem dksX1_tryFault_2 : cX1_tryFault.data.toList.drop 48 = dktX1_tryFault_2 := dk_seg dksX1_tryFault_1 24 rfl rfl
theorem dksX1_tryFault_3 : cX1_tryFault.data.toList.drop 72 = dktX1_tryFault_3 := dk_seg dksX1_tryFault_2 24 rfl rfl
theorem dksX1_tryFault_4 : cX1_tryFault.data.toList.drop 94 = dktX1_tryFault_4 := dk_seg dksX1_tryFault_3 22 rfl rfl
theorem dX1_tryFault_0 : decode cX1_tryFault 0 = .ok (.aload_n 0, 1) := dk_42 (dk_at dksX1_tryFault_0 0 rfl rfl)
theorem dX1_tryFault_1 : decode cX1_tryFault 1 = .ok (.iload_n 1, 1) := dk_27 (dk_at dksX1_tryFault_0 1 rfl rfl)
theorem dX1_tryFault_2 : decode cX1_tryFault 2 = .ok (.iload_n 2, 1) := dk_28 (dk_at dksX1_tryFault_0 2 rfl rfl)
theorem dX1_tryFault_3 : decode cX1_tryFault 3 = .ok (.iload_n 3, 1) := dk_29 (dk_at dksX1_tryFault_0 3 rfl rfl)
theorem dX1_tryFault_4 : decode cX1_tryFault 4 = .ok (.iload 4, 2) := dk_21 4 (dk_at dksX1_tryFault_0 4 rfl rfl)
theorem dX1_tryFault_6 : decode cX1_tryFault 6 = .ok (.iload 5, 2) := dk_21 5 (dk_at dksX1_tryFault_0 6 rfl rfl)
theorem dX1_tryFault_8 : decode cX1_tryFault 8 = .ok (.invokevirtual 290, 3) := dk_182 1 34 (dk_at dksX1_tryFault_0 8 rfl rfl)
theorem dX1_tryFault_11 : decode cX1_tryFault 11 = .ok (.istore 6, 2) := dk_54 6 (dk_at dksX1_tryFault_0 11 rfl rfl)
theorem dX1_tryFault_13 : decode cX1_tryFault 13 = .ok (.aload_n 0, 1) := dk_42 (dk_at dksX1_tryFault_0 13 rfl rfl)
theorem dX1_tryFault_14 : decode cX1_tryFault 14 = .ok (.dup, 1) := dk_89 (dk_at dksX1_tryFault_0 14 rfl rfl)
theorem dX1_tryFault_15 : decode cX1_tryFault 15 = .ok (.getfield 293, 3) := dk_180 1 37 (dk_at dksX1_tryFault_0 15 rfl rfl)
theorem dX1_tryFault_18 : decode cX1_tryFault 18 = .ok (.iload 6, 2) := dk_21 6 (dk_at dksX1_tryFault_0 18 rfl rfl)
theorem dX1_tryFault_20 : decode cX1_tryFault 20 = .ok (.ifCond .ne 7, 3) := dk_154 0 7 (dk_at dksX1_tryFault_0 20 rfl rfl)
theorem dX1_tryFault_23 : decode cX1_tryFault 23 = .ok (.iconst 1, 1) := dk_4 (dk_at dksX1_tryFault_0 23 rfl rfl)
theorem dX1_tryFault_24 : decode cX1_tryFault 24 = .ok (.goto 4, 3) := dk_167 0 4 (dk_at dksX1_tryFault_1 0 rfl rfl)
theorem dX1_tryFault_27 : decode cX1_tryFault 27 = .ok (.iconst 0, 1) := dk_3 (dk_at dksX1_tryFault_1 3 rfl rfl)
theorem dX1_tryFault_28 : decode cX1_tryFault 28 = .ok (.iadd, 1) := dk_96 (dk_at dksX1_tryFault_1 4 rfl rfl)
theorem dX1_tryFault_29 : decode cX1_tryFault 29 = .ok (.putfield 293, 3) := dk_181 1 37 (dk_at dksX1_tryFault_1 5 rfl rfl)
theorem dX1_tryFault_32 : decode cX1_tryFault 32 = .ok (.aload_n 0, 1) := dk_42 (dk_at dksX1_tryFault_1 8 rfl rfl)
theorem dX1_tryFault_33 : decode cX1_tryFault 33 = .ok (.getfield 296, 3) := dk_180 1 40 (dk_at dksX1_tryFault_1 9 rfl rfl)
theorem dX1_tryFault_36 : decode cX1_tryFault 36 = .ok (.ifCond .lt 12, 3) := dk_155 0 12 (dk_at dksX1_tryFault_1 12 rfl rfl)
theorem dX1_tryFault_39 : decode cX1_tryFault 39 = .ok (.iload 6, 2) := dk_21 6 (dk_at dksX1_tryFault_1 15 rfl rfl)
theorem dX1_tryFault_41 : decode cX1_tryFault 41 = .ok (.aload_n 0, 1) := dk_42 (dk_at dksX1_tryFault_1 17 rfl rfl)
theorem dX1_tryFault_42 : decode cX1_tryFault 42 = .ok (.getfield 296, 3) := dk_180 1 40 (dk_at dksX1_tryFault_1 18 rfl rfl)
theorem dX1_tryFault_45 : decode cX1_tryFault 45 = .ok (.if_icmp .ge 55, 3) := dk_162 0 55 (dk_at dksX1_tryFault_1 21 rfl rfl)
theorem dX1_tryFault_48 : decode cX1_tryFault 48 = .ok (.aload_n 0, 1) := dk_42 (dk_at dksX1_tryFault_2 0 rfl rfl)
theorem dX1_tryFault_49 : decode cX1_tryFault 49 = .ok (.iload 6, 2) := dk_21 6 (dk_at dksX1_tryFault_2 1 rfl rfl)
theorem dX1_tryFault_51 : decode cX1_tryFault 51 = .ok (.putfield 296, 3) := dk_181 1 40 (dk_at dksX1_tryFault_2 3 rfl rfl)
theorem dX1_tryFault_54 : decode cX1_tryFault 54 = .ok (.aload_n 0, 1) := dk_42 (dk_at dksX1_tryFault_2 6 rfl rfl)
theorem dX1_tryFault_55 : decode cX1_tryFault 55 = .ok (.getfield 121, 3) := dk_180 0 121 (dk_at dksX1_tryFault_2 7 rfl rfl)
theorem dX1_tryFault_58 : decode cX1_tryFault 58 = .ok (.iconst 0, 1) := dk_3 (dk_at dksX1_tryFault_2 10 rfl rfl)
theorem dX1_tryFault_59 : decode cX1_tryFault 59 = .ok (.iload_n 3, 1) := dk_29 (dk_at dksX1_tryFault_2 11 rfl rfl)
theorem dX1_tryFault_60 : decode cX1_tryFault 60 = .ok (.iastore, 1) := dk_79 (dk_at dksX1_tryFault_2 12 rfl rfl)
theorem dX1_tryFault_61 : decode cX1_tryFault 61 = .ok (.aload_n 0, 1) := dk_42 (dk_at dksX1_tryFault_2 13 rfl rfl)
theorem dX1_tryFault_62 : decode cX1_tryFault 62 = .ok (.getfield 121, 3) := dk_180 0 121 (dk_at dksX1_tryFault_2 14 rfl rfl)
theorem dX1_tryFault_65 : decode cX1_tryFault 65 = .ok (.iconst 1, 1) := dk_4 (dk_at dksX1_tryFault_2 17 rfl rfl)
theorem dX1_tryFault_66 : decode cX1_tryFault 66 = .ok (.iload_n 3, 1) := dk_29 (dk_at dksX1_tryFault_2 18 rfl rfl)
theorem dX1_tryFault_67 : decode cX1_tryFault 67 = .ok (.ifCond .ne 8, 3) := dk_154 0 8 (dk_at dksX1_tryFault_2 19 rfl rfl)
theorem dX1_tryFault_70 : decode cX1_tryFault 70 = .ok (.bipush (-9), 2) := dk_16 247 (dk_at dksX1_tryFault_2 22 rfl rfl)
theorem dX1_tryFault_72 : decode cX1_tryFault 72 = .ok (.goto 5, 3) := dk_167 0 5 (dk_at dksX1_tryFault_3 0 rfl rfl)
theorem dX1_tryFault_75 : decode cX1_tryFault 75 = .ok (.iload 4, 2) := dk_21 4 (dk_at dksX1_tryFault_3 3 rfl rfl)
theorem dX1_tryFault_77 : decode cX1_tryFault 77 = .ok (.iastore, 1) := dk_79 (dk_at dksX1_tryFault_3 5 rfl rfl)
theorem dX1_tryFault_78 : decode cX1_tryFault 78 = .ok (.aload_n 0, 1) := dk_42 (dk_at dksX1_tryFault_3 6 rfl rfl)
theorem dX1_tryFault_79 : decode cX1_tryFault 79 = .ok (.getfield 121, 3) := dk_180 0 121 (dk_at dksX1_tryFault_3 7 rfl rfl)
theorem dX1_tryFault_82 : decode cX1_tryFault 82 = .ok (.iconst 2, 1) := dk_5 (dk_at dksX1_tryFault_3 10 rfl rfl)
theorem dX1_tryFault_83 : decode cX1_tryFault 83 = .ok (.iload_n 3, 1) := dk_29 (dk_at dksX1_tryFault_3 11 rfl rfl)
theorem dX1_tryFault_84 : decode cX1_tryFault 84 = .ok (.ifCond .eq 8, 3) := dk_153 0 8 (dk_at dksX1_tryFault_3 12 rfl rfl)
theorem dX1_tryFault_87 : decode cX1_tryFault 87 = .ok (.iload_n 3, 1) := dk_29 (dk_at dksX1_tryFault_3 15 rfl rfl)
theorem dX1_tryFault_88 : decode cX1_tryFault 88 = .ok (.iconst 3, 1) := dk_6 (dk_at dksX1_tryFault_3 16 rfl rfl)
theorem dX1_tryFault_89 : decode cX1_tryFault 89 = .ok (.if_icmp .ne 8, 3) := dk_160 0 8 (dk_at dksX1_tryFault_3 17 rfl rfl)
theorem dX1_tryFault_92 : decode cX1_tryFault 92 = .ok (.bipush (-9), 2) := dk_16 247 (dk_at dksX1_tryFault_3 20 rfl rfl)
theorem dX1_tryFault_94 : decode cX1_tryFault 94 = .ok (.goto 5, 3) := dk_167 0 5 (dk_at dksX1_tryFault_4 0 rfl rfl)
theorem dX1_tryFault_97 : decode cX1_tryFault 97 = .ok (.iload 5, 2) := dk_21 5 (dk_at dksX1_tryFault_4 3 rfl rfl)
theorem dX1_tryFault_99 : decode cX1_tryFault 99 = .ok (.iastore, 1) := dk_79 (dk_at dksX1_tryFault_4 5 rfl rfl)
theorem dX1_tryFault_100 : decode cX1_tryFault 100 = .ok (.return_, 1) := dk_177 (dk_at dksX1_tryFault_4 6 rfl rfl)
abbrev cX1_faultTold : ByteArray := prog_9_method_86_code
def yX1_faultTold : MethodName := ⟨RX1, "faultTold", "(Z)I"⟩
def dkwX1_faultTold_0 : List UInt8 := [27, 153, 0, 10, 42, 180, 0, 136, 167, 0, 7, 42, 180, 0, 133, 172]
abbrev dktX1_faultTold_0 : List UInt8 := dkwX1_faultTold_0 ++ []
theorem dksX1_faultTold_0 : cX1_faultTold.data.toList.drop 0 = dktX1_faultTold_0 := by decide +kernel
theorem dX1_faultTold_0 : decode cX1_faultTold 0 = .ok (.iload_n 1, 1) := dk_27 (dk_at dksX1_faultTold_0 0 rfl rfl)
theorem dX1_faultTold_1 : decode cX1_faultTold 1 = .ok (.ifCond .eq 10, 3) := dk_153 0 10 (dk_at dksX1_faultTold_0 1 rfl rfl)
theorem dX1_faultTold_4 : decode cX1_faultTold 4 = .ok (.aload_n 0, 1) := dk_42 (dk_at dksX1_faultTold_0 4 rfl rfl)
theorem dX1_faultTold_5 : decode cX1_faultTold 5 = .ok (.getfield 136, 3) := dk_180 0 136 (dk_at dksX1_faultTold_0 5 rfl rfl)
theorem dX1_faultTold_8 : decode cX1_faultTold 8 = .ok (.goto 7, 3) := dk_167 0 7 (dk_at dksX1_faultTold_0 8 rfl rfl)
theorem dX1_faultTold_11 : decode cX1_faultTold 11 = .ok (.aload_n 0, 1) := dk_42 (dk_at dksX1_faultTold_0 11 rfl rfl)
theorem dX1_faultTold_12 : decode cX1_faultTold 12 = .ok (.getfield 133, 3) := dk_180 0 133 (dk_at dksX1_faultTold_0 12 rfl rfl)
theorem dX1_faultTold_15 : decode cX1_faultTold 15 = .ok (.ireturn, 1) := dk_172 (dk_at dksX1_faultTold_0 15 rfl rfl)
abbrev cX1_explained : ByteArray := prog_9_method_87_code
def yX1_explained : MethodName := ⟨RX1, "explained", "(II)I"⟩
def dkwX1_explained_1 : List UInt8 := [42, 27, 28, 182, 1, 47, 42, 180, 1, 37, 172]
abbrev dktX1_explained_1 : List UInt8 := dkwX1_explained_1 ++ []
def dkwX1_explained_0 : List UInt8 := [28, 4, 16, 12, 184, 0, 145, 154, 0, 5, 2, 172, 42, 27, 182, 0, 157, 62, 29, 156, 0, 5, 29, 172]
abbrev dktX1_explained_0 : List UInt8 := dkwX1_explained_0 ++ dktX1_explained_1
theorem dksX1_explained_0 : cX1_explained.data.toList.drop 0 = dktX1_explained_0 := by decide +kernel
theorem dksX1_explained_1 : cX1_explained.data.toList.drop 24 = dktX1_explained_1 := dk_seg dksX1_explained_0 24 rfl rfl
theorem dX1_explained_0 : decode cX1_explained 0 = .ok (.iload_n 2, 1) := dk_28 (dk_at dksX1_explained_0 0 rfl rfl)
theorem dX1_explained_1 : decode cX1_explained 1 = .ok (.iconst 1, 1) := dk_4 (dk_at dksX1_explained_0 1 rfl rfl)
theorem dX1_explained_2 : decode cX1_explained 2 = .ok (.bipush 12, 2) := dk_16 12 (dk_at dksX1_explained_0 2 rfl rfl)
theorem dX1_explained_4 : decode cX1_explained 4 = .ok (.invokestatic 145, 3) := dk_184 0 145 (dk_at dksX1_explained_0 4 rfl rfl)
theorem dX1_explained_7 : decode cX1_explained 7 = .ok (.ifCond .ne 5, 3) := dk_154 0 5 (dk_at dksX1_explained_0 7 rfl rfl)
theorem dX1_explained_10 : decode cX1_explained 10 = .ok (.iconst (-1), 1) := dk_2 (dk_at dksX1_explained_0 10 rfl rfl)
theorem dX1_explained_11 : decode cX1_explained 11 = .ok (.ireturn, 1) := dk_172 (dk_at dksX1_explained_0 11 rfl rfl)
theorem dX1_explained_12 : decode cX1_explained 12 = .ok (.aload_n 0, 1) := dk_42 (dk_at dksX1_explained_0 12 rfl rfl)
theorem dX1_explained_13 : decode cX1_explained 13 = .ok (.iload_n 1, 1) := dk_27 (dk_at dksX1_explained_0 13 rfl rfl)
theorem dX1_explained_14 : decode cX1_explained 14 = .ok (.invokevirtual 157, 3) := dk_182 0 157 (dk_at dksX1_explained_0 14 rfl rfl)
theorem dX1_explained_17 : decode cX1_explained 17 = .ok (.istore_n 3, 1) := dk_62 (dk_at dksX1_explained_0 17 rfl rfl)
theorem dX1_explained_18 : decode cX1_explained 18 = .ok (.iload_n 3, 1) := dk_29 (dk_at dksX1_explained_0 18 rfl rfl)
theorem dX1_explained_19 : decode cX1_explained 19 = .ok (.ifCond .ge 5, 3) := dk_156 0 5 (dk_at dksX1_explained_0 19 rfl rfl)
theorem dX1_explained_22 : decode cX1_explained 22 = .ok (.iload_n 3, 1) := dk_29 (dk_at dksX1_explained_0 22 rfl rfl)
theorem dX1_explained_23 : decode cX1_explained 23 = .ok (.ireturn, 1) := dk_172 (dk_at dksX1_explained_0 23 rfl rfl)
theorem dX1_explained_24 : decode cX1_explained 24 = .ok (.aload_n 0, 1) := dk_42 (dk_at dksX1_explained_1 0 rfl rfl)
theorem dX1_explained_25 : decode cX1_explained 25 = .ok (.iload_n 1, 1) := dk_27 (dk_at dksX1_explained_1 1 rfl rfl)
theorem dX1_explained_26 : decode cX1_explained 26 = .ok (.iload_n 2, 1) := dk_28 (dk_at dksX1_explained_1 2 rfl rfl)
theorem dX1_explained_27 : decode cX1_explained 27 = .ok (.invokevirtual 303, 3) := dk_182 1 47 (dk_at dksX1_explained_1 3 rfl rfl)
theorem dX1_explained_30 : decode cX1_explained 30 = .ok (.aload_n 0, 1) := dk_42 (dk_at dksX1_explained_1 6 rfl rfl)
theorem dX1_explained_31 : decode cX1_explained 31 = .ok (.getfield 293, 3) := dk_180 1 37 (dk_at dksX1_explained_1 7 rfl rfl)
theorem dX1_explained_34 : decode cX1_explained 34 = .ok (.ireturn, 1) := dk_172 (dk_at dksX1_explained_1 10 rfl rfl)
abbrev cX1_windy : ByteArray := prog_9_method_88_code
def yX1_windy : MethodName := ⟨RX1, "windy", "(IIIII)I"⟩
def dkwX1_windy_3 : List UInt8 := [184, 1, 30, 164, 0, 11, 42, 21, 7, 181, 1, 24, 3, 172, 132, 7, 1, 167, 255, 208, 4, 172]
abbrev dktX1_windy_3 : List UInt8 := dkwX1_windy_3 ++ []
def dkwX1_windy_2 : List UInt8 := [46, 162, 0, 43, 42, 180, 0, 20, 16, 48, 27, 104, 21, 7, 96, 46, 28, 21, 7, 29, 21, 4, 21, 5]
abbrev dktX1_windy_2 : List UInt8 := dkwX1_windy_2 ++ dktX1_windy_3
def dkwX1_windy_1 : List UInt8 := [27, 182, 0, 157, 54, 6, 21, 6, 156, 0, 6, 21, 6, 172, 3, 54, 7, 21, 7, 42, 180, 0, 17, 27]
abbrev dktX1_windy_1 : List UInt8 := dkwX1_windy_1 ++ dktX1_windy_2
def dkwX1_windy_0 : List UInt8 := [28, 4, 16, 12, 184, 0, 145, 153, 0, 14, 29, 21, 4, 21, 5, 184, 1, 27, 154, 0, 5, 2, 172, 42]
abbrev dktX1_windy_0 : List UInt8 := dkwX1_windy_0 ++ dktX1_windy_1
theorem dksX1_windy_0 : cX1_windy.data.toList.drop 0 = dktX1_windy_0 := by decide +kernel
theorem dksX1_windy_1 : cX1_windy.data.toList.drop 24 = dktX1_windy_1 := dk_seg dksX1_windy_0 24 rfl rfl
theorem dksX1_windy_2 : cX1_windy.data.toList.drop 48 = dktX1_windy_2 := dk_seg dksX1_windy_1 24 rfl rfl
theorem dksX1_windy_3 : cX1_windy.data.toList.drop 72 = dktX1_windy_3 := dk_seg dksX1_windy_2 24 rfl rfl
theorem dX1_windy_0 : decode cX1_windy 0 = .ok (.iload_n 2, 1) := dk_28 (dk_at dksX1_windy_0 0 rfl rfl)
theorem dX1_windy_1 : decode cX1_windy 1 = .ok (.iconst 1, 1) := dk_4 (dk_at dksX1_windy_0 1 rfl rfl)
theorem dX1_windy_2 : decode cX1_windy 2 = .ok (.bipush 12, 2) := dk_16 12 (dk_at dksX1_windy_0 2 rfl rfl)
theorem dX1_windy_4 : decode cX1_windy 4 = .ok (.invokestatic 145, 3) := dk_184 0 145 (dk_at dksX1_windy_0 4 rfl rfl)
theorem dX1_windy_7 : decode cX1_windy 7 = .ok (.ifCond .eq 14, 3) := dk_153 0 14 (dk_at dksX1_windy_0 7 rfl rfl)
theorem dX1_windy_10 : decode cX1_windy 10 = .ok (.iload_n 3, 1) := dk_29 (dk_at dksX1_windy_0 10 rfl rfl)
theorem dX1_windy_11 : decode cX1_windy 11 = .ok (.iload 4, 2) := dk_21 4 (dk_at dksX1_windy_0 11 rfl rfl)
theorem dX1_windy_13 : decode cX1_windy 13 = .ok (.iload 5, 2) := dk_21 5 (dk_at dksX1_windy_0 13 rfl rfl)
theorem dX1_windy_15 : decode cX1_windy 15 = .ok (.invokestatic 283, 3) := dk_184 1 27 (dk_at dksX1_windy_0 15 rfl rfl)
theorem dX1_windy_18 : decode cX1_windy 18 = .ok (.ifCond .ne 5, 3) := dk_154 0 5 (dk_at dksX1_windy_0 18 rfl rfl)
theorem dX1_windy_21 : decode cX1_windy 21 = .ok (.iconst (-1), 1) := dk_2 (dk_at dksX1_windy_0 21 rfl rfl)
theorem dX1_windy_22 : decode cX1_windy 22 = .ok (.ireturn, 1) := dk_172 (dk_at dksX1_windy_0 22 rfl rfl)
theorem dX1_windy_23 : decode cX1_windy 23 = .ok (.aload_n 0, 1) := dk_42 (dk_at dksX1_windy_0 23 rfl rfl)
theorem dX1_windy_24 : decode cX1_windy 24 = .ok (.iload_n 1, 1) := dk_27 (dk_at dksX1_windy_1 0 rfl rfl)
theorem dX1_windy_25 : decode cX1_windy 25 = .ok (.invokevirtual 157, 3) := dk_182 0 157 (dk_at dksX1_windy_1 1 rfl rfl)
theorem dX1_windy_28 : decode cX1_windy 28 = .ok (.istore 6, 2) := dk_54 6 (dk_at dksX1_windy_1 4 rfl rfl)
theorem dX1_windy_30 : decode cX1_windy 30 = .ok (.iload 6, 2) := dk_21 6 (dk_at dksX1_windy_1 6 rfl rfl)
theorem dX1_windy_32 : decode cX1_windy 32 = .ok (.ifCond .ge 6, 3) := dk_156 0 6 (dk_at dksX1_windy_1 8 rfl rfl)
theorem dX1_windy_35 : decode cX1_windy 35 = .ok (.iload 6, 2) := dk_21 6 (dk_at dksX1_windy_1 11 rfl rfl)
theorem dX1_windy_37 : decode cX1_windy 37 = .ok (.ireturn, 1) := dk_172 (dk_at dksX1_windy_1 13 rfl rfl)
theorem dX1_windy_38 : decode cX1_windy 38 = .ok (.iconst 0, 1) := dk_3 (dk_at dksX1_windy_1 14 rfl rfl)
theorem dX1_windy_39 : decode cX1_windy 39 = .ok (.istore 7, 2) := dk_54 7 (dk_at dksX1_windy_1 15 rfl rfl)
theorem dX1_windy_41 : decode cX1_windy 41 = .ok (.iload 7, 2) := dk_21 7 (dk_at dksX1_windy_1 17 rfl rfl)
theorem dX1_windy_43 : decode cX1_windy 43 = .ok (.aload_n 0, 1) := dk_42 (dk_at dksX1_windy_1 19 rfl rfl)
theorem dX1_windy_44 : decode cX1_windy 44 = .ok (.getfield 17, 3) := dk_180 0 17 (dk_at dksX1_windy_1 20 rfl rfl)
theorem dX1_windy_47 : decode cX1_windy 47 = .ok (.iload_n 1, 1) := dk_27 (dk_at dksX1_windy_1 23 rfl rfl)
theorem dX1_windy_48 : decode cX1_windy 48 = .ok (.iaload, 1) := dk_46 (dk_at dksX1_windy_2 0 rfl rfl)
theorem dX1_windy_49 : decode cX1_windy 49 = .ok (.if_icmp .ge 43, 3) := dk_162 0 43 (dk_at dksX1_windy_2 1 rfl rfl)
theorem dX1_windy_52 : decode cX1_windy 52 = .ok (.aload_n 0, 1) := dk_42 (dk_at dksX1_windy_2 4 rfl rfl)
theorem dX1_windy_53 : decode cX1_windy 53 = .ok (.getfield 20, 3) := dk_180 0 20 (dk_at dksX1_windy_2 5 rfl rfl)
theorem dX1_windy_56 : decode cX1_windy 56 = .ok (.bipush 48, 2) := dk_16 48 (dk_at dksX1_windy_2 8 rfl rfl)
theorem dX1_windy_58 : decode cX1_windy 58 = .ok (.iload_n 1, 1) := dk_27 (dk_at dksX1_windy_2 10 rfl rfl)
theorem dX1_windy_59 : decode cX1_windy 59 = .ok (.imul, 1) := dk_104 (dk_at dksX1_windy_2 11 rfl rfl)
theorem dX1_windy_60 : decode cX1_windy 60 = .ok (.iload 7, 2) := dk_21 7 (dk_at dksX1_windy_2 12 rfl rfl)
theorem dX1_windy_62 : decode cX1_windy 62 = .ok (.iadd, 1) := dk_96 (dk_at dksX1_windy_2 14 rfl rfl)
theorem dX1_windy_63 : decode cX1_windy 63 = .ok (.iaload, 1) := dk_46 (dk_at dksX1_windy_2 15 rfl rfl)
theorem dX1_windy_64 : decode cX1_windy 64 = .ok (.iload_n 2, 1) := dk_28 (dk_at dksX1_windy_2 16 rfl rfl)
theorem dX1_windy_65 : decode cX1_windy 65 = .ok (.iload 7, 2) := dk_21 7 (dk_at dksX1_windy_2 17 rfl rfl)
theorem dX1_windy_67 : decode cX1_windy 67 = .ok (.iload_n 3, 1) := dk_29 (dk_at dksX1_windy_2 19 rfl rfl)
theorem dX1_windy_68 : decode cX1_windy 68 = .ok (.iload 4, 2) := dk_21 4 (dk_at dksX1_windy_2 20 rfl rfl)
theorem dX1_windy_70 : decode cX1_windy 70 = .ok (.iload 5, 2) := dk_21 5 (dk_at dksX1_windy_2 22 rfl rfl)
theorem dX1_windy_72 : decode cX1_windy 72 = .ok (.invokestatic 286, 3) := dk_184 1 30 (dk_at dksX1_windy_3 0 rfl rfl)
theorem dX1_windy_75 : decode cX1_windy 75 = .ok (.if_icmp .le 11, 3) := dk_164 0 11 (dk_at dksX1_windy_3 3 rfl rfl)
theorem dX1_windy_78 : decode cX1_windy 78 = .ok (.aload_n 0, 1) := dk_42 (dk_at dksX1_windy_3 6 rfl rfl)
theorem dX1_windy_79 : decode cX1_windy 79 = .ok (.iload 7, 2) := dk_21 7 (dk_at dksX1_windy_3 7 rfl rfl)
theorem dX1_windy_81 : decode cX1_windy 81 = .ok (.putfield 280, 3) := dk_181 1 24 (dk_at dksX1_windy_3 9 rfl rfl)
theorem dX1_windy_84 : decode cX1_windy 84 = .ok (.iconst 0, 1) := dk_3 (dk_at dksX1_windy_3 12 rfl rfl)
theorem dX1_windy_85 : decode cX1_windy 85 = .ok (.ireturn, 1) := dk_172 (dk_at dksX1_windy_3 13 rfl rfl)
theorem dX1_windy_86 : decode cX1_windy 86 = .ok (.iinc 7 1, 3) := dk_132 7 1 (dk_at dksX1_windy_3 14 rfl rfl)
theorem dX1_windy_89 : decode cX1_windy 89 = .ok (.goto (-48), 3) := dk_167 255 208 (dk_at dksX1_windy_3 17 rfl rfl)
theorem dX1_windy_92 : decode cX1_windy 92 = .ok (.iconst 1, 1) := dk_4 (dk_at dksX1_windy_3 20 rfl rfl)
theorem dX1_windy_93 : decode cX1_windy 93 = .ok (.ireturn, 1) := dk_172 (dk_at dksX1_windy_3 21 rfl rfl)
abbrev cX1_wheel : ByteArray := prog_9_method_89_code
def yX1_wheel : MethodName := ⟨RX1, "wheel", "(I)I"⟩
def dkwX1_wheel_2 : List UInt8 := [180, 1, 54, 4, 100, 172]
abbrev dktX1_wheel_2 : List UInt8 := dkwX1_wheel_2 ++ []
def dkwX1_wheel_1 : List UInt8 := [16, 254, 172, 42, 180, 0, 124, 42, 180, 1, 54, 27, 79, 42, 89, 180, 1, 54, 4, 96, 181, 1, 54, 42]
abbrev dktX1_wheel_1 : List UInt8 := dkwX1_wheel_1 ++ dktX1_wheel_2
def dkwX1_wheel_0 : List UInt8 := [27, 16, 6, 17, 0, 200, 184, 0, 145, 154, 0, 5, 2, 172, 42, 180, 1, 54, 16, 12, 160, 0, 6]
abbrev dktX1_wheel_0 : List UInt8 := dkwX1_wheel_0 ++ dktX1_wheel_1
theorem dksX1_wheel_0 : cX1_wheel.data.toList.drop 0 = dktX1_wheel_0 := by decide +kernel
theorem dksX1_wheel_1 : cX1_wheel.data.toList.drop 23 = dktX1_wheel_1 := dk_seg dksX1_wheel_0 23 rfl rfl
theorem dksX1_wheel_2 : cX1_wheel.data.toList.drop 47 = dktX1_wheel_2 := dk_seg dksX1_wheel_1 24 rfl rfl
theorem dX1_wheel_0 : decode cX1_wheel 0 = .ok (.iload_n 1, 1) := dk_27 (dk_at dksX1_wheel_0 0 rfl rfl)
theorem dX1_wheel_1 : decode cX1_wheel 1 = .ok (.bipush 6, 2) := dk_16 6 (dk_at dksX1_wheel_0 1 rfl rfl)
theorem dX1_wheel_3 : decode cX1_wheel 3 = .ok (.sipush 200, 3) := dk_17 0 200 (dk_at dksX1_wheel_0 3 rfl rfl)
theorem dX1_wheel_6 : decode cX1_wheel 6 = .ok (.invokestatic 145, 3) := dk_184 0 145 (dk_at dksX1_wheel_0 6 rfl rfl)
theorem dX1_wheel_9 : decode cX1_wheel 9 = .ok (.ifCond .ne 5, 3) := dk_154 0 5 (dk_at dksX1_wheel_0 9 rfl rfl)
theorem dX1_wheel_12 : decode cX1_wheel 12 = .ok (.iconst (-1), 1) := dk_2 (dk_at dksX1_wheel_0 12 rfl rfl)
theorem dX1_wheel_13 : decode cX1_wheel 13 = .ok (.ireturn, 1) := dk_172 (dk_at dksX1_wheel_0 13 rfl rfl)
theorem dX1_wheel_14 : decode cX1_wheel 14 = .ok (.aload_n 0, 1) := dk_42 (dk_at dksX1_wheel_0 14 rfl rfl)
theorem dX1_wheel_15 : decode cX1_wheel 15 = .ok (.getfield 310, 3) := dk_180 1 54 (dk_at dksX1_wheel_0 15 rfl rfl)
theorem dX1_wheel_18 : decode cX1_wheel 18 = .ok (.bipush 12, 2) := dk_16 12 (dk_at dksX1_wheel_0 18 rfl rfl)
theorem dX1_wheel_20 : decode cX1_wheel 20 = .ok (.if_icmp .ne 6, 3) := dk_160 0 6 (dk_at dksX1_wheel_0 20 rfl rfl)
theorem dX1_wheel_23 : decode cX1_wheel 23 = .ok (.bipush (-2), 2) := dk_16 254 (dk_at dksX1_wheel_1 0 rfl rfl)
theorem dX1_wheel_25 : decode cX1_wheel 25 = .ok (.ireturn, 1) := dk_172 (dk_at dksX1_wheel_1 2 rfl rfl)
theorem dX1_wheel_26 : decode cX1_wheel 26 = .ok (.aload_n 0, 1) := dk_42 (dk_at dksX1_wheel_1 3 rfl rfl)
theorem dX1_wheel_27 : decode cX1_wheel 27 = .ok (.getfield 124, 3) := dk_180 0 124 (dk_at dksX1_wheel_1 4 rfl rfl)
theorem dX1_wheel_30 : decode cX1_wheel 30 = .ok (.aload_n 0, 1) := dk_42 (dk_at dksX1_wheel_1 7 rfl rfl)
theorem dX1_wheel_31 : decode cX1_wheel 31 = .ok (.getfield 310, 3) := dk_180 1 54 (dk_at dksX1_wheel_1 8 rfl rfl)
theorem dX1_wheel_34 : decode cX1_wheel 34 = .ok (.iload_n 1, 1) := dk_27 (dk_at dksX1_wheel_1 11 rfl rfl)
theorem dX1_wheel_35 : decode cX1_wheel 35 = .ok (.iastore, 1) := dk_79 (dk_at dksX1_wheel_1 12 rfl rfl)
theorem dX1_wheel_36 : decode cX1_wheel 36 = .ok (.aload_n 0, 1) := dk_42 (dk_at dksX1_wheel_1 13 rfl rfl)
theorem dX1_wheel_37 : decode cX1_wheel 37 = .ok (.dup, 1) := dk_89 (dk_at dksX1_wheel_1 14 rfl rfl)
theorem dX1_wheel_38 : decode cX1_wheel 38 = .ok (.getfield 310, 3) := dk_180 1 54 (dk_at dksX1_wheel_1 15 rfl rfl)
theorem dX1_wheel_41 : decode cX1_wheel 41 = .ok (.iconst 1, 1) := dk_4 (dk_at dksX1_wheel_1 18 rfl rfl)
theorem dX1_wheel_42 : decode cX1_wheel 42 = .ok (.iadd, 1) := dk_96 (dk_at dksX1_wheel_1 19 rfl rfl)
theorem dX1_wheel_43 : decode cX1_wheel 43 = .ok (.putfield 310, 3) := dk_181 1 54 (dk_at dksX1_wheel_1 20 rfl rfl)
theorem dX1_wheel_46 : decode cX1_wheel 46 = .ok (.aload_n 0, 1) := dk_42 (dk_at dksX1_wheel_1 23 rfl rfl)
theorem dX1_wheel_47 : decode cX1_wheel 47 = .ok (.getfield 310, 3) := dk_180 1 54 (dk_at dksX1_wheel_2 0 rfl rfl)
theorem dX1_wheel_50 : decode cX1_wheel 50 = .ok (.iconst 1, 1) := dk_4 (dk_at dksX1_wheel_2 3 rfl rfl)
theorem dX1_wheel_51 : decode cX1_wheel 51 = .ok (.isub, 1) := dk_100 (dk_at dksX1_wheel_2 4 rfl rfl)
theorem dX1_wheel_52 : decode cX1_wheel 52 = .ok (.ireturn, 1) := dk_172 (dk_at dksX1_wheel_2 5 rfl rfl)
abbrev cX1_nearest : ByteArray := prog_9_method_92_code
def yX1_nearest : MethodName := ⟨RX1, "nearest", "(III)I"⟩
def dkwX1_nearest_9 : List UInt8 := [42, 5, 29, 104, 181, 1, 75, 42, 42, 180, 1, 68, 42, 180, 1, 65, 182, 1, 78, 172]
abbrev dktX1_nearest_9 : List UInt8 := dkwX1_nearest_9 ++ []
def dkwX1_nearest_8 : List UInt8 := [132, 9, 255, 167, 255, 184, 21, 7, 153, 0, 10, 42, 27, 28, 29, 182, 1, 71, 132, 5, 1, 167, 255, 142]
abbrev dktX1_nearest_8 : List UInt8 := dkwX1_nearest_8 ++ dktX1_nearest_9
def dkwX1_nearest_7 : List UInt8 := [154, 0, 7, 4, 167, 0, 4, 3, 54, 7, 21, 8, 4, 42, 180, 0, 130, 21, 9, 46, 120, 128, 54, 8]
abbrev dktX1_nearest_7 : List UInt8 := dkwX1_nearest_7 ++ dktX1_nearest_8
def dkwX1_nearest_6 : List UInt8 := [180, 1, 54, 108, 54, 6, 21, 7, 153, 0, 22, 21, 8, 42, 180, 0, 130, 21, 9, 46, 122, 4, 126]
abbrev dktX1_nearest_6 : List UInt8 := dkwX1_nearest_6 ++ dktX1_nearest_7
def dkwX1_nearest_5 : List UInt8 := [21, 9, 155, 0, 73, 42, 180, 0, 130, 21, 9, 21, 6, 42, 180, 1, 54, 112, 79, 21, 6, 42]
abbrev dktX1_nearest_5 : List UInt8 := dkwX1_nearest_5 ++ dktX1_nearest_6
def dkwX1_nearest_4 : List UInt8 := [21, 5, 21, 4, 162, 0, 113, 21, 5, 54, 6, 4, 54, 7, 3, 54, 8, 5, 29, 104, 4, 100, 54, 9]
abbrev dktX1_nearest_4 : List UInt8 := dkwX1_nearest_4 ++ dktX1_nearest_5
def dkwX1_nearest_3 : List UInt8 := [180, 1, 54, 42, 180, 1, 54, 104, 42, 180, 1, 54, 104, 42, 180, 1, 54, 104, 54, 4, 3, 54, 5]
abbrev dktX1_nearest_3 : List UInt8 := dkwX1_nearest_3 ++ dktX1_nearest_4
def dkwX1_nearest_2 : List UInt8 := [172, 42, 3, 181, 1, 57, 29, 4, 160, 0, 15, 42, 180, 1, 54, 42, 180, 1, 54, 104, 167, 0, 22, 42]
abbrev dktX1_nearest_2 : List UInt8 := dkwX1_nearest_2 ++ dktX1_nearest_3
def dkwX1_nearest_1 : List UInt8 := [5, 184, 0, 145, 154, 0, 5, 2, 172, 42, 180, 1, 54, 5, 29, 104, 162, 0, 9, 42, 7, 182, 0, 153]
abbrev dktX1_nearest_1 : List UInt8 := dkwX1_nearest_1 ++ dktX1_nearest_2
def dkwX1_nearest_0 : List UInt8 := [27, 4, 17, 39, 16, 184, 0, 145, 153, 0, 23, 28, 4, 17, 39, 16, 184, 0, 145, 153, 0, 12, 29, 4]
abbrev dktX1_nearest_0 : List UInt8 := dkwX1_nearest_0 ++ dktX1_nearest_1
theorem dksX1_nearest_0 : cX1_nearest.data.toList.drop 0 = dktX1_nearest_0 := by decide +kernel
theorem dksX1_nearest_1 : cX1_nearest.data.toList.drop 24 = dktX1_nearest_1 := dk_seg dksX1_nearest_0 24 rfl rfl
theorem dksX1_nearest_2 : cX1_nearest.data.toList.drop 48 = dktX1_nearest_2 := dk_seg dksX1_nearest_1 24 rfl rfl
theorem dksX1_nearest_3 : cX1_nearest.data.toList.drop 72 = dktX1_nearest_3 := dk_seg dksX1_nearest_2 24 rfl rfl
theorem dksX1_nearest_4 : cX1_nearest.data.toList.drop 95 = dktX1_nearest_4 := dk_seg dksX1_nearest_3 23 rfl rfl
theorem dksX1_nearest_5 : cX1_nearest.data.toList.drop 119 = dktX1_nearest_5 := dk_seg dksX1_nearest_4 24 rfl rfl
theorem dksX1_nearest_6 : cX1_nearest.data.toList.drop 141 = dktX1_nearest_6 := dk_seg dksX1_nearest_5 22 rfl rfl
theorem dksX1_nearest_7 : cX1_nearest.data.toList.drop 164 = dktX1_nearest_7 := dk_seg dksX1_nearest_6 23 rfl rfl
theorem dksX1_nearest_8 : cX1_nearest.data.toList.drop 188 = dktX1_nearest_8 := dk_seg dksX1_nearest_7 24 rfl rfl
theorem dksX1_nearest_9 : cX1_nearest.data.toList.drop 212 = dktX1_nearest_9 := dk_seg dksX1_nearest_8 24 rfl rfl
theorem dX1_nearest_0 : decode cX1_nearest 0 = .ok (.iload_n 1, 1) := dk_27 (dk_at dksX1_nearest_0 0 rfl rfl)
theorem dX1_nearest_1 : decode cX1_nearest 1 = .ok (.iconst 1, 1) := dk_4 (dk_at dksX1_nearest_0 1 rfl rfl)
theorem dX1_nearest_2 : decode cX1_nearest 2 = .ok (.sipush 10000, 3) := dk_17 39 16 (dk_at dksX1_nearest_0 2 rfl rfl)
theorem dX1_nearest_5 : decode cX1_nearest 5 = .ok (.invokestatic 145, 3) := dk_184 0 145 (dk_at dksX1_nearest_0 5 rfl rfl)
theorem dX1_nearest_8 : decode cX1_nearest 8 = .ok (.ifCond .eq 23, 3) := dk_153 0 23 (dk_at dksX1_nearest_0 8 rfl rfl)
theorem dX1_nearest_11 : decode cX1_nearest 11 = .ok (.iload_n 2, 1) := dk_28 (dk_at dksX1_nearest_0 11 rfl rfl)
theorem dX1_nearest_12 : decode cX1_nearest 12 = .ok (.iconst 1, 1) := dk_4 (dk_at dksX1_nearest_0 12 rfl rfl)
theorem dX1_nearest_13 : decode cX1_nearest 13 = .ok (.sipush 10000, 3) := dk_17 39 16 (dk_at dksX1_nearest_0 13 rfl rfl)
theorem dX1_nearest_16 : decode cX1_nearest 16 = .ok (.invokestatic 145, 3) := dk_184 0 145 (dk_at dksX1_nearest_0 16 rfl rfl)
theorem dX1_nearest_19 : decode cX1_nearest 19 = .ok (.ifCond .eq 12, 3) := dk_153 0 12 (dk_at dksX1_nearest_0 19 rfl rfl)
theorem dX1_nearest_22 : decode cX1_nearest 22 = .ok (.iload_n 3, 1) := dk_29 (dk_at dksX1_nearest_0 22 rfl rfl)
theorem dX1_nearest_23 : decode cX1_nearest 23 = .ok (.iconst 1, 1) := dk_4 (dk_at dksX1_nearest_0 23 rfl rfl)
theorem dX1_nearest_24 : decode cX1_nearest 24 = .ok (.iconst 2, 1) := dk_5 (dk_at dksX1_nearest_1 0 rfl rfl)
theorem dX1_nearest_25 : decode cX1_nearest 25 = .ok (.invokestatic 145, 3) := dk_184 0 145 (dk_at dksX1_nearest_1 1 rfl rfl)
theorem dX1_nearest_28 : decode cX1_nearest 28 = .ok (.ifCond .ne 5, 3) := dk_154 0 5 (dk_at dksX1_nearest_1 4 rfl rfl)
theorem dX1_nearest_31 : decode cX1_nearest 31 = .ok (.iconst (-1), 1) := dk_2 (dk_at dksX1_nearest_1 7 rfl rfl)
theorem dX1_nearest_32 : decode cX1_nearest 32 = .ok (.ireturn, 1) := dk_172 (dk_at dksX1_nearest_1 8 rfl rfl)
theorem dX1_nearest_33 : decode cX1_nearest 33 = .ok (.aload_n 0, 1) := dk_42 (dk_at dksX1_nearest_1 9 rfl rfl)
theorem dX1_nearest_34 : decode cX1_nearest 34 = .ok (.getfield 310, 3) := dk_180 1 54 (dk_at dksX1_nearest_1 10 rfl rfl)
theorem dX1_nearest_37 : decode cX1_nearest 37 = .ok (.iconst 2, 1) := dk_5 (dk_at dksX1_nearest_1 13 rfl rfl)
theorem dX1_nearest_38 : decode cX1_nearest 38 = .ok (.iload_n 3, 1) := dk_29 (dk_at dksX1_nearest_1 14 rfl rfl)
theorem dX1_nearest_39 : decode cX1_nearest 39 = .ok (.imul, 1) := dk_104 (dk_at dksX1_nearest_1 15 rfl rfl)
theorem dX1_nearest_40 : decode cX1_nearest 40 = .ok (.if_icmp .ge 9, 3) := dk_162 0 9 (dk_at dksX1_nearest_1 16 rfl rfl)
theorem dX1_nearest_43 : decode cX1_nearest 43 = .ok (.aload_n 0, 1) := dk_42 (dk_at dksX1_nearest_1 19 rfl rfl)
theorem dX1_nearest_44 : decode cX1_nearest 44 = .ok (.iconst 4, 1) := dk_7 (dk_at dksX1_nearest_1 20 rfl rfl)
theorem dX1_nearest_45 : decode cX1_nearest 45 = .ok (.invokevirtual 153, 3) := dk_182 0 153 (dk_at dksX1_nearest_1 21 rfl rfl)
theorem dX1_nearest_48 : decode cX1_nearest 48 = .ok (.ireturn, 1) := dk_172 (dk_at dksX1_nearest_2 0 rfl rfl)
theorem dX1_nearest_49 : decode cX1_nearest 49 = .ok (.aload_n 0, 1) := dk_42 (dk_at dksX1_nearest_2 1 rfl rfl)
theorem dX1_nearest_50 : decode cX1_nearest 50 = .ok (.iconst 0, 1) := dk_3 (dk_at dksX1_nearest_2 2 rfl rfl)
theorem dX1_nearest_51 : decode cX1_nearest 51 = .ok (.putfield 313, 3) := dk_181 1 57 (dk_at dksX1_nearest_2 3 rfl rfl)
theorem dX1_nearest_54 : decode cX1_nearest 54 = .ok (.iload_n 3, 1) := dk_29 (dk_at dksX1_nearest_2 6 rfl rfl)
theorem dX1_nearest_55 : decode cX1_nearest 55 = .ok (.iconst 1, 1) := dk_4 (dk_at dksX1_nearest_2 7 rfl rfl)
theorem dX1_nearest_56 : decode cX1_nearest 56 = .ok (.if_icmp .ne 15, 3) := dk_160 0 15 (dk_at dksX1_nearest_2 8 rfl rfl)
theorem dX1_nearest_59 : decode cX1_nearest 59 = .ok (.aload_n 0, 1) := dk_42 (dk_at dksX1_nearest_2 11 rfl rfl)
theorem dX1_nearest_60 : decode cX1_nearest 60 = .ok (.getfield 310, 3) := dk_180 1 54 (dk_at dksX1_nearest_2 12 rfl rfl)
theorem dX1_nearest_63 : decode cX1_nearest 63 = .ok (.aload_n 0, 1) := dk_42 (dk_at dksX1_nearest_2 15 rfl rfl)
theorem dX1_nearest_64 : decode cX1_nearest 64 = .ok (.getfield 310, 3) := dk_180 1 54 (dk_at dksX1_nearest_2 16 rfl rfl)
theorem dX1_nearest_67 : decode cX1_nearest 67 = .ok (.imul, 1) := dk_104 (dk_at dksX1_nearest_2 19 rfl rfl)
theorem dX1_nearest_68 : decode cX1_nearest 68 = .ok (.goto 22, 3) := dk_167 0 22 (dk_at dksX1_nearest_2 20 rfl rfl)
theorem dX1_nearest_71 : decode cX1_nearest 71 = .ok (.aload_n 0, 1) := dk_42 (dk_at dksX1_nearest_2 23 rfl rfl)
theorem dX1_nearest_72 : decode cX1_nearest 72 = .ok (.getfield 310, 3) := dk_180 1 54 (dk_at dksX1_nearest_3 0 rfl rfl)
theorem dX1_nearest_75 : decode cX1_nearest 75 = .ok (.aload_n 0, 1) := dk_42 (dk_at dksX1_nearest_3 3 rfl rfl)
theorem dX1_nearest_76 : decode cX1_nearest 76 = .ok (.getfield 310, 3) := dk_180 1 54 (dk_at dksX1_nearest_3 4 rfl rfl)
theorem dX1_nearest_79 : decode cX1_nearest 79 = .ok (.imul, 1) := dk_104 (dk_at dksX1_nearest_3 7 rfl rfl)
theorem dX1_nearest_80 : decode cX1_nearest 80 = .ok (.aload_n 0, 1) := dk_42 (dk_at dksX1_nearest_3 8 rfl rfl)
theorem dX1_nearest_81 : decode cX1_nearest 81 = .ok (.getfield 310, 3) := dk_180 1 54 (dk_at dksX1_nearest_3 9 rfl rfl)
theorem dX1_nearest_84 : decode cX1_nearest 84 = .ok (.imul, 1) := dk_104 (dk_at dksX1_nearest_3 12 rfl rfl)
theorem dX1_nearest_85 : decode cX1_nearest 85 = .ok (.aload_n 0, 1) := dk_42 (dk_at dksX1_nearest_3 13 rfl rfl)
theorem dX1_nearest_86 : decode cX1_nearest 86 = .ok (.getfield 310, 3) := dk_180 1 54 (dk_at dksX1_nearest_3 14 rfl rfl)
theorem dX1_nearest_89 : decode cX1_nearest 89 = .ok (.imul, 1) := dk_104 (dk_at dksX1_nearest_3 17 rfl rfl)
theorem dX1_nearest_90 : decode cX1_nearest 90 = .ok (.istore 4, 2) := dk_54 4 (dk_at dksX1_nearest_3 18 rfl rfl)
theorem dX1_nearest_92 : decode cX1_nearest 92 = .ok (.iconst 0, 1) := dk_3 (dk_at dksX1_nearest_3 20 rfl rfl)
theorem dX1_nearest_93 : decode cX1_nearest 93 = .ok (.istore 5, 2) := dk_54 5 (dk_at dksX1_nearest_3 21 rfl rfl)
theorem dX1_nearest_95 : decode cX1_nearest 95 = .ok (.iload 5, 2) := dk_21 5 (dk_at dksX1_nearest_4 0 rfl rfl)
theorem dX1_nearest_97 : decode cX1_nearest 97 = .ok (.iload 4, 2) := dk_21 4 (dk_at dksX1_nearest_4 2 rfl rfl)
theorem dX1_nearest_99 : decode cX1_nearest 99 = .ok (.if_icmp .ge 113, 3) := dk_162 0 113 (dk_at dksX1_nearest_4 4 rfl rfl)
theorem dX1_nearest_102 : decode cX1_nearest 102 = .ok (.iload 5, 2) := dk_21 5 (dk_at dksX1_nearest_4 7 rfl rfl)
theorem dX1_nearest_104 : decode cX1_nearest 104 = .ok (.istore 6, 2) := dk_54 6 (dk_at dksX1_nearest_4 9 rfl rfl)
theorem dX1_nearest_106 : decode cX1_nearest 106 = .ok (.iconst 1, 1) := dk_4 (dk_at dksX1_nearest_4 11 rfl rfl)
theorem dX1_nearest_107 : decode cX1_nearest 107 = .ok (.istore 7, 2) := dk_54 7 (dk_at dksX1_nearest_4 12 rfl rfl)
theorem dX1_nearest_109 : decode cX1_nearest 109 = .ok (.iconst 0, 1) := dk_3 (dk_at dksX1_nearest_4 14 rfl rfl)
theorem dX1_nearest_110 : decode cX1_nearest 110 = .ok (.istore 8, 2) := dk_54 8 (dk_at dksX1_nearest_4 15 rfl rfl)
theorem dX1_nearest_112 : decode cX1_nearest 112 = .ok (.iconst 2, 1) := dk_5 (dk_at dksX1_nearest_4 17 rfl rfl)
theorem dX1_nearest_113 : decode cX1_nearest 113 = .ok (.iload_n 3, 1) := dk_29 (dk_at dksX1_nearest_4 18 rfl rfl)
theorem dX1_nearest_114 : decode cX1_nearest 114 = .ok (.imul, 1) := dk_104 (dk_at dksX1_nearest_4 19 rfl rfl)
theorem dX1_nearest_115 : decode cX1_nearest 115 = .ok (.iconst 1, 1) := dk_4 (dk_at dksX1_nearest_4 20 rfl rfl)
theorem dX1_nearest_116 : decode cX1_nearest 116 = .ok (.isub, 1) := dk_100 (dk_at dksX1_nearest_4 21 rfl rfl)
theorem dX1_nearest_117 : decode cX1_nearest 117 = .ok (.istore 9, 2) := dk_54 9 (dk_at dksX1_nearest_4 22 rfl rfl)
theorem dX1_nearest_119 : decode cX1_nearest 119 = .ok (.iload 9, 2) := dk_21 9 (dk_at dksX1_nearest_5 0 rfl rfl)
theorem dX1_nearest_121 : decode cX1_nearest 121 = .ok (.ifCond .lt 73, 3) := dk_155 0 73 (dk_at dksX1_nearest_5 2 rfl rfl)
theorem dX1_nearest_124 : decode cX1_nearest 124 = .ok (.aload_n 0, 1) := dk_42 (dk_at dksX1_nearest_5 5 rfl rfl)
theorem dX1_nearest_125 : decode cX1_nearest 125 = .ok (.getfield 130, 3) := dk_180 0 130 (dk_at dksX1_nearest_5 6 rfl rfl)
theorem dX1_nearest_128 : decode cX1_nearest 128 = .ok (.iload 9, 2) := dk_21 9 (dk_at dksX1_nearest_5 9 rfl rfl)
theorem dX1_nearest_130 : decode cX1_nearest 130 = .ok (.iload 6, 2) := dk_21 6 (dk_at dksX1_nearest_5 11 rfl rfl)
theorem dX1_nearest_132 : decode cX1_nearest 132 = .ok (.aload_n 0, 1) := dk_42 (dk_at dksX1_nearest_5 13 rfl rfl)
theorem dX1_nearest_133 : decode cX1_nearest 133 = .ok (.getfield 310, 3) := dk_180 1 54 (dk_at dksX1_nearest_5 14 rfl rfl)
theorem dX1_nearest_136 : decode cX1_nearest 136 = .ok (.irem, 1) := dk_112 (dk_at dksX1_nearest_5 17 rfl rfl)
theorem dX1_nearest_137 : decode cX1_nearest 137 = .ok (.iastore, 1) := dk_79 (dk_at dksX1_nearest_5 18 rfl rfl)
theorem dX1_nearest_138 : decode cX1_nearest 138 = .ok (.iload 6, 2) := dk_21 6 (dk_at dksX1_nearest_5 19 rfl rfl)
theorem dX1_nearest_140 : decode cX1_nearest 140 = .ok (.aload_n 0, 1) := dk_42 (dk_at dksX1_nearest_5 21 rfl rfl)
theorem dX1_nearest_141 : decode cX1_nearest 141 = .ok (.getfield 310, 3) := dk_180 1 54 (dk_at dksX1_nearest_6 0 rfl rfl)
theorem dX1_nearest_144 : decode cX1_nearest 144 = .ok (.idiv, 1) := dk_108 (dk_at dksX1_nearest_6 3 rfl rfl)
theorem dX1_nearest_145 : decode cX1_nearest 145 = .ok (.istore 6, 2) := dk_54 6 (dk_at dksX1_nearest_6 4 rfl rfl)
theorem dX1_nearest_147 : decode cX1_nearest 147 = .ok (.iload 7, 2) := dk_21 7 (dk_at dksX1_nearest_6 6 rfl rfl)
theorem dX1_nearest_149 : decode cX1_nearest 149 = .ok (.ifCond .eq 22, 3) := dk_153 0 22 (dk_at dksX1_nearest_6 8 rfl rfl)
theorem dX1_nearest_152 : decode cX1_nearest 152 = .ok (.iload 8, 2) := dk_21 8 (dk_at dksX1_nearest_6 11 rfl rfl)
theorem dX1_nearest_154 : decode cX1_nearest 154 = .ok (.aload_n 0, 1) := dk_42 (dk_at dksX1_nearest_6 13 rfl rfl)
theorem dX1_nearest_155 : decode cX1_nearest 155 = .ok (.getfield 130, 3) := dk_180 0 130 (dk_at dksX1_nearest_6 14 rfl rfl)
theorem dX1_nearest_158 : decode cX1_nearest 158 = .ok (.iload 9, 2) := dk_21 9 (dk_at dksX1_nearest_6 17 rfl rfl)
theorem dX1_nearest_160 : decode cX1_nearest 160 = .ok (.iaload, 1) := dk_46 (dk_at dksX1_nearest_6 19 rfl rfl)
theorem dX1_nearest_161 : decode cX1_nearest 161 = .ok (.ishr, 1) := dk_122 (dk_at dksX1_nearest_6 20 rfl rfl)
theorem dX1_nearest_162 : decode cX1_nearest 162 = .ok (.iconst 1, 1) := dk_4 (dk_at dksX1_nearest_6 21 rfl rfl)
theorem dX1_nearest_163 : decode cX1_nearest 163 = .ok (.iand, 1) := dk_126 (dk_at dksX1_nearest_6 22 rfl rfl)
theorem dX1_nearest_164 : decode cX1_nearest 164 = .ok (.ifCond .ne 7, 3) := dk_154 0 7 (dk_at dksX1_nearest_7 0 rfl rfl)
theorem dX1_nearest_167 : decode cX1_nearest 167 = .ok (.iconst 1, 1) := dk_4 (dk_at dksX1_nearest_7 3 rfl rfl)
theorem dX1_nearest_168 : decode cX1_nearest 168 = .ok (.goto 4, 3) := dk_167 0 4 (dk_at dksX1_nearest_7 4 rfl rfl)
theorem dX1_nearest_171 : decode cX1_nearest 171 = .ok (.iconst 0, 1) := dk_3 (dk_at dksX1_nearest_7 7 rfl rfl)
theorem dX1_nearest_172 : decode cX1_nearest 172 = .ok (.istore 7, 2) := dk_54 7 (dk_at dksX1_nearest_7 8 rfl rfl)
theorem dX1_nearest_174 : decode cX1_nearest 174 = .ok (.iload 8, 2) := dk_21 8 (dk_at dksX1_nearest_7 10 rfl rfl)
theorem dX1_nearest_176 : decode cX1_nearest 176 = .ok (.iconst 1, 1) := dk_4 (dk_at dksX1_nearest_7 12 rfl rfl)
theorem dX1_nearest_177 : decode cX1_nearest 177 = .ok (.aload_n 0, 1) := dk_42 (dk_at dksX1_nearest_7 13 rfl rfl)
theorem dX1_nearest_178 : decode cX1_nearest 178 = .ok (.getfield 130, 3) := dk_180 0 130 (dk_at dksX1_nearest_7 14 rfl rfl)
theorem dX1_nearest_181 : decode cX1_nearest 181 = .ok (.iload 9, 2) := dk_21 9 (dk_at dksX1_nearest_7 17 rfl rfl)
theorem dX1_nearest_183 : decode cX1_nearest 183 = .ok (.iaload, 1) := dk_46 (dk_at dksX1_nearest_7 19 rfl rfl)
theorem dX1_nearest_184 : decode cX1_nearest 184 = .ok (.ishl, 1) := dk_120 (dk_at dksX1_nearest_7 20 rfl rfl)
theorem dX1_nearest_185 : decode cX1_nearest 185 = .ok (.ior, 1) := dk_128 (dk_at dksX1_nearest_7 21 rfl rfl)
theorem dX1_nearest_186 : decode cX1_nearest 186 = .ok (.istore 8, 2) := dk_54 8 (dk_at dksX1_nearest_7 22 rfl rfl)
theorem dX1_nearest_188 : decode cX1_nearest 188 = .ok (.iinc 9 (-1), 3) := dk_132 9 255 (dk_at dksX1_nearest_8 0 rfl rfl)
theorem dX1_nearest_191 : decode cX1_nearest 191 = .ok (.goto (-72), 3) := dk_167 255 184 (dk_at dksX1_nearest_8 3 rfl rfl)
theorem dX1_nearest_194 : decode cX1_nearest 194 = .ok (.iload 7, 2) := dk_21 7 (dk_at dksX1_nearest_8 6 rfl rfl)
theorem dX1_nearest_196 : decode cX1_nearest 196 = .ok (.ifCond .eq 10, 3) := dk_153 0 10 (dk_at dksX1_nearest_8 8 rfl rfl)
theorem dX1_nearest_199 : decode cX1_nearest 199 = .ok (.aload_n 0, 1) := dk_42 (dk_at dksX1_nearest_8 11 rfl rfl)
theorem dX1_nearest_200 : decode cX1_nearest 200 = .ok (.iload_n 1, 1) := dk_27 (dk_at dksX1_nearest_8 12 rfl rfl)
theorem dX1_nearest_201 : decode cX1_nearest 201 = .ok (.iload_n 2, 1) := dk_28 (dk_at dksX1_nearest_8 13 rfl rfl)
theorem dX1_nearest_202 : decode cX1_nearest 202 = .ok (.iload_n 3, 1) := dk_29 (dk_at dksX1_nearest_8 14 rfl rfl)
theorem dX1_nearest_203 : decode cX1_nearest 203 = .ok (.invokevirtual 327, 3) := dk_182 1 71 (dk_at dksX1_nearest_8 15 rfl rfl)
theorem dX1_nearest_206 : decode cX1_nearest 206 = .ok (.iinc 5 1, 3) := dk_132 5 1 (dk_at dksX1_nearest_8 18 rfl rfl)
theorem dX1_nearest_209 : decode cX1_nearest 209 = .ok (.goto (-114), 3) := dk_167 255 142 (dk_at dksX1_nearest_8 21 rfl rfl)
theorem dX1_nearest_212 : decode cX1_nearest 212 = .ok (.aload_n 0, 1) := dk_42 (dk_at dksX1_nearest_9 0 rfl rfl)
theorem dX1_nearest_213 : decode cX1_nearest 213 = .ok (.iconst 2, 1) := dk_5 (dk_at dksX1_nearest_9 1 rfl rfl)
theorem dX1_nearest_214 : decode cX1_nearest 214 = .ok (.iload_n 3, 1) := dk_29 (dk_at dksX1_nearest_9 2 rfl rfl)
theorem dX1_nearest_215 : decode cX1_nearest 215 = .ok (.imul, 1) := dk_104 (dk_at dksX1_nearest_9 3 rfl rfl)
theorem dX1_nearest_216 : decode cX1_nearest 216 = .ok (.putfield 331, 3) := dk_181 1 75 (dk_at dksX1_nearest_9 4 rfl rfl)
theorem dX1_nearest_219 : decode cX1_nearest 219 = .ok (.aload_n 0, 1) := dk_42 (dk_at dksX1_nearest_9 7 rfl rfl)
theorem dX1_nearest_220 : decode cX1_nearest 220 = .ok (.aload_n 0, 1) := dk_42 (dk_at dksX1_nearest_9 8 rfl rfl)
theorem dX1_nearest_221 : decode cX1_nearest 221 = .ok (.getfield 324, 3) := dk_180 1 68 (dk_at dksX1_nearest_9 9 rfl rfl)
theorem dX1_nearest_224 : decode cX1_nearest 224 = .ok (.aload_n 0, 1) := dk_42 (dk_at dksX1_nearest_9 12 rfl rfl)
theorem dX1_nearest_225 : decode cX1_nearest 225 = .ok (.getfield 321, 3) := dk_180 1 65 (dk_at dksX1_nearest_9 13 rfl rfl)
theorem dX1_nearest_228 : decode cX1_nearest 228 = .ok (.invokevirtual 334, 3) := dk_182 1 78 (dk_at dksX1_nearest_9 16 rfl rfl)
theorem dX1_nearest_231 : decode cX1_nearest 231 = .ok (.ireturn, 1) := dk_172 (dk_at dksX1_nearest_9 19 rfl rfl)
abbrev cX1_tryGears : ByteArray := prog_9_method_91_code
def yX1_tryGears : MethodName := ⟨RX1, "tryGears", "(III)V"⟩
def dkwX1_tryGears_6 : List UInt8 := [42, 180, 0, 130, 21, 8, 46, 79, 132, 8, 1, 167, 255, 233, 177]
abbrev dktX1_tryGears_6 : List UInt8 := dkwX1_tryGears_6 ++ []
def dkwX1_tryGears_5 : List UInt8 := [181, 1, 68, 42, 22, 6, 181, 1, 65, 3, 54, 8, 21, 8, 7, 162, 0, 23, 42, 180, 0, 127, 21, 8]
abbrev dktX1_tryGears_5 : List UInt8 := dkwX1_tryGears_5 ++ dktX1_tryGears_6
def dkwX1_tryGears_4 : List UInt8 := [27, 133, 28, 133, 184, 1, 61, 22, 6, 105, 148, 156, 0, 49, 42, 4, 181, 1, 57, 42, 22, 4]
abbrev dktX1_tryGears_4 : List UInt8 := dkwX1_tryGears_4 ++ dktX1_tryGears_5
def dkwX1_tryGears_3 : List UInt8 := [22, 4, 22, 6, 27, 133, 28, 133, 184, 1, 61, 42, 180, 1, 65, 105, 42, 180, 1, 68, 42, 180, 1, 65]
abbrev dktX1_tryGears_3 : List UInt8 := dkwX1_tryGears_3 ++ dktX1_tryGears_4
def dkwX1_tryGears_2 : List UInt8 := [21, 8, 104, 4, 96, 46, 46, 133, 105, 55, 6, 132, 8, 1, 167, 255, 205, 42, 180, 1, 57, 153, 0, 41]
abbrev dktX1_tryGears_2 : List UInt8 := dkwX1_tryGears_2 ++ dktX1_tryGears_3
def dkwX1_tryGears_1 : List UInt8 := [180, 0, 130, 5, 21, 8, 104, 46, 46, 133, 105, 55, 4, 22, 6, 42, 180, 0, 124, 42, 180, 0, 130, 5]
abbrev dktX1_tryGears_1 : List UInt8 := dkwX1_tryGears_1 ++ dktX1_tryGears_2
def dkwX1_tryGears_0 : List UInt8 := [10, 55, 4, 10, 55, 6, 3, 54, 8, 21, 8, 29, 162, 0, 51, 22, 4, 42, 180, 0, 124, 42]
abbrev dktX1_tryGears_0 : List UInt8 := dkwX1_tryGears_0 ++ dktX1_tryGears_1
theorem dksX1_tryGears_0 : cX1_tryGears.data.toList.drop 0 = dktX1_tryGears_0 := by decide +kernel
theorem dksX1_tryGears_1 : cX1_tryGears.data.toList.drop 22 = dktX1_tryGears_1 := dk_seg dksX1_tryGears_0 22 rfl rfl
theorem dksX1_tryGears_2 : cX1_tryGears.data.toList.drop 46 = dktX1_tryGears_2 := dk_seg dksX1_tryGears_1 24 rfl rfl
theorem dksX1_tryGears_3 : cX1_tryGears.data.toList.drop 70 = dktX1_tryGears_3 := dk_seg dksX1_tryGears_2 24 rfl rfl
theorem dksX1_tryGears_4 : cX1_tryGears.data.toList.drop 94 = dktX1_tryGears_4 := dk_seg dksX1_tryGears_3 24 rfl rfl
theorem dksX1_tryGears_5 : cX1_tryGears.data.toList.drop 116 = dktX1_tryGears_5 := dk_seg dksX1_tryGears_4 22 rfl rfl
theorem dksX1_tryGears_6 : cX1_tryGears.data.toList.drop 140 = dktX1_tryGears_6 := dk_seg dksX1_tryGears_5 24 rfl rfl
theorem dX1_tryGears_0 : decode cX1_tryGears 0 = .ok (.lconst 1, 1) := dk_10 (dk_at dksX1_tryGears_0 0 rfl rfl)
theorem dX1_tryGears_1 : decode cX1_tryGears 1 = .ok (.lstore 4, 2) := dk_55 4 (dk_at dksX1_tryGears_0 1 rfl rfl)
theorem dX1_tryGears_3 : decode cX1_tryGears 3 = .ok (.lconst 1, 1) := dk_10 (dk_at dksX1_tryGears_0 3 rfl rfl)
theorem dX1_tryGears_4 : decode cX1_tryGears 4 = .ok (.lstore 6, 2) := dk_55 6 (dk_at dksX1_tryGears_0 4 rfl rfl)
theorem dX1_tryGears_6 : decode cX1_tryGears 6 = .ok (.iconst 0, 1) := dk_3 (dk_at dksX1_tryGears_0 6 rfl rfl)
theorem dX1_tryGears_7 : decode cX1_tryGears 7 = .ok (.istore 8, 2) := dk_54 8 (dk_at dksX1_tryGears_0 7 rfl rfl)
theorem dX1_tryGears_9 : decode cX1_tryGears 9 = .ok (.iload 8, 2) := dk_21 8 (dk_at dksX1_tryGears_0 9 rfl rfl)
theorem dX1_tryGears_11 : decode cX1_tryGears 11 = .ok (.iload_n 3, 1) := dk_29 (dk_at dksX1_tryGears_0 11 rfl rfl)
theorem dX1_tryGears_12 : decode cX1_tryGears 12 = .ok (.if_icmp .ge 51, 3) := dk_162 0 51 (dk_at dksX1_tryGears_0 12 rfl rfl)
theorem dX1_tryGears_15 : decode cX1_tryGears 15 = .ok (.lload 4, 2) := dk_22 4 (dk_at dksX1_tryGears_0 15 rfl rfl)
theorem dX1_tryGears_17 : decode cX1_tryGears 17 = .ok (.aload_n 0, 1) := dk_42 (dk_at dksX1_tryGears_0 17 rfl rfl)
theorem dX1_tryGears_18 : decode cX1_tryGears 18 = .ok (.getfield 124, 3) := dk_180 0 124 (dk_at dksX1_tryGears_0 18 rfl rfl)
theorem dX1_tryGears_21 : decode cX1_tryGears 21 = .ok (.aload_n 0, 1) := dk_42 (dk_at dksX1_tryGears_0 21 rfl rfl)
theorem dX1_tryGears_22 : decode cX1_tryGears 22 = .ok (.getfield 130, 3) := dk_180 0 130 (dk_at dksX1_tryGears_1 0 rfl rfl)
theorem dX1_tryGears_25 : decode cX1_tryGears 25 = .ok (.iconst 2, 1) := dk_5 (dk_at dksX1_tryGears_1 3 rfl rfl)
theorem dX1_tryGears_26 : decode cX1_tryGears 26 = .ok (.iload 8, 2) := dk_21 8 (dk_at dksX1_tryGears_1 4 rfl rfl)
theorem dX1_tryGears_28 : decode cX1_tryGears 28 = .ok (.imul, 1) := dk_104 (dk_at dksX1_tryGears_1 6 rfl rfl)
theorem dX1_tryGears_29 : decode cX1_tryGears 29 = .ok (.iaload, 1) := dk_46 (dk_at dksX1_tryGears_1 7 rfl rfl)
theorem dX1_tryGears_30 : decode cX1_tryGears 30 = .ok (.iaload, 1) := dk_46 (dk_at dksX1_tryGears_1 8 rfl rfl)
theorem dX1_tryGears_31 : decode cX1_tryGears 31 = .ok (.i2l, 1) := dk_133 (dk_at dksX1_tryGears_1 9 rfl rfl)
theorem dX1_tryGears_32 : decode cX1_tryGears 32 = .ok (.lmul, 1) := dk_105 (dk_at dksX1_tryGears_1 10 rfl rfl)
theorem dX1_tryGears_33 : decode cX1_tryGears 33 = .ok (.lstore 4, 2) := dk_55 4 (dk_at dksX1_tryGears_1 11 rfl rfl)
theorem dX1_tryGears_35 : decode cX1_tryGears 35 = .ok (.lload 6, 2) := dk_22 6 (dk_at dksX1_tryGears_1 13 rfl rfl)
theorem dX1_tryGears_37 : decode cX1_tryGears 37 = .ok (.aload_n 0, 1) := dk_42 (dk_at dksX1_tryGears_1 15 rfl rfl)
theorem dX1_tryGears_38 : decode cX1_tryGears 38 = .ok (.getfield 124, 3) := dk_180 0 124 (dk_at dksX1_tryGears_1 16 rfl rfl)
theorem dX1_tryGears_41 : decode cX1_tryGears 41 = .ok (.aload_n 0, 1) := dk_42 (dk_at dksX1_tryGears_1 19 rfl rfl)
theorem dX1_tryGears_42 : decode cX1_tryGears 42 = .ok (.getfield 130, 3) := dk_180 0 130 (dk_at dksX1_tryGears_1 20 rfl rfl)
theorem dX1_tryGears_45 : decode cX1_tryGears 45 = .ok (.iconst 2, 1) := dk_5 (dk_at dksX1_tryGears_1 23 rfl rfl)
theorem dX1_tryGears_46 : decode cX1_tryGears 46 = .ok (.iload 8, 2) := dk_21 8 (dk_at dksX1_tryGears_2 0 rfl rfl)
theorem dX1_tryGears_48 : decode cX1_tryGears 48 = .ok (.imul, 1) := dk_104 (dk_at dksX1_tryGears_2 2 rfl rfl)
theorem dX1_tryGears_49 : decode cX1_tryGears 49 = .ok (.iconst 1, 1) := dk_4 (dk_at dksX1_tryGears_2 3 rfl rfl)
theorem dX1_tryGears_50 : decode cX1_tryGears 50 = .ok (.iadd, 1) := dk_96 (dk_at dksX1_tryGears_2 4 rfl rfl)
theorem dX1_tryGears_51 : decode cX1_tryGears 51 = .ok (.iaload, 1) := dk_46 (dk_at dksX1_tryGears_2 5 rfl rfl)
theorem dX1_tryGears_52 : decode cX1_tryGears 52 = .ok (.iaload, 1) := dk_46 (dk_at dksX1_tryGears_2 6 rfl rfl)
theorem dX1_tryGears_53 : decode cX1_tryGears 53 = .ok (.i2l, 1) := dk_133 (dk_at dksX1_tryGears_2 7 rfl rfl)
theorem dX1_tryGears_54 : decode cX1_tryGears 54 = .ok (.lmul, 1) := dk_105 (dk_at dksX1_tryGears_2 8 rfl rfl)
theorem dX1_tryGears_55 : decode cX1_tryGears 55 = .ok (.lstore 6, 2) := dk_55 6 (dk_at dksX1_tryGears_2 9 rfl rfl)
theorem dX1_tryGears_57 : decode cX1_tryGears 57 = .ok (.iinc 8 1, 3) := dk_132 8 1 (dk_at dksX1_tryGears_2 11 rfl rfl)
theorem dX1_tryGears_60 : decode cX1_tryGears 60 = .ok (.goto (-51), 3) := dk_167 255 205 (dk_at dksX1_tryGears_2 14 rfl rfl)
theorem dX1_tryGears_63 : decode cX1_tryGears 63 = .ok (.aload_n 0, 1) := dk_42 (dk_at dksX1_tryGears_2 17 rfl rfl)
theorem dX1_tryGears_64 : decode cX1_tryGears 64 = .ok (.getfield 313, 3) := dk_180 1 57 (dk_at dksX1_tryGears_2 18 rfl rfl)
theorem dX1_tryGears_67 : decode cX1_tryGears 67 = .ok (.ifCond .eq 41, 3) := dk_153 0 41 (dk_at dksX1_tryGears_2 21 rfl rfl)
theorem dX1_tryGears_70 : decode cX1_tryGears 70 = .ok (.lload 4, 2) := dk_22 4 (dk_at dksX1_tryGears_3 0 rfl rfl)
theorem dX1_tryGears_72 : decode cX1_tryGears 72 = .ok (.lload 6, 2) := dk_22 6 (dk_at dksX1_tryGears_3 2 rfl rfl)
theorem dX1_tryGears_74 : decode cX1_tryGears 74 = .ok (.iload_n 1, 1) := dk_27 (dk_at dksX1_tryGears_3 4 rfl rfl)
theorem dX1_tryGears_75 : decode cX1_tryGears 75 = .ok (.i2l, 1) := dk_133 (dk_at dksX1_tryGears_3 5 rfl rfl)
theorem dX1_tryGears_76 : decode cX1_tryGears 76 = .ok (.iload_n 2, 1) := dk_28 (dk_at dksX1_tryGears_3 6 rfl rfl)
theorem dX1_tryGears_77 : decode cX1_tryGears 77 = .ok (.i2l, 1) := dk_133 (dk_at dksX1_tryGears_3 7 rfl rfl)
theorem dX1_tryGears_78 : decode cX1_tryGears 78 = .ok (.invokestatic 317, 3) := dk_184 1 61 (dk_at dksX1_tryGears_3 8 rfl rfl)
theorem dX1_tryGears_81 : decode cX1_tryGears 81 = .ok (.aload_n 0, 1) := dk_42 (dk_at dksX1_tryGears_3 11 rfl rfl)
theorem dX1_tryGears_82 : decode cX1_tryGears 82 = .ok (.getfield 321, 3) := dk_180 1 65 (dk_at dksX1_tryGears_3 12 rfl rfl)
theorem dX1_tryGears_85 : decode cX1_tryGears 85 = .ok (.lmul, 1) := dk_105 (dk_at dksX1_tryGears_3 15 rfl rfl)
theorem dX1_tryGears_86 : decode cX1_tryGears 86 = .ok (.aload_n 0, 1) := dk_42 (dk_at dksX1_tryGears_3 16 rfl rfl)
theorem dX1_tryGears_87 : decode cX1_tryGears 87 = .ok (.getfield 324, 3) := dk_180 1 68 (dk_at dksX1_tryGears_3 17 rfl rfl)
theorem dX1_tryGears_90 : decode cX1_tryGears 90 = .ok (.aload_n 0, 1) := dk_42 (dk_at dksX1_tryGears_3 20 rfl rfl)
theorem dX1_tryGears_91 : decode cX1_tryGears 91 = .ok (.getfield 321, 3) := dk_180 1 65 (dk_at dksX1_tryGears_3 21 rfl rfl)
theorem dX1_tryGears_94 : decode cX1_tryGears 94 = .ok (.iload_n 1, 1) := dk_27 (dk_at dksX1_tryGears_4 0 rfl rfl)
theorem dX1_tryGears_95 : decode cX1_tryGears 95 = .ok (.i2l, 1) := dk_133 (dk_at dksX1_tryGears_4 1 rfl rfl)
theorem dX1_tryGears_96 : decode cX1_tryGears 96 = .ok (.iload_n 2, 1) := dk_28 (dk_at dksX1_tryGears_4 2 rfl rfl)
theorem dX1_tryGears_97 : decode cX1_tryGears 97 = .ok (.i2l, 1) := dk_133 (dk_at dksX1_tryGears_4 3 rfl rfl)
theorem dX1_tryGears_98 : decode cX1_tryGears 98 = .ok (.invokestatic 317, 3) := dk_184 1 61 (dk_at dksX1_tryGears_4 4 rfl rfl)
theorem dX1_tryGears_101 : decode cX1_tryGears 101 = .ok (.lload 6, 2) := dk_22 6 (dk_at dksX1_tryGears_4 7 rfl rfl)
theorem dX1_tryGears_103 : decode cX1_tryGears 103 = .ok (.lmul, 1) := dk_105 (dk_at dksX1_tryGears_4 9 rfl rfl)
theorem dX1_tryGears_104 : decode cX1_tryGears 104 = .ok (.lcmp, 1) := dk_148 (dk_at dksX1_tryGears_4 10 rfl rfl)
theorem dX1_tryGears_105 : decode cX1_tryGears 105 = .ok (.ifCond .ge 49, 3) := dk_156 0 49 (dk_at dksX1_tryGears_4 11 rfl rfl)
theorem dX1_tryGears_108 : decode cX1_tryGears 108 = .ok (.aload_n 0, 1) := dk_42 (dk_at dksX1_tryGears_4 14 rfl rfl)
theorem dX1_tryGears_109 : decode cX1_tryGears 109 = .ok (.iconst 1, 1) := dk_4 (dk_at dksX1_tryGears_4 15 rfl rfl)
theorem dX1_tryGears_110 : decode cX1_tryGears 110 = .ok (.putfield 313, 3) := dk_181 1 57 (dk_at dksX1_tryGears_4 16 rfl rfl)
theorem dX1_tryGears_113 : decode cX1_tryGears 113 = .ok (.aload_n 0, 1) := dk_42 (dk_at dksX1_tryGears_4 19 rfl rfl)
theorem dX1_tryGears_114 : decode cX1_tryGears 114 = .ok (.lload 4, 2) := dk_22 4 (dk_at dksX1_tryGears_4 20 rfl rfl)
theorem dX1_tryGears_116 : decode cX1_tryGears 116 = .ok (.putfield 324, 3) := dk_181 1 68 (dk_at dksX1_tryGears_5 0 rfl rfl)
theorem dX1_tryGears_119 : decode cX1_tryGears 119 = .ok (.aload_n 0, 1) := dk_42 (dk_at dksX1_tryGears_5 3 rfl rfl)
theorem dX1_tryGears_120 : decode cX1_tryGears 120 = .ok (.lload 6, 2) := dk_22 6 (dk_at dksX1_tryGears_5 4 rfl rfl)
theorem dX1_tryGears_122 : decode cX1_tryGears 122 = .ok (.putfield 321, 3) := dk_181 1 65 (dk_at dksX1_tryGears_5 6 rfl rfl)
theorem dX1_tryGears_125 : decode cX1_tryGears 125 = .ok (.iconst 0, 1) := dk_3 (dk_at dksX1_tryGears_5 9 rfl rfl)
theorem dX1_tryGears_126 : decode cX1_tryGears 126 = .ok (.istore 8, 2) := dk_54 8 (dk_at dksX1_tryGears_5 10 rfl rfl)
theorem dX1_tryGears_128 : decode cX1_tryGears 128 = .ok (.iload 8, 2) := dk_21 8 (dk_at dksX1_tryGears_5 12 rfl rfl)
theorem dX1_tryGears_130 : decode cX1_tryGears 130 = .ok (.iconst 4, 1) := dk_7 (dk_at dksX1_tryGears_5 14 rfl rfl)
theorem dX1_tryGears_131 : decode cX1_tryGears 131 = .ok (.if_icmp .ge 23, 3) := dk_162 0 23 (dk_at dksX1_tryGears_5 15 rfl rfl)
theorem dX1_tryGears_134 : decode cX1_tryGears 134 = .ok (.aload_n 0, 1) := dk_42 (dk_at dksX1_tryGears_5 18 rfl rfl)
theorem dX1_tryGears_135 : decode cX1_tryGears 135 = .ok (.getfield 127, 3) := dk_180 0 127 (dk_at dksX1_tryGears_5 19 rfl rfl)
theorem dX1_tryGears_138 : decode cX1_tryGears 138 = .ok (.iload 8, 2) := dk_21 8 (dk_at dksX1_tryGears_5 22 rfl rfl)
theorem dX1_tryGears_140 : decode cX1_tryGears 140 = .ok (.aload_n 0, 1) := dk_42 (dk_at dksX1_tryGears_6 0 rfl rfl)
theorem dX1_tryGears_141 : decode cX1_tryGears 141 = .ok (.getfield 130, 3) := dk_180 0 130 (dk_at dksX1_tryGears_6 1 rfl rfl)
theorem dX1_tryGears_144 : decode cX1_tryGears 144 = .ok (.iload 8, 2) := dk_21 8 (dk_at dksX1_tryGears_6 4 rfl rfl)
theorem dX1_tryGears_146 : decode cX1_tryGears 146 = .ok (.iaload, 1) := dk_46 (dk_at dksX1_tryGears_6 6 rfl rfl)
theorem dX1_tryGears_147 : decode cX1_tryGears 147 = .ok (.iastore, 1) := dk_79 (dk_at dksX1_tryGears_6 7 rfl rfl)
theorem dX1_tryGears_148 : decode cX1_tryGears 148 = .ok (.iinc 8 1, 3) := dk_132 8 1 (dk_at dksX1_tryGears_6 8 rfl rfl)
theorem dX1_tryGears_151 : decode cX1_tryGears 151 = .ok (.goto (-23), 3) := dk_167 255 233 (dk_at dksX1_tryGears_6 11 rfl rfl)
theorem dX1_tryGears_154 : decode cX1_tryGears 154 = .ok (.return_, 1) := dk_177 (dk_at dksX1_tryGears_6 14 rfl rfl)
abbrev cX1_differs : ByteArray := prog_9_method_90_code
def yX1_differs : MethodName := ⟨RX1, "differs", "(JJJJ)J"⟩
def dkwX1_differs_1 : List UInt8 := [22, 8, 173]
abbrev dktX1_differs_1 : List UInt8 := dkwX1_differs_1 ++ []
def dkwX1_differs_0 : List UInt8 := [30, 22, 6, 105, 22, 4, 32, 105, 101, 55, 8, 22, 8, 9, 148, 156, 0, 9, 22, 8, 117, 167, 0, 5]
abbrev dktX1_differs_0 : List UInt8 := dkwX1_differs_0 ++ dktX1_differs_1
theorem dksX1_differs_0 : cX1_differs.data.toList.drop 0 = dktX1_differs_0 := by decide +kernel
theorem dksX1_differs_1 : cX1_differs.data.toList.drop 24 = dktX1_differs_1 := dk_seg dksX1_differs_0 24 rfl rfl
theorem dX1_differs_0 : decode cX1_differs 0 = .ok (.lload_n 0, 1) := dk_30 (dk_at dksX1_differs_0 0 rfl rfl)
theorem dX1_differs_1 : decode cX1_differs 1 = .ok (.lload 6, 2) := dk_22 6 (dk_at dksX1_differs_0 1 rfl rfl)
theorem dX1_differs_3 : decode cX1_differs 3 = .ok (.lmul, 1) := dk_105 (dk_at dksX1_differs_0 3 rfl rfl)
theorem dX1_differs_4 : decode cX1_differs 4 = .ok (.lload 4, 2) := dk_22 4 (dk_at dksX1_differs_0 4 rfl rfl)
theorem dX1_differs_6 : decode cX1_differs 6 = .ok (.lload_n 2, 1) := dk_32 (dk_at dksX1_differs_0 6 rfl rfl)
theorem dX1_differs_7 : decode cX1_differs 7 = .ok (.lmul, 1) := dk_105 (dk_at dksX1_differs_0 7 rfl rfl)
theorem dX1_differs_8 : decode cX1_differs 8 = .ok (.lsub, 1) := dk_101 (dk_at dksX1_differs_0 8 rfl rfl)
theorem dX1_differs_9 : decode cX1_differs 9 = .ok (.lstore 8, 2) := dk_55 8 (dk_at dksX1_differs_0 9 rfl rfl)
theorem dX1_differs_11 : decode cX1_differs 11 = .ok (.lload 8, 2) := dk_22 8 (dk_at dksX1_differs_0 11 rfl rfl)
theorem dX1_differs_13 : decode cX1_differs 13 = .ok (.lconst 0, 1) := dk_9 (dk_at dksX1_differs_0 13 rfl rfl)
theorem dX1_differs_14 : decode cX1_differs 14 = .ok (.lcmp, 1) := dk_148 (dk_at dksX1_differs_0 14 rfl rfl)
theorem dX1_differs_15 : decode cX1_differs 15 = .ok (.ifCond .ge 9, 3) := dk_156 0 9 (dk_at dksX1_differs_0 15 rfl rfl)
theorem dX1_differs_18 : decode cX1_differs 18 = .ok (.lload 8, 2) := dk_22 8 (dk_at dksX1_differs_0 18 rfl rfl)
theorem dX1_differs_20 : decode cX1_differs 20 = .ok (.lneg, 1) := dk_117 (dk_at dksX1_differs_0 20 rfl rfl)
theorem dX1_differs_21 : decode cX1_differs 21 = .ok (.goto 5, 3) := dk_167 0 5 (dk_at dksX1_differs_0 21 rfl rfl)
theorem dX1_differs_24 : decode cX1_differs 24 = .ok (.lload 8, 2) := dk_22 8 (dk_at dksX1_differs_1 0 rfl rfl)
theorem dX1_differs_26 : decode cX1_differs 26 = .ok (.lreturn, 1) := dk_173 (dk_at dksX1_differs_1 2 rfl rfl)
abbrev cX1_tell : ByteArray := prog_9_method_5_code
def yX1_tell : MethodName := ⟨RX1, "tell", "(JJ)I"⟩
def dkwX1_tell_2 : List UInt8 := [172]
abbrev dktX1_tell_2 : List UInt8 := dkwX1_tell_2 ++ []
def dkwX1_tell_1 : List UInt8 := [22, 9, 55, 7, 167, 255, 234, 42, 31, 22, 5, 109, 181, 0, 142, 42, 33, 22, 5, 109, 181, 0, 13, 4]
abbrev dktX1_tell_1 : List UInt8 := dkwX1_tell_1 ++ dktX1_tell_2
def dkwX1_tell_0 : List UInt8 := [31, 55, 5, 33, 55, 7, 22, 7, 9, 148, 153, 0, 21, 22, 5, 22, 7, 113, 55, 9, 22, 7, 55, 5]
abbrev dktX1_tell_0 : List UInt8 := dkwX1_tell_0 ++ dktX1_tell_1
theorem dksX1_tell_0 : cX1_tell.data.toList.drop 0 = dktX1_tell_0 := by decide +kernel
theorem dksX1_tell_1 : cX1_tell.data.toList.drop 24 = dktX1_tell_1 := dk_seg dksX1_tell_0 24 rfl rfl
theorem dksX1_tell_2 : cX1_tell.data.toList.drop 48 = dktX1_tell_2 := dk_seg dksX1_tell_1 24 rfl rfl
theorem dX1_tell_0 : decode cX1_tell 0 = .ok (.lload_n 1, 1) := dk_31 (dk_at dksX1_tell_0 0 rfl rfl)
theorem dX1_tell_1 : decode cX1_tell 1 = .ok (.lstore 5, 2) := dk_55 5 (dk_at dksX1_tell_0 1 rfl rfl)
theorem dX1_tell_3 : decode cX1_tell 3 = .ok (.lload_n 3, 1) := dk_33 (dk_at dksX1_tell_0 3 rfl rfl)
theorem dX1_tell_4 : decode cX1_tell 4 = .ok (.lstore 7, 2) := dk_55 7 (dk_at dksX1_tell_0 4 rfl rfl)
theorem dX1_tell_6 : decode cX1_tell 6 = .ok (.lload 7, 2) := dk_22 7 (dk_at dksX1_tell_0 6 rfl rfl)
theorem dX1_tell_8 : decode cX1_tell 8 = .ok (.lconst 0, 1) := dk_9 (dk_at dksX1_tell_0 8 rfl rfl)
theorem dX1_tell_9 : decode cX1_tell 9 = .ok (.lcmp, 1) := dk_148 (dk_at dksX1_tell_0 9 rfl rfl)
theorem dX1_tell_10 : decode cX1_tell 10 = .ok (.ifCond .eq 21, 3) := dk_153 0 21 (dk_at dksX1_tell_0 10 rfl rfl)
theorem dX1_tell_13 : decode cX1_tell 13 = .ok (.lload 5, 2) := dk_22 5 (dk_at dksX1_tell_0 13 rfl rfl)
theorem dX1_tell_15 : decode cX1_tell 15 = .ok (.lload 7, 2) := dk_22 7 (dk_at dksX1_tell_0 15 rfl rfl)
theorem dX1_tell_17 : decode cX1_tell 17 = .ok (.lrem, 1) := dk_113 (dk_at dksX1_tell_0 17 rfl rfl)
theorem dX1_tell_18 : decode cX1_tell 18 = .ok (.lstore 9, 2) := dk_55 9 (dk_at dksX1_tell_0 18 rfl rfl)
theorem dX1_tell_20 : decode cX1_tell 20 = .ok (.lload 7, 2) := dk_22 7 (dk_at dksX1_tell_0 20 rfl rfl)
theorem dX1_tell_22 : decode cX1_tell 22 = .ok (.lstore 5, 2) := dk_55 5 (dk_at dksX1_tell_0 22 rfl rfl)
theorem dX1_tell_24 : decode cX1_tell 24 = .ok (.lload 9, 2) := dk_22 9 (dk_at dksX1_tell_1 0 rfl rfl)
theorem dX1_tell_26 : decode cX1_tell 26 = .ok (.lstore 7, 2) := dk_55 7 (dk_at dksX1_tell_1 2 rfl rfl)
theorem dX1_tell_28 : decode cX1_tell 28 = .ok (.goto (-22), 3) := dk_167 255 234 (dk_at dksX1_tell_1 4 rfl rfl)
theorem dX1_tell_31 : decode cX1_tell 31 = .ok (.aload_n 0, 1) := dk_42 (dk_at dksX1_tell_1 7 rfl rfl)
theorem dX1_tell_32 : decode cX1_tell 32 = .ok (.lload_n 1, 1) := dk_31 (dk_at dksX1_tell_1 8 rfl rfl)
theorem dX1_tell_33 : decode cX1_tell 33 = .ok (.lload 5, 2) := dk_22 5 (dk_at dksX1_tell_1 9 rfl rfl)
theorem dX1_tell_35 : decode cX1_tell 35 = .ok (.ldiv, 1) := dk_109 (dk_at dksX1_tell_1 11 rfl rfl)
theorem dX1_tell_36 : decode cX1_tell 36 = .ok (.putfield 142, 3) := dk_181 0 142 (dk_at dksX1_tell_1 12 rfl rfl)
theorem dX1_tell_39 : decode cX1_tell 39 = .ok (.aload_n 0, 1) := dk_42 (dk_at dksX1_tell_1 15 rfl rfl)
theorem dX1_tell_40 : decode cX1_tell 40 = .ok (.lload_n 3, 1) := dk_33 (dk_at dksX1_tell_1 16 rfl rfl)
theorem dX1_tell_41 : decode cX1_tell 41 = .ok (.lload 5, 2) := dk_22 5 (dk_at dksX1_tell_1 17 rfl rfl)
theorem dX1_tell_43 : decode cX1_tell 43 = .ok (.ldiv, 1) := dk_109 (dk_at dksX1_tell_1 19 rfl rfl)
theorem dX1_tell_44 : decode cX1_tell 44 = .ok (.putfield 13, 3) := dk_181 0 13 (dk_at dksX1_tell_1 20 rfl rfl)
theorem dX1_tell_47 : decode cX1_tell 47 = .ok (.iconst 1, 1) := dk_4 (dk_at dksX1_tell_1 23 rfl rfl)
theorem dX1_tell_48 : decode cX1_tell 48 = .ok (.ireturn, 1) := dk_172 (dk_at dksX1_tell_2 0 rfl rfl)
abbrev cX1_chosen : ByteArray := prog_9_method_93_code
def yX1_chosen : MethodName := ⟨RX1, "chosen", "(I)I"⟩
def dkwX1_chosen_1 : List UInt8 := [16, 247, 172]
abbrev dktX1_chosen_1 : List UInt8 := dkwX1_chosen_1 ++ []
def dkwX1_chosen_0 : List UInt8 := [27, 3, 42, 180, 1, 75, 4, 100, 184, 0, 145, 153, 0, 12, 42, 180, 0, 127, 27, 46, 167, 0, 5]
abbrev dktX1_chosen_0 : List UInt8 := dkwX1_chosen_0 ++ dktX1_chosen_1
theorem dksX1_chosen_0 : cX1_chosen.data.toList.drop 0 = dktX1_chosen_0 := by decide +kernel
theorem dksX1_chosen_1 : cX1_chosen.data.toList.drop 23 = dktX1_chosen_1 := dk_seg dksX1_chosen_0 23 rfl rfl
theorem dX1_chosen_0 : decode cX1_chosen 0 = .ok (.iload_n 1, 1) := dk_27 (dk_at dksX1_chosen_0 0 rfl rfl)
theorem dX1_chosen_1 : decode cX1_chosen 1 = .ok (.iconst 0, 1) := dk_3 (dk_at dksX1_chosen_0 1 rfl rfl)
theorem dX1_chosen_2 : decode cX1_chosen 2 = .ok (.aload_n 0, 1) := dk_42 (dk_at dksX1_chosen_0 2 rfl rfl)
theorem dX1_chosen_3 : decode cX1_chosen 3 = .ok (.getfield 331, 3) := dk_180 1 75 (dk_at dksX1_chosen_0 3 rfl rfl)
theorem dX1_chosen_6 : decode cX1_chosen 6 = .ok (.iconst 1, 1) := dk_4 (dk_at dksX1_chosen_0 6 rfl rfl)
theorem dX1_chosen_7 : decode cX1_chosen 7 = .ok (.isub, 1) := dk_100 (dk_at dksX1_chosen_0 7 rfl rfl)
theorem dX1_chosen_8 : decode cX1_chosen 8 = .ok (.invokestatic 145, 3) := dk_184 0 145 (dk_at dksX1_chosen_0 8 rfl rfl)
theorem dX1_chosen_11 : decode cX1_chosen 11 = .ok (.ifCond .eq 12, 3) := dk_153 0 12 (dk_at dksX1_chosen_0 11 rfl rfl)
theorem dX1_chosen_14 : decode cX1_chosen 14 = .ok (.aload_n 0, 1) := dk_42 (dk_at dksX1_chosen_0 14 rfl rfl)
theorem dX1_chosen_15 : decode cX1_chosen 15 = .ok (.getfield 127, 3) := dk_180 0 127 (dk_at dksX1_chosen_0 15 rfl rfl)
theorem dX1_chosen_18 : decode cX1_chosen 18 = .ok (.iload_n 1, 1) := dk_27 (dk_at dksX1_chosen_0 18 rfl rfl)
theorem dX1_chosen_19 : decode cX1_chosen 19 = .ok (.iaload, 1) := dk_46 (dk_at dksX1_chosen_0 19 rfl rfl)
theorem dX1_chosen_20 : decode cX1_chosen 20 = .ok (.goto 5, 3) := dk_167 0 5 (dk_at dksX1_chosen_0 20 rfl rfl)
theorem dX1_chosen_23 : decode cX1_chosen 23 = .ok (.bipush (-9), 2) := dk_16 247 (dk_at dksX1_chosen_1 0 rfl rfl)
theorem dX1_chosen_25 : decode cX1_chosen 25 = .ok (.ireturn, 1) := dk_172 (dk_at dksX1_chosen_1 2 rfl rfl)
abbrev cX1_daily : ByteArray := prog_9_method_95_code
def yX1_daily : MethodName := ⟨RX1, "daily", "(IZ)I"⟩
def dkwX1_daily_1 : List UInt8 := [172]
abbrev dktX1_daily_1 : List UInt8 := dkwX1_daily_1 ++ []
def dkwX1_daily_0 : List UInt8 := [42, 27, 182, 0, 176, 153, 0, 18, 42, 27, 28, 42, 180, 0, 35, 27, 46, 182, 1, 82, 167, 0, 4, 2]
abbrev dktX1_daily_0 : List UInt8 := dkwX1_daily_0 ++ dktX1_daily_1
theorem dksX1_daily_0 : cX1_daily.data.toList.drop 0 = dktX1_daily_0 := by decide +kernel
theorem dksX1_daily_1 : cX1_daily.data.toList.drop 24 = dktX1_daily_1 := dk_seg dksX1_daily_0 24 rfl rfl
theorem dX1_daily_0 : decode cX1_daily 0 = .ok (.aload_n 0, 1) := dk_42 (dk_at dksX1_daily_0 0 rfl rfl)
theorem dX1_daily_1 : decode cX1_daily 1 = .ok (.iload_n 1, 1) := dk_27 (dk_at dksX1_daily_0 1 rfl rfl)
theorem dX1_daily_2 : decode cX1_daily 2 = .ok (.invokevirtual 176, 3) := dk_182 0 176 (dk_at dksX1_daily_0 2 rfl rfl)
theorem dX1_daily_5 : decode cX1_daily 5 = .ok (.ifCond .eq 18, 3) := dk_153 0 18 (dk_at dksX1_daily_0 5 rfl rfl)
theorem dX1_daily_8 : decode cX1_daily 8 = .ok (.aload_n 0, 1) := dk_42 (dk_at dksX1_daily_0 8 rfl rfl)
theorem dX1_daily_9 : decode cX1_daily 9 = .ok (.iload_n 1, 1) := dk_27 (dk_at dksX1_daily_0 9 rfl rfl)
theorem dX1_daily_10 : decode cX1_daily 10 = .ok (.iload_n 2, 1) := dk_28 (dk_at dksX1_daily_0 10 rfl rfl)
theorem dX1_daily_11 : decode cX1_daily 11 = .ok (.aload_n 0, 1) := dk_42 (dk_at dksX1_daily_0 11 rfl rfl)
theorem dX1_daily_12 : decode cX1_daily 12 = .ok (.getfield 35, 3) := dk_180 0 35 (dk_at dksX1_daily_0 12 rfl rfl)
theorem dX1_daily_15 : decode cX1_daily 15 = .ok (.iload_n 1, 1) := dk_27 (dk_at dksX1_daily_0 15 rfl rfl)
theorem dX1_daily_16 : decode cX1_daily 16 = .ok (.iaload, 1) := dk_46 (dk_at dksX1_daily_0 16 rfl rfl)
theorem dX1_daily_17 : decode cX1_daily 17 = .ok (.invokevirtual 338, 3) := dk_182 1 82 (dk_at dksX1_daily_0 17 rfl rfl)
theorem dX1_daily_20 : decode cX1_daily 20 = .ok (.goto 4, 3) := dk_167 0 4 (dk_at dksX1_daily_0 20 rfl rfl)
theorem dX1_daily_23 : decode cX1_daily 23 = .ok (.iconst (-1), 1) := dk_2 (dk_at dksX1_daily_0 23 rfl rfl)
theorem dX1_daily_24 : decode cX1_daily 24 = .ok (.ireturn, 1) := dk_172 (dk_at dksX1_daily_1 0 rfl rfl)
abbrev cX1_dayOf : ByteArray := prog_9_method_94_code
def yX1_dayOf : MethodName := ⟨RX1, "dayOf", "(IZI)I"⟩
def dkwX1_dayOf_4 : List UInt8 := [180, 0, 29, 27, 46, 112, 96, 46, 96, 54, 4, 132, 6, 1, 167, 255, 167, 21, 4, 172]
abbrev dktX1_dayOf_4 : List UInt8 := dkwX1_dayOf_4 ++ []
def dkwX1_dayOf_3 : List UInt8 := [27, 46, 5, 160, 0, 15, 21, 7, 42, 180, 0, 29, 27, 46, 112, 167, 0, 14, 29, 21, 6, 96, 42]
abbrev dktX1_dayOf_3 : List UInt8 := dkwX1_dayOf_3 ++ dktX1_dayOf_4
def dkwX1_dayOf_2 : List UInt8 := [180, 0, 26, 27, 46, 154, 0, 7, 4, 167, 0, 46, 42, 180, 0, 32, 16, 24, 27, 104, 42, 180, 0, 26]
abbrev dktX1_dayOf_2 : List UInt8 := dkwX1_dayOf_2 ++ dktX1_dayOf_3
def dkwX1_dayOf_1 : List UInt8 := [162, 0, 88, 28, 153, 0, 10, 21, 6, 7, 112, 167, 0, 8, 21, 6, 16, 12, 112, 54, 7, 21, 4, 42]
abbrev dktX1_dayOf_1 : List UInt8 := dkwX1_dayOf_1 ++ dktX1_dayOf_2
def dkwX1_dayOf_0 : List UInt8 := [3, 54, 4, 28, 153, 0, 8, 16, 96, 167, 0, 5, 16, 24, 54, 5, 3, 54, 6, 21, 6, 21, 5]
abbrev dktX1_dayOf_0 : List UInt8 := dkwX1_dayOf_0 ++ dktX1_dayOf_1
theorem dksX1_dayOf_0 : cX1_dayOf.data.toList.drop 0 = dktX1_dayOf_0 := by decide +kernel
theorem dksX1_dayOf_1 : cX1_dayOf.data.toList.drop 23 = dktX1_dayOf_1 := dk_seg dksX1_dayOf_0 23 rfl rfl
theorem dksX1_dayOf_2 : cX1_dayOf.data.toList.drop 47 = dktX1_dayOf_2 := dk_seg dksX1_dayOf_1 24 rfl rfl
theorem dksX1_dayOf_3 : cX1_dayOf.data.toList.drop 71 = dktX1_dayOf_3 := dk_seg dksX1_dayOf_2 24 rfl rfl
theorem dksX1_dayOf_4 : cX1_dayOf.data.toList.drop 94 = dktX1_dayOf_4 := dk_seg dksX1_dayOf_3 23 rfl rfl
theorem dX1_dayOf_0 : decode cX1_dayOf 0 = .ok (.iconst 0, 1) := dk_3 (dk_at dksX1_dayOf_0 0 rfl rfl)
theorem dX1_dayOf_1 : decode cX1_dayOf 1 = .ok (.istore 4, 2) := dk_54 4 (dk_at dksX1_dayOf_0 1 rfl rfl)
theorem dX1_dayOf_3 : decode cX1_dayOf 3 = .ok (.iload_n 2, 1) := dk_28 (dk_at dksX1_dayOf_0 3 rfl rfl)
theorem dX1_dayOf_4 : decode cX1_dayOf 4 = .ok (.ifCond .eq 8, 3) := dk_153 0 8 (dk_at dksX1_dayOf_0 4 rfl rfl)
theorem dX1_dayOf_7 : decode cX1_dayOf 7 = .ok (.bipush 96, 2) := dk_16 96 (dk_at dksX1_dayOf_0 7 rfl rfl)
theorem dX1_dayOf_9 : decode cX1_dayOf 9 = .ok (.goto 5, 3) := dk_167 0 5 (dk_at dksX1_dayOf_0 9 rfl rfl)
theorem dX1_dayOf_12 : decode cX1_dayOf 12 = .ok (.bipush 24, 2) := dk_16 24 (dk_at dksX1_dayOf_0 12 rfl rfl)
theorem dX1_dayOf_14 : decode cX1_dayOf 14 = .ok (.istore 5, 2) := dk_54 5 (dk_at dksX1_dayOf_0 14 rfl rfl)
theorem dX1_dayOf_16 : decode cX1_dayOf 16 = .ok (.iconst 0, 1) := dk_3 (dk_at dksX1_dayOf_0 16 rfl rfl)
theorem dX1_dayOf_17 : decode cX1_dayOf 17 = .ok (.istore 6, 2) := dk_54 6 (dk_at dksX1_dayOf_0 17 rfl rfl)
theorem dX1_dayOf_19 : decode cX1_dayOf 19 = .ok (.iload 6, 2) := dk_21 6 (dk_at dksX1_dayOf_0 19 rfl rfl)
theorem dX1_dayOf_21 : decode cX1_dayOf 21 = .ok (.iload 5, 2) := dk_21 5 (dk_at dksX1_dayOf_0 21 rfl rfl)
theorem dX1_dayOf_23 : decode cX1_dayOf 23 = .ok (.if_icmp .ge 88, 3) := dk_162 0 88 (dk_at dksX1_dayOf_1 0 rfl rfl)
theorem dX1_dayOf_26 : decode cX1_dayOf 26 = .ok (.iload_n 2, 1) := dk_28 (dk_at dksX1_dayOf_1 3 rfl rfl)
theorem dX1_dayOf_27 : decode cX1_dayOf 27 = .ok (.ifCond .eq 10, 3) := dk_153 0 10 (dk_at dksX1_dayOf_1 4 rfl rfl)
theorem dX1_dayOf_30 : decode cX1_dayOf 30 = .ok (.iload 6, 2) := dk_21 6 (dk_at dksX1_dayOf_1 7 rfl rfl)
theorem dX1_dayOf_32 : decode cX1_dayOf 32 = .ok (.iconst 4, 1) := dk_7 (dk_at dksX1_dayOf_1 9 rfl rfl)
theorem dX1_dayOf_33 : decode cX1_dayOf 33 = .ok (.irem, 1) := dk_112 (dk_at dksX1_dayOf_1 10 rfl rfl)
theorem dX1_dayOf_34 : decode cX1_dayOf 34 = .ok (.goto 8, 3) := dk_167 0 8 (dk_at dksX1_dayOf_1 11 rfl rfl)
theorem dX1_dayOf_37 : decode cX1_dayOf 37 = .ok (.iload 6, 2) := dk_21 6 (dk_at dksX1_dayOf_1 14 rfl rfl)
theorem dX1_dayOf_39 : decode cX1_dayOf 39 = .ok (.bipush 12, 2) := dk_16 12 (dk_at dksX1_dayOf_1 16 rfl rfl)
theorem dX1_dayOf_41 : decode cX1_dayOf 41 = .ok (.irem, 1) := dk_112 (dk_at dksX1_dayOf_1 18 rfl rfl)
theorem dX1_dayOf_42 : decode cX1_dayOf 42 = .ok (.istore 7, 2) := dk_54 7 (dk_at dksX1_dayOf_1 19 rfl rfl)
theorem dX1_dayOf_44 : decode cX1_dayOf 44 = .ok (.iload 4, 2) := dk_21 4 (dk_at dksX1_dayOf_1 21 rfl rfl)
theorem dX1_dayOf_46 : decode cX1_dayOf 46 = .ok (.aload_n 0, 1) := dk_42 (dk_at dksX1_dayOf_1 23 rfl rfl)
theorem dX1_dayOf_47 : decode cX1_dayOf 47 = .ok (.getfield 26, 3) := dk_180 0 26 (dk_at dksX1_dayOf_2 0 rfl rfl)
theorem dX1_dayOf_50 : decode cX1_dayOf 50 = .ok (.iload_n 1, 1) := dk_27 (dk_at dksX1_dayOf_2 3 rfl rfl)
theorem dX1_dayOf_51 : decode cX1_dayOf 51 = .ok (.iaload, 1) := dk_46 (dk_at dksX1_dayOf_2 4 rfl rfl)
theorem dX1_dayOf_52 : decode cX1_dayOf 52 = .ok (.ifCond .ne 7, 3) := dk_154 0 7 (dk_at dksX1_dayOf_2 5 rfl rfl)
theorem dX1_dayOf_55 : decode cX1_dayOf 55 = .ok (.iconst 1, 1) := dk_4 (dk_at dksX1_dayOf_2 8 rfl rfl)
theorem dX1_dayOf_56 : decode cX1_dayOf 56 = .ok (.goto 46, 3) := dk_167 0 46 (dk_at dksX1_dayOf_2 9 rfl rfl)
theorem dX1_dayOf_59 : decode cX1_dayOf 59 = .ok (.aload_n 0, 1) := dk_42 (dk_at dksX1_dayOf_2 12 rfl rfl)
theorem dX1_dayOf_60 : decode cX1_dayOf 60 = .ok (.getfield 32, 3) := dk_180 0 32 (dk_at dksX1_dayOf_2 13 rfl rfl)
theorem dX1_dayOf_63 : decode cX1_dayOf 63 = .ok (.bipush 24, 2) := dk_16 24 (dk_at dksX1_dayOf_2 16 rfl rfl)
theorem dX1_dayOf_65 : decode cX1_dayOf 65 = .ok (.iload_n 1, 1) := dk_27 (dk_at dksX1_dayOf_2 18 rfl rfl)
theorem dX1_dayOf_66 : decode cX1_dayOf 66 = .ok (.imul, 1) := dk_104 (dk_at dksX1_dayOf_2 19 rfl rfl)
theorem dX1_dayOf_67 : decode cX1_dayOf 67 = .ok (.aload_n 0, 1) := dk_42 (dk_at dksX1_dayOf_2 20 rfl rfl)
theorem dX1_dayOf_68 : decode cX1_dayOf 68 = .ok (.getfield 26, 3) := dk_180 0 26 (dk_at dksX1_dayOf_2 21 rfl rfl)
theorem dX1_dayOf_71 : decode cX1_dayOf 71 = .ok (.iload_n 1, 1) := dk_27 (dk_at dksX1_dayOf_3 0 rfl rfl)
theorem dX1_dayOf_72 : decode cX1_dayOf 72 = .ok (.iaload, 1) := dk_46 (dk_at dksX1_dayOf_3 1 rfl rfl)
theorem dX1_dayOf_73 : decode cX1_dayOf 73 = .ok (.iconst 2, 1) := dk_5 (dk_at dksX1_dayOf_3 2 rfl rfl)
theorem dX1_dayOf_74 : decode cX1_dayOf 74 = .ok (.if_icmp .ne 15, 3) := dk_160 0 15 (dk_at dksX1_dayOf_3 3 rfl rfl)
theorem dX1_dayOf_77 : decode cX1_dayOf 77 = .ok (.iload 7, 2) := dk_21 7 (dk_at dksX1_dayOf_3 6 rfl rfl)
theorem dX1_dayOf_79 : decode cX1_dayOf 79 = .ok (.aload_n 0, 1) := dk_42 (dk_at dksX1_dayOf_3 8 rfl rfl)
theorem dX1_dayOf_80 : decode cX1_dayOf 80 = .ok (.getfield 29, 3) := dk_180 0 29 (dk_at dksX1_dayOf_3 9 rfl rfl)
theorem dX1_dayOf_83 : decode cX1_dayOf 83 = .ok (.iload_n 1, 1) := dk_27 (dk_at dksX1_dayOf_3 12 rfl rfl)
theorem dX1_dayOf_84 : decode cX1_dayOf 84 = .ok (.iaload, 1) := dk_46 (dk_at dksX1_dayOf_3 13 rfl rfl)
theorem dX1_dayOf_85 : decode cX1_dayOf 85 = .ok (.irem, 1) := dk_112 (dk_at dksX1_dayOf_3 14 rfl rfl)
theorem dX1_dayOf_86 : decode cX1_dayOf 86 = .ok (.goto 14, 3) := dk_167 0 14 (dk_at dksX1_dayOf_3 15 rfl rfl)
theorem dX1_dayOf_89 : decode cX1_dayOf 89 = .ok (.iload_n 3, 1) := dk_29 (dk_at dksX1_dayOf_3 18 rfl rfl)
theorem dX1_dayOf_90 : decode cX1_dayOf 90 = .ok (.iload 6, 2) := dk_21 6 (dk_at dksX1_dayOf_3 19 rfl rfl)
theorem dX1_dayOf_92 : decode cX1_dayOf 92 = .ok (.iadd, 1) := dk_96 (dk_at dksX1_dayOf_3 21 rfl rfl)
theorem dX1_dayOf_93 : decode cX1_dayOf 93 = .ok (.aload_n 0, 1) := dk_42 (dk_at dksX1_dayOf_3 22 rfl rfl)
theorem dX1_dayOf_94 : decode cX1_dayOf 94 = .ok (.getfield 29, 3) := dk_180 0 29 (dk_at dksX1_dayOf_4 0 rfl rfl)
theorem dX1_dayOf_97 : decode cX1_dayOf 97 = .ok (.iload_n 1, 1) := dk_27 (dk_at dksX1_dayOf_4 3 rfl rfl)
theorem dX1_dayOf_98 : decode cX1_dayOf 98 = .ok (.iaload, 1) := dk_46 (dk_at dksX1_dayOf_4 4 rfl rfl)
theorem dX1_dayOf_99 : decode cX1_dayOf 99 = .ok (.irem, 1) := dk_112 (dk_at dksX1_dayOf_4 5 rfl rfl)
theorem dX1_dayOf_100 : decode cX1_dayOf 100 = .ok (.iadd, 1) := dk_96 (dk_at dksX1_dayOf_4 6 rfl rfl)
theorem dX1_dayOf_101 : decode cX1_dayOf 101 = .ok (.iaload, 1) := dk_46 (dk_at dksX1_dayOf_4 7 rfl rfl)
theorem dX1_dayOf_102 : decode cX1_dayOf 102 = .ok (.iadd, 1) := dk_96 (dk_at dksX1_dayOf_4 8 rfl rfl)
theorem dX1_dayOf_103 : decode cX1_dayOf 103 = .ok (.istore 4, 2) := dk_54 4 (dk_at dksX1_dayOf_4 9 rfl rfl)
theorem dX1_dayOf_105 : decode cX1_dayOf 105 = .ok (.iinc 6 1, 3) := dk_132 6 1 (dk_at dksX1_dayOf_4 11 rfl rfl)
theorem dX1_dayOf_108 : decode cX1_dayOf 108 = .ok (.goto (-89), 3) := dk_167 255 167 (dk_at dksX1_dayOf_4 14 rfl rfl)
theorem dX1_dayOf_111 : decode cX1_dayOf 111 = .ok (.iload 4, 2) := dk_21 4 (dk_at dksX1_dayOf_4 17 rfl rfl)
theorem dX1_dayOf_113 : decode cX1_dayOf 113 = .ok (.ireturn, 1) := dk_172 (dk_at dksX1_dayOf_4 19 rfl rfl)
abbrev cX1_lasting : ByteArray := prog_9_method_96_code
def yX1_lasting : MethodName := ⟨RX1, "lasting", "(I)I"⟩
def dkwX1_lasting_5 : List UInt8 := [172]
abbrev dktX1_lasting_5 : List UInt8 := dkwX1_lasting_5 ++ []
def dkwX1_lasting_4 : List UInt8 := [101, 22, 5, 109, 55, 7, 22, 7, 20, 1, 85, 148, 158, 0, 9, 19, 1, 87, 167, 0, 6, 22, 7, 136]
abbrev dktX1_lasting_4 : List UInt8 := dkwX1_lasting_4 ++ dktX1_lasting_5
def dkwX1_lasting_3 : List UInt8 := [180, 0, 78, 27, 46, 96, 133, 55, 5, 33, 9, 148, 157, 0, 7, 10, 167, 0, 12, 33, 22, 5, 97, 10]
abbrev dktX1_lasting_3 : List UInt8 := dkwX1_lasting_3 ++ dktX1_lasting_4
def dkwX1_lasting_2 : List UInt8 := [42, 180, 0, 81, 27, 46, 133, 20, 1, 5, 105, 42, 180, 0, 84, 27, 46, 133, 101, 66, 18, 248, 42]
abbrev dktX1_lasting_2 : List UInt8 := dkwX1_lasting_2 ++ dktX1_lasting_3
def dkwX1_lasting_1 : List UInt8 := [180, 0, 87, 27, 51, 154, 0, 19, 42, 180, 0, 87, 27, 51, 153, 0, 7, 3, 167, 0, 5, 16, 247, 172]
abbrev dktX1_lasting_1 : List UInt8 := dkwX1_lasting_1 ++ dktX1_lasting_2
def dkwX1_lasting_0 : List UInt8 := [42, 27, 182, 0, 203, 61, 28, 156, 0, 5, 28, 172, 42, 180, 0, 81, 27, 46, 153, 0, 12, 42]
abbrev dktX1_lasting_0 : List UInt8 := dkwX1_lasting_0 ++ dktX1_lasting_1
theorem dksX1_lasting_0 : cX1_lasting.data.toList.drop 0 = dktX1_lasting_0 := by decide +kernel
theorem dksX1_lasting_1 : cX1_lasting.data.toList.drop 22 = dktX1_lasting_1 := dk_seg dksX1_lasting_0 22 rfl rfl
theorem dksX1_lasting_2 : cX1_lasting.data.toList.drop 46 = dktX1_lasting_2 := dk_seg dksX1_lasting_1 24 rfl rfl
theorem dksX1_lasting_3 : cX1_lasting.data.toList.drop 69 = dktX1_lasting_3 := dk_seg dksX1_lasting_2 23 rfl rfl
theorem dksX1_lasting_4 : cX1_lasting.data.toList.drop 93 = dktX1_lasting_4 := dk_seg dksX1_lasting_3 24 rfl rfl
theorem dksX1_lasting_5 : cX1_lasting.data.toList.drop 117 = dktX1_lasting_5 := dk_seg dksX1_lasting_4 24 rfl rfl
theorem dX1_lasting_0 : decode cX1_lasting 0 = .ok (.aload_n 0, 1) := dk_42 (dk_at dksX1_lasting_0 0 rfl rfl)
theorem dX1_lasting_1 : decode cX1_lasting 1 = .ok (.iload_n 1, 1) := dk_27 (dk_at dksX1_lasting_0 1 rfl rfl)
theorem dX1_lasting_2 : decode cX1_lasting 2 = .ok (.invokevirtual 203, 3) := dk_182 0 203 (dk_at dksX1_lasting_0 2 rfl rfl)
theorem dX1_lasting_5 : decode cX1_lasting 5 = .ok (.istore_n 2, 1) := dk_61 (dk_at dksX1_lasting_0 5 rfl rfl)
theorem dX1_lasting_6 : decode cX1_lasting 6 = .ok (.iload_n 2, 1) := dk_28 (dk_at dksX1_lasting_0 6 rfl rfl)
theorem dX1_lasting_7 : decode cX1_lasting 7 = .ok (.ifCond .ge 5, 3) := dk_156 0 5 (dk_at dksX1_lasting_0 7 rfl rfl)
theorem dX1_lasting_10 : decode cX1_lasting 10 = .ok (.iload_n 2, 1) := dk_28 (dk_at dksX1_lasting_0 10 rfl rfl)
theorem dX1_lasting_11 : decode cX1_lasting 11 = .ok (.ireturn, 1) := dk_172 (dk_at dksX1_lasting_0 11 rfl rfl)
theorem dX1_lasting_12 : decode cX1_lasting 12 = .ok (.aload_n 0, 1) := dk_42 (dk_at dksX1_lasting_0 12 rfl rfl)
theorem dX1_lasting_13 : decode cX1_lasting 13 = .ok (.getfield 81, 3) := dk_180 0 81 (dk_at dksX1_lasting_0 13 rfl rfl)
theorem dX1_lasting_16 : decode cX1_lasting 16 = .ok (.iload_n 1, 1) := dk_27 (dk_at dksX1_lasting_0 16 rfl rfl)
theorem dX1_lasting_17 : decode cX1_lasting 17 = .ok (.iaload, 1) := dk_46 (dk_at dksX1_lasting_0 17 rfl rfl)
theorem dX1_lasting_18 : decode cX1_lasting 18 = .ok (.ifCond .eq 12, 3) := dk_153 0 12 (dk_at dksX1_lasting_0 18 rfl rfl)
theorem dX1_lasting_21 : decode cX1_lasting 21 = .ok (.aload_n 0, 1) := dk_42 (dk_at dksX1_lasting_0 21 rfl rfl)
theorem dX1_lasting_22 : decode cX1_lasting 22 = .ok (.getfield 87, 3) := dk_180 0 87 (dk_at dksX1_lasting_1 0 rfl rfl)
theorem dX1_lasting_25 : decode cX1_lasting 25 = .ok (.iload_n 1, 1) := dk_27 (dk_at dksX1_lasting_1 3 rfl rfl)
theorem dX1_lasting_26 : decode cX1_lasting 26 = .ok (.baload, 1) := dk_51 (dk_at dksX1_lasting_1 4 rfl rfl)
theorem dX1_lasting_27 : decode cX1_lasting 27 = .ok (.ifCond .ne 19, 3) := dk_154 0 19 (dk_at dksX1_lasting_1 5 rfl rfl)
theorem dX1_lasting_30 : decode cX1_lasting 30 = .ok (.aload_n 0, 1) := dk_42 (dk_at dksX1_lasting_1 8 rfl rfl)
theorem dX1_lasting_31 : decode cX1_lasting 31 = .ok (.getfield 87, 3) := dk_180 0 87 (dk_at dksX1_lasting_1 9 rfl rfl)
theorem dX1_lasting_34 : decode cX1_lasting 34 = .ok (.iload_n 1, 1) := dk_27 (dk_at dksX1_lasting_1 12 rfl rfl)
theorem dX1_lasting_35 : decode cX1_lasting 35 = .ok (.baload, 1) := dk_51 (dk_at dksX1_lasting_1 13 rfl rfl)
theorem dX1_lasting_36 : decode cX1_lasting 36 = .ok (.ifCond .eq 7, 3) := dk_153 0 7 (dk_at dksX1_lasting_1 14 rfl rfl)
theorem dX1_lasting_39 : decode cX1_lasting 39 = .ok (.iconst 0, 1) := dk_3 (dk_at dksX1_lasting_1 17 rfl rfl)
theorem dX1_lasting_40 : decode cX1_lasting 40 = .ok (.goto 5, 3) := dk_167 0 5 (dk_at dksX1_lasting_1 18 rfl rfl)
theorem dX1_lasting_43 : decode cX1_lasting 43 = .ok (.bipush (-9), 2) := dk_16 247 (dk_at dksX1_lasting_1 21 rfl rfl)
theorem dX1_lasting_45 : decode cX1_lasting 45 = .ok (.ireturn, 1) := dk_172 (dk_at dksX1_lasting_1 23 rfl rfl)
theorem dX1_lasting_46 : decode cX1_lasting 46 = .ok (.aload_n 0, 1) := dk_42 (dk_at dksX1_lasting_2 0 rfl rfl)
theorem dX1_lasting_47 : decode cX1_lasting 47 = .ok (.getfield 81, 3) := dk_180 0 81 (dk_at dksX1_lasting_2 1 rfl rfl)
theorem dX1_lasting_50 : decode cX1_lasting 50 = .ok (.iload_n 1, 1) := dk_27 (dk_at dksX1_lasting_2 4 rfl rfl)
theorem dX1_lasting_51 : decode cX1_lasting 51 = .ok (.iaload, 1) := dk_46 (dk_at dksX1_lasting_2 5 rfl rfl)
theorem dX1_lasting_52 : decode cX1_lasting 52 = .ok (.i2l, 1) := dk_133 (dk_at dksX1_lasting_2 6 rfl rfl)
theorem dX1_lasting_53 : decode cX1_lasting 53 = .ok (.ldc2_w 261, 3) := dk_20 1 5 (dk_at dksX1_lasting_2 7 rfl rfl)
theorem dX1_lasting_56 : decode cX1_lasting 56 = .ok (.lmul, 1) := dk_105 (dk_at dksX1_lasting_2 10 rfl rfl)
theorem dX1_lasting_57 : decode cX1_lasting 57 = .ok (.aload_n 0, 1) := dk_42 (dk_at dksX1_lasting_2 11 rfl rfl)
theorem dX1_lasting_58 : decode cX1_lasting 58 = .ok (.getfield 84, 3) := dk_180 0 84 (dk_at dksX1_lasting_2 12 rfl rfl)
theorem dX1_lasting_61 : decode cX1_lasting 61 = .ok (.iload_n 1, 1) := dk_27 (dk_at dksX1_lasting_2 15 rfl rfl)
theorem dX1_lasting_62 : decode cX1_lasting 62 = .ok (.iaload, 1) := dk_46 (dk_at dksX1_lasting_2 16 rfl rfl)
theorem dX1_lasting_63 : decode cX1_lasting 63 = .ok (.i2l, 1) := dk_133 (dk_at dksX1_lasting_2 17 rfl rfl)
theorem dX1_lasting_64 : decode cX1_lasting 64 = .ok (.lsub, 1) := dk_101 (dk_at dksX1_lasting_2 18 rfl rfl)
theorem dX1_lasting_65 : decode cX1_lasting 65 = .ok (.lstore_n 3, 1) := dk_66 (dk_at dksX1_lasting_2 19 rfl rfl)
theorem dX1_lasting_66 : decode cX1_lasting 66 = .ok (.ldc 248, 2) := dk_18 248 (dk_at dksX1_lasting_2 20 rfl rfl)
theorem dX1_lasting_68 : decode cX1_lasting 68 = .ok (.aload_n 0, 1) := dk_42 (dk_at dksX1_lasting_2 22 rfl rfl)
theorem dX1_lasting_69 : decode cX1_lasting 69 = .ok (.getfield 78, 3) := dk_180 0 78 (dk_at dksX1_lasting_3 0 rfl rfl)
theorem dX1_lasting_72 : decode cX1_lasting 72 = .ok (.iload_n 1, 1) := dk_27 (dk_at dksX1_lasting_3 3 rfl rfl)
theorem dX1_lasting_73 : decode cX1_lasting 73 = .ok (.iaload, 1) := dk_46 (dk_at dksX1_lasting_3 4 rfl rfl)
theorem dX1_lasting_74 : decode cX1_lasting 74 = .ok (.iadd, 1) := dk_96 (dk_at dksX1_lasting_3 5 rfl rfl)
theorem dX1_lasting_75 : decode cX1_lasting 75 = .ok (.i2l, 1) := dk_133 (dk_at dksX1_lasting_3 6 rfl rfl)
theorem dX1_lasting_76 : decode cX1_lasting 76 = .ok (.lstore 5, 2) := dk_55 5 (dk_at dksX1_lasting_3 7 rfl rfl)
theorem dX1_lasting_78 : decode cX1_lasting 78 = .ok (.lload_n 3, 1) := dk_33 (dk_at dksX1_lasting_3 9 rfl rfl)
theorem dX1_lasting_79 : decode cX1_lasting 79 = .ok (.lconst 0, 1) := dk_9 (dk_at dksX1_lasting_3 10 rfl rfl)
theorem dX1_lasting_80 : decode cX1_lasting 80 = .ok (.lcmp, 1) := dk_148 (dk_at dksX1_lasting_3 11 rfl rfl)
theorem dX1_lasting_81 : decode cX1_lasting 81 = .ok (.ifCond .gt 7, 3) := dk_157 0 7 (dk_at dksX1_lasting_3 12 rfl rfl)
theorem dX1_lasting_84 : decode cX1_lasting 84 = .ok (.lconst 1, 1) := dk_10 (dk_at dksX1_lasting_3 15 rfl rfl)
theorem dX1_lasting_85 : decode cX1_lasting 85 = .ok (.goto 12, 3) := dk_167 0 12 (dk_at dksX1_lasting_3 16 rfl rfl)
theorem dX1_lasting_88 : decode cX1_lasting 88 = .ok (.lload_n 3, 1) := dk_33 (dk_at dksX1_lasting_3 19 rfl rfl)
theorem dX1_lasting_89 : decode cX1_lasting 89 = .ok (.lload 5, 2) := dk_22 5 (dk_at dksX1_lasting_3 20 rfl rfl)
theorem dX1_lasting_91 : decode cX1_lasting 91 = .ok (.ladd, 1) := dk_97 (dk_at dksX1_lasting_3 22 rfl rfl)
theorem dX1_lasting_92 : decode cX1_lasting 92 = .ok (.lconst 1, 1) := dk_10 (dk_at dksX1_lasting_3 23 rfl rfl)
theorem dX1_lasting_93 : decode cX1_lasting 93 = .ok (.lsub, 1) := dk_101 (dk_at dksX1_lasting_4 0 rfl rfl)
theorem dX1_lasting_94 : decode cX1_lasting 94 = .ok (.lload 5, 2) := dk_22 5 (dk_at dksX1_lasting_4 1 rfl rfl)
theorem dX1_lasting_96 : decode cX1_lasting 96 = .ok (.ldiv, 1) := dk_109 (dk_at dksX1_lasting_4 3 rfl rfl)
theorem dX1_lasting_97 : decode cX1_lasting 97 = .ok (.lstore 7, 2) := dk_55 7 (dk_at dksX1_lasting_4 4 rfl rfl)
theorem dX1_lasting_99 : decode cX1_lasting 99 = .ok (.lload 7, 2) := dk_22 7 (dk_at dksX1_lasting_4 6 rfl rfl)
theorem dX1_lasting_101 : decode cX1_lasting 101 = .ok (.ldc2_w 341, 3) := dk_20 1 85 (dk_at dksX1_lasting_4 8 rfl rfl)
theorem dX1_lasting_104 : decode cX1_lasting 104 = .ok (.lcmp, 1) := dk_148 (dk_at dksX1_lasting_4 11 rfl rfl)
theorem dX1_lasting_105 : decode cX1_lasting 105 = .ok (.ifCond .le 9, 3) := dk_158 0 9 (dk_at dksX1_lasting_4 12 rfl rfl)
theorem dX1_lasting_108 : decode cX1_lasting 108 = .ok (.ldc_w 343, 3) := dk_19 1 87 (dk_at dksX1_lasting_4 15 rfl rfl)
theorem dX1_lasting_111 : decode cX1_lasting 111 = .ok (.goto 6, 3) := dk_167 0 6 (dk_at dksX1_lasting_4 18 rfl rfl)
theorem dX1_lasting_114 : decode cX1_lasting 114 = .ok (.lload 7, 2) := dk_22 7 (dk_at dksX1_lasting_4 21 rfl rfl)
theorem dX1_lasting_116 : decode cX1_lasting 116 = .ok (.l2i, 1) := dk_136 (dk_at dksX1_lasting_4 23 rfl rfl)
theorem dX1_lasting_117 : decode cX1_lasting 117 = .ok (.ireturn, 1) := dk_172 (dk_at dksX1_lasting_5 0 rfl rfl)
abbrev cX1_lastingDays : ByteArray := prog_9_method_97_code
def yX1_lastingDays : MethodName := ⟨RX1, "lastingDays", "(IZ)I"⟩
def dkwX1_lastingDays_4 : List UInt8 := [182, 1, 82, 54, 6, 167, 255, 196, 21, 5, 172]
abbrev dktX1_lastingDays_4 : List UInt8 := dkwX1_lastingDays_4 ++ []
def dkwX1_lastingDays_3 : List UInt8 := [16, 96, 167, 0, 5, 16, 24, 96, 42, 180, 0, 29, 27, 46, 112, 54, 4, 42, 27, 28, 21, 4]
abbrev dktX1_lastingDays_3 : List UInt8 := dkwX1_lastingDays_3 ++ dktX1_lastingDays_4
def dkwX1_lastingDays_2 : List UInt8 := [100, 62, 132, 5, 1, 42, 180, 0, 29, 27, 46, 154, 0, 7, 3, 167, 0, 24, 21, 4, 28, 153, 0, 8]
abbrev dktX1_lastingDays_2 : List UInt8 := dkwX1_lastingDays_2 ++ dktX1_lastingDays_3
def dkwX1_lastingDays_1 : List UInt8 := [54, 4, 3, 54, 5, 42, 27, 28, 21, 4, 182, 1, 82, 54, 6, 29, 21, 6, 161, 0, 60, 29, 21, 6]
abbrev dktX1_lastingDays_1 : List UInt8 := dkwX1_lastingDays_1 ++ dktX1_lastingDays_2
def dkwX1_lastingDays_0 : List UInt8 := [42, 27, 182, 0, 176, 154, 0, 5, 2, 172, 42, 180, 0, 53, 27, 46, 62, 42, 180, 0, 35, 27, 46]
abbrev dktX1_lastingDays_0 : List UInt8 := dkwX1_lastingDays_0 ++ dktX1_lastingDays_1
theorem dksX1_lastingDays_0 : cX1_lastingDays.data.toList.drop 0 = dktX1_lastingDays_0 := by decide +kernel
theorem dksX1_lastingDays_1 : cX1_lastingDays.data.toList.drop 23 = dktX1_lastingDays_1 := dk_seg dksX1_lastingDays_0 23 rfl rfl
theorem dksX1_lastingDays_2 : cX1_lastingDays.data.toList.drop 47 = dktX1_lastingDays_2 := dk_seg dksX1_lastingDays_1 24 rfl rfl
theorem dksX1_lastingDays_3 : cX1_lastingDays.data.toList.drop 71 = dktX1_lastingDays_3 := dk_seg dksX1_lastingDays_2 24 rfl rfl
theorem dksX1_lastingDays_4 : cX1_lastingDays.data.toList.drop 93 = dktX1_lastingDays_4 := dk_seg dksX1_lastingDays_3 22 rfl rfl
theorem dX1_lastingDays_0 : decode cX1_lastingDays 0 = .ok (.aload_n 0, 1) := dk_42 (dk_at dksX1_lastingDays_0 0 rfl rfl)
theorem dX1_lastingDays_1 : decode cX1_lastingDays 1 = .ok (.iload_n 1, 1) := dk_27 (dk_at dksX1_lastingDays_0 1 rfl rfl)
theorem dX1_lastingDays_2 : decode cX1_lastingDays 2 = .ok (.invokevirtual 176, 3) := dk_182 0 176 (dk_at dksX1_lastingDays_0 2 rfl rfl)
theorem dX1_lastingDays_5 : decode cX1_lastingDays 5 = .ok (.ifCond .ne 5, 3) := dk_154 0 5 (dk_at dksX1_lastingDays_0 5 rfl rfl)
theorem dX1_lastingDays_8 : decode cX1_lastingDays 8 = .ok (.iconst (-1), 1) := dk_2 (dk_at dksX1_lastingDays_0 8 rfl rfl)
theorem dX1_lastingDays_9 : decode cX1_lastingDays 9 = .ok (.ireturn, 1) := dk_172 (dk_at dksX1_lastingDays_0 9 rfl rfl)
theorem dX1_lastingDays_10 : decode cX1_lastingDays 10 = .ok (.aload_n 0, 1) := dk_42 (dk_at dksX1_lastingDays_0 10 rfl rfl)
theorem dX1_lastingDays_11 : decode cX1_lastingDays 11 = .ok (.getfield 53, 3) := dk_180 0 53 (dk_at dksX1_lastingDays_0 11 rfl rfl)
theorem dX1_lastingDays_14 : decode cX1_lastingDays 14 = .ok (.iload_n 1, 1) := dk_27 (dk_at dksX1_lastingDays_0 14 rfl rfl)
theorem dX1_lastingDays_15 : decode cX1_lastingDays 15 = .ok (.iaload, 1) := dk_46 (dk_at dksX1_lastingDays_0 15 rfl rfl)
theorem dX1_lastingDays_16 : decode cX1_lastingDays 16 = .ok (.istore_n 3, 1) := dk_62 (dk_at dksX1_lastingDays_0 16 rfl rfl)
theorem dX1_lastingDays_17 : decode cX1_lastingDays 17 = .ok (.aload_n 0, 1) := dk_42 (dk_at dksX1_lastingDays_0 17 rfl rfl)
theorem dX1_lastingDays_18 : decode cX1_lastingDays 18 = .ok (.getfield 35, 3) := dk_180 0 35 (dk_at dksX1_lastingDays_0 18 rfl rfl)
theorem dX1_lastingDays_21 : decode cX1_lastingDays 21 = .ok (.iload_n 1, 1) := dk_27 (dk_at dksX1_lastingDays_0 21 rfl rfl)
theorem dX1_lastingDays_22 : decode cX1_lastingDays 22 = .ok (.iaload, 1) := dk_46 (dk_at dksX1_lastingDays_0 22 rfl rfl)
theorem dX1_lastingDays_23 : decode cX1_lastingDays 23 = .ok (.istore 4, 2) := dk_54 4 (dk_at dksX1_lastingDays_1 0 rfl rfl)
theorem dX1_lastingDays_25 : decode cX1_lastingDays 25 = .ok (.iconst 0, 1) := dk_3 (dk_at dksX1_lastingDays_1 2 rfl rfl)
theorem dX1_lastingDays_26 : decode cX1_lastingDays 26 = .ok (.istore 5, 2) := dk_54 5 (dk_at dksX1_lastingDays_1 3 rfl rfl)
theorem dX1_lastingDays_28 : decode cX1_lastingDays 28 = .ok (.aload_n 0, 1) := dk_42 (dk_at dksX1_lastingDays_1 5 rfl rfl)
theorem dX1_lastingDays_29 : decode cX1_lastingDays 29 = .ok (.iload_n 1, 1) := dk_27 (dk_at dksX1_lastingDays_1 6 rfl rfl)
theorem dX1_lastingDays_30 : decode cX1_lastingDays 30 = .ok (.iload_n 2, 1) := dk_28 (dk_at dksX1_lastingDays_1 7 rfl rfl)
theorem dX1_lastingDays_31 : decode cX1_lastingDays 31 = .ok (.iload 4, 2) := dk_21 4 (dk_at dksX1_lastingDays_1 8 rfl rfl)
theorem dX1_lastingDays_33 : decode cX1_lastingDays 33 = .ok (.invokevirtual 338, 3) := dk_182 1 82 (dk_at dksX1_lastingDays_1 10 rfl rfl)
theorem dX1_lastingDays_36 : decode cX1_lastingDays 36 = .ok (.istore 6, 2) := dk_54 6 (dk_at dksX1_lastingDays_1 13 rfl rfl)
theorem dX1_lastingDays_38 : decode cX1_lastingDays 38 = .ok (.iload_n 3, 1) := dk_29 (dk_at dksX1_lastingDays_1 15 rfl rfl)
theorem dX1_lastingDays_39 : decode cX1_lastingDays 39 = .ok (.iload 6, 2) := dk_21 6 (dk_at dksX1_lastingDays_1 16 rfl rfl)
theorem dX1_lastingDays_41 : decode cX1_lastingDays 41 = .ok (.if_icmp .lt 60, 3) := dk_161 0 60 (dk_at dksX1_lastingDays_1 18 rfl rfl)
theorem dX1_lastingDays_44 : decode cX1_lastingDays 44 = .ok (.iload_n 3, 1) := dk_29 (dk_at dksX1_lastingDays_1 21 rfl rfl)
theorem dX1_lastingDays_45 : decode cX1_lastingDays 45 = .ok (.iload 6, 2) := dk_21 6 (dk_at dksX1_lastingDays_1 22 rfl rfl)
theorem dX1_lastingDays_47 : decode cX1_lastingDays 47 = .ok (.isub, 1) := dk_100 (dk_at dksX1_lastingDays_2 0 rfl rfl)
theorem dX1_lastingDays_48 : decode cX1_lastingDays 48 = .ok (.istore_n 3, 1) := dk_62 (dk_at dksX1_lastingDays_2 1 rfl rfl)
theorem dX1_lastingDays_49 : decode cX1_lastingDays 49 = .ok (.iinc 5 1, 3) := dk_132 5 1 (dk_at dksX1_lastingDays_2 2 rfl rfl)
theorem dX1_lastingDays_52 : decode cX1_lastingDays 52 = .ok (.aload_n 0, 1) := dk_42 (dk_at dksX1_lastingDays_2 5 rfl rfl)
theorem dX1_lastingDays_53 : decode cX1_lastingDays 53 = .ok (.getfield 29, 3) := dk_180 0 29 (dk_at dksX1_lastingDays_2 6 rfl rfl)
theorem dX1_lastingDays_56 : decode cX1_lastingDays 56 = .ok (.iload_n 1, 1) := dk_27 (dk_at dksX1_lastingDays_2 9 rfl rfl)
theorem dX1_lastingDays_57 : decode cX1_lastingDays 57 = .ok (.iaload, 1) := dk_46 (dk_at dksX1_lastingDays_2 10 rfl rfl)
theorem dX1_lastingDays_58 : decode cX1_lastingDays 58 = .ok (.ifCond .ne 7, 3) := dk_154 0 7 (dk_at dksX1_lastingDays_2 11 rfl rfl)
theorem dX1_lastingDays_61 : decode cX1_lastingDays 61 = .ok (.iconst 0, 1) := dk_3 (dk_at dksX1_lastingDays_2 14 rfl rfl)
theorem dX1_lastingDays_62 : decode cX1_lastingDays 62 = .ok (.goto 24, 3) := dk_167 0 24 (dk_at dksX1_lastingDays_2 15 rfl rfl)
theorem dX1_lastingDays_65 : decode cX1_lastingDays 65 = .ok (.iload 4, 2) := dk_21 4 (dk_at dksX1_lastingDays_2 18 rfl rfl)
theorem dX1_lastingDays_67 : decode cX1_lastingDays 67 = .ok (.iload_n 2, 1) := dk_28 (dk_at dksX1_lastingDays_2 20 rfl rfl)
theorem dX1_lastingDays_68 : decode cX1_lastingDays 68 = .ok (.ifCond .eq 8, 3) := dk_153 0 8 (dk_at dksX1_lastingDays_2 21 rfl rfl)
theorem dX1_lastingDays_71 : decode cX1_lastingDays 71 = .ok (.bipush 96, 2) := dk_16 96 (dk_at dksX1_lastingDays_3 0 rfl rfl)
theorem dX1_lastingDays_73 : decode cX1_lastingDays 73 = .ok (.goto 5, 3) := dk_167 0 5 (dk_at dksX1_lastingDays_3 2 rfl rfl)
theorem dX1_lastingDays_76 : decode cX1_lastingDays 76 = .ok (.bipush 24, 2) := dk_16 24 (dk_at dksX1_lastingDays_3 5 rfl rfl)
theorem dX1_lastingDays_78 : decode cX1_lastingDays 78 = .ok (.iadd, 1) := dk_96 (dk_at dksX1_lastingDays_3 7 rfl rfl)
theorem dX1_lastingDays_79 : decode cX1_lastingDays 79 = .ok (.aload_n 0, 1) := dk_42 (dk_at dksX1_lastingDays_3 8 rfl rfl)
theorem dX1_lastingDays_80 : decode cX1_lastingDays 80 = .ok (.getfield 29, 3) := dk_180 0 29 (dk_at dksX1_lastingDays_3 9 rfl rfl)
theorem dX1_lastingDays_83 : decode cX1_lastingDays 83 = .ok (.iload_n 1, 1) := dk_27 (dk_at dksX1_lastingDays_3 12 rfl rfl)
theorem dX1_lastingDays_84 : decode cX1_lastingDays 84 = .ok (.iaload, 1) := dk_46 (dk_at dksX1_lastingDays_3 13 rfl rfl)
theorem dX1_lastingDays_85 : decode cX1_lastingDays 85 = .ok (.irem, 1) := dk_112 (dk_at dksX1_lastingDays_3 14 rfl rfl)
theorem dX1_lastingDays_86 : decode cX1_lastingDays 86 = .ok (.istore 4, 2) := dk_54 4 (dk_at dksX1_lastingDays_3 15 rfl rfl)
theorem dX1_lastingDays_88 : decode cX1_lastingDays 88 = .ok (.aload_n 0, 1) := dk_42 (dk_at dksX1_lastingDays_3 17 rfl rfl)
theorem dX1_lastingDays_89 : decode cX1_lastingDays 89 = .ok (.iload_n 1, 1) := dk_27 (dk_at dksX1_lastingDays_3 18 rfl rfl)
theorem dX1_lastingDays_90 : decode cX1_lastingDays 90 = .ok (.iload_n 2, 1) := dk_28 (dk_at dksX1_lastingDays_3 19 rfl rfl)
theorem dX1_lastingDays_91 : decode cX1_lastingDays 91 = .ok (.iload 4, 2) := dk_21 4 (dk_at dksX1_lastingDays_3 20 rfl rfl)
theorem dX1_lastingDays_93 : decode cX1_lastingDays 93 = .ok (.invokevirtual 338, 3) := dk_182 1 82 (dk_at dksX1_lastingDays_4 0 rfl rfl)
theorem dX1_lastingDays_96 : decode cX1_lastingDays 96 = .ok (.istore 6, 2) := dk_54 6 (dk_at dksX1_lastingDays_4 3 rfl rfl)
theorem dX1_lastingDays_98 : decode cX1_lastingDays 98 = .ok (.goto (-60), 3) := dk_167 255 196 (dk_at dksX1_lastingDays_4 5 rfl rfl)
theorem dX1_lastingDays_101 : decode cX1_lastingDays 101 = .ok (.iload 5, 2) := dk_21 5 (dk_at dksX1_lastingDays_4 8 rfl rfl)
theorem dX1_lastingDays_103 : decode cX1_lastingDays 103 = .ok (.ireturn, 1) := dk_172 (dk_at dksX1_lastingDays_4 10 rfl rfl)
abbrev cX1_asked : ByteArray := prog_9_method_98_code
def yX1_asked : MethodName := ⟨RX1, "asked", "()I"⟩
theorem dX1_asked_0 : decode cX1_asked 0 = .ok (.aload_n 0, 1) := by decide +kernel
theorem dX1_asked_1 : decode cX1_asked 1 = .ok (.getfield 280, 3) := by decide +kernel
theorem dX1_asked_4 : decode cX1_asked 4 = .ok (.ireturn, 1) := by decide +kernel
abbrev cX1_upper : ByteArray := prog_9_method_99_code
def yX1_upper : MethodName := ⟨RX1, "upper", "()J"⟩
theorem dX1_upper_0 : decode cX1_upper 0 = .ok (.aload_n 0, 1) := by decide +kernel
theorem dX1_upper_1 : decode cX1_upper 1 = .ok (.getfield 142, 3) := by decide +kernel
theorem dX1_upper_4 : decode cX1_upper 4 = .ok (.lreturn, 1) := by decide +kernel
abbrev cX1_lower : ByteArray := prog_9_method_100_code
def yX1_lower : MethodName := ⟨RX1, "lower", "()J"⟩
theorem dX1_lower_0 : decode cX1_lower 0 = .ok (.aload_n 0, 1) := by decide +kernel
theorem dX1_lower_1 : decode cX1_lower 1 = .ok (.getfield 13, 3) := by decide +kernel
theorem dX1_lower_4 : decode cX1_lower 4 = .ok (.lreturn, 1) := by decide +kernel
abbrev cX1_count : ByteArray := prog_9_method_101_code
def yX1_count : MethodName := ⟨RX1, "count", "(I)I"⟩
def dkwX1_count_5 : List UInt8 := [132, 3, 1, 167, 255, 230, 28, 172, 42, 180, 0, 231, 172, 2, 172]
abbrev dktX1_count_5 : List UInt8 := dkwX1_count_5 ++ []
def dkwX1_count_4 : List UInt8 := [62, 29, 16, 8, 162, 0, 26, 28, 42, 180, 0, 17, 29, 46, 155, 0, 7, 4, 167, 0, 4, 3, 96, 61]
abbrev dktX1_count_4 : List UInt8 := dkwX1_count_4 ++ dktX1_count_5
def dkwX1_count_3 : List UInt8 := [153, 0, 7, 4, 167, 0, 4, 3, 96, 61, 132, 3, 1, 167, 255, 231, 28, 172, 42, 180, 1, 54, 172, 3]
abbrev dktX1_count_3 : List UInt8 := dkwX1_count_3 ++ dktX1_count_4
def dkwX1_count_2 : List UInt8 := [42, 180, 0, 238, 172, 42, 180, 0, 160, 172, 3, 62, 29, 7, 162, 0, 26, 28, 42, 180, 0, 72, 29, 51]
abbrev dktX1_count_2 : List UInt8 := dkwX1_count_2 ++ dktX1_count_3
def dkwX1_count_1 : List UInt8 := [170, 0, 0, 0, 122, 0, 0, 0, 0, 0, 0, 0, 5, 0, 0, 0, 37, 0, 0, 0, 42, 0, 0, 0, 47, 0, 0, 0, 79, 0, 0, 0, 84, 0, 0, 0, 117]
abbrev dktX1_count_1 : List UInt8 := dkwX1_count_1 ++ dktX1_count_2
def dkwX1_count_0 : List UInt8 := [3, 61, 27]
abbrev dktX1_count_0 : List UInt8 := dkwX1_count_0 ++ dktX1_count_1
theorem dksX1_count_0 : cX1_count.data.toList.drop 0 = dktX1_count_0 := by decide +kernel
theorem dksX1_count_1 : cX1_count.data.toList.drop 3 = dktX1_count_1 := dk_seg dksX1_count_0 3 rfl rfl
theorem dksX1_count_2 : cX1_count.data.toList.drop 40 = dktX1_count_2 := dk_seg dksX1_count_1 37 rfl rfl
theorem dksX1_count_3 : cX1_count.data.toList.drop 64 = dktX1_count_3 := dk_seg dksX1_count_2 24 rfl rfl
theorem dksX1_count_4 : cX1_count.data.toList.drop 88 = dktX1_count_4 := dk_seg dksX1_count_3 24 rfl rfl
theorem dksX1_count_5 : cX1_count.data.toList.drop 112 = dktX1_count_5 := dk_seg dksX1_count_4 24 rfl rfl
theorem dX1_count_0 : decode cX1_count 0 = .ok (.iconst 0, 1) := dk_3 (dk_at dksX1_count_0 0 rfl rfl)
theorem dX1_count_1 : decode cX1_count 1 = .ok (.istore_n 2, 1) := dk_61 (dk_at dksX1_count_0 1 rfl rfl)
theorem dX1_count_2 : decode cX1_count 2 = .ok (.iload_n 1, 1) := dk_27 (dk_at dksX1_count_0 2 rfl rfl)
theorem dX1_count_3 : decode cX1_count 3 = .ok (.tableswitch 122 0 5 #[37, 42, 47, 79, 84, 117], 37) := by decide +kernel
theorem dX1_count_40 : decode cX1_count 40 = .ok (.aload_n 0, 1) := dk_42 (dk_at dksX1_count_2 0 rfl rfl)
theorem dX1_count_41 : decode cX1_count 41 = .ok (.getfield 238, 3) := dk_180 0 238 (dk_at dksX1_count_2 1 rfl rfl)
theorem dX1_count_44 : decode cX1_count 44 = .ok (.ireturn, 1) := dk_172 (dk_at dksX1_count_2 4 rfl rfl)
theorem dX1_count_45 : decode cX1_count 45 = .ok (.aload_n 0, 1) := dk_42 (dk_at dksX1_count_2 5 rfl rfl)
theorem dX1_count_46 : decode cX1_count 46 = .ok (.getfield 160, 3) := dk_180 0 160 (dk_at dksX1_count_2 6 rfl rfl)
theorem dX1_count_49 : decode cX1_count 49 = .ok (.ireturn, 1) := dk_172 (dk_at dksX1_count_2 9 rfl rfl)
theorem dX1_count_50 : decode cX1_count 50 = .ok (.iconst 0, 1) := dk_3 (dk_at dksX1_count_2 10 rfl rfl)
theorem dX1_count_51 : decode cX1_count 51 = .ok (.istore_n 3, 1) := dk_62 (dk_at dksX1_count_2 11 rfl rfl)
theorem dX1_count_52 : decode cX1_count 52 = .ok (.iload_n 3, 1) := dk_29 (dk_at dksX1_count_2 12 rfl rfl)
theorem dX1_count_53 : decode cX1_count 53 = .ok (.iconst 4, 1) := dk_7 (dk_at dksX1_count_2 13 rfl rfl)
theorem dX1_count_54 : decode cX1_count 54 = .ok (.if_icmp .ge 26, 3) := dk_162 0 26 (dk_at dksX1_count_2 14 rfl rfl)
theorem dX1_count_57 : decode cX1_count 57 = .ok (.iload_n 2, 1) := dk_28 (dk_at dksX1_count_2 17 rfl rfl)
theorem dX1_count_58 : decode cX1_count 58 = .ok (.aload_n 0, 1) := dk_42 (dk_at dksX1_count_2 18 rfl rfl)
theorem dX1_count_59 : decode cX1_count 59 = .ok (.getfield 72, 3) := dk_180 0 72 (dk_at dksX1_count_2 19 rfl rfl)
theorem dX1_count_62 : decode cX1_count 62 = .ok (.iload_n 3, 1) := dk_29 (dk_at dksX1_count_2 22 rfl rfl)
theorem dX1_count_63 : decode cX1_count 63 = .ok (.baload, 1) := dk_51 (dk_at dksX1_count_2 23 rfl rfl)
theorem dX1_count_64 : decode cX1_count 64 = .ok (.ifCond .eq 7, 3) := dk_153 0 7 (dk_at dksX1_count_3 0 rfl rfl)
theorem dX1_count_67 : decode cX1_count 67 = .ok (.iconst 1, 1) := dk_4 (dk_at dksX1_count_3 3 rfl rfl)
theorem dX1_count_68 : decode cX1_count 68 = .ok (.goto 4, 3) := dk_167 0 4 (dk_at dksX1_count_3 4 rfl rfl)
theorem dX1_count_71 : decode cX1_count 71 = .ok (.iconst 0, 1) := dk_3 (dk_at dksX1_count_3 7 rfl rfl)
theorem dX1_count_72 : decode cX1_count 72 = .ok (.iadd, 1) := dk_96 (dk_at dksX1_count_3 8 rfl rfl)
theorem dX1_count_73 : decode cX1_count 73 = .ok (.istore_n 2, 1) := dk_61 (dk_at dksX1_count_3 9 rfl rfl)
theorem dX1_count_74 : decode cX1_count 74 = .ok (.iinc 3 1, 3) := dk_132 3 1 (dk_at dksX1_count_3 10 rfl rfl)
theorem dX1_count_77 : decode cX1_count 77 = .ok (.goto (-25), 3) := dk_167 255 231 (dk_at dksX1_count_3 13 rfl rfl)
theorem dX1_count_80 : decode cX1_count 80 = .ok (.iload_n 2, 1) := dk_28 (dk_at dksX1_count_3 16 rfl rfl)
theorem dX1_count_81 : decode cX1_count 81 = .ok (.ireturn, 1) := dk_172 (dk_at dksX1_count_3 17 rfl rfl)
theorem dX1_count_82 : decode cX1_count 82 = .ok (.aload_n 0, 1) := dk_42 (dk_at dksX1_count_3 18 rfl rfl)
theorem dX1_count_83 : decode cX1_count 83 = .ok (.getfield 310, 3) := dk_180 1 54 (dk_at dksX1_count_3 19 rfl rfl)
theorem dX1_count_86 : decode cX1_count 86 = .ok (.ireturn, 1) := dk_172 (dk_at dksX1_count_3 22 rfl rfl)
theorem dX1_count_87 : decode cX1_count 87 = .ok (.iconst 0, 1) := dk_3 (dk_at dksX1_count_3 23 rfl rfl)
theorem dX1_count_88 : decode cX1_count 88 = .ok (.istore_n 3, 1) := dk_62 (dk_at dksX1_count_4 0 rfl rfl)
theorem dX1_count_89 : decode cX1_count 89 = .ok (.iload_n 3, 1) := dk_29 (dk_at dksX1_count_4 1 rfl rfl)
theorem dX1_count_90 : decode cX1_count 90 = .ok (.bipush 8, 2) := dk_16 8 (dk_at dksX1_count_4 2 rfl rfl)
theorem dX1_count_92 : decode cX1_count 92 = .ok (.if_icmp .ge 26, 3) := dk_162 0 26 (dk_at dksX1_count_4 4 rfl rfl)
theorem dX1_count_95 : decode cX1_count 95 = .ok (.iload_n 2, 1) := dk_28 (dk_at dksX1_count_4 7 rfl rfl)
theorem dX1_count_96 : decode cX1_count 96 = .ok (.aload_n 0, 1) := dk_42 (dk_at dksX1_count_4 8 rfl rfl)
theorem dX1_count_97 : decode cX1_count 97 = .ok (.getfield 17, 3) := dk_180 0 17 (dk_at dksX1_count_4 9 rfl rfl)
theorem dX1_count_100 : decode cX1_count 100 = .ok (.iload_n 3, 1) := dk_29 (dk_at dksX1_count_4 12 rfl rfl)
theorem dX1_count_101 : decode cX1_count 101 = .ok (.iaload, 1) := dk_46 (dk_at dksX1_count_4 13 rfl rfl)
theorem dX1_count_102 : decode cX1_count 102 = .ok (.ifCond .lt 7, 3) := dk_155 0 7 (dk_at dksX1_count_4 14 rfl rfl)
theorem dX1_count_105 : decode cX1_count 105 = .ok (.iconst 1, 1) := dk_4 (dk_at dksX1_count_4 17 rfl rfl)
theorem dX1_count_106 : decode cX1_count 106 = .ok (.goto 4, 3) := dk_167 0 4 (dk_at dksX1_count_4 18 rfl rfl)
theorem dX1_count_109 : decode cX1_count 109 = .ok (.iconst 0, 1) := dk_3 (dk_at dksX1_count_4 21 rfl rfl)
theorem dX1_count_110 : decode cX1_count 110 = .ok (.iadd, 1) := dk_96 (dk_at dksX1_count_4 22 rfl rfl)
theorem dX1_count_111 : decode cX1_count 111 = .ok (.istore_n 2, 1) := dk_61 (dk_at dksX1_count_4 23 rfl rfl)
theorem dX1_count_112 : decode cX1_count 112 = .ok (.iinc 3 1, 3) := dk_132 3 1 (dk_at dksX1_count_5 0 rfl rfl)
theorem dX1_count_115 : decode cX1_count 115 = .ok (.goto (-26), 3) := dk_167 255 230 (dk_at dksX1_count_5 3 rfl rfl)
theorem dX1_count_118 : decode cX1_count 118 = .ok (.iload_n 2, 1) := dk_28 (dk_at dksX1_count_5 6 rfl rfl)
theorem dX1_count_119 : decode cX1_count 119 = .ok (.ireturn, 1) := dk_172 (dk_at dksX1_count_5 7 rfl rfl)
theorem dX1_count_120 : decode cX1_count 120 = .ok (.aload_n 0, 1) := dk_42 (dk_at dksX1_count_5 8 rfl rfl)
theorem dX1_count_121 : decode cX1_count 121 = .ok (.getfield 231, 3) := dk_180 0 231 (dk_at dksX1_count_5 9 rfl rfl)
theorem dX1_count_124 : decode cX1_count 124 = .ok (.ireturn, 1) := dk_172 (dk_at dksX1_count_5 12 rfl rfl)
theorem dX1_count_125 : decode cX1_count 125 = .ok (.iconst (-1), 1) := dk_2 (dk_at dksX1_count_5 13 rfl rfl)
theorem dX1_count_126 : decode cX1_count 126 = .ok (.ireturn, 1) := dk_172 (dk_at dksX1_count_5 14 rfl rfl)
abbrev cX1_finding : ByteArray := prog_9_method_102_code
def yX1_finding : MethodName := ⟨RX1, "finding", "()I"⟩
theorem dX1_finding_0 : decode cX1_finding 0 = .ok (.aload_n 0, 1) := by decide +kernel
theorem dX1_finding_1 : decode cX1_finding 1 = .ok (.getfield 139, 3) := by decide +kernel
theorem dX1_finding_4 : decode cX1_finding 4 = .ok (.ireturn, 1) := by decide +kernel
abbrev cX1_findings : ByteArray := prog_9_method_103_code
def yX1_findings : MethodName := ⟨RX1, "findings", "(I)I"⟩
def dkwX1_findings_0 : List UInt8 := [27, 4, 8, 184, 0, 145, 153, 0, 12, 42, 180, 0, 7, 27, 46, 167, 0, 4, 2, 172]
abbrev dktX1_findings_0 : List UInt8 := dkwX1_findings_0 ++ []
theorem dksX1_findings_0 : cX1_findings.data.toList.drop 0 = dktX1_findings_0 := by decide +kernel
theorem dX1_findings_0 : decode cX1_findings 0 = .ok (.iload_n 1, 1) := dk_27 (dk_at dksX1_findings_0 0 rfl rfl)
theorem dX1_findings_1 : decode cX1_findings 1 = .ok (.iconst 1, 1) := dk_4 (dk_at dksX1_findings_0 1 rfl rfl)
theorem dX1_findings_2 : decode cX1_findings 2 = .ok (.iconst 5, 1) := dk_8 (dk_at dksX1_findings_0 2 rfl rfl)
theorem dX1_findings_3 : decode cX1_findings 3 = .ok (.invokestatic 145, 3) := dk_184 0 145 (dk_at dksX1_findings_0 3 rfl rfl)
theorem dX1_findings_6 : decode cX1_findings 6 = .ok (.ifCond .eq 12, 3) := dk_153 0 12 (dk_at dksX1_findings_0 6 rfl rfl)
theorem dX1_findings_9 : decode cX1_findings 9 = .ok (.aload_n 0, 1) := dk_42 (dk_at dksX1_findings_0 9 rfl rfl)
theorem dX1_findings_10 : decode cX1_findings 10 = .ok (.getfield 7, 3) := dk_180 0 7 (dk_at dksX1_findings_0 10 rfl rfl)
theorem dX1_findings_13 : decode cX1_findings 13 = .ok (.iload_n 1, 1) := dk_27 (dk_at dksX1_findings_0 13 rfl rfl)
theorem dX1_findings_14 : decode cX1_findings 14 = .ok (.iaload, 1) := dk_46 (dk_at dksX1_findings_0 14 rfl rfl)
theorem dX1_findings_15 : decode cX1_findings 15 = .ok (.goto 4, 3) := dk_167 0 4 (dk_at dksX1_findings_0 15 rfl rfl)
theorem dX1_findings_18 : decode cX1_findings 18 = .ok (.iconst (-1), 1) := dk_2 (dk_at dksX1_findings_0 18 rfl rfl)
theorem dX1_findings_19 : decode cX1_findings 19 = .ok (.ireturn, 1) := dk_172 (dk_at dksX1_findings_0 19 rfl rfl)
abbrev cX1_digest : ByteArray := prog_9_method_104_code
def yX1_digest : MethodName := ⟨RX1, "digest", "()J"⟩
def dkwX1_digest_16 : List UInt8 := [167, 255, 222, 132, 3, 1, 167, 255, 180, 31, 173]
abbrev dktX1_digest_16 : List UInt8 := dkwX1_digest_16 ++ []
def dkwX1_digest_15 : List UInt8 := [20, 1, 90, 31, 105, 42, 180, 0, 20, 16, 48, 29, 104, 21, 4, 96, 46, 133, 97, 64, 132, 4, 1]
abbrev dktX1_digest_15 : List UInt8 := dkwX1_digest_15 ++ dktX1_digest_16
def dkwX1_digest_14 : List UInt8 := [42, 180, 0, 17, 29, 46, 133, 97, 64, 3, 54, 4, 21, 4, 42, 180, 0, 17, 29, 46, 162, 0, 29]
abbrev dktX1_digest_14 : List UInt8 := dkwX1_digest_14 ++ dktX1_digest_15
def dkwX1_digest_13 : List UInt8 := [29, 16, 8, 162, 0, 76, 20, 1, 90, 31, 105, 42, 180, 0, 17, 29, 46, 156, 0, 7, 2, 167, 0, 9]
abbrev dktX1_digest_13 : List UInt8 := dkwX1_digest_13 ++ dktX1_digest_14
def dkwX1_digest_12 : List UInt8 := [96, 7, 100, 21, 4, 96, 46, 133, 97, 64, 132, 4, 1, 167, 255, 202, 132, 3, 1, 167, 255, 123, 3, 62]
abbrev dktX1_digest_12 : List UInt8 := dkwX1_digest_12 ++ dktX1_digest_13
def dkwX1_digest_11 : List UInt8 := [154, 0, 7, 3, 167, 0, 27, 42, 180, 0, 108, 17, 0, 240, 29, 104, 7, 42, 180, 0, 105, 29, 46, 104]
abbrev dktX1_digest_11 : List UInt8 := dkwX1_digest_11 ++ dktX1_digest_12
def dkwX1_digest_10 : List UInt8 := [46, 133, 97, 64, 3, 54, 4, 21, 4, 7, 162, 0, 54, 20, 1, 90, 31, 105, 42, 180, 0, 105, 29, 46]
abbrev dktX1_digest_10 : List UInt8 := dkwX1_digest_10 ++ dktX1_digest_11
def dkwX1_digest_9 : List UInt8 := [21, 4, 182, 0, 253, 133, 97, 64, 132, 4, 1, 167, 255, 231, 20, 1, 90, 31, 105, 42, 180, 0, 105, 29]
abbrev dktX1_digest_9 : List UInt8 := dkwX1_digest_9 ++ dktX1_digest_10
def dkwX1_digest_8 : List UInt8 := [10, 101, 64, 167, 0, 108, 3, 54, 4, 21, 4, 16, 8, 163, 0, 24, 20, 1, 90, 31, 105, 42, 29]
abbrev dktX1_digest_8 : List UInt8 := dkwX1_digest_8 ++ dktX1_digest_9
def dkwX1_digest_7 : List UInt8 := [167, 255, 106, 3, 62, 29, 7, 162, 0, 134, 42, 180, 0, 72, 29, 51, 154, 0, 14, 20, 1, 90, 31, 105]
abbrev dktX1_digest_7 : List UInt8 := dkwX1_digest_7 ++ dktX1_digest_8
def dkwX1_digest_6 : List UInt8 := [160, 0, 19, 20, 1, 90, 31, 105, 42, 180, 0, 44, 29, 46, 133, 97, 167, 0, 4, 31, 64, 132, 3, 1]
abbrev dktX1_digest_6 : List UInt8 := dkwX1_digest_6 ++ dktX1_digest_7
def dkwX1_digest_5 : List UInt8 := [29, 104, 21, 4, 96, 46, 133, 97, 64, 132, 4, 1, 167, 255, 222, 42, 180, 0, 26, 29, 46, 6]
abbrev dktX1_digest_5 : List UInt8 := dkwX1_digest_5 ++ dktX1_digest_6
def dkwX1_digest_4 : List UInt8 := [54, 4, 21, 4, 42, 180, 0, 38, 29, 46, 162, 0, 29, 20, 1, 90, 31, 105, 42, 180, 0, 41, 16, 48]
abbrev dktX1_digest_4 : List UInt8 := dkwX1_digest_4 ++ dktX1_digest_5
def dkwX1_digest_3 : List UInt8 := [105, 42, 180, 0, 32, 16, 24, 29, 104, 21, 4, 96, 46, 133, 97, 64, 132, 4, 1, 167, 255, 222, 3]
abbrev dktX1_digest_3 : List UInt8 := dkwX1_digest_3 ++ dktX1_digest_4
def dkwX1_digest_2 : List UInt8 := [132, 4, 1, 167, 255, 231, 3, 54, 4, 21, 4, 42, 180, 0, 29, 29, 46, 162, 0, 29, 20, 1, 90, 31]
abbrev dktX1_digest_2 : List UInt8 := dkwX1_digest_2 ++ dktX1_digest_3
def dkwX1_digest_1 : List UInt8 := [21, 4, 16, 7, 163, 0, 24, 20, 1, 90, 31, 105, 42, 29, 21, 4, 182, 0, 183, 133, 97, 64]
abbrev dktX1_digest_1 : List UInt8 := dkwX1_digest_1 ++ dktX1_digest_2
def dkwX1_digest_0 : List UInt8 := [20, 1, 88, 42, 180, 0, 238, 133, 97, 64, 3, 62, 29, 42, 180, 0, 160, 162, 0, 148, 3, 54, 4]
abbrev dktX1_digest_0 : List UInt8 := dkwX1_digest_0 ++ dktX1_digest_1
theorem dksX1_digest_0 : cX1_digest.data.toList.drop 0 = dktX1_digest_0 := by decide +kernel
theorem dksX1_digest_1 : cX1_digest.data.toList.drop 23 = dktX1_digest_1 := dk_seg dksX1_digest_0 23 rfl rfl
theorem dksX1_digest_2 : cX1_digest.data.toList.drop 45 = dktX1_digest_2 := dk_seg dksX1_digest_1 22 rfl rfl
theorem dksX1_digest_3 : cX1_digest.data.toList.drop 69 = dktX1_digest_3 := dk_seg dksX1_digest_2 24 rfl rfl
theorem dksX1_digest_4 : cX1_digest.data.toList.drop 92 = dktX1_digest_4 := dk_seg dksX1_digest_3 23 rfl rfl
theorem dksX1_digest_5 : cX1_digest.data.toList.drop 116 = dktX1_digest_5 := dk_seg dksX1_digest_4 24 rfl rfl
theorem dksX1_digest_6 : cX1_digest.data.toList.drop 138 = dktX1_digest_6 := dk_seg dksX1_digest_5 22 rfl rfl
theorem dksX1_digest_7 : cX1_digest.data.toList.drop 162 = dktX1_digest_7 := dk_seg dksX1_digest_6 24 rfl rfl
theorem dksX1_digest_8 : cX1_digest.data.toList.drop 186 = dktX1_digest_8 := dk_seg dksX1_digest_7 24 rfl rfl
theorem dksX1_digest_9 : cX1_digest.data.toList.drop 209 = dktX1_digest_9 := dk_seg dksX1_digest_8 23 rfl rfl
theorem dksX1_digest_10 : cX1_digest.data.toList.drop 233 = dktX1_digest_10 := dk_seg dksX1_digest_9 24 rfl rfl
theorem dksX1_digest_11 : cX1_digest.data.toList.drop 257 = dktX1_digest_11 := dk_seg dksX1_digest_10 24 rfl rfl
theorem dksX1_digest_12 : cX1_digest.data.toList.drop 281 = dktX1_digest_12 := dk_seg dksX1_digest_11 24 rfl rfl
theorem dksX1_digest_13 : cX1_digest.data.toList.drop 305 = dktX1_digest_13 := dk_seg dksX1_digest_12 24 rfl rfl
theorem dksX1_digest_14 : cX1_digest.data.toList.drop 329 = dktX1_digest_14 := dk_seg dksX1_digest_13 24 rfl rfl
theorem dksX1_digest_15 : cX1_digest.data.toList.drop 352 = dktX1_digest_15 := dk_seg dksX1_digest_14 23 rfl rfl
theorem dksX1_digest_16 : cX1_digest.data.toList.drop 375 = dktX1_digest_16 := dk_seg dksX1_digest_15 23 rfl rfl
theorem dX1_digest_0 : decode cX1_digest 0 = .ok (.ldc2_w 344, 3) := dk_20 1 88 (dk_at dksX1_digest_0 0 rfl rfl)
theorem dX1_digest_3 : decode cX1_digest 3 = .ok (.aload_n 0, 1) := dk_42 (dk_at dksX1_digest_0 3 rfl rfl)
theorem dX1_digest_4 : decode cX1_digest 4 = .ok (.getfield 238, 3) := dk_180 0 238 (dk_at dksX1_digest_0 4 rfl rfl)
theorem dX1_digest_7 : decode cX1_digest 7 = .ok (.i2l, 1) := dk_133 (dk_at dksX1_digest_0 7 rfl rfl)
theorem dX1_digest_8 : decode cX1_digest 8 = .ok (.ladd, 1) := dk_97 (dk_at dksX1_digest_0 8 rfl rfl)
theorem dX1_digest_9 : decode cX1_digest 9 = .ok (.lstore_n 1, 1) := dk_64 (dk_at dksX1_digest_0 9 rfl rfl)
theorem dX1_digest_10 : decode cX1_digest 10 = .ok (.iconst 0, 1) := dk_3 (dk_at dksX1_digest_0 10 rfl rfl)
theorem dX1_digest_11 : decode cX1_digest 11 = .ok (.istore_n 3, 1) := dk_62 (dk_at dksX1_digest_0 11 rfl rfl)
theorem dX1_digest_12 : decode cX1_digest 12 = .ok (.iload_n 3, 1) := dk_29 (dk_at dksX1_digest_0 12 rfl rfl)
theorem dX1_digest_13 : decode cX1_digest 13 = .ok (.aload_n 0, 1) := dk_42 (dk_at dksX1_digest_0 13 rfl rfl)
theorem dX1_digest_14 : decode cX1_digest 14 = .ok (.getfield 160, 3) := dk_180 0 160 (dk_at dksX1_digest_0 14 rfl rfl)
theorem dX1_digest_17 : decode cX1_digest 17 = .ok (.if_icmp .ge 148, 3) := dk_162 0 148 (dk_at dksX1_digest_0 17 rfl rfl)
theorem dX1_digest_20 : decode cX1_digest 20 = .ok (.iconst 0, 1) := dk_3 (dk_at dksX1_digest_0 20 rfl rfl)
theorem dX1_digest_21 : decode cX1_digest 21 = .ok (.istore 4, 2) := dk_54 4 (dk_at dksX1_digest_0 21 rfl rfl)
theorem dX1_digest_23 : decode cX1_digest 23 = .ok (.iload 4, 2) := dk_21 4 (dk_at dksX1_digest_1 0 rfl rfl)
theorem dX1_digest_25 : decode cX1_digest 25 = .ok (.bipush 7, 2) := dk_16 7 (dk_at dksX1_digest_1 2 rfl rfl)
theorem dX1_digest_27 : decode cX1_digest 27 = .ok (.if_icmp .gt 24, 3) := dk_163 0 24 (dk_at dksX1_digest_1 4 rfl rfl)
theorem dX1_digest_30 : decode cX1_digest 30 = .ok (.ldc2_w 346, 3) := dk_20 1 90 (dk_at dksX1_digest_1 7 rfl rfl)
theorem dX1_digest_33 : decode cX1_digest 33 = .ok (.lload_n 1, 1) := dk_31 (dk_at dksX1_digest_1 10 rfl rfl)
theorem dX1_digest_34 : decode cX1_digest 34 = .ok (.lmul, 1) := dk_105 (dk_at dksX1_digest_1 11 rfl rfl)
theorem dX1_digest_35 : decode cX1_digest 35 = .ok (.aload_n 0, 1) := dk_42 (dk_at dksX1_digest_1 12 rfl rfl)
theorem dX1_digest_36 : decode cX1_digest 36 = .ok (.iload_n 3, 1) := dk_29 (dk_at dksX1_digest_1 13 rfl rfl)
theorem dX1_digest_37 : decode cX1_digest 37 = .ok (.iload 4, 2) := dk_21 4 (dk_at dksX1_digest_1 14 rfl rfl)
theorem dX1_digest_39 : decode cX1_digest 39 = .ok (.invokevirtual 183, 3) := dk_182 0 183 (dk_at dksX1_digest_1 16 rfl rfl)
theorem dX1_digest_42 : decode cX1_digest 42 = .ok (.i2l, 1) := dk_133 (dk_at dksX1_digest_1 19 rfl rfl)
theorem dX1_digest_43 : decode cX1_digest 43 = .ok (.ladd, 1) := dk_97 (dk_at dksX1_digest_1 20 rfl rfl)
theorem dX1_digest_44 : decode cX1_digest 44 = .ok (.lstore_n 1, 1) := dk_64 (dk_at dksX1_digest_1 21 rfl rfl)
theorem dX1_digest_45 : decode cX1_digest 45 = .ok (.iinc 4 1, 3) := dk_132 4 1 (dk_at dksX1_digest_2 0 rfl rfl)
theorem dX1_digest_48 : decode cX1_digest 48 = .ok (.goto (-25), 3) := dk_167 255 231 (dk_at dksX1_digest_2 3 rfl rfl)
theorem dX1_digest_51 : decode cX1_digest 51 = .ok (.iconst 0, 1) := dk_3 (dk_at dksX1_digest_2 6 rfl rfl)
theorem dX1_digest_52 : decode cX1_digest 52 = .ok (.istore 4, 2) := dk_54 4 (dk_at dksX1_digest_2 7 rfl rfl)
theorem dX1_digest_54 : decode cX1_digest 54 = .ok (.iload 4, 2) := dk_21 4 (dk_at dksX1_digest_2 9 rfl rfl)
theorem dX1_digest_56 : decode cX1_digest 56 = .ok (.aload_n 0, 1) := dk_42 (dk_at dksX1_digest_2 11 rfl rfl)
theorem dX1_digest_57 : decode cX1_digest 57 = .ok (.getfield 29, 3) := dk_180 0 29 (dk_at dksX1_digest_2 12 rfl rfl)
theorem dX1_digest_60 : decode cX1_digest 60 = .ok (.iload_n 3, 1) := dk_29 (dk_at dksX1_digest_2 15 rfl rfl)
theorem dX1_digest_61 : decode cX1_digest 61 = .ok (.iaload, 1) := dk_46 (dk_at dksX1_digest_2 16 rfl rfl)
theorem dX1_digest_62 : decode cX1_digest 62 = .ok (.if_icmp .ge 29, 3) := dk_162 0 29 (dk_at dksX1_digest_2 17 rfl rfl)
theorem dX1_digest_65 : decode cX1_digest 65 = .ok (.ldc2_w 346, 3) := dk_20 1 90 (dk_at dksX1_digest_2 20 rfl rfl)
theorem dX1_digest_68 : decode cX1_digest 68 = .ok (.lload_n 1, 1) := dk_31 (dk_at dksX1_digest_2 23 rfl rfl)
theorem dX1_digest_69 : decode cX1_digest 69 = .ok (.lmul, 1) := dk_105 (dk_at dksX1_digest_3 0 rfl rfl)
theorem dX1_digest_70 : decode cX1_digest 70 = .ok (.aload_n 0, 1) := dk_42 (dk_at dksX1_digest_3 1 rfl rfl)
theorem dX1_digest_71 : decode cX1_digest 71 = .ok (.getfield 32, 3) := dk_180 0 32 (dk_at dksX1_digest_3 2 rfl rfl)
theorem dX1_digest_74 : decode cX1_digest 74 = .ok (.bipush 24, 2) := dk_16 24 (dk_at dksX1_digest_3 5 rfl rfl)
theorem dX1_digest_76 : decode cX1_digest 76 = .ok (.iload_n 3, 1) := dk_29 (dk_at dksX1_digest_3 7 rfl rfl)
theorem dX1_digest_77 : decode cX1_digest 77 = .ok (.imul, 1) := dk_104 (dk_at dksX1_digest_3 8 rfl rfl)
theorem dX1_digest_78 : decode cX1_digest 78 = .ok (.iload 4, 2) := dk_21 4 (dk_at dksX1_digest_3 9 rfl rfl)
theorem dX1_digest_80 : decode cX1_digest 80 = .ok (.iadd, 1) := dk_96 (dk_at dksX1_digest_3 11 rfl rfl)
theorem dX1_digest_81 : decode cX1_digest 81 = .ok (.iaload, 1) := dk_46 (dk_at dksX1_digest_3 12 rfl rfl)
theorem dX1_digest_82 : decode cX1_digest 82 = .ok (.i2l, 1) := dk_133 (dk_at dksX1_digest_3 13 rfl rfl)
theorem dX1_digest_83 : decode cX1_digest 83 = .ok (.ladd, 1) := dk_97 (dk_at dksX1_digest_3 14 rfl rfl)
theorem dX1_digest_84 : decode cX1_digest 84 = .ok (.lstore_n 1, 1) := dk_64 (dk_at dksX1_digest_3 15 rfl rfl)
theorem dX1_digest_85 : decode cX1_digest 85 = .ok (.iinc 4 1, 3) := dk_132 4 1 (dk_at dksX1_digest_3 16 rfl rfl)
theorem dX1_digest_88 : decode cX1_digest 88 = .ok (.goto (-34), 3) := dk_167 255 222 (dk_at dksX1_digest_3 19 rfl rfl)
theorem dX1_digest_91 : decode cX1_digest 91 = .ok (.iconst 0, 1) := dk_3 (dk_at dksX1_digest_3 22 rfl rfl)
theorem dX1_digest_92 : decode cX1_digest 92 = .ok (.istore 4, 2) := dk_54 4 (dk_at dksX1_digest_4 0 rfl rfl)
theorem dX1_digest_94 : decode cX1_digest 94 = .ok (.iload 4, 2) := dk_21 4 (dk_at dksX1_digest_4 2 rfl rfl)
theorem dX1_digest_96 : decode cX1_digest 96 = .ok (.aload_n 0, 1) := dk_42 (dk_at dksX1_digest_4 4 rfl rfl)
theorem dX1_digest_97 : decode cX1_digest 97 = .ok (.getfield 38, 3) := dk_180 0 38 (dk_at dksX1_digest_4 5 rfl rfl)
theorem dX1_digest_100 : decode cX1_digest 100 = .ok (.iload_n 3, 1) := dk_29 (dk_at dksX1_digest_4 8 rfl rfl)
theorem dX1_digest_101 : decode cX1_digest 101 = .ok (.iaload, 1) := dk_46 (dk_at dksX1_digest_4 9 rfl rfl)
theorem dX1_digest_102 : decode cX1_digest 102 = .ok (.if_icmp .ge 29, 3) := dk_162 0 29 (dk_at dksX1_digest_4 10 rfl rfl)
theorem dX1_digest_105 : decode cX1_digest 105 = .ok (.ldc2_w 346, 3) := dk_20 1 90 (dk_at dksX1_digest_4 13 rfl rfl)
theorem dX1_digest_108 : decode cX1_digest 108 = .ok (.lload_n 1, 1) := dk_31 (dk_at dksX1_digest_4 16 rfl rfl)
theorem dX1_digest_109 : decode cX1_digest 109 = .ok (.lmul, 1) := dk_105 (dk_at dksX1_digest_4 17 rfl rfl)
theorem dX1_digest_110 : decode cX1_digest 110 = .ok (.aload_n 0, 1) := dk_42 (dk_at dksX1_digest_4 18 rfl rfl)
theorem dX1_digest_111 : decode cX1_digest 111 = .ok (.getfield 41, 3) := dk_180 0 41 (dk_at dksX1_digest_4 19 rfl rfl)
theorem dX1_digest_114 : decode cX1_digest 114 = .ok (.bipush 48, 2) := dk_16 48 (dk_at dksX1_digest_4 22 rfl rfl)
theorem dX1_digest_116 : decode cX1_digest 116 = .ok (.iload_n 3, 1) := dk_29 (dk_at dksX1_digest_5 0 rfl rfl)
theorem dX1_digest_117 : decode cX1_digest 117 = .ok (.imul, 1) := dk_104 (dk_at dksX1_digest_5 1 rfl rfl)
theorem dX1_digest_118 : decode cX1_digest 118 = .ok (.iload 4, 2) := dk_21 4 (dk_at dksX1_digest_5 2 rfl rfl)
theorem dX1_digest_120 : decode cX1_digest 120 = .ok (.iadd, 1) := dk_96 (dk_at dksX1_digest_5 4 rfl rfl)
theorem dX1_digest_121 : decode cX1_digest 121 = .ok (.iaload, 1) := dk_46 (dk_at dksX1_digest_5 5 rfl rfl)
theorem dX1_digest_122 : decode cX1_digest 122 = .ok (.i2l, 1) := dk_133 (dk_at dksX1_digest_5 6 rfl rfl)
theorem dX1_digest_123 : decode cX1_digest 123 = .ok (.ladd, 1) := dk_97 (dk_at dksX1_digest_5 7 rfl rfl)
theorem dX1_digest_124 : decode cX1_digest 124 = .ok (.lstore_n 1, 1) := dk_64 (dk_at dksX1_digest_5 8 rfl rfl)
theorem dX1_digest_125 : decode cX1_digest 125 = .ok (.iinc 4 1, 3) := dk_132 4 1 (dk_at dksX1_digest_5 9 rfl rfl)
theorem dX1_digest_128 : decode cX1_digest 128 = .ok (.goto (-34), 3) := dk_167 255 222 (dk_at dksX1_digest_5 12 rfl rfl)
theorem dX1_digest_131 : decode cX1_digest 131 = .ok (.aload_n 0, 1) := dk_42 (dk_at dksX1_digest_5 15 rfl rfl)
theorem dX1_digest_132 : decode cX1_digest 132 = .ok (.getfield 26, 3) := dk_180 0 26 (dk_at dksX1_digest_5 16 rfl rfl)
theorem dX1_digest_135 : decode cX1_digest 135 = .ok (.iload_n 3, 1) := dk_29 (dk_at dksX1_digest_5 19 rfl rfl)
theorem dX1_digest_136 : decode cX1_digest 136 = .ok (.iaload, 1) := dk_46 (dk_at dksX1_digest_5 20 rfl rfl)
theorem dX1_digest_137 : decode cX1_digest 137 = .ok (.iconst 3, 1) := dk_6 (dk_at dksX1_digest_5 21 rfl rfl)
theorem dX1_digest_138 : decode cX1_digest 138 = .ok (.if_icmp .ne 19, 3) := dk_160 0 19 (dk_at dksX1_digest_6 0 rfl rfl)
theorem dX1_digest_141 : decode cX1_digest 141 = .ok (.ldc2_w 346, 3) := dk_20 1 90 (dk_at dksX1_digest_6 3 rfl rfl)
theorem dX1_digest_144 : decode cX1_digest 144 = .ok (.lload_n 1, 1) := dk_31 (dk_at dksX1_digest_6 6 rfl rfl)
theorem dX1_digest_145 : decode cX1_digest 145 = .ok (.lmul, 1) := dk_105 (dk_at dksX1_digest_6 7 rfl rfl)
theorem dX1_digest_146 : decode cX1_digest 146 = .ok (.aload_n 0, 1) := dk_42 (dk_at dksX1_digest_6 8 rfl rfl)
theorem dX1_digest_147 : decode cX1_digest 147 = .ok (.getfield 44, 3) := dk_180 0 44 (dk_at dksX1_digest_6 9 rfl rfl)
theorem dX1_digest_150 : decode cX1_digest 150 = .ok (.iload_n 3, 1) := dk_29 (dk_at dksX1_digest_6 12 rfl rfl)
theorem dX1_digest_151 : decode cX1_digest 151 = .ok (.iaload, 1) := dk_46 (dk_at dksX1_digest_6 13 rfl rfl)
theorem dX1_digest_152 : decode cX1_digest 152 = .ok (.i2l, 1) := dk_133 (dk_at dksX1_digest_6 14 rfl rfl)
theorem dX1_digest_153 : decode cX1_digest 153 = .ok (.ladd, 1) := dk_97 (dk_at dksX1_digest_6 15 rfl rfl)
theorem dX1_digest_154 : decode cX1_digest 154 = .ok (.goto 4, 3) := dk_167 0 4 (dk_at dksX1_digest_6 16 rfl rfl)
theorem dX1_digest_157 : decode cX1_digest 157 = .ok (.lload_n 1, 1) := dk_31 (dk_at dksX1_digest_6 19 rfl rfl)
theorem dX1_digest_158 : decode cX1_digest 158 = .ok (.lstore_n 1, 1) := dk_64 (dk_at dksX1_digest_6 20 rfl rfl)
theorem dX1_digest_159 : decode cX1_digest 159 = .ok (.iinc 3 1, 3) := dk_132 3 1 (dk_at dksX1_digest_6 21 rfl rfl)
theorem dX1_digest_162 : decode cX1_digest 162 = .ok (.goto (-150), 3) := dk_167 255 106 (dk_at dksX1_digest_7 0 rfl rfl)
theorem dX1_digest_165 : decode cX1_digest 165 = .ok (.iconst 0, 1) := dk_3 (dk_at dksX1_digest_7 3 rfl rfl)
theorem dX1_digest_166 : decode cX1_digest 166 = .ok (.istore_n 3, 1) := dk_62 (dk_at dksX1_digest_7 4 rfl rfl)
theorem dX1_digest_167 : decode cX1_digest 167 = .ok (.iload_n 3, 1) := dk_29 (dk_at dksX1_digest_7 5 rfl rfl)
theorem dX1_digest_168 : decode cX1_digest 168 = .ok (.iconst 4, 1) := dk_7 (dk_at dksX1_digest_7 6 rfl rfl)
theorem dX1_digest_169 : decode cX1_digest 169 = .ok (.if_icmp .ge 134, 3) := dk_162 0 134 (dk_at dksX1_digest_7 7 rfl rfl)
theorem dX1_digest_172 : decode cX1_digest 172 = .ok (.aload_n 0, 1) := dk_42 (dk_at dksX1_digest_7 10 rfl rfl)
theorem dX1_digest_173 : decode cX1_digest 173 = .ok (.getfield 72, 3) := dk_180 0 72 (dk_at dksX1_digest_7 11 rfl rfl)
theorem dX1_digest_176 : decode cX1_digest 176 = .ok (.iload_n 3, 1) := dk_29 (dk_at dksX1_digest_7 14 rfl rfl)
theorem dX1_digest_177 : decode cX1_digest 177 = .ok (.baload, 1) := dk_51 (dk_at dksX1_digest_7 15 rfl rfl)
theorem dX1_digest_178 : decode cX1_digest 178 = .ok (.ifCond .ne 14, 3) := dk_154 0 14 (dk_at dksX1_digest_7 16 rfl rfl)
theorem dX1_digest_181 : decode cX1_digest 181 = .ok (.ldc2_w 346, 3) := dk_20 1 90 (dk_at dksX1_digest_7 19 rfl rfl)
theorem dX1_digest_184 : decode cX1_digest 184 = .ok (.lload_n 1, 1) := dk_31 (dk_at dksX1_digest_7 22 rfl rfl)
theorem dX1_digest_185 : decode cX1_digest 185 = .ok (.lmul, 1) := dk_105 (dk_at dksX1_digest_7 23 rfl rfl)
theorem dX1_digest_186 : decode cX1_digest 186 = .ok (.lconst 1, 1) := dk_10 (dk_at dksX1_digest_8 0 rfl rfl)
theorem dX1_digest_187 : decode cX1_digest 187 = .ok (.lsub, 1) := dk_101 (dk_at dksX1_digest_8 1 rfl rfl)
theorem dX1_digest_188 : decode cX1_digest 188 = .ok (.lstore_n 1, 1) := dk_64 (dk_at dksX1_digest_8 2 rfl rfl)
theorem dX1_digest_189 : decode cX1_digest 189 = .ok (.goto 108, 3) := dk_167 0 108 (dk_at dksX1_digest_8 3 rfl rfl)
theorem dX1_digest_192 : decode cX1_digest 192 = .ok (.iconst 0, 1) := dk_3 (dk_at dksX1_digest_8 6 rfl rfl)
theorem dX1_digest_193 : decode cX1_digest 193 = .ok (.istore 4, 2) := dk_54 4 (dk_at dksX1_digest_8 7 rfl rfl)
theorem dX1_digest_195 : decode cX1_digest 195 = .ok (.iload 4, 2) := dk_21 4 (dk_at dksX1_digest_8 9 rfl rfl)
theorem dX1_digest_197 : decode cX1_digest 197 = .ok (.bipush 8, 2) := dk_16 8 (dk_at dksX1_digest_8 11 rfl rfl)
theorem dX1_digest_199 : decode cX1_digest 199 = .ok (.if_icmp .gt 24, 3) := dk_163 0 24 (dk_at dksX1_digest_8 13 rfl rfl)
theorem dX1_digest_202 : decode cX1_digest 202 = .ok (.ldc2_w 346, 3) := dk_20 1 90 (dk_at dksX1_digest_8 16 rfl rfl)
theorem dX1_digest_205 : decode cX1_digest 205 = .ok (.lload_n 1, 1) := dk_31 (dk_at dksX1_digest_8 19 rfl rfl)
theorem dX1_digest_206 : decode cX1_digest 206 = .ok (.lmul, 1) := dk_105 (dk_at dksX1_digest_8 20 rfl rfl)
theorem dX1_digest_207 : decode cX1_digest 207 = .ok (.aload_n 0, 1) := dk_42 (dk_at dksX1_digest_8 21 rfl rfl)
theorem dX1_digest_208 : decode cX1_digest 208 = .ok (.iload_n 3, 1) := dk_29 (dk_at dksX1_digest_8 22 rfl rfl)
theorem dX1_digest_209 : decode cX1_digest 209 = .ok (.iload 4, 2) := dk_21 4 (dk_at dksX1_digest_9 0 rfl rfl)
theorem dX1_digest_211 : decode cX1_digest 211 = .ok (.invokevirtual 253, 3) := dk_182 0 253 (dk_at dksX1_digest_9 2 rfl rfl)
theorem dX1_digest_214 : decode cX1_digest 214 = .ok (.i2l, 1) := dk_133 (dk_at dksX1_digest_9 5 rfl rfl)
theorem dX1_digest_215 : decode cX1_digest 215 = .ok (.ladd, 1) := dk_97 (dk_at dksX1_digest_9 6 rfl rfl)
theorem dX1_digest_216 : decode cX1_digest 216 = .ok (.lstore_n 1, 1) := dk_64 (dk_at dksX1_digest_9 7 rfl rfl)
theorem dX1_digest_217 : decode cX1_digest 217 = .ok (.iinc 4 1, 3) := dk_132 4 1 (dk_at dksX1_digest_9 8 rfl rfl)
theorem dX1_digest_220 : decode cX1_digest 220 = .ok (.goto (-25), 3) := dk_167 255 231 (dk_at dksX1_digest_9 11 rfl rfl)
theorem dX1_digest_223 : decode cX1_digest 223 = .ok (.ldc2_w 346, 3) := dk_20 1 90 (dk_at dksX1_digest_9 14 rfl rfl)
theorem dX1_digest_226 : decode cX1_digest 226 = .ok (.lload_n 1, 1) := dk_31 (dk_at dksX1_digest_9 17 rfl rfl)
theorem dX1_digest_227 : decode cX1_digest 227 = .ok (.lmul, 1) := dk_105 (dk_at dksX1_digest_9 18 rfl rfl)
theorem dX1_digest_228 : decode cX1_digest 228 = .ok (.aload_n 0, 1) := dk_42 (dk_at dksX1_digest_9 19 rfl rfl)
theorem dX1_digest_229 : decode cX1_digest 229 = .ok (.getfield 105, 3) := dk_180 0 105 (dk_at dksX1_digest_9 20 rfl rfl)
theorem dX1_digest_232 : decode cX1_digest 232 = .ok (.iload_n 3, 1) := dk_29 (dk_at dksX1_digest_9 23 rfl rfl)
theorem dX1_digest_233 : decode cX1_digest 233 = .ok (.iaload, 1) := dk_46 (dk_at dksX1_digest_10 0 rfl rfl)
theorem dX1_digest_234 : decode cX1_digest 234 = .ok (.i2l, 1) := dk_133 (dk_at dksX1_digest_10 1 rfl rfl)
theorem dX1_digest_235 : decode cX1_digest 235 = .ok (.ladd, 1) := dk_97 (dk_at dksX1_digest_10 2 rfl rfl)
theorem dX1_digest_236 : decode cX1_digest 236 = .ok (.lstore_n 1, 1) := dk_64 (dk_at dksX1_digest_10 3 rfl rfl)
theorem dX1_digest_237 : decode cX1_digest 237 = .ok (.iconst 0, 1) := dk_3 (dk_at dksX1_digest_10 4 rfl rfl)
theorem dX1_digest_238 : decode cX1_digest 238 = .ok (.istore 4, 2) := dk_54 4 (dk_at dksX1_digest_10 5 rfl rfl)
theorem dX1_digest_240 : decode cX1_digest 240 = .ok (.iload 4, 2) := dk_21 4 (dk_at dksX1_digest_10 7 rfl rfl)
theorem dX1_digest_242 : decode cX1_digest 242 = .ok (.iconst 4, 1) := dk_7 (dk_at dksX1_digest_10 9 rfl rfl)
theorem dX1_digest_243 : decode cX1_digest 243 = .ok (.if_icmp .ge 54, 3) := dk_162 0 54 (dk_at dksX1_digest_10 10 rfl rfl)
theorem dX1_digest_246 : decode cX1_digest 246 = .ok (.ldc2_w 346, 3) := dk_20 1 90 (dk_at dksX1_digest_10 13 rfl rfl)
theorem dX1_digest_249 : decode cX1_digest 249 = .ok (.lload_n 1, 1) := dk_31 (dk_at dksX1_digest_10 16 rfl rfl)
theorem dX1_digest_250 : decode cX1_digest 250 = .ok (.lmul, 1) := dk_105 (dk_at dksX1_digest_10 17 rfl rfl)
theorem dX1_digest_251 : decode cX1_digest 251 = .ok (.aload_n 0, 1) := dk_42 (dk_at dksX1_digest_10 18 rfl rfl)
theorem dX1_digest_252 : decode cX1_digest 252 = .ok (.getfield 105, 3) := dk_180 0 105 (dk_at dksX1_digest_10 19 rfl rfl)
theorem dX1_digest_255 : decode cX1_digest 255 = .ok (.iload_n 3, 1) := dk_29 (dk_at dksX1_digest_10 22 rfl rfl)
theorem dX1_digest_256 : decode cX1_digest 256 = .ok (.iaload, 1) := dk_46 (dk_at dksX1_digest_10 23 rfl rfl)
theorem dX1_digest_257 : decode cX1_digest 257 = .ok (.ifCond .ne 7, 3) := dk_154 0 7 (dk_at dksX1_digest_11 0 rfl rfl)
theorem dX1_digest_260 : decode cX1_digest 260 = .ok (.iconst 0, 1) := dk_3 (dk_at dksX1_digest_11 3 rfl rfl)
theorem dX1_digest_261 : decode cX1_digest 261 = .ok (.goto 27, 3) := dk_167 0 27 (dk_at dksX1_digest_11 4 rfl rfl)
theorem dX1_digest_264 : decode cX1_digest 264 = .ok (.aload_n 0, 1) := dk_42 (dk_at dksX1_digest_11 7 rfl rfl)
theorem dX1_digest_265 : decode cX1_digest 265 = .ok (.getfield 108, 3) := dk_180 0 108 (dk_at dksX1_digest_11 8 rfl rfl)
theorem dX1_digest_268 : decode cX1_digest 268 = .ok (.sipush 240, 3) := dk_17 0 240 (dk_at dksX1_digest_11 11 rfl rfl)
theorem dX1_digest_271 : decode cX1_digest 271 = .ok (.iload_n 3, 1) := dk_29 (dk_at dksX1_digest_11 14 rfl rfl)
theorem dX1_digest_272 : decode cX1_digest 272 = .ok (.imul, 1) := dk_104 (dk_at dksX1_digest_11 15 rfl rfl)
theorem dX1_digest_273 : decode cX1_digest 273 = .ok (.iconst 4, 1) := dk_7 (dk_at dksX1_digest_11 16 rfl rfl)
theorem dX1_digest_274 : decode cX1_digest 274 = .ok (.aload_n 0, 1) := dk_42 (dk_at dksX1_digest_11 17 rfl rfl)
theorem dX1_digest_275 : decode cX1_digest 275 = .ok (.getfield 105, 3) := dk_180 0 105 (dk_at dksX1_digest_11 18 rfl rfl)
theorem dX1_digest_278 : decode cX1_digest 278 = .ok (.iload_n 3, 1) := dk_29 (dk_at dksX1_digest_11 21 rfl rfl)
theorem dX1_digest_279 : decode cX1_digest 279 = .ok (.iaload, 1) := dk_46 (dk_at dksX1_digest_11 22 rfl rfl)
theorem dX1_digest_280 : decode cX1_digest 280 = .ok (.imul, 1) := dk_104 (dk_at dksX1_digest_11 23 rfl rfl)
theorem dX1_digest_281 : decode cX1_digest 281 = .ok (.iadd, 1) := dk_96 (dk_at dksX1_digest_12 0 rfl rfl)
theorem dX1_digest_282 : decode cX1_digest 282 = .ok (.iconst 4, 1) := dk_7 (dk_at dksX1_digest_12 1 rfl rfl)
theorem dX1_digest_283 : decode cX1_digest 283 = .ok (.isub, 1) := dk_100 (dk_at dksX1_digest_12 2 rfl rfl)
theorem dX1_digest_284 : decode cX1_digest 284 = .ok (.iload 4, 2) := dk_21 4 (dk_at dksX1_digest_12 3 rfl rfl)
theorem dX1_digest_286 : decode cX1_digest 286 = .ok (.iadd, 1) := dk_96 (dk_at dksX1_digest_12 5 rfl rfl)
theorem dX1_digest_287 : decode cX1_digest 287 = .ok (.iaload, 1) := dk_46 (dk_at dksX1_digest_12 6 rfl rfl)
theorem dX1_digest_288 : decode cX1_digest 288 = .ok (.i2l, 1) := dk_133 (dk_at dksX1_digest_12 7 rfl rfl)
theorem dX1_digest_289 : decode cX1_digest 289 = .ok (.ladd, 1) := dk_97 (dk_at dksX1_digest_12 8 rfl rfl)
theorem dX1_digest_290 : decode cX1_digest 290 = .ok (.lstore_n 1, 1) := dk_64 (dk_at dksX1_digest_12 9 rfl rfl)
theorem dX1_digest_291 : decode cX1_digest 291 = .ok (.iinc 4 1, 3) := dk_132 4 1 (dk_at dksX1_digest_12 10 rfl rfl)
theorem dX1_digest_294 : decode cX1_digest 294 = .ok (.goto (-54), 3) := dk_167 255 202 (dk_at dksX1_digest_12 13 rfl rfl)
theorem dX1_digest_297 : decode cX1_digest 297 = .ok (.iinc 3 1, 3) := dk_132 3 1 (dk_at dksX1_digest_12 16 rfl rfl)
theorem dX1_digest_300 : decode cX1_digest 300 = .ok (.goto (-133), 3) := dk_167 255 123 (dk_at dksX1_digest_12 19 rfl rfl)
theorem dX1_digest_303 : decode cX1_digest 303 = .ok (.iconst 0, 1) := dk_3 (dk_at dksX1_digest_12 22 rfl rfl)
theorem dX1_digest_304 : decode cX1_digest 304 = .ok (.istore_n 3, 1) := dk_62 (dk_at dksX1_digest_12 23 rfl rfl)
theorem dX1_digest_305 : decode cX1_digest 305 = .ok (.iload_n 3, 1) := dk_29 (dk_at dksX1_digest_13 0 rfl rfl)
theorem dX1_digest_306 : decode cX1_digest 306 = .ok (.bipush 8, 2) := dk_16 8 (dk_at dksX1_digest_13 1 rfl rfl)
theorem dX1_digest_308 : decode cX1_digest 308 = .ok (.if_icmp .ge 76, 3) := dk_162 0 76 (dk_at dksX1_digest_13 3 rfl rfl)
theorem dX1_digest_311 : decode cX1_digest 311 = .ok (.ldc2_w 346, 3) := dk_20 1 90 (dk_at dksX1_digest_13 6 rfl rfl)
theorem dX1_digest_314 : decode cX1_digest 314 = .ok (.lload_n 1, 1) := dk_31 (dk_at dksX1_digest_13 9 rfl rfl)
theorem dX1_digest_315 : decode cX1_digest 315 = .ok (.lmul, 1) := dk_105 (dk_at dksX1_digest_13 10 rfl rfl)
theorem dX1_digest_316 : decode cX1_digest 316 = .ok (.aload_n 0, 1) := dk_42 (dk_at dksX1_digest_13 11 rfl rfl)
theorem dX1_digest_317 : decode cX1_digest 317 = .ok (.getfield 17, 3) := dk_180 0 17 (dk_at dksX1_digest_13 12 rfl rfl)
theorem dX1_digest_320 : decode cX1_digest 320 = .ok (.iload_n 3, 1) := dk_29 (dk_at dksX1_digest_13 15 rfl rfl)
theorem dX1_digest_321 : decode cX1_digest 321 = .ok (.iaload, 1) := dk_46 (dk_at dksX1_digest_13 16 rfl rfl)
theorem dX1_digest_322 : decode cX1_digest 322 = .ok (.ifCond .ge 7, 3) := dk_156 0 7 (dk_at dksX1_digest_13 17 rfl rfl)
theorem dX1_digest_325 : decode cX1_digest 325 = .ok (.iconst (-1), 1) := dk_2 (dk_at dksX1_digest_13 20 rfl rfl)
theorem dX1_digest_326 : decode cX1_digest 326 = .ok (.goto 9, 3) := dk_167 0 9 (dk_at dksX1_digest_13 21 rfl rfl)
theorem dX1_digest_329 : decode cX1_digest 329 = .ok (.aload_n 0, 1) := dk_42 (dk_at dksX1_digest_14 0 rfl rfl)
theorem dX1_digest_330 : decode cX1_digest 330 = .ok (.getfield 17, 3) := dk_180 0 17 (dk_at dksX1_digest_14 1 rfl rfl)
theorem dX1_digest_333 : decode cX1_digest 333 = .ok (.iload_n 3, 1) := dk_29 (dk_at dksX1_digest_14 4 rfl rfl)
theorem dX1_digest_334 : decode cX1_digest 334 = .ok (.iaload, 1) := dk_46 (dk_at dksX1_digest_14 5 rfl rfl)
theorem dX1_digest_335 : decode cX1_digest 335 = .ok (.i2l, 1) := dk_133 (dk_at dksX1_digest_14 6 rfl rfl)
theorem dX1_digest_336 : decode cX1_digest 336 = .ok (.ladd, 1) := dk_97 (dk_at dksX1_digest_14 7 rfl rfl)
theorem dX1_digest_337 : decode cX1_digest 337 = .ok (.lstore_n 1, 1) := dk_64 (dk_at dksX1_digest_14 8 rfl rfl)
theorem dX1_digest_338 : decode cX1_digest 338 = .ok (.iconst 0, 1) := dk_3 (dk_at dksX1_digest_14 9 rfl rfl)
theorem dX1_digest_339 : decode cX1_digest 339 = .ok (.istore 4, 2) := dk_54 4 (dk_at dksX1_digest_14 10 rfl rfl)
theorem dX1_digest_341 : decode cX1_digest 341 = .ok (.iload 4, 2) := dk_21 4 (dk_at dksX1_digest_14 12 rfl rfl)
theorem dX1_digest_343 : decode cX1_digest 343 = .ok (.aload_n 0, 1) := dk_42 (dk_at dksX1_digest_14 14 rfl rfl)
theorem dX1_digest_344 : decode cX1_digest 344 = .ok (.getfield 17, 3) := dk_180 0 17 (dk_at dksX1_digest_14 15 rfl rfl)
theorem dX1_digest_347 : decode cX1_digest 347 = .ok (.iload_n 3, 1) := dk_29 (dk_at dksX1_digest_14 18 rfl rfl)
theorem dX1_digest_348 : decode cX1_digest 348 = .ok (.iaload, 1) := dk_46 (dk_at dksX1_digest_14 19 rfl rfl)
theorem dX1_digest_349 : decode cX1_digest 349 = .ok (.if_icmp .ge 29, 3) := dk_162 0 29 (dk_at dksX1_digest_14 20 rfl rfl)
theorem dX1_digest_352 : decode cX1_digest 352 = .ok (.ldc2_w 346, 3) := dk_20 1 90 (dk_at dksX1_digest_15 0 rfl rfl)
theorem dX1_digest_355 : decode cX1_digest 355 = .ok (.lload_n 1, 1) := dk_31 (dk_at dksX1_digest_15 3 rfl rfl)
theorem dX1_digest_356 : decode cX1_digest 356 = .ok (.lmul, 1) := dk_105 (dk_at dksX1_digest_15 4 rfl rfl)
theorem dX1_digest_357 : decode cX1_digest 357 = .ok (.aload_n 0, 1) := dk_42 (dk_at dksX1_digest_15 5 rfl rfl)
theorem dX1_digest_358 : decode cX1_digest 358 = .ok (.getfield 20, 3) := dk_180 0 20 (dk_at dksX1_digest_15 6 rfl rfl)
theorem dX1_digest_361 : decode cX1_digest 361 = .ok (.bipush 48, 2) := dk_16 48 (dk_at dksX1_digest_15 9 rfl rfl)
theorem dX1_digest_363 : decode cX1_digest 363 = .ok (.iload_n 3, 1) := dk_29 (dk_at dksX1_digest_15 11 rfl rfl)
theorem dX1_digest_364 : decode cX1_digest 364 = .ok (.imul, 1) := dk_104 (dk_at dksX1_digest_15 12 rfl rfl)
theorem dX1_digest_365 : decode cX1_digest 365 = .ok (.iload 4, 2) := dk_21 4 (dk_at dksX1_digest_15 13 rfl rfl)
theorem dX1_digest_367 : decode cX1_digest 367 = .ok (.iadd, 1) := dk_96 (dk_at dksX1_digest_15 15 rfl rfl)
theorem dX1_digest_368 : decode cX1_digest 368 = .ok (.iaload, 1) := dk_46 (dk_at dksX1_digest_15 16 rfl rfl)
theorem dX1_digest_369 : decode cX1_digest 369 = .ok (.i2l, 1) := dk_133 (dk_at dksX1_digest_15 17 rfl rfl)
theorem dX1_digest_370 : decode cX1_digest 370 = .ok (.ladd, 1) := dk_97 (dk_at dksX1_digest_15 18 rfl rfl)
theorem dX1_digest_371 : decode cX1_digest 371 = .ok (.lstore_n 1, 1) := dk_64 (dk_at dksX1_digest_15 19 rfl rfl)
theorem dX1_digest_372 : decode cX1_digest 372 = .ok (.iinc 4 1, 3) := dk_132 4 1 (dk_at dksX1_digest_15 20 rfl rfl)
theorem dX1_digest_375 : decode cX1_digest 375 = .ok (.goto (-34), 3) := dk_167 255 222 (dk_at dksX1_digest_16 0 rfl rfl)
theorem dX1_digest_378 : decode cX1_digest 378 = .ok (.iinc 3 1, 3) := dk_132 3 1 (dk_at dksX1_digest_16 3 rfl rfl)
theorem dX1_digest_381 : decode cX1_digest 381 = .ok (.goto (-76), 3) := dk_167 255 180 (dk_at dksX1_digest_16 6 rfl rfl)
theorem dX1_digest_384 : decode cX1_digest 384 = .ok (.lload_n 1, 1) := dk_31 (dk_at dksX1_digest_16 9 rfl rfl)
theorem dX1_digest_385 : decode cX1_digest 385 = .ok (.lreturn, 1) := dk_173 (dk_at dksX1_digest_16 10 rfl rfl)
