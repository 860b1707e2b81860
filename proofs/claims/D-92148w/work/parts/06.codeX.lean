set_option maxRecDepth 100000
abbrev cX0_asked : ByteArray := prog_1_method_4_code
def yX0_asked : MethodName := ⟨RX0, "asked", "()I"⟩
theorem dX0_asked_0 : decode cX0_asked 0 = .ok (.aload_n 0, 1) := by decide +kernel
theorem dX0_asked_1 : decode cX0_asked 1 = .ok (.getfield 11, 3) := by decide +kernel
theorem dX0_asked_4 : decode cX0_asked 4 = .ok (.ireturn, 1) := by decide +kernel
abbrev cX0_init : ByteArray := prog_1_method_5_code
def yX0_init : MethodName := ⟨RX0, "<init>", "()V"⟩
def dkwX0_init_4 : List UInt8 := [188, 10, 181, 0, 63, 42, 7, 188, 10, 181, 0, 66, 177]
abbrev dktX0_init_4 : List UInt8 := dkwX0_init_4 ++ []
def dkwX0_init_3 : List UInt8 := [181, 0, 50, 42, 16, 247, 181, 0, 53, 42, 10, 181, 0, 56, 42, 16, 12, 188, 10, 181, 0, 60, 42, 7]
abbrev dktX0_init_3 : List UInt8 := dkwX0_init_3 ++ dktX0_init_4
def dkwX0_init_2 : List UInt8 := [16, 48, 188, 10, 181, 0, 41, 42, 16, 247, 181, 0, 44, 42, 16, 247, 181, 0, 47, 42, 16, 247]
abbrev dktX0_init_2 : List UInt8 := dkwX0_init_2 ++ dktX0_init_3
def dkwX0_init_1 : List UInt8 := [189, 0, 26, 181, 0, 28, 42, 7, 189, 0, 32, 181, 0, 34, 42, 17, 0, 144, 188, 10, 181, 0, 38, 42]
abbrev dktX0_init_1 : List UInt8 := dkwX0_init_1 ++ dktX0_init_2
def dkwX0_init_0 : List UInt8 := [42, 183, 0, 14, 42, 16, 6, 188, 10, 181, 0, 7, 42, 16, 8, 189, 0, 20, 181, 0, 22, 42, 16, 16]
abbrev dktX0_init_0 : List UInt8 := dkwX0_init_0 ++ dktX0_init_1
theorem dksX0_init_0 : cX0_init.data.toList.drop 0 = dktX0_init_0 := by decide +kernel
theorem dksX0_init_1 : cX0_init.data.toList.drop 24 = dktX0_init_1 := dk_seg dksX0_init_0 24 rfl rfl
theorem dksX0_init_2 : cX0_init.data.toList.drop 48 = dktX0_init_2 := dk_seg dksX0_init_1 24 rfl rfl
theorem dksX0_init_3 : cX0_init.data.toList.drop 70 = dktX0_init_3 := dk_seg dksX0_init_2 22 rfl rfl
theorem dksX0_init_4 : cX0_init.data.toList.drop 94 = dktX0_init_4 := dk_seg dksX0_init_3 24 rfl rfl
theorem dX0_init_0 : decode cX0_init 0 = .ok (.aload_n 0, 1) := dk_42 (dk_at dksX0_init_0 0 rfl rfl)
theorem dX0_init_1 : decode cX0_init 1 = .ok (.invokespecial 14, 3) := dk_183 0 14 (dk_at dksX0_init_0 1 rfl rfl)
theorem dX0_init_4 : decode cX0_init 4 = .ok (.aload_n 0, 1) := dk_42 (dk_at dksX0_init_0 4 rfl rfl)
theorem dX0_init_5 : decode cX0_init 5 = .ok (.bipush 6, 2) := dk_16 6 (dk_at dksX0_init_0 5 rfl rfl)
theorem dX0_init_7 : decode cX0_init 7 = .ok (.newarray .int, 2) := dk_188_10 (dk_at dksX0_init_0 7 rfl rfl)
theorem dX0_init_9 : decode cX0_init 9 = .ok (.putfield 7, 3) := dk_181 0 7 (dk_at dksX0_init_0 9 rfl rfl)
theorem dX0_init_12 : decode cX0_init 12 = .ok (.aload_n 0, 1) := dk_42 (dk_at dksX0_init_0 12 rfl rfl)
theorem dX0_init_13 : decode cX0_init 13 = .ok (.bipush 8, 2) := dk_16 8 (dk_at dksX0_init_0 13 rfl rfl)
theorem dX0_init_15 : decode cX0_init 15 = .ok (.anewarray 20, 3) := dk_189 0 20 (dk_at dksX0_init_0 15 rfl rfl)
theorem dX0_init_18 : decode cX0_init 18 = .ok (.putfield 22, 3) := dk_181 0 22 (dk_at dksX0_init_0 18 rfl rfl)
theorem dX0_init_21 : decode cX0_init 21 = .ok (.aload_n 0, 1) := dk_42 (dk_at dksX0_init_0 21 rfl rfl)
theorem dX0_init_22 : decode cX0_init 22 = .ok (.bipush 16, 2) := dk_16 16 (dk_at dksX0_init_0 22 rfl rfl)
theorem dX0_init_24 : decode cX0_init 24 = .ok (.anewarray 26, 3) := dk_189 0 26 (dk_at dksX0_init_1 0 rfl rfl)
theorem dX0_init_27 : decode cX0_init 27 = .ok (.putfield 28, 3) := dk_181 0 28 (dk_at dksX0_init_1 3 rfl rfl)
theorem dX0_init_30 : decode cX0_init 30 = .ok (.aload_n 0, 1) := dk_42 (dk_at dksX0_init_1 6 rfl rfl)
theorem dX0_init_31 : decode cX0_init 31 = .ok (.iconst 4, 1) := dk_7 (dk_at dksX0_init_1 7 rfl rfl)
theorem dX0_init_32 : decode cX0_init 32 = .ok (.anewarray 32, 3) := dk_189 0 32 (dk_at dksX0_init_1 8 rfl rfl)
theorem dX0_init_35 : decode cX0_init 35 = .ok (.putfield 34, 3) := dk_181 0 34 (dk_at dksX0_init_1 11 rfl rfl)
theorem dX0_init_38 : decode cX0_init 38 = .ok (.aload_n 0, 1) := dk_42 (dk_at dksX0_init_1 14 rfl rfl)
theorem dX0_init_39 : decode cX0_init 39 = .ok (.sipush 144, 3) := dk_17 0 144 (dk_at dksX0_init_1 15 rfl rfl)
theorem dX0_init_42 : decode cX0_init 42 = .ok (.newarray .int, 2) := dk_188_10 (dk_at dksX0_init_1 18 rfl rfl)
theorem dX0_init_44 : decode cX0_init 44 = .ok (.putfield 38, 3) := dk_181 0 38 (dk_at dksX0_init_1 20 rfl rfl)
theorem dX0_init_47 : decode cX0_init 47 = .ok (.aload_n 0, 1) := dk_42 (dk_at dksX0_init_1 23 rfl rfl)
theorem dX0_init_48 : decode cX0_init 48 = .ok (.bipush 48, 2) := dk_16 48 (dk_at dksX0_init_2 0 rfl rfl)
theorem dX0_init_50 : decode cX0_init 50 = .ok (.newarray .int, 2) := dk_188_10 (dk_at dksX0_init_2 2 rfl rfl)
theorem dX0_init_52 : decode cX0_init 52 = .ok (.putfield 41, 3) := dk_181 0 41 (dk_at dksX0_init_2 4 rfl rfl)
theorem dX0_init_55 : decode cX0_init 55 = .ok (.aload_n 0, 1) := dk_42 (dk_at dksX0_init_2 7 rfl rfl)
theorem dX0_init_56 : decode cX0_init 56 = .ok (.bipush (-9), 2) := dk_16 247 (dk_at dksX0_init_2 8 rfl rfl)
theorem dX0_init_58 : decode cX0_init 58 = .ok (.putfield 44, 3) := dk_181 0 44 (dk_at dksX0_init_2 10 rfl rfl)
theorem dX0_init_61 : decode cX0_init 61 = .ok (.aload_n 0, 1) := dk_42 (dk_at dksX0_init_2 13 rfl rfl)
theorem dX0_init_62 : decode cX0_init 62 = .ok (.bipush (-9), 2) := dk_16 247 (dk_at dksX0_init_2 14 rfl rfl)
theorem dX0_init_64 : decode cX0_init 64 = .ok (.putfield 47, 3) := dk_181 0 47 (dk_at dksX0_init_2 16 rfl rfl)
theorem dX0_init_67 : decode cX0_init 67 = .ok (.aload_n 0, 1) := dk_42 (dk_at dksX0_init_2 19 rfl rfl)
theorem dX0_init_68 : decode cX0_init 68 = .ok (.bipush (-9), 2) := dk_16 247 (dk_at dksX0_init_2 20 rfl rfl)
theorem dX0_init_70 : decode cX0_init 70 = .ok (.putfield 50, 3) := dk_181 0 50 (dk_at dksX0_init_3 0 rfl rfl)
theorem dX0_init_73 : decode cX0_init 73 = .ok (.aload_n 0, 1) := dk_42 (dk_at dksX0_init_3 3 rfl rfl)
theorem dX0_init_74 : decode cX0_init 74 = .ok (.bipush (-9), 2) := dk_16 247 (dk_at dksX0_init_3 4 rfl rfl)
theorem dX0_init_76 : decode cX0_init 76 = .ok (.putfield 53, 3) := dk_181 0 53 (dk_at dksX0_init_3 6 rfl rfl)
theorem dX0_init_79 : decode cX0_init 79 = .ok (.aload_n 0, 1) := dk_42 (dk_at dksX0_init_3 9 rfl rfl)
theorem dX0_init_80 : decode cX0_init 80 = .ok (.lconst 1, 1) := dk_10 (dk_at dksX0_init_3 10 rfl rfl)
theorem dX0_init_81 : decode cX0_init 81 = .ok (.putfield 56, 3) := dk_181 0 56 (dk_at dksX0_init_3 11 rfl rfl)
theorem dX0_init_84 : decode cX0_init 84 = .ok (.aload_n 0, 1) := dk_42 (dk_at dksX0_init_3 14 rfl rfl)
theorem dX0_init_85 : decode cX0_init 85 = .ok (.bipush 12, 2) := dk_16 12 (dk_at dksX0_init_3 15 rfl rfl)
theorem dX0_init_87 : decode cX0_init 87 = .ok (.newarray .int, 2) := dk_188_10 (dk_at dksX0_init_3 17 rfl rfl)
theorem dX0_init_89 : decode cX0_init 89 = .ok (.putfield 60, 3) := dk_181 0 60 (dk_at dksX0_init_3 19 rfl rfl)
theorem dX0_init_92 : decode cX0_init 92 = .ok (.aload_n 0, 1) := dk_42 (dk_at dksX0_init_3 22 rfl rfl)
theorem dX0_init_93 : decode cX0_init 93 = .ok (.iconst 4, 1) := dk_7 (dk_at dksX0_init_3 23 rfl rfl)
theorem dX0_init_94 : decode cX0_init 94 = .ok (.newarray .int, 2) := dk_188_10 (dk_at dksX0_init_4 0 rfl rfl)
theorem dX0_init_96 : decode cX0_init 96 = .ok (.putfield 63, 3) := dk_181 0 63 (dk_at dksX0_init_4 2 rfl rfl)
theorem dX0_init_99 : decode cX0_init 99 = .ok (.aload_n 0, 1) := dk_42 (dk_at dksX0_init_4 5 rfl rfl)
theorem dX0_init_100 : decode cX0_init 100 = .ok (.iconst 4, 1) := dk_7 (dk_at dksX0_init_4 6 rfl rfl)
theorem dX0_init_101 : decode cX0_init 101 = .ok (.newarray .int, 2) := dk_188_10 (dk_at dksX0_init_4 7 rfl rfl)
theorem dX0_init_103 : decode cX0_init 103 = .ok (.putfield 66, 3) := dk_181 0 66 (dk_at dksX0_init_4 9 rfl rfl)
theorem dX0_init_106 : decode cX0_init 106 = .ok (.return_, 1) := dk_177 (dk_at dksX0_init_4 12 rfl rfl)
abbrev cX0_row : ByteArray := prog_1_method_7_code
def yX0_row : MethodName := ⟨RX0, "row", "(II)I"⟩
def dkwX0_row_1 : List UInt8 := [28, 172, 78, 42, 8, 182, 0, 79, 172]
abbrev dktX0_row_1 : List UInt8 := dkwX0_row_1 ++ []
def dkwX0_row_0 : List UInt8 := [27, 184, 0, 73, 153, 0, 9, 28, 16, 48, 164, 0, 5, 2, 172, 42, 180, 0, 22, 27, 28, 188, 8, 83]
abbrev dktX0_row_0 : List UInt8 := dkwX0_row_0 ++ dktX0_row_1
theorem dksX0_row_0 : cX0_row.data.toList.drop 0 = dktX0_row_0 := by decide +kernel
theorem dksX0_row_1 : cX0_row.data.toList.drop 24 = dktX0_row_1 := dk_seg dksX0_row_0 24 rfl rfl
theorem dX0_row_0 : decode cX0_row 0 = .ok (.iload_n 1, 1) := dk_27 (dk_at dksX0_row_0 0 rfl rfl)
theorem dX0_row_1 : decode cX0_row 1 = .ok (.invokestatic 73, 3) := dk_184 0 73 (dk_at dksX0_row_0 1 rfl rfl)
theorem dX0_row_4 : decode cX0_row 4 = .ok (.ifCond .eq 9, 3) := dk_153 0 9 (dk_at dksX0_row_0 4 rfl rfl)
theorem dX0_row_7 : decode cX0_row 7 = .ok (.iload_n 2, 1) := dk_28 (dk_at dksX0_row_0 7 rfl rfl)
theorem dX0_row_8 : decode cX0_row 8 = .ok (.bipush 48, 2) := dk_16 48 (dk_at dksX0_row_0 8 rfl rfl)
theorem dX0_row_10 : decode cX0_row 10 = .ok (.if_icmp .le 5, 3) := dk_164 0 5 (dk_at dksX0_row_0 10 rfl rfl)
theorem dX0_row_13 : decode cX0_row 13 = .ok (.iconst (-1), 1) := dk_2 (dk_at dksX0_row_0 13 rfl rfl)
theorem dX0_row_14 : decode cX0_row 14 = .ok (.ireturn, 1) := dk_172 (dk_at dksX0_row_0 14 rfl rfl)
theorem dX0_row_15 : decode cX0_row 15 = .ok (.aload_n 0, 1) := dk_42 (dk_at dksX0_row_0 15 rfl rfl)
theorem dX0_row_16 : decode cX0_row 16 = .ok (.getfield 22, 3) := dk_180 0 22 (dk_at dksX0_row_0 16 rfl rfl)
theorem dX0_row_19 : decode cX0_row 19 = .ok (.iload_n 1, 1) := dk_27 (dk_at dksX0_row_0 19 rfl rfl)
theorem dX0_row_20 : decode cX0_row 20 = .ok (.iload_n 2, 1) := dk_28 (dk_at dksX0_row_0 20 rfl rfl)
theorem dX0_row_21 : decode cX0_row 21 = .ok (.newarray .byte, 2) := dk_188_8 (dk_at dksX0_row_0 21 rfl rfl)
theorem dX0_row_23 : decode cX0_row 23 = .ok (.aastore, 1) := dk_83 (dk_at dksX0_row_0 23 rfl rfl)
theorem dX0_row_24 : decode cX0_row 24 = .ok (.iload_n 2, 1) := dk_28 (dk_at dksX0_row_1 0 rfl rfl)
theorem dX0_row_25 : decode cX0_row 25 = .ok (.ireturn, 1) := dk_172 (dk_at dksX0_row_1 1 rfl rfl)
theorem dX0_row_26 : decode cX0_row 26 = .ok (.astore_n 3, 1) := dk_78 (dk_at dksX0_row_1 2 rfl rfl)
theorem dX0_row_27 : decode cX0_row 27 = .ok (.aload_n 0, 1) := dk_42 (dk_at dksX0_row_1 3 rfl rfl)
theorem dX0_row_28 : decode cX0_row 28 = .ok (.iconst 5, 1) := dk_8 (dk_at dksX0_row_1 4 rfl rfl)
theorem dX0_row_29 : decode cX0_row 29 = .ok (.invokevirtual 79, 3) := dk_182 0 79 (dk_at dksX0_row_1 5 rfl rfl)
theorem dX0_row_32 : decode cX0_row 32 = .ok (.ireturn, 1) := dk_172 (dk_at dksX0_row_1 8 rfl rfl)
abbrev cX0_isRow : ByteArray := prog_1_method_6_code
def yX0_isRow : MethodName := ⟨RX0, "isRow", "(I)Z"⟩
def dkwX0_isRow_0 : List UInt8 := [26, 3, 16, 7, 184, 0, 69, 172]
abbrev dktX0_isRow_0 : List UInt8 := dkwX0_isRow_0 ++ []
theorem dksX0_isRow_0 : cX0_isRow.data.toList.drop 0 = dktX0_isRow_0 := by decide +kernel
theorem dX0_isRow_0 : decode cX0_isRow 0 = .ok (.iload_n 0, 1) := dk_26 (dk_at dksX0_isRow_0 0 rfl rfl)
theorem dX0_isRow_1 : decode cX0_isRow 1 = .ok (.iconst 0, 1) := dk_3 (dk_at dksX0_isRow_0 1 rfl rfl)
theorem dX0_isRow_2 : decode cX0_isRow 2 = .ok (.bipush 7, 2) := dk_16 7 (dk_at dksX0_isRow_0 2 rfl rfl)
theorem dX0_isRow_4 : decode cX0_isRow 4 = .ok (.invokestatic 69, 3) := dk_184 0 69 (dk_at dksX0_isRow_0 4 rfl rfl)
theorem dX0_isRow_7 : decode cX0_isRow 7 = .ok (.ireturn, 1) := dk_172 (dk_at dksX0_isRow_0 7 rfl rfl)
abbrev cX0_in : ByteArray := prog_1_method_1_code
def yX0_in : MethodName := ⟨RX0, "in", "(III)Z"⟩
def dkwX0_in_0 : List UInt8 := [26, 27, 161, 0, 12, 26, 28, 163, 0, 7, 4, 167, 0, 4, 3, 172]
abbrev dktX0_in_0 : List UInt8 := dkwX0_in_0 ++ []
theorem dksX0_in_0 : cX0_in.data.toList.drop 0 = dktX0_in_0 := by decide +kernel
theorem dX0_in_0 : decode cX0_in 0 = .ok (.iload_n 0, 1) := dk_26 (dk_at dksX0_in_0 0 rfl rfl)
theorem dX0_in_1 : decode cX0_in 1 = .ok (.iload_n 1, 1) := dk_27 (dk_at dksX0_in_0 1 rfl rfl)
theorem dX0_in_2 : decode cX0_in 2 = .ok (.if_icmp .lt 12, 3) := dk_161 0 12 (dk_at dksX0_in_0 2 rfl rfl)
theorem dX0_in_5 : decode cX0_in 5 = .ok (.iload_n 0, 1) := dk_26 (dk_at dksX0_in_0 5 rfl rfl)
theorem dX0_in_6 : decode cX0_in 6 = .ok (.iload_n 2, 1) := dk_28 (dk_at dksX0_in_0 6 rfl rfl)
theorem dX0_in_7 : decode cX0_in 7 = .ok (.if_icmp .gt 7, 3) := dk_163 0 7 (dk_at dksX0_in_0 7 rfl rfl)
theorem dX0_in_10 : decode cX0_in 10 = .ok (.iconst 1, 1) := dk_4 (dk_at dksX0_in_0 10 rfl rfl)
theorem dX0_in_11 : decode cX0_in 11 = .ok (.goto 4, 3) := dk_167 0 4 (dk_at dksX0_in_0 11 rfl rfl)
theorem dX0_in_14 : decode cX0_in 14 = .ok (.iconst 0, 1) := dk_3 (dk_at dksX0_in_0 14 rfl rfl)
theorem dX0_in_15 : decode cX0_in 15 = .ok (.ireturn, 1) := dk_172 (dk_at dksX0_in_0 15 rfl rfl)
abbrev cX0_found : ByteArray := prog_1_method_2_code
def yX0_found : MethodName := ⟨RX0, "found", "(I)I"⟩
def dkwX0_found_0 : List UInt8 := [42, 27, 181, 0, 1, 42, 180, 0, 7, 27, 92, 46, 4, 96, 79, 16, 253, 172]
abbrev dktX0_found_0 : List UInt8 := dkwX0_found_0 ++ []
theorem dksX0_found_0 : cX0_found.data.toList.drop 0 = dktX0_found_0 := by decide +kernel
theorem dX0_found_0 : decode cX0_found 0 = .ok (.aload_n 0, 1) := dk_42 (dk_at dksX0_found_0 0 rfl rfl)
theorem dX0_found_1 : decode cX0_found 1 = .ok (.iload_n 1, 1) := dk_27 (dk_at dksX0_found_0 1 rfl rfl)
theorem dX0_found_2 : decode cX0_found 2 = .ok (.putfield 1, 3) := dk_181 0 1 (dk_at dksX0_found_0 2 rfl rfl)
theorem dX0_found_5 : decode cX0_found 5 = .ok (.aload_n 0, 1) := dk_42 (dk_at dksX0_found_0 5 rfl rfl)
theorem dX0_found_6 : decode cX0_found 6 = .ok (.getfield 7, 3) := dk_180 0 7 (dk_at dksX0_found_0 6 rfl rfl)
theorem dX0_found_9 : decode cX0_found 9 = .ok (.iload_n 1, 1) := dk_27 (dk_at dksX0_found_0 9 rfl rfl)
theorem dX0_found_10 : decode cX0_found 10 = .ok (.dup2, 1) := dk_92 (dk_at dksX0_found_0 10 rfl rfl)
theorem dX0_found_11 : decode cX0_found 11 = .ok (.iaload, 1) := dk_46 (dk_at dksX0_found_0 11 rfl rfl)
theorem dX0_found_12 : decode cX0_found 12 = .ok (.iconst 1, 1) := dk_4 (dk_at dksX0_found_0 12 rfl rfl)
theorem dX0_found_13 : decode cX0_found 13 = .ok (.iadd, 1) := dk_96 (dk_at dksX0_found_0 13 rfl rfl)
theorem dX0_found_14 : decode cX0_found 14 = .ok (.iastore, 1) := dk_79 (dk_at dksX0_found_0 14 rfl rfl)
theorem dX0_found_15 : decode cX0_found 15 = .ok (.bipush (-3), 2) := dk_16 253 (dk_at dksX0_found_0 15 rfl rfl)
theorem dX0_found_17 : decode cX0_found 17 = .ok (.ireturn, 1) := dk_172 (dk_at dksX0_found_0 17 rfl rfl)
abbrev cX0_lay : ByteArray := prog_1_method_8_code
def yX0_lay : MethodName := ⟨RX0, "lay", "(III)I"⟩
def dkwX0_lay_2 : List UInt8 := [182, 0, 79, 172]
abbrev dktX0_lay_2 : List UInt8 := dkwX0_lay_2 ++ []
def dkwX0_lay_1 : List UInt8 := [50, 28, 29, 145, 84, 17, 3, 232, 21, 4, 96, 172, 58, 4, 42, 4, 182, 0, 79, 172, 58, 4, 42, 5]
abbrev dktX0_lay_1 : List UInt8 := dkwX0_lay_1 ++ dktX0_lay_2
def dkwX0_lay_0 : List UInt8 := [27, 184, 0, 73, 154, 0, 5, 2, 172, 42, 180, 0, 22, 27, 50, 28, 51, 54, 4, 42, 180, 0, 22, 27]
abbrev dktX0_lay_0 : List UInt8 := dkwX0_lay_0 ++ dktX0_lay_1
theorem dksX0_lay_0 : cX0_lay.data.toList.drop 0 = dktX0_lay_0 := by decide +kernel
theorem dksX0_lay_1 : cX0_lay.data.toList.drop 24 = dktX0_lay_1 := dk_seg dksX0_lay_0 24 rfl rfl
theorem dksX0_lay_2 : cX0_lay.data.toList.drop 48 = dktX0_lay_2 := dk_seg dksX0_lay_1 24 rfl rfl
theorem dX0_lay_0 : decode cX0_lay 0 = .ok (.iload_n 1, 1) := dk_27 (dk_at dksX0_lay_0 0 rfl rfl)
theorem dX0_lay_1 : decode cX0_lay 1 = .ok (.invokestatic 73, 3) := dk_184 0 73 (dk_at dksX0_lay_0 1 rfl rfl)
theorem dX0_lay_4 : decode cX0_lay 4 = .ok (.ifCond .ne 5, 3) := dk_154 0 5 (dk_at dksX0_lay_0 4 rfl rfl)
theorem dX0_lay_7 : decode cX0_lay 7 = .ok (.iconst (-1), 1) := dk_2 (dk_at dksX0_lay_0 7 rfl rfl)
theorem dX0_lay_8 : decode cX0_lay 8 = .ok (.ireturn, 1) := dk_172 (dk_at dksX0_lay_0 8 rfl rfl)
theorem dX0_lay_9 : decode cX0_lay 9 = .ok (.aload_n 0, 1) := dk_42 (dk_at dksX0_lay_0 9 rfl rfl)
theorem dX0_lay_10 : decode cX0_lay 10 = .ok (.getfield 22, 3) := dk_180 0 22 (dk_at dksX0_lay_0 10 rfl rfl)
theorem dX0_lay_13 : decode cX0_lay 13 = .ok (.iload_n 1, 1) := dk_27 (dk_at dksX0_lay_0 13 rfl rfl)
theorem dX0_lay_14 : decode cX0_lay 14 = .ok (.aaload, 1) := dk_50 (dk_at dksX0_lay_0 14 rfl rfl)
theorem dX0_lay_15 : decode cX0_lay 15 = .ok (.iload_n 2, 1) := dk_28 (dk_at dksX0_lay_0 15 rfl rfl)
theorem dX0_lay_16 : decode cX0_lay 16 = .ok (.baload, 1) := dk_51 (dk_at dksX0_lay_0 16 rfl rfl)
theorem dX0_lay_17 : decode cX0_lay 17 = .ok (.istore 4, 2) := dk_54 4 (dk_at dksX0_lay_0 17 rfl rfl)
theorem dX0_lay_19 : decode cX0_lay 19 = .ok (.aload_n 0, 1) := dk_42 (dk_at dksX0_lay_0 19 rfl rfl)
theorem dX0_lay_20 : decode cX0_lay 20 = .ok (.getfield 22, 3) := dk_180 0 22 (dk_at dksX0_lay_0 20 rfl rfl)
theorem dX0_lay_23 : decode cX0_lay 23 = .ok (.iload_n 1, 1) := dk_27 (dk_at dksX0_lay_0 23 rfl rfl)
theorem dX0_lay_24 : decode cX0_lay 24 = .ok (.aaload, 1) := dk_50 (dk_at dksX0_lay_1 0 rfl rfl)
theorem dX0_lay_25 : decode cX0_lay 25 = .ok (.iload_n 2, 1) := dk_28 (dk_at dksX0_lay_1 1 rfl rfl)
theorem dX0_lay_26 : decode cX0_lay 26 = .ok (.iload_n 3, 1) := dk_29 (dk_at dksX0_lay_1 2 rfl rfl)
theorem dX0_lay_27 : decode cX0_lay 27 = .ok (.i2b, 1) := dk_145 (dk_at dksX0_lay_1 3 rfl rfl)
theorem dX0_lay_28 : decode cX0_lay 28 = .ok (.bastore, 1) := dk_84 (dk_at dksX0_lay_1 4 rfl rfl)
theorem dX0_lay_29 : decode cX0_lay 29 = .ok (.sipush 1000, 3) := dk_17 3 232 (dk_at dksX0_lay_1 5 rfl rfl)
theorem dX0_lay_32 : decode cX0_lay 32 = .ok (.iload 4, 2) := dk_21 4 (dk_at dksX0_lay_1 8 rfl rfl)
theorem dX0_lay_34 : decode cX0_lay 34 = .ok (.iadd, 1) := dk_96 (dk_at dksX0_lay_1 10 rfl rfl)
theorem dX0_lay_35 : decode cX0_lay 35 = .ok (.ireturn, 1) := dk_172 (dk_at dksX0_lay_1 11 rfl rfl)
theorem dX0_lay_36 : decode cX0_lay 36 = .ok (.astore 4, 2) := dk_58 4 (dk_at dksX0_lay_1 12 rfl rfl)
theorem dX0_lay_38 : decode cX0_lay 38 = .ok (.aload_n 0, 1) := dk_42 (dk_at dksX0_lay_1 14 rfl rfl)
theorem dX0_lay_39 : decode cX0_lay 39 = .ok (.iconst 1, 1) := dk_4 (dk_at dksX0_lay_1 15 rfl rfl)
theorem dX0_lay_40 : decode cX0_lay 40 = .ok (.invokevirtual 79, 3) := dk_182 0 79 (dk_at dksX0_lay_1 16 rfl rfl)
theorem dX0_lay_43 : decode cX0_lay 43 = .ok (.ireturn, 1) := dk_172 (dk_at dksX0_lay_1 19 rfl rfl)
theorem dX0_lay_44 : decode cX0_lay 44 = .ok (.astore 4, 2) := dk_58 4 (dk_at dksX0_lay_1 20 rfl rfl)
theorem dX0_lay_46 : decode cX0_lay 46 = .ok (.aload_n 0, 1) := dk_42 (dk_at dksX0_lay_1 22 rfl rfl)
theorem dX0_lay_47 : decode cX0_lay 47 = .ok (.iconst 2, 1) := dk_5 (dk_at dksX0_lay_1 23 rfl rfl)
theorem dX0_lay_48 : decode cX0_lay 48 = .ok (.invokevirtual 79, 3) := dk_182 0 79 (dk_at dksX0_lay_2 0 rfl rfl)
theorem dX0_lay_51 : decode cX0_lay 51 = .ok (.ireturn, 1) := dk_172 (dk_at dksX0_lay_2 3 rfl rfl)
abbrev cX0_tear : ByteArray := prog_1_method_9_code
def yX0_tear : MethodName := ⟨RX0, "tear", "(I)I"⟩
def dkwX0_tear_1 : List UInt8 := [42, 180, 0, 22, 27, 1, 83, 4, 172]
abbrev dktX0_tear_1 : List UInt8 := dkwX0_tear_1 ++ []
def dkwX0_tear_0 : List UInt8 := [27, 184, 0, 73, 154, 0, 5, 2, 172, 42, 180, 0, 22, 27, 50, 199, 0, 9, 42, 4, 182, 0, 79, 172]
abbrev dktX0_tear_0 : List UInt8 := dkwX0_tear_0 ++ dktX0_tear_1
theorem dksX0_tear_0 : cX0_tear.data.toList.drop 0 = dktX0_tear_0 := by decide +kernel
theorem dksX0_tear_1 : cX0_tear.data.toList.drop 24 = dktX0_tear_1 := dk_seg dksX0_tear_0 24 rfl rfl
theorem dX0_tear_0 : decode cX0_tear 0 = .ok (.iload_n 1, 1) := dk_27 (dk_at dksX0_tear_0 0 rfl rfl)
theorem dX0_tear_1 : decode cX0_tear 1 = .ok (.invokestatic 73, 3) := dk_184 0 73 (dk_at dksX0_tear_0 1 rfl rfl)
theorem dX0_tear_4 : decode cX0_tear 4 = .ok (.ifCond .ne 5, 3) := dk_154 0 5 (dk_at dksX0_tear_0 4 rfl rfl)
theorem dX0_tear_7 : decode cX0_tear 7 = .ok (.iconst (-1), 1) := dk_2 (dk_at dksX0_tear_0 7 rfl rfl)
theorem dX0_tear_8 : decode cX0_tear 8 = .ok (.ireturn, 1) := dk_172 (dk_at dksX0_tear_0 8 rfl rfl)
theorem dX0_tear_9 : decode cX0_tear 9 = .ok (.aload_n 0, 1) := dk_42 (dk_at dksX0_tear_0 9 rfl rfl)
theorem dX0_tear_10 : decode cX0_tear 10 = .ok (.getfield 22, 3) := dk_180 0 22 (dk_at dksX0_tear_0 10 rfl rfl)
theorem dX0_tear_13 : decode cX0_tear 13 = .ok (.iload_n 1, 1) := dk_27 (dk_at dksX0_tear_0 13 rfl rfl)
theorem dX0_tear_14 : decode cX0_tear 14 = .ok (.aaload, 1) := dk_50 (dk_at dksX0_tear_0 14 rfl rfl)
theorem dX0_tear_15 : decode cX0_tear 15 = .ok (.ifnonnull 9, 3) := dk_199 0 9 (dk_at dksX0_tear_0 15 rfl rfl)
theorem dX0_tear_18 : decode cX0_tear 18 = .ok (.aload_n 0, 1) := dk_42 (dk_at dksX0_tear_0 18 rfl rfl)
theorem dX0_tear_19 : decode cX0_tear 19 = .ok (.iconst 1, 1) := dk_4 (dk_at dksX0_tear_0 19 rfl rfl)
theorem dX0_tear_20 : decode cX0_tear 20 = .ok (.invokevirtual 79, 3) := dk_182 0 79 (dk_at dksX0_tear_0 20 rfl rfl)
theorem dX0_tear_23 : decode cX0_tear 23 = .ok (.ireturn, 1) := dk_172 (dk_at dksX0_tear_0 23 rfl rfl)
theorem dX0_tear_24 : decode cX0_tear 24 = .ok (.aload_n 0, 1) := dk_42 (dk_at dksX0_tear_1 0 rfl rfl)
theorem dX0_tear_25 : decode cX0_tear 25 = .ok (.getfield 22, 3) := dk_180 0 22 (dk_at dksX0_tear_1 1 rfl rfl)
theorem dX0_tear_28 : decode cX0_tear 28 = .ok (.iload_n 1, 1) := dk_27 (dk_at dksX0_tear_1 4 rfl rfl)
theorem dX0_tear_29 : decode cX0_tear 29 = .ok (.aconst_null, 1) := dk_1 (dk_at dksX0_tear_1 5 rfl rfl)
theorem dX0_tear_30 : decode cX0_tear 30 = .ok (.aastore, 1) := dk_83 (dk_at dksX0_tear_1 6 rfl rfl)
theorem dX0_tear_31 : decode cX0_tear 31 = .ok (.iconst 1, 1) := dk_4 (dk_at dksX0_tear_1 7 rfl rfl)
theorem dX0_tear_32 : decode cX0_tear 32 = .ok (.ireturn, 1) := dk_172 (dk_at dksX0_tear_1 8 rfl rfl)
abbrev cX0_copy : ByteArray := prog_1_method_10_code
def yX0_copy : MethodName := ⟨RX0, "copy", "(IIIII)I"⟩
def dkwX0_copy_2 : List UInt8 := [4, 172, 58, 6, 42, 4, 182, 0, 79, 172, 58, 6, 42, 5, 182, 0, 79, 172]
abbrev dktX0_copy_2 : List UInt8 := dkwX0_copy_2 ++ []
def dkwX0_copy_1 : List UInt8 := [182, 0, 79, 172, 42, 180, 0, 22, 27, 50, 28, 42, 180, 0, 22, 29, 50, 21, 4, 21, 5, 184, 0, 87]
abbrev dktX0_copy_1 : List UInt8 := dkwX0_copy_1 ++ dktX0_copy_2
def dkwX0_copy_0 : List UInt8 := [27, 184, 0, 73, 153, 0, 10, 29, 184, 0, 73, 154, 0, 5, 2, 172, 21, 5, 156, 0, 9, 42, 8]
abbrev dktX0_copy_0 : List UInt8 := dkwX0_copy_0 ++ dktX0_copy_1
theorem dksX0_copy_0 : cX0_copy.data.toList.drop 0 = dktX0_copy_0 := by decide +kernel
theorem dksX0_copy_1 : cX0_copy.data.toList.drop 23 = dktX0_copy_1 := dk_seg dksX0_copy_0 23 rfl rfl
theorem dksX0_copy_2 : cX0_copy.data.toList.drop 47 = dktX0_copy_2 := dk_seg dksX0_copy_1 24 rfl rfl
theorem dX0_copy_0 : decode cX0_copy 0 = .ok (.iload_n 1, 1) := dk_27 (dk_at dksX0_copy_0 0 rfl rfl)
theorem dX0_copy_1 : decode cX0_copy 1 = .ok (.invokestatic 73, 3) := dk_184 0 73 (dk_at dksX0_copy_0 1 rfl rfl)
theorem dX0_copy_4 : decode cX0_copy 4 = .ok (.ifCond .eq 10, 3) := dk_153 0 10 (dk_at dksX0_copy_0 4 rfl rfl)
theorem dX0_copy_7 : decode cX0_copy 7 = .ok (.iload_n 3, 1) := dk_29 (dk_at dksX0_copy_0 7 rfl rfl)
theorem dX0_copy_8 : decode cX0_copy 8 = .ok (.invokestatic 73, 3) := dk_184 0 73 (dk_at dksX0_copy_0 8 rfl rfl)
theorem dX0_copy_11 : decode cX0_copy 11 = .ok (.ifCond .ne 5, 3) := dk_154 0 5 (dk_at dksX0_copy_0 11 rfl rfl)
theorem dX0_copy_14 : decode cX0_copy 14 = .ok (.iconst (-1), 1) := dk_2 (dk_at dksX0_copy_0 14 rfl rfl)
theorem dX0_copy_15 : decode cX0_copy 15 = .ok (.ireturn, 1) := dk_172 (dk_at dksX0_copy_0 15 rfl rfl)
theorem dX0_copy_16 : decode cX0_copy 16 = .ok (.iload 5, 2) := dk_21 5 (dk_at dksX0_copy_0 16 rfl rfl)
theorem dX0_copy_18 : decode cX0_copy 18 = .ok (.ifCond .ge 9, 3) := dk_156 0 9 (dk_at dksX0_copy_0 18 rfl rfl)
theorem dX0_copy_21 : decode cX0_copy 21 = .ok (.aload_n 0, 1) := dk_42 (dk_at dksX0_copy_0 21 rfl rfl)
theorem dX0_copy_22 : decode cX0_copy 22 = .ok (.iconst 5, 1) := dk_8 (dk_at dksX0_copy_0 22 rfl rfl)
theorem dX0_copy_23 : decode cX0_copy 23 = .ok (.invokevirtual 79, 3) := dk_182 0 79 (dk_at dksX0_copy_1 0 rfl rfl)
theorem dX0_copy_26 : decode cX0_copy 26 = .ok (.ireturn, 1) := dk_172 (dk_at dksX0_copy_1 3 rfl rfl)
theorem dX0_copy_27 : decode cX0_copy 27 = .ok (.aload_n 0, 1) := dk_42 (dk_at dksX0_copy_1 4 rfl rfl)
theorem dX0_copy_28 : decode cX0_copy 28 = .ok (.getfield 22, 3) := dk_180 0 22 (dk_at dksX0_copy_1 5 rfl rfl)
theorem dX0_copy_31 : decode cX0_copy 31 = .ok (.iload_n 1, 1) := dk_27 (dk_at dksX0_copy_1 8 rfl rfl)
theorem dX0_copy_32 : decode cX0_copy 32 = .ok (.aaload, 1) := dk_50 (dk_at dksX0_copy_1 9 rfl rfl)
theorem dX0_copy_33 : decode cX0_copy 33 = .ok (.iload_n 2, 1) := dk_28 (dk_at dksX0_copy_1 10 rfl rfl)
theorem dX0_copy_34 : decode cX0_copy 34 = .ok (.aload_n 0, 1) := dk_42 (dk_at dksX0_copy_1 11 rfl rfl)
theorem dX0_copy_35 : decode cX0_copy 35 = .ok (.getfield 22, 3) := dk_180 0 22 (dk_at dksX0_copy_1 12 rfl rfl)
theorem dX0_copy_38 : decode cX0_copy 38 = .ok (.iload_n 3, 1) := dk_29 (dk_at dksX0_copy_1 15 rfl rfl)
theorem dX0_copy_39 : decode cX0_copy 39 = .ok (.aaload, 1) := dk_50 (dk_at dksX0_copy_1 16 rfl rfl)
theorem dX0_copy_40 : decode cX0_copy 40 = .ok (.iload 4, 2) := dk_21 4 (dk_at dksX0_copy_1 17 rfl rfl)
theorem dX0_copy_42 : decode cX0_copy 42 = .ok (.iload 5, 2) := dk_21 5 (dk_at dksX0_copy_1 19 rfl rfl)
theorem dX0_copy_44 : decode cX0_copy 44 = .ok (.invokestatic 87, 3) := dk_184 0 87 (dk_at dksX0_copy_1 21 rfl rfl)
theorem dX0_copy_47 : decode cX0_copy 47 = .ok (.iconst 1, 1) := dk_4 (dk_at dksX0_copy_2 0 rfl rfl)
theorem dX0_copy_48 : decode cX0_copy 48 = .ok (.ireturn, 1) := dk_172 (dk_at dksX0_copy_2 1 rfl rfl)
theorem dX0_copy_49 : decode cX0_copy 49 = .ok (.astore 6, 2) := dk_58 6 (dk_at dksX0_copy_2 2 rfl rfl)
theorem dX0_copy_51 : decode cX0_copy 51 = .ok (.aload_n 0, 1) := dk_42 (dk_at dksX0_copy_2 4 rfl rfl)
theorem dX0_copy_52 : decode cX0_copy 52 = .ok (.iconst 1, 1) := dk_4 (dk_at dksX0_copy_2 5 rfl rfl)
theorem dX0_copy_53 : decode cX0_copy 53 = .ok (.invokevirtual 79, 3) := dk_182 0 79 (dk_at dksX0_copy_2 6 rfl rfl)
theorem dX0_copy_56 : decode cX0_copy 56 = .ok (.ireturn, 1) := dk_172 (dk_at dksX0_copy_2 9 rfl rfl)
theorem dX0_copy_57 : decode cX0_copy 57 = .ok (.astore 6, 2) := dk_58 6 (dk_at dksX0_copy_2 10 rfl rfl)
theorem dX0_copy_59 : decode cX0_copy 59 = .ok (.aload_n 0, 1) := dk_42 (dk_at dksX0_copy_2 12 rfl rfl)
theorem dX0_copy_60 : decode cX0_copy 60 = .ok (.iconst 2, 1) := dk_5 (dk_at dksX0_copy_2 13 rfl rfl)
theorem dX0_copy_61 : decode cX0_copy 61 = .ok (.invokevirtual 79, 3) := dk_182 0 79 (dk_at dksX0_copy_2 14 rfl rfl)
theorem dX0_copy_64 : decode cX0_copy 64 = .ok (.ireturn, 1) := dk_172 (dk_at dksX0_copy_2 17 rfl rfl)
abbrev cX0_train : ByteArray := prog_1_method_13_code
def yX0_train : MethodName := ⟨RX0, "train", "()I"⟩
def dkwX0_train_1 : List UInt8 := [183, 0, 96, 182, 0, 99, 172]
abbrev dktX0_train_1 : List UInt8 := dkwX0_train_1 ++ []
def dkwX0_train_0 : List UInt8 := [42, 180, 0, 93, 16, 16, 160, 0, 8, 16, 254, 167, 0, 19, 42, 187, 0, 26, 89, 42, 42, 180, 0, 93]
abbrev dktX0_train_0 : List UInt8 := dkwX0_train_0 ++ dktX0_train_1
theorem dksX0_train_0 : cX0_train.data.toList.drop 0 = dktX0_train_0 := by decide +kernel
theorem dksX0_train_1 : cX0_train.data.toList.drop 24 = dktX0_train_1 := dk_seg dksX0_train_0 24 rfl rfl
theorem dX0_train_0 : decode cX0_train 0 = .ok (.aload_n 0, 1) := dk_42 (dk_at dksX0_train_0 0 rfl rfl)
theorem dX0_train_1 : decode cX0_train 1 = .ok (.getfield 93, 3) := dk_180 0 93 (dk_at dksX0_train_0 1 rfl rfl)
theorem dX0_train_4 : decode cX0_train 4 = .ok (.bipush 16, 2) := dk_16 16 (dk_at dksX0_train_0 4 rfl rfl)
theorem dX0_train_6 : decode cX0_train 6 = .ok (.if_icmp .ne 8, 3) := dk_160 0 8 (dk_at dksX0_train_0 6 rfl rfl)
theorem dX0_train_9 : decode cX0_train 9 = .ok (.bipush (-2), 2) := dk_16 254 (dk_at dksX0_train_0 9 rfl rfl)
theorem dX0_train_11 : decode cX0_train 11 = .ok (.goto 19, 3) := dk_167 0 19 (dk_at dksX0_train_0 11 rfl rfl)
theorem dX0_train_14 : decode cX0_train 14 = .ok (.aload_n 0, 1) := dk_42 (dk_at dksX0_train_0 14 rfl rfl)
theorem dX0_train_15 : decode cX0_train 15 = .ok (.new 26, 3) := dk_187 0 26 (dk_at dksX0_train_0 15 rfl rfl)
theorem dX0_train_18 : decode cX0_train 18 = .ok (.dup, 1) := dk_89 (dk_at dksX0_train_0 18 rfl rfl)
theorem dX0_train_19 : decode cX0_train 19 = .ok (.aload_n 0, 1) := dk_42 (dk_at dksX0_train_0 19 rfl rfl)
theorem dX0_train_20 : decode cX0_train 20 = .ok (.aload_n 0, 1) := dk_42 (dk_at dksX0_train_0 20 rfl rfl)
theorem dX0_train_21 : decode cX0_train 21 = .ok (.getfield 93, 3) := dk_180 0 93 (dk_at dksX0_train_0 21 rfl rfl)
theorem dX0_train_24 : decode cX0_train 24 = .ok (.invokespecial 96, 3) := dk_183 0 96 (dk_at dksX0_train_1 0 rfl rfl)
theorem dX0_train_27 : decode cX0_train 27 = .ok (.invokevirtual 99, 3) := dk_182 0 99 (dk_at dksX0_train_1 3 rfl rfl)
theorem dX0_train_30 : decode cX0_train 30 = .ok (.ireturn, 1) := dk_172 (dk_at dksX0_train_1 6 rfl rfl)
abbrev cX0_comes : ByteArray := prog_1_method_12_code
def yX0_comes : MethodName := ⟨RX0, "comes", "(LHammerTowers$Train;)I"⟩
def dkwX0_comes_1 : List UInt8 := [4, 100, 172]
abbrev dktX0_comes_1 : List UInt8 := dkwX0_comes_1 ++ []
def dkwX0_comes_0 : List UInt8 := [42, 180, 0, 28, 42, 180, 0, 93, 43, 83, 42, 89, 180, 0, 93, 4, 96, 181, 0, 93, 42, 180, 0, 93]
abbrev dktX0_comes_0 : List UInt8 := dkwX0_comes_0 ++ dktX0_comes_1
theorem dksX0_comes_0 : cX0_comes.data.toList.drop 0 = dktX0_comes_0 := by decide +kernel
theorem dksX0_comes_1 : cX0_comes.data.toList.drop 24 = dktX0_comes_1 := dk_seg dksX0_comes_0 24 rfl rfl
theorem dX0_comes_0 : decode cX0_comes 0 = .ok (.aload_n 0, 1) := dk_42 (dk_at dksX0_comes_0 0 rfl rfl)
theorem dX0_comes_1 : decode cX0_comes 1 = .ok (.getfield 28, 3) := dk_180 0 28 (dk_at dksX0_comes_0 1 rfl rfl)
theorem dX0_comes_4 : decode cX0_comes 4 = .ok (.aload_n 0, 1) := dk_42 (dk_at dksX0_comes_0 4 rfl rfl)
theorem dX0_comes_5 : decode cX0_comes 5 = .ok (.getfield 93, 3) := dk_180 0 93 (dk_at dksX0_comes_0 5 rfl rfl)
theorem dX0_comes_8 : decode cX0_comes 8 = .ok (.aload_n 1, 1) := dk_43 (dk_at dksX0_comes_0 8 rfl rfl)
theorem dX0_comes_9 : decode cX0_comes 9 = .ok (.aastore, 1) := dk_83 (dk_at dksX0_comes_0 9 rfl rfl)
theorem dX0_comes_10 : decode cX0_comes 10 = .ok (.aload_n 0, 1) := dk_42 (dk_at dksX0_comes_0 10 rfl rfl)
theorem dX0_comes_11 : decode cX0_comes 11 = .ok (.dup, 1) := dk_89 (dk_at dksX0_comes_0 11 rfl rfl)
theorem dX0_comes_12 : decode cX0_comes 12 = .ok (.getfield 93, 3) := dk_180 0 93 (dk_at dksX0_comes_0 12 rfl rfl)
theorem dX0_comes_15 : decode cX0_comes 15 = .ok (.iconst 1, 1) := dk_4 (dk_at dksX0_comes_0 15 rfl rfl)
theorem dX0_comes_16 : decode cX0_comes 16 = .ok (.iadd, 1) := dk_96 (dk_at dksX0_comes_0 16 rfl rfl)
theorem dX0_comes_17 : decode cX0_comes 17 = .ok (.putfield 93, 3) := dk_181 0 93 (dk_at dksX0_comes_0 17 rfl rfl)
theorem dX0_comes_20 : decode cX0_comes 20 = .ok (.aload_n 0, 1) := dk_42 (dk_at dksX0_comes_0 20 rfl rfl)
theorem dX0_comes_21 : decode cX0_comes 21 = .ok (.getfield 93, 3) := dk_180 0 93 (dk_at dksX0_comes_0 21 rfl rfl)
theorem dX0_comes_24 : decode cX0_comes 24 = .ok (.iconst 1, 1) := dk_4 (dk_at dksX0_comes_1 0 rfl rfl)
theorem dX0_comes_25 : decode cX0_comes 25 = .ok (.isub, 1) := dk_100 (dk_at dksX0_comes_1 1 rfl rfl)
theorem dX0_comes_26 : decode cX0_comes 26 = .ok (.ireturn, 1) := dk_172 (dk_at dksX0_comes_1 2 rfl rfl)
abbrev cX0_plate : ByteArray := prog_1_method_15_code
def yX0_plate : MethodName := ⟨RX0, "plate", "(I)I"⟩
def dkwX0_plate_3 : List UInt8 := [183, 0, 109, 182, 0, 99, 172]
abbrev dktX0_plate_3 : List UInt8 := dkwX0_plate_3 ++ []
def dkwX0_plate_2 : List UInt8 := [44, 199, 0, 11, 42, 8, 182, 0, 79, 167, 0, 20, 42, 187, 0, 107, 89, 42, 42, 180, 0, 93, 44]
abbrev dktX0_plate_2 : List UInt8 := dkwX0_plate_2 ++ dktX0_plate_3
def dkwX0_plate_1 : List UInt8 := [180, 0, 22, 27, 50, 199, 0, 9, 42, 4, 182, 0, 79, 172, 42, 180, 0, 22, 27, 50, 184, 0, 103, 77]
abbrev dktX0_plate_1 : List UInt8 := dkwX0_plate_1 ++ dktX0_plate_2
def dkwX0_plate_0 : List UInt8 := [27, 184, 0, 73, 154, 0, 5, 2, 172, 42, 180, 0, 93, 16, 16, 160, 0, 6, 16, 254, 172, 42]
abbrev dktX0_plate_0 : List UInt8 := dkwX0_plate_0 ++ dktX0_plate_1
theorem dksX0_plate_0 : cX0_plate.data.toList.drop 0 = dktX0_plate_0 := by decide +kernel
theorem dksX0_plate_1 : cX0_plate.data.toList.drop 22 = dktX0_plate_1 := dk_seg dksX0_plate_0 22 rfl rfl
theorem dksX0_plate_2 : cX0_plate.data.toList.drop 46 = dktX0_plate_2 := dk_seg dksX0_plate_1 24 rfl rfl
theorem dksX0_plate_3 : cX0_plate.data.toList.drop 69 = dktX0_plate_3 := dk_seg dksX0_plate_2 23 rfl rfl
theorem dX0_plate_0 : decode cX0_plate 0 = .ok (.iload_n 1, 1) := dk_27 (dk_at dksX0_plate_0 0 rfl rfl)
theorem dX0_plate_1 : decode cX0_plate 1 = .ok (.invokestatic 73, 3) := dk_184 0 73 (dk_at dksX0_plate_0 1 rfl rfl)
theorem dX0_plate_4 : decode cX0_plate 4 = .ok (.ifCond .ne 5, 3) := dk_154 0 5 (dk_at dksX0_plate_0 4 rfl rfl)
theorem dX0_plate_7 : decode cX0_plate 7 = .ok (.iconst (-1), 1) := dk_2 (dk_at dksX0_plate_0 7 rfl rfl)
theorem dX0_plate_8 : decode cX0_plate 8 = .ok (.ireturn, 1) := dk_172 (dk_at dksX0_plate_0 8 rfl rfl)
theorem dX0_plate_9 : decode cX0_plate 9 = .ok (.aload_n 0, 1) := dk_42 (dk_at dksX0_plate_0 9 rfl rfl)
theorem dX0_plate_10 : decode cX0_plate 10 = .ok (.getfield 93, 3) := dk_180 0 93 (dk_at dksX0_plate_0 10 rfl rfl)
theorem dX0_plate_13 : decode cX0_plate 13 = .ok (.bipush 16, 2) := dk_16 16 (dk_at dksX0_plate_0 13 rfl rfl)
theorem dX0_plate_15 : decode cX0_plate 15 = .ok (.if_icmp .ne 6, 3) := dk_160 0 6 (dk_at dksX0_plate_0 15 rfl rfl)
theorem dX0_plate_18 : decode cX0_plate 18 = .ok (.bipush (-2), 2) := dk_16 254 (dk_at dksX0_plate_0 18 rfl rfl)
theorem dX0_plate_20 : decode cX0_plate 20 = .ok (.ireturn, 1) := dk_172 (dk_at dksX0_plate_0 20 rfl rfl)
theorem dX0_plate_21 : decode cX0_plate 21 = .ok (.aload_n 0, 1) := dk_42 (dk_at dksX0_plate_0 21 rfl rfl)
theorem dX0_plate_22 : decode cX0_plate 22 = .ok (.getfield 22, 3) := dk_180 0 22 (dk_at dksX0_plate_1 0 rfl rfl)
theorem dX0_plate_25 : decode cX0_plate 25 = .ok (.iload_n 1, 1) := dk_27 (dk_at dksX0_plate_1 3 rfl rfl)
theorem dX0_plate_26 : decode cX0_plate 26 = .ok (.aaload, 1) := dk_50 (dk_at dksX0_plate_1 4 rfl rfl)
theorem dX0_plate_27 : decode cX0_plate 27 = .ok (.ifnonnull 9, 3) := dk_199 0 9 (dk_at dksX0_plate_1 5 rfl rfl)
theorem dX0_plate_30 : decode cX0_plate 30 = .ok (.aload_n 0, 1) := dk_42 (dk_at dksX0_plate_1 8 rfl rfl)
theorem dX0_plate_31 : decode cX0_plate 31 = .ok (.iconst 1, 1) := dk_4 (dk_at dksX0_plate_1 9 rfl rfl)
theorem dX0_plate_32 : decode cX0_plate 32 = .ok (.invokevirtual 79, 3) := dk_182 0 79 (dk_at dksX0_plate_1 10 rfl rfl)
theorem dX0_plate_35 : decode cX0_plate 35 = .ok (.ireturn, 1) := dk_172 (dk_at dksX0_plate_1 13 rfl rfl)
theorem dX0_plate_36 : decode cX0_plate 36 = .ok (.aload_n 0, 1) := dk_42 (dk_at dksX0_plate_1 14 rfl rfl)
theorem dX0_plate_37 : decode cX0_plate 37 = .ok (.getfield 22, 3) := dk_180 0 22 (dk_at dksX0_plate_1 15 rfl rfl)
theorem dX0_plate_40 : decode cX0_plate 40 = .ok (.iload_n 1, 1) := dk_27 (dk_at dksX0_plate_1 18 rfl rfl)
theorem dX0_plate_41 : decode cX0_plate 41 = .ok (.aaload, 1) := dk_50 (dk_at dksX0_plate_1 19 rfl rfl)
theorem dX0_plate_42 : decode cX0_plate 42 = .ok (.invokestatic 103, 3) := dk_184 0 103 (dk_at dksX0_plate_1 20 rfl rfl)
theorem dX0_plate_45 : decode cX0_plate 45 = .ok (.astore_n 2, 1) := dk_77 (dk_at dksX0_plate_1 23 rfl rfl)
theorem dX0_plate_46 : decode cX0_plate 46 = .ok (.aload_n 2, 1) := dk_44 (dk_at dksX0_plate_2 0 rfl rfl)
theorem dX0_plate_47 : decode cX0_plate 47 = .ok (.ifnonnull 11, 3) := dk_199 0 11 (dk_at dksX0_plate_2 1 rfl rfl)
theorem dX0_plate_50 : decode cX0_plate 50 = .ok (.aload_n 0, 1) := dk_42 (dk_at dksX0_plate_2 4 rfl rfl)
theorem dX0_plate_51 : decode cX0_plate 51 = .ok (.iconst 5, 1) := dk_8 (dk_at dksX0_plate_2 5 rfl rfl)
theorem dX0_plate_52 : decode cX0_plate 52 = .ok (.invokevirtual 79, 3) := dk_182 0 79 (dk_at dksX0_plate_2 6 rfl rfl)
theorem dX0_plate_55 : decode cX0_plate 55 = .ok (.goto 20, 3) := dk_167 0 20 (dk_at dksX0_plate_2 9 rfl rfl)
theorem dX0_plate_58 : decode cX0_plate 58 = .ok (.aload_n 0, 1) := dk_42 (dk_at dksX0_plate_2 12 rfl rfl)
theorem dX0_plate_59 : decode cX0_plate 59 = .ok (.new 107, 3) := dk_187 0 107 (dk_at dksX0_plate_2 13 rfl rfl)
theorem dX0_plate_62 : decode cX0_plate 62 = .ok (.dup, 1) := dk_89 (dk_at dksX0_plate_2 16 rfl rfl)
theorem dX0_plate_63 : decode cX0_plate 63 = .ok (.aload_n 0, 1) := dk_42 (dk_at dksX0_plate_2 17 rfl rfl)
theorem dX0_plate_64 : decode cX0_plate 64 = .ok (.aload_n 0, 1) := dk_42 (dk_at dksX0_plate_2 18 rfl rfl)
theorem dX0_plate_65 : decode cX0_plate 65 = .ok (.getfield 93, 3) := dk_180 0 93 (dk_at dksX0_plate_2 19 rfl rfl)
theorem dX0_plate_68 : decode cX0_plate 68 = .ok (.aload_n 2, 1) := dk_44 (dk_at dksX0_plate_2 22 rfl rfl)
theorem dX0_plate_69 : decode cX0_plate 69 = .ok (.invokespecial 109, 3) := dk_183 0 109 (dk_at dksX0_plate_3 0 rfl rfl)
theorem dX0_plate_72 : decode cX0_plate 72 = .ok (.invokevirtual 99, 3) := dk_182 0 99 (dk_at dksX0_plate_3 3 rfl rfl)
theorem dX0_plate_75 : decode cX0_plate 75 = .ok (.ireturn, 1) := dk_172 (dk_at dksX0_plate_3 6 rfl rfl)
abbrev cX0_strokesOf : ByteArray := prog_1_method_14_code
def yX0_strokesOf : MethodName := ⟨RX0, "strokesOf", "([B)[I"⟩
def dkwX0_strokesOf_2 : List UInt8 := [29, 42, 190, 162, 0, 15, 44, 29, 42, 29, 51, 79, 132, 3, 1, 167, 255, 241, 44, 176]
abbrev dktX0_strokesOf_2 : List UInt8 := dkwX0_strokesOf_2 ++ []
def dkwX0_strokesOf_1 : List UInt8 := [184, 0, 69, 126, 60, 132, 2, 1, 167, 255, 235, 27, 154, 0, 5, 1, 176, 42, 190, 188, 10, 77, 3, 62]
abbrev dktX0_strokesOf_1 : List UInt8 := dkwX0_strokesOf_1 ++ dktX0_strokesOf_2
def dkwX0_strokesOf_0 : List UInt8 := [42, 190, 4, 16, 24, 184, 0, 69, 60, 3, 61, 28, 42, 190, 162, 0, 21, 27, 42, 28, 51, 4, 16, 24]
abbrev dktX0_strokesOf_0 : List UInt8 := dkwX0_strokesOf_0 ++ dktX0_strokesOf_1
theorem dksX0_strokesOf_0 : cX0_strokesOf.data.toList.drop 0 = dktX0_strokesOf_0 := by decide +kernel
theorem dksX0_strokesOf_1 : cX0_strokesOf.data.toList.drop 24 = dktX0_strokesOf_1 := dk_seg dksX0_strokesOf_0 24 rfl rfl
theorem dksX0_strokesOf_2 : cX0_strokesOf.data.toList.drop 48 = dktX0_strokesOf_2 := dk_seg dksX0_strokesOf_1 24 rfl rfl
theorem dX0_strokesOf_0 : decode cX0_strokesOf 0 = .ok (.aload_n 0, 1) := dk_42 (dk_at dksX0_strokesOf_0 0 rfl rfl)
theorem dX0_strokesOf_1 : decode cX0_strokesOf 1 = .ok (.arraylength, 1) := dk_190 (dk_at dksX0_strokesOf_0 1 rfl rfl)
theorem dX0_strokesOf_2 : decode cX0_strokesOf 2 = .ok (.iconst 1, 1) := dk_4 (dk_at dksX0_strokesOf_0 2 rfl rfl)
theorem dX0_strokesOf_3 : decode cX0_strokesOf 3 = .ok (.bipush 24, 2) := dk_16 24 (dk_at dksX0_strokesOf_0 3 rfl rfl)
theorem dX0_strokesOf_5 : decode cX0_strokesOf 5 = .ok (.invokestatic 69, 3) := dk_184 0 69 (dk_at dksX0_strokesOf_0 5 rfl rfl)
theorem dX0_strokesOf_8 : decode cX0_strokesOf 8 = .ok (.istore_n 1, 1) := dk_60 (dk_at dksX0_strokesOf_0 8 rfl rfl)
theorem dX0_strokesOf_9 : decode cX0_strokesOf 9 = .ok (.iconst 0, 1) := dk_3 (dk_at dksX0_strokesOf_0 9 rfl rfl)
theorem dX0_strokesOf_10 : decode cX0_strokesOf 10 = .ok (.istore_n 2, 1) := dk_61 (dk_at dksX0_strokesOf_0 10 rfl rfl)
theorem dX0_strokesOf_11 : decode cX0_strokesOf 11 = .ok (.iload_n 2, 1) := dk_28 (dk_at dksX0_strokesOf_0 11 rfl rfl)
theorem dX0_strokesOf_12 : decode cX0_strokesOf 12 = .ok (.aload_n 0, 1) := dk_42 (dk_at dksX0_strokesOf_0 12 rfl rfl)
theorem dX0_strokesOf_13 : decode cX0_strokesOf 13 = .ok (.arraylength, 1) := dk_190 (dk_at dksX0_strokesOf_0 13 rfl rfl)
theorem dX0_strokesOf_14 : decode cX0_strokesOf 14 = .ok (.if_icmp .ge 21, 3) := dk_162 0 21 (dk_at dksX0_strokesOf_0 14 rfl rfl)
theorem dX0_strokesOf_17 : decode cX0_strokesOf 17 = .ok (.iload_n 1, 1) := dk_27 (dk_at dksX0_strokesOf_0 17 rfl rfl)
theorem dX0_strokesOf_18 : decode cX0_strokesOf 18 = .ok (.aload_n 0, 1) := dk_42 (dk_at dksX0_strokesOf_0 18 rfl rfl)
theorem dX0_strokesOf_19 : decode cX0_strokesOf 19 = .ok (.iload_n 2, 1) := dk_28 (dk_at dksX0_strokesOf_0 19 rfl rfl)
theorem dX0_strokesOf_20 : decode cX0_strokesOf 20 = .ok (.baload, 1) := dk_51 (dk_at dksX0_strokesOf_0 20 rfl rfl)
theorem dX0_strokesOf_21 : decode cX0_strokesOf 21 = .ok (.iconst 1, 1) := dk_4 (dk_at dksX0_strokesOf_0 21 rfl rfl)
theorem dX0_strokesOf_22 : decode cX0_strokesOf 22 = .ok (.bipush 24, 2) := dk_16 24 (dk_at dksX0_strokesOf_0 22 rfl rfl)
theorem dX0_strokesOf_24 : decode cX0_strokesOf 24 = .ok (.invokestatic 69, 3) := dk_184 0 69 (dk_at dksX0_strokesOf_1 0 rfl rfl)
theorem dX0_strokesOf_27 : decode cX0_strokesOf 27 = .ok (.iand, 1) := dk_126 (dk_at dksX0_strokesOf_1 3 rfl rfl)
theorem dX0_strokesOf_28 : decode cX0_strokesOf 28 = .ok (.istore_n 1, 1) := dk_60 (dk_at dksX0_strokesOf_1 4 rfl rfl)
theorem dX0_strokesOf_29 : decode cX0_strokesOf 29 = .ok (.iinc 2 1, 3) := dk_132 2 1 (dk_at dksX0_strokesOf_1 5 rfl rfl)
theorem dX0_strokesOf_32 : decode cX0_strokesOf 32 = .ok (.goto (-21), 3) := dk_167 255 235 (dk_at dksX0_strokesOf_1 8 rfl rfl)
theorem dX0_strokesOf_35 : decode cX0_strokesOf 35 = .ok (.iload_n 1, 1) := dk_27 (dk_at dksX0_strokesOf_1 11 rfl rfl)
theorem dX0_strokesOf_36 : decode cX0_strokesOf 36 = .ok (.ifCond .ne 5, 3) := dk_154 0 5 (dk_at dksX0_strokesOf_1 12 rfl rfl)
theorem dX0_strokesOf_39 : decode cX0_strokesOf 39 = .ok (.aconst_null, 1) := dk_1 (dk_at dksX0_strokesOf_1 15 rfl rfl)
theorem dX0_strokesOf_40 : decode cX0_strokesOf 40 = .ok (.areturn, 1) := dk_176 (dk_at dksX0_strokesOf_1 16 rfl rfl)
theorem dX0_strokesOf_41 : decode cX0_strokesOf 41 = .ok (.aload_n 0, 1) := dk_42 (dk_at dksX0_strokesOf_1 17 rfl rfl)
theorem dX0_strokesOf_42 : decode cX0_strokesOf 42 = .ok (.arraylength, 1) := dk_190 (dk_at dksX0_strokesOf_1 18 rfl rfl)
theorem dX0_strokesOf_43 : decode cX0_strokesOf 43 = .ok (.newarray .int, 2) := dk_188_10 (dk_at dksX0_strokesOf_1 19 rfl rfl)
theorem dX0_strokesOf_45 : decode cX0_strokesOf 45 = .ok (.astore_n 2, 1) := dk_77 (dk_at dksX0_strokesOf_1 21 rfl rfl)
theorem dX0_strokesOf_46 : decode cX0_strokesOf 46 = .ok (.iconst 0, 1) := dk_3 (dk_at dksX0_strokesOf_1 22 rfl rfl)
theorem dX0_strokesOf_47 : decode cX0_strokesOf 47 = .ok (.istore_n 3, 1) := dk_62 (dk_at dksX0_strokesOf_1 23 rfl rfl)
theorem dX0_strokesOf_48 : decode cX0_strokesOf 48 = .ok (.iload_n 3, 1) := dk_29 (dk_at dksX0_strokesOf_2 0 rfl rfl)
theorem dX0_strokesOf_49 : decode cX0_strokesOf 49 = .ok (.aload_n 0, 1) := dk_42 (dk_at dksX0_strokesOf_2 1 rfl rfl)
theorem dX0_strokesOf_50 : decode cX0_strokesOf 50 = .ok (.arraylength, 1) := dk_190 (dk_at dksX0_strokesOf_2 2 rfl rfl)
theorem dX0_strokesOf_51 : decode cX0_strokesOf 51 = .ok (.if_icmp .ge 15, 3) := dk_162 0 15 (dk_at dksX0_strokesOf_2 3 rfl rfl)
theorem dX0_strokesOf_54 : decode cX0_strokesOf 54 = .ok (.aload_n 2, 1) := dk_44 (dk_at dksX0_strokesOf_2 6 rfl rfl)
theorem dX0_strokesOf_55 : decode cX0_strokesOf 55 = .ok (.iload_n 3, 1) := dk_29 (dk_at dksX0_strokesOf_2 7 rfl rfl)
theorem dX0_strokesOf_56 : decode cX0_strokesOf 56 = .ok (.aload_n 0, 1) := dk_42 (dk_at dksX0_strokesOf_2 8 rfl rfl)
theorem dX0_strokesOf_57 : decode cX0_strokesOf 57 = .ok (.iload_n 3, 1) := dk_29 (dk_at dksX0_strokesOf_2 9 rfl rfl)
theorem dX0_strokesOf_58 : decode cX0_strokesOf 58 = .ok (.baload, 1) := dk_51 (dk_at dksX0_strokesOf_2 10 rfl rfl)
theorem dX0_strokesOf_59 : decode cX0_strokesOf 59 = .ok (.iastore, 1) := dk_79 (dk_at dksX0_strokesOf_2 11 rfl rfl)
theorem dX0_strokesOf_60 : decode cX0_strokesOf 60 = .ok (.iinc 3 1, 3) := dk_132 3 1 (dk_at dksX0_strokesOf_2 12 rfl rfl)
theorem dX0_strokesOf_63 : decode cX0_strokesOf 63 = .ok (.goto (-15), 3) := dk_167 255 241 (dk_at dksX0_strokesOf_2 15 rfl rfl)
theorem dX0_strokesOf_66 : decode cX0_strokesOf 66 = .ok (.aload_n 2, 1) := dk_44 (dk_at dksX0_strokesOf_2 18 rfl rfl)
theorem dX0_strokesOf_67 : decode cX0_strokesOf 67 = .ok (.areturn, 1) := dk_176 (dk_at dksX0_strokesOf_2 19 rfl rfl)
abbrev cX0_snail : ByteArray := prog_1_method_16_code
def yX0_snail : MethodName := ⟨RX0, "snail", "(I)I"⟩
def dkwX0_snail_3 : List UInt8 := [183, 0, 114, 182, 0, 99, 172]
abbrev dktX0_snail_3 : List UInt8 := dkwX0_snail_3 ++ []
def dkwX0_snail_2 : List UInt8 := [44, 199, 0, 11, 42, 8, 182, 0, 79, 167, 0, 20, 42, 187, 0, 112, 89, 42, 42, 180, 0, 93, 44]
abbrev dktX0_snail_2 : List UInt8 := dkwX0_snail_2 ++ dktX0_snail_3
def dkwX0_snail_1 : List UInt8 := [180, 0, 22, 27, 50, 199, 0, 9, 42, 4, 182, 0, 79, 172, 42, 180, 0, 22, 27, 50, 184, 0, 103, 77]
abbrev dktX0_snail_1 : List UInt8 := dkwX0_snail_1 ++ dktX0_snail_2
def dkwX0_snail_0 : List UInt8 := [27, 184, 0, 73, 154, 0, 5, 2, 172, 42, 180, 0, 93, 16, 16, 160, 0, 6, 16, 254, 172, 42]
abbrev dktX0_snail_0 : List UInt8 := dkwX0_snail_0 ++ dktX0_snail_1
theorem dksX0_snail_0 : cX0_snail.data.toList.drop 0 = dktX0_snail_0 := by decide +kernel
theorem dksX0_snail_1 : cX0_snail.data.toList.drop 22 = dktX0_snail_1 := dk_seg dksX0_snail_0 22 rfl rfl
theorem dksX0_snail_2 : cX0_snail.data.toList.drop 46 = dktX0_snail_2 := dk_seg dksX0_snail_1 24 rfl rfl
theorem dksX0_snail_3 : cX0_snail.data.toList.drop 69 = dktX0_snail_3 := dk_seg dksX0_snail_2 23 rfl rfl
theorem dX0_snail_0 : decode cX0_snail 0 = .ok (.iload_n 1, 1) := dk_27 (dk_at dksX0_snail_0 0 rfl rfl)
theorem dX0_snail_1 : decode cX0_snail 1 = .ok (.invokestatic 73, 3) := dk_184 0 73 (dk_at dksX0_snail_0 1 rfl rfl)
theorem dX0_snail_4 : decode cX0_snail 4 = .ok (.ifCond .ne 5, 3) := dk_154 0 5 (dk_at dksX0_snail_0 4 rfl rfl)
theorem dX0_snail_7 : decode cX0_snail 7 = .ok (.iconst (-1), 1) := dk_2 (dk_at dksX0_snail_0 7 rfl rfl)
theorem dX0_snail_8 : decode cX0_snail 8 = .ok (.ireturn, 1) := dk_172 (dk_at dksX0_snail_0 8 rfl rfl)
theorem dX0_snail_9 : decode cX0_snail 9 = .ok (.aload_n 0, 1) := dk_42 (dk_at dksX0_snail_0 9 rfl rfl)
theorem dX0_snail_10 : decode cX0_snail 10 = .ok (.getfield 93, 3) := dk_180 0 93 (dk_at dksX0_snail_0 10 rfl rfl)
theorem dX0_snail_13 : decode cX0_snail 13 = .ok (.bipush 16, 2) := dk_16 16 (dk_at dksX0_snail_0 13 rfl rfl)
theorem dX0_snail_15 : decode cX0_snail 15 = .ok (.if_icmp .ne 6, 3) := dk_160 0 6 (dk_at dksX0_snail_0 15 rfl rfl)
theorem dX0_snail_18 : decode cX0_snail 18 = .ok (.bipush (-2), 2) := dk_16 254 (dk_at dksX0_snail_0 18 rfl rfl)
theorem dX0_snail_20 : decode cX0_snail 20 = .ok (.ireturn, 1) := dk_172 (dk_at dksX0_snail_0 20 rfl rfl)
theorem dX0_snail_21 : decode cX0_snail 21 = .ok (.aload_n 0, 1) := dk_42 (dk_at dksX0_snail_0 21 rfl rfl)
theorem dX0_snail_22 : decode cX0_snail 22 = .ok (.getfield 22, 3) := dk_180 0 22 (dk_at dksX0_snail_1 0 rfl rfl)
theorem dX0_snail_25 : decode cX0_snail 25 = .ok (.iload_n 1, 1) := dk_27 (dk_at dksX0_snail_1 3 rfl rfl)
theorem dX0_snail_26 : decode cX0_snail 26 = .ok (.aaload, 1) := dk_50 (dk_at dksX0_snail_1 4 rfl rfl)
theorem dX0_snail_27 : decode cX0_snail 27 = .ok (.ifnonnull 9, 3) := dk_199 0 9 (dk_at dksX0_snail_1 5 rfl rfl)
theorem dX0_snail_30 : decode cX0_snail 30 = .ok (.aload_n 0, 1) := dk_42 (dk_at dksX0_snail_1 8 rfl rfl)
theorem dX0_snail_31 : decode cX0_snail 31 = .ok (.iconst 1, 1) := dk_4 (dk_at dksX0_snail_1 9 rfl rfl)
theorem dX0_snail_32 : decode cX0_snail 32 = .ok (.invokevirtual 79, 3) := dk_182 0 79 (dk_at dksX0_snail_1 10 rfl rfl)
theorem dX0_snail_35 : decode cX0_snail 35 = .ok (.ireturn, 1) := dk_172 (dk_at dksX0_snail_1 13 rfl rfl)
theorem dX0_snail_36 : decode cX0_snail 36 = .ok (.aload_n 0, 1) := dk_42 (dk_at dksX0_snail_1 14 rfl rfl)
theorem dX0_snail_37 : decode cX0_snail 37 = .ok (.getfield 22, 3) := dk_180 0 22 (dk_at dksX0_snail_1 15 rfl rfl)
theorem dX0_snail_40 : decode cX0_snail 40 = .ok (.iload_n 1, 1) := dk_27 (dk_at dksX0_snail_1 18 rfl rfl)
theorem dX0_snail_41 : decode cX0_snail 41 = .ok (.aaload, 1) := dk_50 (dk_at dksX0_snail_1 19 rfl rfl)
theorem dX0_snail_42 : decode cX0_snail 42 = .ok (.invokestatic 103, 3) := dk_184 0 103 (dk_at dksX0_snail_1 20 rfl rfl)
theorem dX0_snail_45 : decode cX0_snail 45 = .ok (.astore_n 2, 1) := dk_77 (dk_at dksX0_snail_1 23 rfl rfl)
theorem dX0_snail_46 : decode cX0_snail 46 = .ok (.aload_n 2, 1) := dk_44 (dk_at dksX0_snail_2 0 rfl rfl)
theorem dX0_snail_47 : decode cX0_snail 47 = .ok (.ifnonnull 11, 3) := dk_199 0 11 (dk_at dksX0_snail_2 1 rfl rfl)
theorem dX0_snail_50 : decode cX0_snail 50 = .ok (.aload_n 0, 1) := dk_42 (dk_at dksX0_snail_2 4 rfl rfl)
theorem dX0_snail_51 : decode cX0_snail 51 = .ok (.iconst 5, 1) := dk_8 (dk_at dksX0_snail_2 5 rfl rfl)
theorem dX0_snail_52 : decode cX0_snail 52 = .ok (.invokevirtual 79, 3) := dk_182 0 79 (dk_at dksX0_snail_2 6 rfl rfl)
theorem dX0_snail_55 : decode cX0_snail 55 = .ok (.goto 20, 3) := dk_167 0 20 (dk_at dksX0_snail_2 9 rfl rfl)
theorem dX0_snail_58 : decode cX0_snail 58 = .ok (.aload_n 0, 1) := dk_42 (dk_at dksX0_snail_2 12 rfl rfl)
theorem dX0_snail_59 : decode cX0_snail 59 = .ok (.new 112, 3) := dk_187 0 112 (dk_at dksX0_snail_2 13 rfl rfl)
theorem dX0_snail_62 : decode cX0_snail 62 = .ok (.dup, 1) := dk_89 (dk_at dksX0_snail_2 16 rfl rfl)
theorem dX0_snail_63 : decode cX0_snail 63 = .ok (.aload_n 0, 1) := dk_42 (dk_at dksX0_snail_2 17 rfl rfl)
theorem dX0_snail_64 : decode cX0_snail 64 = .ok (.aload_n 0, 1) := dk_42 (dk_at dksX0_snail_2 18 rfl rfl)
theorem dX0_snail_65 : decode cX0_snail 65 = .ok (.getfield 93, 3) := dk_180 0 93 (dk_at dksX0_snail_2 19 rfl rfl)
theorem dX0_snail_68 : decode cX0_snail 68 = .ok (.aload_n 2, 1) := dk_44 (dk_at dksX0_snail_2 22 rfl rfl)
theorem dX0_snail_69 : decode cX0_snail 69 = .ok (.invokespecial 114, 3) := dk_183 0 114 (dk_at dksX0_snail_3 0 rfl rfl)
theorem dX0_snail_72 : decode cX0_snail 72 = .ok (.invokevirtual 99, 3) := dk_182 0 99 (dk_at dksX0_snail_3 3 rfl rfl)
theorem dX0_snail_75 : decode cX0_snail 75 = .ok (.ireturn, 1) := dk_172 (dk_at dksX0_snail_3 6 rfl rfl)
abbrev cX0_barrel : ByteArray := prog_1_method_17_code
def yX0_barrel : MethodName := ⟨RX0, "barrel", "(II)I"⟩
def dkwX0_barrel_6 : List UInt8 := [183, 0, 117, 182, 0, 99, 172]
abbrev dktX0_barrel_6 : List UInt8 := dkwX0_barrel_6 ++ []
def dkwX0_barrel_5 : List UInt8 := [17, 0, 255, 126, 79, 132, 5, 1, 167, 255, 227, 42, 187, 0, 115, 89, 42, 42, 180, 0, 93, 45, 25, 4]
abbrev dktX0_barrel_5 : List UInt8 := dkwX0_barrel_5 ++ dktX0_barrel_6
def dkwX0_barrel_4 : List UInt8 := [54, 5, 21, 5, 25, 4, 190, 162, 0, 27, 25, 4, 21, 5, 42, 180, 0, 22, 28, 50, 21, 5, 51]
abbrev dktX0_barrel_4 : List UInt8 := dkwX0_barrel_4 ++ dktX0_barrel_5
def dkwX0_barrel_3 : List UInt8 := [28, 50, 190, 154, 0, 9, 42, 8, 182, 0, 79, 172, 42, 180, 0, 22, 28, 50, 190, 188, 10, 58, 4, 3]
abbrev dktX0_barrel_3 : List UInt8 := dkwX0_barrel_3 ++ dktX0_barrel_4
def dkwX0_barrel_2 : List UInt8 := [42, 4, 182, 0, 79, 172, 42, 180, 0, 22, 27, 50, 184, 0, 103, 78, 45, 198, 0, 13, 42, 180, 0, 22]
abbrev dktX0_barrel_2 : List UInt8 := dkwX0_barrel_2 ++ dktX0_barrel_3
def dkwX0_barrel_1 : List UInt8 := [160, 0, 6, 16, 254, 172, 42, 180, 0, 22, 27, 50, 198, 0, 12, 42, 180, 0, 22, 28, 50, 199, 0, 9]
abbrev dktX0_barrel_1 : List UInt8 := dkwX0_barrel_1 ++ dktX0_barrel_2
def dkwX0_barrel_0 : List UInt8 := [27, 184, 0, 73, 153, 0, 10, 28, 184, 0, 73, 154, 0, 5, 2, 172, 42, 180, 0, 93, 16, 16]
abbrev dktX0_barrel_0 : List UInt8 := dkwX0_barrel_0 ++ dktX0_barrel_1
theorem dksX0_barrel_0 : cX0_barrel.data.toList.drop 0 = dktX0_barrel_0 := by decide +kernel
theorem dksX0_barrel_1 : cX0_barrel.data.toList.drop 22 = dktX0_barrel_1 := dk_seg dksX0_barrel_0 22 rfl rfl
theorem dksX0_barrel_2 : cX0_barrel.data.toList.drop 46 = dktX0_barrel_2 := dk_seg dksX0_barrel_1 24 rfl rfl
theorem dksX0_barrel_3 : cX0_barrel.data.toList.drop 70 = dktX0_barrel_3 := dk_seg dksX0_barrel_2 24 rfl rfl
theorem dksX0_barrel_4 : cX0_barrel.data.toList.drop 94 = dktX0_barrel_4 := dk_seg dksX0_barrel_3 24 rfl rfl
theorem dksX0_barrel_5 : cX0_barrel.data.toList.drop 117 = dktX0_barrel_5 := dk_seg dksX0_barrel_4 23 rfl rfl
theorem dksX0_barrel_6 : cX0_barrel.data.toList.drop 141 = dktX0_barrel_6 := dk_seg dksX0_barrel_5 24 rfl rfl
theorem dX0_barrel_0 : decode cX0_barrel 0 = .ok (.iload_n 1, 1) := dk_27 (dk_at dksX0_barrel_0 0 rfl rfl)
theorem dX0_barrel_1 : decode cX0_barrel 1 = .ok (.invokestatic 73, 3) := dk_184 0 73 (dk_at dksX0_barrel_0 1 rfl rfl)
theorem dX0_barrel_4 : decode cX0_barrel 4 = .ok (.ifCond .eq 10, 3) := dk_153 0 10 (dk_at dksX0_barrel_0 4 rfl rfl)
theorem dX0_barrel_7 : decode cX0_barrel 7 = .ok (.iload_n 2, 1) := dk_28 (dk_at dksX0_barrel_0 7 rfl rfl)
theorem dX0_barrel_8 : decode cX0_barrel 8 = .ok (.invokestatic 73, 3) := dk_184 0 73 (dk_at dksX0_barrel_0 8 rfl rfl)
theorem dX0_barrel_11 : decode cX0_barrel 11 = .ok (.ifCond .ne 5, 3) := dk_154 0 5 (dk_at dksX0_barrel_0 11 rfl rfl)
theorem dX0_barrel_14 : decode cX0_barrel 14 = .ok (.iconst (-1), 1) := dk_2 (dk_at dksX0_barrel_0 14 rfl rfl)
theorem dX0_barrel_15 : decode cX0_barrel 15 = .ok (.ireturn, 1) := dk_172 (dk_at dksX0_barrel_0 15 rfl rfl)
theorem dX0_barrel_16 : decode cX0_barrel 16 = .ok (.aload_n 0, 1) := dk_42 (dk_at dksX0_barrel_0 16 rfl rfl)
theorem dX0_barrel_17 : decode cX0_barrel 17 = .ok (.getfield 93, 3) := dk_180 0 93 (dk_at dksX0_barrel_0 17 rfl rfl)
theorem dX0_barrel_20 : decode cX0_barrel 20 = .ok (.bipush 16, 2) := dk_16 16 (dk_at dksX0_barrel_0 20 rfl rfl)
theorem dX0_barrel_22 : decode cX0_barrel 22 = .ok (.if_icmp .ne 6, 3) := dk_160 0 6 (dk_at dksX0_barrel_1 0 rfl rfl)
theorem dX0_barrel_25 : decode cX0_barrel 25 = .ok (.bipush (-2), 2) := dk_16 254 (dk_at dksX0_barrel_1 3 rfl rfl)
theorem dX0_barrel_27 : decode cX0_barrel 27 = .ok (.ireturn, 1) := dk_172 (dk_at dksX0_barrel_1 5 rfl rfl)
theorem dX0_barrel_28 : decode cX0_barrel 28 = .ok (.aload_n 0, 1) := dk_42 (dk_at dksX0_barrel_1 6 rfl rfl)
theorem dX0_barrel_29 : decode cX0_barrel 29 = .ok (.getfield 22, 3) := dk_180 0 22 (dk_at dksX0_barrel_1 7 rfl rfl)
theorem dX0_barrel_32 : decode cX0_barrel 32 = .ok (.iload_n 1, 1) := dk_27 (dk_at dksX0_barrel_1 10 rfl rfl)
theorem dX0_barrel_33 : decode cX0_barrel 33 = .ok (.aaload, 1) := dk_50 (dk_at dksX0_barrel_1 11 rfl rfl)
theorem dX0_barrel_34 : decode cX0_barrel 34 = .ok (.ifnull 12, 3) := dk_198 0 12 (dk_at dksX0_barrel_1 12 rfl rfl)
theorem dX0_barrel_37 : decode cX0_barrel 37 = .ok (.aload_n 0, 1) := dk_42 (dk_at dksX0_barrel_1 15 rfl rfl)
theorem dX0_barrel_38 : decode cX0_barrel 38 = .ok (.getfield 22, 3) := dk_180 0 22 (dk_at dksX0_barrel_1 16 rfl rfl)
theorem dX0_barrel_41 : decode cX0_barrel 41 = .ok (.iload_n 2, 1) := dk_28 (dk_at dksX0_barrel_1 19 rfl rfl)
theorem dX0_barrel_42 : decode cX0_barrel 42 = .ok (.aaload, 1) := dk_50 (dk_at dksX0_barrel_1 20 rfl rfl)
theorem dX0_barrel_43 : decode cX0_barrel 43 = .ok (.ifnonnull 9, 3) := dk_199 0 9 (dk_at dksX0_barrel_1 21 rfl rfl)
theorem dX0_barrel_46 : decode cX0_barrel 46 = .ok (.aload_n 0, 1) := dk_42 (dk_at dksX0_barrel_2 0 rfl rfl)
theorem dX0_barrel_47 : decode cX0_barrel 47 = .ok (.iconst 1, 1) := dk_4 (dk_at dksX0_barrel_2 1 rfl rfl)
theorem dX0_barrel_48 : decode cX0_barrel 48 = .ok (.invokevirtual 79, 3) := dk_182 0 79 (dk_at dksX0_barrel_2 2 rfl rfl)
theorem dX0_barrel_51 : decode cX0_barrel 51 = .ok (.ireturn, 1) := dk_172 (dk_at dksX0_barrel_2 5 rfl rfl)
theorem dX0_barrel_52 : decode cX0_barrel 52 = .ok (.aload_n 0, 1) := dk_42 (dk_at dksX0_barrel_2 6 rfl rfl)
theorem dX0_barrel_53 : decode cX0_barrel 53 = .ok (.getfield 22, 3) := dk_180 0 22 (dk_at dksX0_barrel_2 7 rfl rfl)
theorem dX0_barrel_56 : decode cX0_barrel 56 = .ok (.iload_n 1, 1) := dk_27 (dk_at dksX0_barrel_2 10 rfl rfl)
theorem dX0_barrel_57 : decode cX0_barrel 57 = .ok (.aaload, 1) := dk_50 (dk_at dksX0_barrel_2 11 rfl rfl)
theorem dX0_barrel_58 : decode cX0_barrel 58 = .ok (.invokestatic 103, 3) := dk_184 0 103 (dk_at dksX0_barrel_2 12 rfl rfl)
theorem dX0_barrel_61 : decode cX0_barrel 61 = .ok (.astore_n 3, 1) := dk_78 (dk_at dksX0_barrel_2 15 rfl rfl)
theorem dX0_barrel_62 : decode cX0_barrel 62 = .ok (.aload_n 3, 1) := dk_45 (dk_at dksX0_barrel_2 16 rfl rfl)
theorem dX0_barrel_63 : decode cX0_barrel 63 = .ok (.ifnull 13, 3) := dk_198 0 13 (dk_at dksX0_barrel_2 17 rfl rfl)
theorem dX0_barrel_66 : decode cX0_barrel 66 = .ok (.aload_n 0, 1) := dk_42 (dk_at dksX0_barrel_2 20 rfl rfl)
theorem dX0_barrel_67 : decode cX0_barrel 67 = .ok (.getfield 22, 3) := dk_180 0 22 (dk_at dksX0_barrel_2 21 rfl rfl)
theorem dX0_barrel_70 : decode cX0_barrel 70 = .ok (.iload_n 2, 1) := dk_28 (dk_at dksX0_barrel_3 0 rfl rfl)
theorem dX0_barrel_71 : decode cX0_barrel 71 = .ok (.aaload, 1) := dk_50 (dk_at dksX0_barrel_3 1 rfl rfl)
theorem dX0_barrel_72 : decode cX0_barrel 72 = .ok (.arraylength, 1) := dk_190 (dk_at dksX0_barrel_3 2 rfl rfl)
theorem dX0_barrel_73 : decode cX0_barrel 73 = .ok (.ifCond .ne 9, 3) := dk_154 0 9 (dk_at dksX0_barrel_3 3 rfl rfl)
theorem dX0_barrel_76 : decode cX0_barrel 76 = .ok (.aload_n 0, 1) := dk_42 (dk_at dksX0_barrel_3 6 rfl rfl)
theorem dX0_barrel_77 : decode cX0_barrel 77 = .ok (.iconst 5, 1) := dk_8 (dk_at dksX0_barrel_3 7 rfl rfl)
theorem dX0_barrel_78 : decode cX0_barrel 78 = .ok (.invokevirtual 79, 3) := dk_182 0 79 (dk_at dksX0_barrel_3 8 rfl rfl)
theorem dX0_barrel_81 : decode cX0_barrel 81 = .ok (.ireturn, 1) := dk_172 (dk_at dksX0_barrel_3 11 rfl rfl)
theorem dX0_barrel_82 : decode cX0_barrel 82 = .ok (.aload_n 0, 1) := dk_42 (dk_at dksX0_barrel_3 12 rfl rfl)
theorem dX0_barrel_83 : decode cX0_barrel 83 = .ok (.getfield 22, 3) := dk_180 0 22 (dk_at dksX0_barrel_3 13 rfl rfl)
theorem dX0_barrel_86 : decode cX0_barrel 86 = .ok (.iload_n 2, 1) := dk_28 (dk_at dksX0_barrel_3 16 rfl rfl)
theorem dX0_barrel_87 : decode cX0_barrel 87 = .ok (.aaload, 1) := dk_50 (dk_at dksX0_barrel_3 17 rfl rfl)
theorem dX0_barrel_88 : decode cX0_barrel 88 = .ok (.arraylength, 1) := dk_190 (dk_at dksX0_barrel_3 18 rfl rfl)
theorem dX0_barrel_89 : decode cX0_barrel 89 = .ok (.newarray .int, 2) := dk_188_10 (dk_at dksX0_barrel_3 19 rfl rfl)
theorem dX0_barrel_91 : decode cX0_barrel 91 = .ok (.astore 4, 2) := dk_58 4 (dk_at dksX0_barrel_3 21 rfl rfl)
theorem dX0_barrel_93 : decode cX0_barrel 93 = .ok (.iconst 0, 1) := dk_3 (dk_at dksX0_barrel_3 23 rfl rfl)
theorem dX0_barrel_94 : decode cX0_barrel 94 = .ok (.istore 5, 2) := dk_54 5 (dk_at dksX0_barrel_4 0 rfl rfl)
theorem dX0_barrel_96 : decode cX0_barrel 96 = .ok (.iload 5, 2) := dk_21 5 (dk_at dksX0_barrel_4 2 rfl rfl)
theorem dX0_barrel_98 : decode cX0_barrel 98 = .ok (.aload 4, 2) := dk_25 4 (dk_at dksX0_barrel_4 4 rfl rfl)
theorem dX0_barrel_100 : decode cX0_barrel 100 = .ok (.arraylength, 1) := dk_190 (dk_at dksX0_barrel_4 6 rfl rfl)
theorem dX0_barrel_101 : decode cX0_barrel 101 = .ok (.if_icmp .ge 27, 3) := dk_162 0 27 (dk_at dksX0_barrel_4 7 rfl rfl)
theorem dX0_barrel_104 : decode cX0_barrel 104 = .ok (.aload 4, 2) := dk_25 4 (dk_at dksX0_barrel_4 10 rfl rfl)
theorem dX0_barrel_106 : decode cX0_barrel 106 = .ok (.iload 5, 2) := dk_21 5 (dk_at dksX0_barrel_4 12 rfl rfl)
theorem dX0_barrel_108 : decode cX0_barrel 108 = .ok (.aload_n 0, 1) := dk_42 (dk_at dksX0_barrel_4 14 rfl rfl)
theorem dX0_barrel_109 : decode cX0_barrel 109 = .ok (.getfield 22, 3) := dk_180 0 22 (dk_at dksX0_barrel_4 15 rfl rfl)
theorem dX0_barrel_112 : decode cX0_barrel 112 = .ok (.iload_n 2, 1) := dk_28 (dk_at dksX0_barrel_4 18 rfl rfl)
theorem dX0_barrel_113 : decode cX0_barrel 113 = .ok (.aaload, 1) := dk_50 (dk_at dksX0_barrel_4 19 rfl rfl)
theorem dX0_barrel_114 : decode cX0_barrel 114 = .ok (.iload 5, 2) := dk_21 5 (dk_at dksX0_barrel_4 20 rfl rfl)
theorem dX0_barrel_116 : decode cX0_barrel 116 = .ok (.baload, 1) := dk_51 (dk_at dksX0_barrel_4 22 rfl rfl)
theorem dX0_barrel_117 : decode cX0_barrel 117 = .ok (.sipush 255, 3) := dk_17 0 255 (dk_at dksX0_barrel_5 0 rfl rfl)
theorem dX0_barrel_120 : decode cX0_barrel 120 = .ok (.iand, 1) := dk_126 (dk_at dksX0_barrel_5 3 rfl rfl)
theorem dX0_barrel_121 : decode cX0_barrel 121 = .ok (.iastore, 1) := dk_79 (dk_at dksX0_barrel_5 4 rfl rfl)
theorem dX0_barrel_122 : decode cX0_barrel 122 = .ok (.iinc 5 1, 3) := dk_132 5 1 (dk_at dksX0_barrel_5 5 rfl rfl)
theorem dX0_barrel_125 : decode cX0_barrel 125 = .ok (.goto (-29), 3) := dk_167 255 227 (dk_at dksX0_barrel_5 8 rfl rfl)
theorem dX0_barrel_128 : decode cX0_barrel 128 = .ok (.aload_n 0, 1) := dk_42 (dk_at dksX0_barrel_5 11 rfl rfl)
theorem dX0_barrel_129 : decode cX0_barrel 129 = .ok (.new 115, 3) := dk_187 0 115 (dk_at dksX0_barrel_5 12 rfl rfl)
theorem dX0_barrel_132 : decode cX0_barrel 132 = .ok (.dup, 1) := dk_89 (dk_at dksX0_barrel_5 15 rfl rfl)
theorem dX0_barrel_133 : decode cX0_barrel 133 = .ok (.aload_n 0, 1) := dk_42 (dk_at dksX0_barrel_5 16 rfl rfl)
theorem dX0_barrel_134 : decode cX0_barrel 134 = .ok (.aload_n 0, 1) := dk_42 (dk_at dksX0_barrel_5 17 rfl rfl)
theorem dX0_barrel_135 : decode cX0_barrel 135 = .ok (.getfield 93, 3) := dk_180 0 93 (dk_at dksX0_barrel_5 18 rfl rfl)
theorem dX0_barrel_138 : decode cX0_barrel 138 = .ok (.aload_n 3, 1) := dk_45 (dk_at dksX0_barrel_5 21 rfl rfl)
theorem dX0_barrel_139 : decode cX0_barrel 139 = .ok (.aload 4, 2) := dk_25 4 (dk_at dksX0_barrel_5 22 rfl rfl)
theorem dX0_barrel_141 : decode cX0_barrel 141 = .ok (.invokespecial 117, 3) := dk_183 0 117 (dk_at dksX0_barrel_6 0 rfl rfl)
theorem dX0_barrel_144 : decode cX0_barrel 144 = .ok (.invokevirtual 99, 3) := dk_182 0 99 (dk_at dksX0_barrel_6 3 rfl rfl)
theorem dX0_barrel_147 : decode cX0_barrel 147 = .ok (.ireturn, 1) := dk_172 (dk_at dksX0_barrel_6 6 rfl rfl)
abbrev cX0_gear : ByteArray := prog_1_method_18_code
def yX0_gear : MethodName := ⟨RX0, "gear", "(III)I"⟩
def dkwX0_gear_2 : List UInt8 := [25, 4, 28, 181, 0, 127, 25, 4, 29, 181, 0, 130, 25, 4, 29, 181, 0, 124, 21, 5, 172]
abbrev dktX0_gear_2 : List UInt8 := dkwX0_gear_2 ++ []
def dkwX0_gear_1 : List UInt8 := [184, 0, 69, 154, 0, 5, 2, 172, 42, 180, 0, 28, 27, 50, 58, 4, 25, 4, 180, 0, 124, 54, 5]
abbrev dktX0_gear_1 : List UInt8 := dkwX0_gear_1 ++ dktX0_gear_2
def dkwX0_gear_0 : List UInt8 := [42, 27, 182, 0, 120, 153, 0, 23, 28, 4, 16, 60, 184, 0, 69, 153, 0, 13, 29, 3, 18, 123]
abbrev dktX0_gear_0 : List UInt8 := dkwX0_gear_0 ++ dktX0_gear_1
theorem dksX0_gear_0 : cX0_gear.data.toList.drop 0 = dktX0_gear_0 := by decide +kernel
theorem dksX0_gear_1 : cX0_gear.data.toList.drop 22 = dktX0_gear_1 := dk_seg dksX0_gear_0 22 rfl rfl
theorem dksX0_gear_2 : cX0_gear.data.toList.drop 45 = dktX0_gear_2 := dk_seg dksX0_gear_1 23 rfl rfl
theorem dX0_gear_0 : decode cX0_gear 0 = .ok (.aload_n 0, 1) := dk_42 (dk_at dksX0_gear_0 0 rfl rfl)
theorem dX0_gear_1 : decode cX0_gear 1 = .ok (.iload_n 1, 1) := dk_27 (dk_at dksX0_gear_0 1 rfl rfl)
theorem dX0_gear_2 : decode cX0_gear 2 = .ok (.invokevirtual 120, 3) := dk_182 0 120 (dk_at dksX0_gear_0 2 rfl rfl)
theorem dX0_gear_5 : decode cX0_gear 5 = .ok (.ifCond .eq 23, 3) := dk_153 0 23 (dk_at dksX0_gear_0 5 rfl rfl)
theorem dX0_gear_8 : decode cX0_gear 8 = .ok (.iload_n 2, 1) := dk_28 (dk_at dksX0_gear_0 8 rfl rfl)
theorem dX0_gear_9 : decode cX0_gear 9 = .ok (.iconst 1, 1) := dk_4 (dk_at dksX0_gear_0 9 rfl rfl)
theorem dX0_gear_10 : decode cX0_gear 10 = .ok (.bipush 60, 2) := dk_16 60 (dk_at dksX0_gear_0 10 rfl rfl)
theorem dX0_gear_12 : decode cX0_gear 12 = .ok (.invokestatic 69, 3) := dk_184 0 69 (dk_at dksX0_gear_0 12 rfl rfl)
theorem dX0_gear_15 : decode cX0_gear 15 = .ok (.ifCond .eq 13, 3) := dk_153 0 13 (dk_at dksX0_gear_0 15 rfl rfl)
theorem dX0_gear_18 : decode cX0_gear 18 = .ok (.iload_n 3, 1) := dk_29 (dk_at dksX0_gear_0 18 rfl rfl)
theorem dX0_gear_19 : decode cX0_gear 19 = .ok (.iconst 0, 1) := dk_3 (dk_at dksX0_gear_0 19 rfl rfl)
theorem dX0_gear_20 : decode cX0_gear 20 = .ok (.ldc 123, 2) := dk_18 123 (dk_at dksX0_gear_0 20 rfl rfl)
theorem dX0_gear_22 : decode cX0_gear 22 = .ok (.invokestatic 69, 3) := dk_184 0 69 (dk_at dksX0_gear_1 0 rfl rfl)
theorem dX0_gear_25 : decode cX0_gear 25 = .ok (.ifCond .ne 5, 3) := dk_154 0 5 (dk_at dksX0_gear_1 3 rfl rfl)
theorem dX0_gear_28 : decode cX0_gear 28 = .ok (.iconst (-1), 1) := dk_2 (dk_at dksX0_gear_1 6 rfl rfl)
theorem dX0_gear_29 : decode cX0_gear 29 = .ok (.ireturn, 1) := dk_172 (dk_at dksX0_gear_1 7 rfl rfl)
theorem dX0_gear_30 : decode cX0_gear 30 = .ok (.aload_n 0, 1) := dk_42 (dk_at dksX0_gear_1 8 rfl rfl)
theorem dX0_gear_31 : decode cX0_gear 31 = .ok (.getfield 28, 3) := dk_180 0 28 (dk_at dksX0_gear_1 9 rfl rfl)
theorem dX0_gear_34 : decode cX0_gear 34 = .ok (.iload_n 1, 1) := dk_27 (dk_at dksX0_gear_1 12 rfl rfl)
theorem dX0_gear_35 : decode cX0_gear 35 = .ok (.aaload, 1) := dk_50 (dk_at dksX0_gear_1 13 rfl rfl)
theorem dX0_gear_36 : decode cX0_gear 36 = .ok (.astore 4, 2) := dk_58 4 (dk_at dksX0_gear_1 14 rfl rfl)
theorem dX0_gear_38 : decode cX0_gear 38 = .ok (.aload 4, 2) := dk_25 4 (dk_at dksX0_gear_1 16 rfl rfl)
theorem dX0_gear_40 : decode cX0_gear 40 = .ok (.getfield 124, 3) := dk_180 0 124 (dk_at dksX0_gear_1 18 rfl rfl)
theorem dX0_gear_43 : decode cX0_gear 43 = .ok (.istore 5, 2) := dk_54 5 (dk_at dksX0_gear_1 21 rfl rfl)
theorem dX0_gear_45 : decode cX0_gear 45 = .ok (.aload 4, 2) := dk_25 4 (dk_at dksX0_gear_2 0 rfl rfl)
theorem dX0_gear_47 : decode cX0_gear 47 = .ok (.iload_n 2, 1) := dk_28 (dk_at dksX0_gear_2 2 rfl rfl)
theorem dX0_gear_48 : decode cX0_gear 48 = .ok (.putfield 127, 3) := dk_181 0 127 (dk_at dksX0_gear_2 3 rfl rfl)
theorem dX0_gear_51 : decode cX0_gear 51 = .ok (.aload 4, 2) := dk_25 4 (dk_at dksX0_gear_2 6 rfl rfl)
theorem dX0_gear_53 : decode cX0_gear 53 = .ok (.iload_n 3, 1) := dk_29 (dk_at dksX0_gear_2 8 rfl rfl)
theorem dX0_gear_54 : decode cX0_gear 54 = .ok (.putfield 130, 3) := dk_181 0 130 (dk_at dksX0_gear_2 9 rfl rfl)
theorem dX0_gear_57 : decode cX0_gear 57 = .ok (.aload 4, 2) := dk_25 4 (dk_at dksX0_gear_2 12 rfl rfl)
theorem dX0_gear_59 : decode cX0_gear 59 = .ok (.iload_n 3, 1) := dk_29 (dk_at dksX0_gear_2 14 rfl rfl)
theorem dX0_gear_60 : decode cX0_gear 60 = .ok (.putfield 124, 3) := dk_181 0 124 (dk_at dksX0_gear_2 15 rfl rfl)
theorem dX0_gear_63 : decode cX0_gear 63 = .ok (.iload 5, 2) := dk_21 5 (dk_at dksX0_gear_2 18 rfl rfl)
theorem dX0_gear_65 : decode cX0_gear 65 = .ok (.ireturn, 1) := dk_172 (dk_at dksX0_gear_2 20 rfl rfl)
abbrev cX0_isTrain : ByteArray := prog_1_method_11_code
def yX0_isTrain : MethodName := ⟨RX0, "isTrain", "(I)Z"⟩
def dkwX0_isTrain_0 : List UInt8 := [27, 3, 42, 180, 0, 93, 4, 100, 184, 0, 69, 172]
abbrev dktX0_isTrain_0 : List UInt8 := dkwX0_isTrain_0 ++ []
theorem dksX0_isTrain_0 : cX0_isTrain.data.toList.drop 0 = dktX0_isTrain_0 := by decide +kernel
theorem dX0_isTrain_0 : decode cX0_isTrain 0 = .ok (.iload_n 1, 1) := dk_27 (dk_at dksX0_isTrain_0 0 rfl rfl)
theorem dX0_isTrain_1 : decode cX0_isTrain 1 = .ok (.iconst 0, 1) := dk_3 (dk_at dksX0_isTrain_0 1 rfl rfl)
theorem dX0_isTrain_2 : decode cX0_isTrain 2 = .ok (.aload_n 0, 1) := dk_42 (dk_at dksX0_isTrain_0 2 rfl rfl)
theorem dX0_isTrain_3 : decode cX0_isTrain 3 = .ok (.getfield 93, 3) := dk_180 0 93 (dk_at dksX0_isTrain_0 3 rfl rfl)
theorem dX0_isTrain_6 : decode cX0_isTrain 6 = .ok (.iconst 1, 1) := dk_4 (dk_at dksX0_isTrain_0 6 rfl rfl)
theorem dX0_isTrain_7 : decode cX0_isTrain 7 = .ok (.isub, 1) := dk_100 (dk_at dksX0_isTrain_0 7 rfl rfl)
theorem dX0_isTrain_8 : decode cX0_isTrain 8 = .ok (.invokestatic 69, 3) := dk_184 0 69 (dk_at dksX0_isTrain_0 8 rfl rfl)
theorem dX0_isTrain_11 : decode cX0_isTrain 11 = .ok (.ireturn, 1) := dk_172 (dk_at dksX0_isTrain_0 11 rfl rfl)
abbrev cX0_wind : ByteArray := prog_1_method_19_code
def yX0_wind : MethodName := ⟨RX0, "wind", "(I)I"⟩
def dkwX0_wind_2 : List UInt8 := [28, 172]
abbrev dktX0_wind_2 : List UInt8 := dkwX0_wind_2 ++ []
def dkwX0_wind_1 : List UInt8 := [50, 180, 0, 124, 100, 61, 42, 180, 0, 28, 27, 50, 42, 180, 0, 28, 27, 50, 180, 0, 130, 181, 0, 124]
abbrev dktX0_wind_1 : List UInt8 := dkwX0_wind_1 ++ dktX0_wind_2
def dkwX0_wind_0 : List UInt8 := [42, 27, 182, 0, 120, 154, 0, 5, 2, 172, 42, 180, 0, 28, 27, 50, 180, 0, 130, 42, 180, 0, 28, 27]
abbrev dktX0_wind_0 : List UInt8 := dkwX0_wind_0 ++ dktX0_wind_1
theorem dksX0_wind_0 : cX0_wind.data.toList.drop 0 = dktX0_wind_0 := by decide +kernel
theorem dksX0_wind_1 : cX0_wind.data.toList.drop 24 = dktX0_wind_1 := dk_seg dksX0_wind_0 24 rfl rfl
theorem dksX0_wind_2 : cX0_wind.data.toList.drop 48 = dktX0_wind_2 := dk_seg dksX0_wind_1 24 rfl rfl
theorem dX0_wind_0 : decode cX0_wind 0 = .ok (.aload_n 0, 1) := dk_42 (dk_at dksX0_wind_0 0 rfl rfl)
theorem dX0_wind_1 : decode cX0_wind 1 = .ok (.iload_n 1, 1) := dk_27 (dk_at dksX0_wind_0 1 rfl rfl)
theorem dX0_wind_2 : decode cX0_wind 2 = .ok (.invokevirtual 120, 3) := dk_182 0 120 (dk_at dksX0_wind_0 2 rfl rfl)
theorem dX0_wind_5 : decode cX0_wind 5 = .ok (.ifCond .ne 5, 3) := dk_154 0 5 (dk_at dksX0_wind_0 5 rfl rfl)
theorem dX0_wind_8 : decode cX0_wind 8 = .ok (.iconst (-1), 1) := dk_2 (dk_at dksX0_wind_0 8 rfl rfl)
theorem dX0_wind_9 : decode cX0_wind 9 = .ok (.ireturn, 1) := dk_172 (dk_at dksX0_wind_0 9 rfl rfl)
theorem dX0_wind_10 : decode cX0_wind 10 = .ok (.aload_n 0, 1) := dk_42 (dk_at dksX0_wind_0 10 rfl rfl)
theorem dX0_wind_11 : decode cX0_wind 11 = .ok (.getfield 28, 3) := dk_180 0 28 (dk_at dksX0_wind_0 11 rfl rfl)
theorem dX0_wind_14 : decode cX0_wind 14 = .ok (.iload_n 1, 1) := dk_27 (dk_at dksX0_wind_0 14 rfl rfl)
theorem dX0_wind_15 : decode cX0_wind 15 = .ok (.aaload, 1) := dk_50 (dk_at dksX0_wind_0 15 rfl rfl)
theorem dX0_wind_16 : decode cX0_wind 16 = .ok (.getfield 130, 3) := dk_180 0 130 (dk_at dksX0_wind_0 16 rfl rfl)
theorem dX0_wind_19 : decode cX0_wind 19 = .ok (.aload_n 0, 1) := dk_42 (dk_at dksX0_wind_0 19 rfl rfl)
theorem dX0_wind_20 : decode cX0_wind 20 = .ok (.getfield 28, 3) := dk_180 0 28 (dk_at dksX0_wind_0 20 rfl rfl)
theorem dX0_wind_23 : decode cX0_wind 23 = .ok (.iload_n 1, 1) := dk_27 (dk_at dksX0_wind_0 23 rfl rfl)
theorem dX0_wind_24 : decode cX0_wind 24 = .ok (.aaload, 1) := dk_50 (dk_at dksX0_wind_1 0 rfl rfl)
theorem dX0_wind_25 : decode cX0_wind 25 = .ok (.getfield 124, 3) := dk_180 0 124 (dk_at dksX0_wind_1 1 rfl rfl)
theorem dX0_wind_28 : decode cX0_wind 28 = .ok (.isub, 1) := dk_100 (dk_at dksX0_wind_1 4 rfl rfl)
theorem dX0_wind_29 : decode cX0_wind 29 = .ok (.istore_n 2, 1) := dk_61 (dk_at dksX0_wind_1 5 rfl rfl)
theorem dX0_wind_30 : decode cX0_wind 30 = .ok (.aload_n 0, 1) := dk_42 (dk_at dksX0_wind_1 6 rfl rfl)
theorem dX0_wind_31 : decode cX0_wind 31 = .ok (.getfield 28, 3) := dk_180 0 28 (dk_at dksX0_wind_1 7 rfl rfl)
theorem dX0_wind_34 : decode cX0_wind 34 = .ok (.iload_n 1, 1) := dk_27 (dk_at dksX0_wind_1 10 rfl rfl)
theorem dX0_wind_35 : decode cX0_wind 35 = .ok (.aaload, 1) := dk_50 (dk_at dksX0_wind_1 11 rfl rfl)
theorem dX0_wind_36 : decode cX0_wind 36 = .ok (.aload_n 0, 1) := dk_42 (dk_at dksX0_wind_1 12 rfl rfl)
theorem dX0_wind_37 : decode cX0_wind 37 = .ok (.getfield 28, 3) := dk_180 0 28 (dk_at dksX0_wind_1 13 rfl rfl)
theorem dX0_wind_40 : decode cX0_wind 40 = .ok (.iload_n 1, 1) := dk_27 (dk_at dksX0_wind_1 16 rfl rfl)
theorem dX0_wind_41 : decode cX0_wind 41 = .ok (.aaload, 1) := dk_50 (dk_at dksX0_wind_1 17 rfl rfl)
theorem dX0_wind_42 : decode cX0_wind 42 = .ok (.getfield 130, 3) := dk_180 0 130 (dk_at dksX0_wind_1 18 rfl rfl)
theorem dX0_wind_45 : decode cX0_wind 45 = .ok (.putfield 124, 3) := dk_181 0 124 (dk_at dksX0_wind_1 21 rfl rfl)
theorem dX0_wind_48 : decode cX0_wind 48 = .ok (.iload_n 2, 1) := dk_28 (dk_at dksX0_wind_2 0 rfl rfl)
theorem dX0_wind_49 : decode cX0_wind 49 = .ok (.ireturn, 1) := dk_172 (dk_at dksX0_wind_2 1 rfl rfl)
abbrev cX0_broken : ByteArray := prog_1_method_20_code
def yX0_broken : MethodName := ⟨RX0, "broken", "(II)I"⟩
def dkwX0_broken_1 : List UInt8 := [180, 0, 28, 27, 50, 180, 0, 133, 62, 42, 180, 0, 28, 27, 50, 28, 181, 0, 133, 29, 172]
abbrev dktX0_broken_1 : List UInt8 := dkwX0_broken_1 ++ []
def dkwX0_broken_0 : List UInt8 := [42, 27, 182, 0, 120, 153, 0, 14, 28, 3, 17, 0, 255, 184, 0, 69, 154, 0, 5, 2, 172, 42]
abbrev dktX0_broken_0 : List UInt8 := dkwX0_broken_0 ++ dktX0_broken_1
theorem dksX0_broken_0 : cX0_broken.data.toList.drop 0 = dktX0_broken_0 := by decide +kernel
theorem dksX0_broken_1 : cX0_broken.data.toList.drop 22 = dktX0_broken_1 := dk_seg dksX0_broken_0 22 rfl rfl
theorem dX0_broken_0 : decode cX0_broken 0 = .ok (.aload_n 0, 1) := dk_42 (dk_at dksX0_broken_0 0 rfl rfl)
theorem dX0_broken_1 : decode cX0_broken 1 = .ok (.iload_n 1, 1) := dk_27 (dk_at dksX0_broken_0 1 rfl rfl)
theorem dX0_broken_2 : decode cX0_broken 2 = .ok (.invokevirtual 120, 3) := dk_182 0 120 (dk_at dksX0_broken_0 2 rfl rfl)
theorem dX0_broken_5 : decode cX0_broken 5 = .ok (.ifCond .eq 14, 3) := dk_153 0 14 (dk_at dksX0_broken_0 5 rfl rfl)
theorem dX0_broken_8 : decode cX0_broken 8 = .ok (.iload_n 2, 1) := dk_28 (dk_at dksX0_broken_0 8 rfl rfl)
theorem dX0_broken_9 : decode cX0_broken 9 = .ok (.iconst 0, 1) := dk_3 (dk_at dksX0_broken_0 9 rfl rfl)
theorem dX0_broken_10 : decode cX0_broken 10 = .ok (.sipush 255, 3) := dk_17 0 255 (dk_at dksX0_broken_0 10 rfl rfl)
theorem dX0_broken_13 : decode cX0_broken 13 = .ok (.invokestatic 69, 3) := dk_184 0 69 (dk_at dksX0_broken_0 13 rfl rfl)
theorem dX0_broken_16 : decode cX0_broken 16 = .ok (.ifCond .ne 5, 3) := dk_154 0 5 (dk_at dksX0_broken_0 16 rfl rfl)
theorem dX0_broken_19 : decode cX0_broken 19 = .ok (.iconst (-1), 1) := dk_2 (dk_at dksX0_broken_0 19 rfl rfl)
theorem dX0_broken_20 : decode cX0_broken 20 = .ok (.ireturn, 1) := dk_172 (dk_at dksX0_broken_0 20 rfl rfl)
theorem dX0_broken_21 : decode cX0_broken 21 = .ok (.aload_n 0, 1) := dk_42 (dk_at dksX0_broken_0 21 rfl rfl)
theorem dX0_broken_22 : decode cX0_broken 22 = .ok (.getfield 28, 3) := dk_180 0 28 (dk_at dksX0_broken_1 0 rfl rfl)
theorem dX0_broken_25 : decode cX0_broken 25 = .ok (.iload_n 1, 1) := dk_27 (dk_at dksX0_broken_1 3 rfl rfl)
theorem dX0_broken_26 : decode cX0_broken 26 = .ok (.aaload, 1) := dk_50 (dk_at dksX0_broken_1 4 rfl rfl)
theorem dX0_broken_27 : decode cX0_broken 27 = .ok (.getfield 133, 3) := dk_180 0 133 (dk_at dksX0_broken_1 5 rfl rfl)
theorem dX0_broken_30 : decode cX0_broken 30 = .ok (.istore_n 3, 1) := dk_62 (dk_at dksX0_broken_1 8 rfl rfl)
theorem dX0_broken_31 : decode cX0_broken 31 = .ok (.aload_n 0, 1) := dk_42 (dk_at dksX0_broken_1 9 rfl rfl)
theorem dX0_broken_32 : decode cX0_broken 32 = .ok (.getfield 28, 3) := dk_180 0 28 (dk_at dksX0_broken_1 10 rfl rfl)
theorem dX0_broken_35 : decode cX0_broken 35 = .ok (.iload_n 1, 1) := dk_27 (dk_at dksX0_broken_1 13 rfl rfl)
theorem dX0_broken_36 : decode cX0_broken 36 = .ok (.aaload, 1) := dk_50 (dk_at dksX0_broken_1 14 rfl rfl)
theorem dX0_broken_37 : decode cX0_broken 37 = .ok (.iload_n 2, 1) := dk_28 (dk_at dksX0_broken_1 15 rfl rfl)
theorem dX0_broken_38 : decode cX0_broken 38 = .ok (.putfield 133, 3) := dk_181 0 133 (dk_at dksX0_broken_1 16 rfl rfl)
theorem dX0_broken_41 : decode cX0_broken 41 = .ok (.iload_n 3, 1) := dk_29 (dk_at dksX0_broken_1 19 rfl rfl)
theorem dX0_broken_42 : decode cX0_broken 42 = .ok (.ireturn, 1) := dk_172 (dk_at dksX0_broken_1 20 rfl rfl)
abbrev cX0_told : ByteArray := prog_1_method_22_code
def yX0_told : MethodName := ⟨RX0, "told", "(II)I"⟩
def dkwX0_told_1 : List UInt8 := [28, 184, 0, 155, 167, 0, 4, 2, 172]
abbrev dktX0_told_1 : List UInt8 := dkwX0_told_1 ++ []
def dkwX0_told_0 : List UInt8 := [42, 27, 182, 0, 120, 153, 0, 26, 28, 3, 16, 7, 184, 0, 69, 153, 0, 16, 42, 180, 0, 28, 27, 50]
abbrev dktX0_told_0 : List UInt8 := dkwX0_told_0 ++ dktX0_told_1
theorem dksX0_told_0 : cX0_told.data.toList.drop 0 = dktX0_told_0 := by decide +kernel
theorem dksX0_told_1 : cX0_told.data.toList.drop 24 = dktX0_told_1 := dk_seg dksX0_told_0 24 rfl rfl
theorem dX0_told_0 : decode cX0_told 0 = .ok (.aload_n 0, 1) := dk_42 (dk_at dksX0_told_0 0 rfl rfl)
theorem dX0_told_1 : decode cX0_told 1 = .ok (.iload_n 1, 1) := dk_27 (dk_at dksX0_told_0 1 rfl rfl)
theorem dX0_told_2 : decode cX0_told 2 = .ok (.invokevirtual 120, 3) := dk_182 0 120 (dk_at dksX0_told_0 2 rfl rfl)
theorem dX0_told_5 : decode cX0_told 5 = .ok (.ifCond .eq 26, 3) := dk_153 0 26 (dk_at dksX0_told_0 5 rfl rfl)
theorem dX0_told_8 : decode cX0_told 8 = .ok (.iload_n 2, 1) := dk_28 (dk_at dksX0_told_0 8 rfl rfl)
theorem dX0_told_9 : decode cX0_told 9 = .ok (.iconst 0, 1) := dk_3 (dk_at dksX0_told_0 9 rfl rfl)
theorem dX0_told_10 : decode cX0_told 10 = .ok (.bipush 7, 2) := dk_16 7 (dk_at dksX0_told_0 10 rfl rfl)
theorem dX0_told_12 : decode cX0_told 12 = .ok (.invokestatic 69, 3) := dk_184 0 69 (dk_at dksX0_told_0 12 rfl rfl)
theorem dX0_told_15 : decode cX0_told 15 = .ok (.ifCond .eq 16, 3) := dk_153 0 16 (dk_at dksX0_told_0 15 rfl rfl)
theorem dX0_told_18 : decode cX0_told 18 = .ok (.aload_n 0, 1) := dk_42 (dk_at dksX0_told_0 18 rfl rfl)
theorem dX0_told_19 : decode cX0_told 19 = .ok (.getfield 28, 3) := dk_180 0 28 (dk_at dksX0_told_0 19 rfl rfl)
theorem dX0_told_22 : decode cX0_told 22 = .ok (.iload_n 1, 1) := dk_27 (dk_at dksX0_told_0 22 rfl rfl)
theorem dX0_told_23 : decode cX0_told 23 = .ok (.aaload, 1) := dk_50 (dk_at dksX0_told_0 23 rfl rfl)
theorem dX0_told_24 : decode cX0_told 24 = .ok (.iload_n 2, 1) := dk_28 (dk_at dksX0_told_1 0 rfl rfl)
theorem dX0_told_25 : decode cX0_told 25 = .ok (.invokestatic 155, 3) := dk_184 0 155 (dk_at dksX0_told_1 1 rfl rfl)
theorem dX0_told_28 : decode cX0_told 28 = .ok (.goto 4, 3) := dk_167 0 4 (dk_at dksX0_told_1 4 rfl rfl)
theorem dX0_told_31 : decode cX0_told 31 = .ok (.iconst (-1), 1) := dk_2 (dk_at dksX0_told_1 7 rfl rfl)
theorem dX0_told_32 : decode cX0_told 32 = .ok (.ireturn, 1) := dk_172 (dk_at dksX0_told_1 8 rfl rfl)
abbrev cX0_toldOf : ByteArray := prog_1_method_21_code
def yX0_toldOf : MethodName := ⟨RX0, "toldOf", "(LHammerTowers$Train;I)I"⟩
def dkwX0_toldOf_3 : List UInt8 := [172, 42, 180, 0, 146, 172, 42, 180, 0, 149, 172, 42, 180, 0, 152, 172]
abbrev dktX0_toldOf_3 : List UInt8 := dkwX0_toldOf_3 ++ []
def dkwX0_toldOf_2 : List UInt8 := [42, 182, 0, 136, 172, 42, 182, 0, 140, 172, 42, 182, 0, 143, 172, 42, 180, 0, 127, 172, 42, 180, 0, 124]
abbrev dktX0_toldOf_2 : List UInt8 := dkwX0_toldOf_2 ++ dktX0_toldOf_3
def dkwX0_toldOf_1 : List UInt8 := [170, 0, 0, 0, 0, 0, 78, 0, 0, 0, 0, 0, 0, 0, 6, 0, 0, 0, 43, 0, 0, 0, 48, 0, 0, 0, 53, 0, 0, 0, 58, 0, 0, 0, 63, 0, 0, 0, 68, 0, 0, 0, 73]
abbrev dktX0_toldOf_1 : List UInt8 := dkwX0_toldOf_1 ++ dktX0_toldOf_2
def dkwX0_toldOf_0 : List UInt8 := [27]
abbrev dktX0_toldOf_0 : List UInt8 := dkwX0_toldOf_0 ++ dktX0_toldOf_1
theorem dksX0_toldOf_0 : cX0_toldOf.data.toList.drop 0 = dktX0_toldOf_0 := by decide +kernel
theorem dksX0_toldOf_1 : cX0_toldOf.data.toList.drop 1 = dktX0_toldOf_1 := dk_seg dksX0_toldOf_0 1 rfl rfl
theorem dksX0_toldOf_2 : cX0_toldOf.data.toList.drop 44 = dktX0_toldOf_2 := dk_seg dksX0_toldOf_1 43 rfl rfl
theorem dksX0_toldOf_3 : cX0_toldOf.data.toList.drop 68 = dktX0_toldOf_3 := dk_seg dksX0_toldOf_2 24 rfl rfl
theorem dX0_toldOf_0 : decode cX0_toldOf 0 = .ok (.iload_n 1, 1) := dk_27 (dk_at dksX0_toldOf_0 0 rfl rfl)
theorem dX0_toldOf_1 : decode cX0_toldOf 1 = .ok (.tableswitch 78 0 6 #[43, 48, 53, 58, 63, 68, 73], 43) := by decide +kernel
theorem dX0_toldOf_44 : decode cX0_toldOf 44 = .ok (.aload_n 0, 1) := dk_42 (dk_at dksX0_toldOf_2 0 rfl rfl)
theorem dX0_toldOf_45 : decode cX0_toldOf 45 = .ok (.invokevirtual 136, 3) := dk_182 0 136 (dk_at dksX0_toldOf_2 1 rfl rfl)
theorem dX0_toldOf_48 : decode cX0_toldOf 48 = .ok (.ireturn, 1) := dk_172 (dk_at dksX0_toldOf_2 4 rfl rfl)
theorem dX0_toldOf_49 : decode cX0_toldOf 49 = .ok (.aload_n 0, 1) := dk_42 (dk_at dksX0_toldOf_2 5 rfl rfl)
theorem dX0_toldOf_50 : decode cX0_toldOf 50 = .ok (.invokevirtual 140, 3) := dk_182 0 140 (dk_at dksX0_toldOf_2 6 rfl rfl)
theorem dX0_toldOf_53 : decode cX0_toldOf 53 = .ok (.ireturn, 1) := dk_172 (dk_at dksX0_toldOf_2 9 rfl rfl)
theorem dX0_toldOf_54 : decode cX0_toldOf 54 = .ok (.aload_n 0, 1) := dk_42 (dk_at dksX0_toldOf_2 10 rfl rfl)
theorem dX0_toldOf_55 : decode cX0_toldOf 55 = .ok (.invokevirtual 143, 3) := dk_182 0 143 (dk_at dksX0_toldOf_2 11 rfl rfl)
theorem dX0_toldOf_58 : decode cX0_toldOf 58 = .ok (.ireturn, 1) := dk_172 (dk_at dksX0_toldOf_2 14 rfl rfl)
theorem dX0_toldOf_59 : decode cX0_toldOf 59 = .ok (.aload_n 0, 1) := dk_42 (dk_at dksX0_toldOf_2 15 rfl rfl)
theorem dX0_toldOf_60 : decode cX0_toldOf 60 = .ok (.getfield 127, 3) := dk_180 0 127 (dk_at dksX0_toldOf_2 16 rfl rfl)
theorem dX0_toldOf_63 : decode cX0_toldOf 63 = .ok (.ireturn, 1) := dk_172 (dk_at dksX0_toldOf_2 19 rfl rfl)
theorem dX0_toldOf_64 : decode cX0_toldOf 64 = .ok (.aload_n 0, 1) := dk_42 (dk_at dksX0_toldOf_2 20 rfl rfl)
theorem dX0_toldOf_65 : decode cX0_toldOf 65 = .ok (.getfield 124, 3) := dk_180 0 124 (dk_at dksX0_toldOf_2 21 rfl rfl)
theorem dX0_toldOf_68 : decode cX0_toldOf 68 = .ok (.ireturn, 1) := dk_172 (dk_at dksX0_toldOf_3 0 rfl rfl)
theorem dX0_toldOf_69 : decode cX0_toldOf 69 = .ok (.aload_n 0, 1) := dk_42 (dk_at dksX0_toldOf_3 1 rfl rfl)
theorem dX0_toldOf_70 : decode cX0_toldOf 70 = .ok (.getfield 146, 3) := dk_180 0 146 (dk_at dksX0_toldOf_3 2 rfl rfl)
theorem dX0_toldOf_73 : decode cX0_toldOf 73 = .ok (.ireturn, 1) := dk_172 (dk_at dksX0_toldOf_3 5 rfl rfl)
theorem dX0_toldOf_74 : decode cX0_toldOf 74 = .ok (.aload_n 0, 1) := dk_42 (dk_at dksX0_toldOf_3 6 rfl rfl)
theorem dX0_toldOf_75 : decode cX0_toldOf 75 = .ok (.getfield 149, 3) := dk_180 0 149 (dk_at dksX0_toldOf_3 7 rfl rfl)
theorem dX0_toldOf_78 : decode cX0_toldOf 78 = .ok (.ireturn, 1) := dk_172 (dk_at dksX0_toldOf_3 10 rfl rfl)
theorem dX0_toldOf_79 : decode cX0_toldOf 79 = .ok (.aload_n 0, 1) := dk_42 (dk_at dksX0_toldOf_3 11 rfl rfl)
theorem dX0_toldOf_80 : decode cX0_toldOf 80 = .ok (.getfield 152, 3) := dk_180 0 152 (dk_at dksX0_toldOf_3 12 rfl rfl)
theorem dX0_toldOf_83 : decode cX0_toldOf 83 = .ok (.ireturn, 1) := dk_172 (dk_at dksX0_toldOf_3 15 rfl rfl)
abbrev cX0_mark : ByteArray := prog_1_method_23_code
def yX0_mark : MethodName := ⟨RX0, "mark", "(II)I"⟩
def dkwX0_mark_5 : List UInt8 := [192, 0, 115, 58, 6, 25, 6, 182, 0, 166, 172, 58, 4, 42, 6, 182, 0, 79, 172]
abbrev dktX0_mark_5 : List UInt8 := dkwX0_mark_5 ++ []
def dkwX0_mark_4 : List UInt8 := [167, 0, 8, 25, 4, 182, 0, 162, 172, 45, 192, 0, 112, 58, 5, 25, 5, 182, 0, 165, 172, 45]
abbrev dktX0_mark_4 : List UInt8 := dkwX0_mark_4 ++ dktX0_mark_5
def dkwX0_mark_3 : List UInt8 := [45, 192, 0, 107, 58, 4, 25, 4, 193, 0, 115, 153, 0, 14, 25, 4, 192, 0, 115, 182, 0, 159]
abbrev dktX0_mark_3 : List UInt8 := dkwX0_mark_3 ++ dktX0_mark_4
def dkwX0_mark_2 : List UInt8 := [171, 0, 0, 0, 68, 0, 0, 0, 2, 0, 0, 0, 1, 0, 0, 0, 25, 0, 0, 0, 2, 0, 0, 0, 56]
abbrev dktX0_mark_2 : List UInt8 := dkwX0_mark_2 ++ dktX0_mark_3
def dkwX0_mark_1 : List UInt8 := [50, 78, 28]
abbrev dktX0_mark_1 : List UInt8 := dkwX0_mark_1 ++ dktX0_mark_2
def dkwX0_mark_0 : List UInt8 := [42, 27, 182, 0, 120, 153, 0, 12, 28, 4, 6, 184, 0, 69, 154, 0, 5, 2, 172, 42, 180, 0, 28, 27]
abbrev dktX0_mark_0 : List UInt8 := dkwX0_mark_0 ++ dktX0_mark_1
theorem dksX0_mark_0 : cX0_mark.data.toList.drop 0 = dktX0_mark_0 := by decide +kernel
theorem dksX0_mark_1 : cX0_mark.data.toList.drop 24 = dktX0_mark_1 := dk_seg dksX0_mark_0 24 rfl rfl
theorem dksX0_mark_2 : cX0_mark.data.toList.drop 27 = dktX0_mark_2 := dk_seg dksX0_mark_1 3 rfl rfl
theorem dksX0_mark_3 : cX0_mark.data.toList.drop 52 = dktX0_mark_3 := dk_seg dksX0_mark_2 25 rfl rfl
theorem dksX0_mark_4 : cX0_mark.data.toList.drop 74 = dktX0_mark_4 := dk_seg dksX0_mark_3 22 rfl rfl
theorem dksX0_mark_5 : cX0_mark.data.toList.drop 96 = dktX0_mark_5 := dk_seg dksX0_mark_4 22 rfl rfl
theorem dX0_mark_0 : decode cX0_mark 0 = .ok (.aload_n 0, 1) := dk_42 (dk_at dksX0_mark_0 0 rfl rfl)
theorem dX0_mark_1 : decode cX0_mark 1 = .ok (.iload_n 1, 1) := dk_27 (dk_at dksX0_mark_0 1 rfl rfl)
theorem dX0_mark_2 : decode cX0_mark 2 = .ok (.invokevirtual 120, 3) := dk_182 0 120 (dk_at dksX0_mark_0 2 rfl rfl)
theorem dX0_mark_5 : decode cX0_mark 5 = .ok (.ifCond .eq 12, 3) := dk_153 0 12 (dk_at dksX0_mark_0 5 rfl rfl)
theorem dX0_mark_8 : decode cX0_mark 8 = .ok (.iload_n 2, 1) := dk_28 (dk_at dksX0_mark_0 8 rfl rfl)
theorem dX0_mark_9 : decode cX0_mark 9 = .ok (.iconst 1, 1) := dk_4 (dk_at dksX0_mark_0 9 rfl rfl)
theorem dX0_mark_10 : decode cX0_mark 10 = .ok (.iconst 3, 1) := dk_6 (dk_at dksX0_mark_0 10 rfl rfl)
theorem dX0_mark_11 : decode cX0_mark 11 = .ok (.invokestatic 69, 3) := dk_184 0 69 (dk_at dksX0_mark_0 11 rfl rfl)
theorem dX0_mark_14 : decode cX0_mark 14 = .ok (.ifCond .ne 5, 3) := dk_154 0 5 (dk_at dksX0_mark_0 14 rfl rfl)
theorem dX0_mark_17 : decode cX0_mark 17 = .ok (.iconst (-1), 1) := dk_2 (dk_at dksX0_mark_0 17 rfl rfl)
theorem dX0_mark_18 : decode cX0_mark 18 = .ok (.ireturn, 1) := dk_172 (dk_at dksX0_mark_0 18 rfl rfl)
theorem dX0_mark_19 : decode cX0_mark 19 = .ok (.aload_n 0, 1) := dk_42 (dk_at dksX0_mark_0 19 rfl rfl)
theorem dX0_mark_20 : decode cX0_mark 20 = .ok (.getfield 28, 3) := dk_180 0 28 (dk_at dksX0_mark_0 20 rfl rfl)
theorem dX0_mark_23 : decode cX0_mark 23 = .ok (.iload_n 1, 1) := dk_27 (dk_at dksX0_mark_0 23 rfl rfl)
theorem dX0_mark_24 : decode cX0_mark 24 = .ok (.aaload, 1) := dk_50 (dk_at dksX0_mark_1 0 rfl rfl)
theorem dX0_mark_25 : decode cX0_mark 25 = .ok (.astore_n 3, 1) := dk_78 (dk_at dksX0_mark_1 1 rfl rfl)
theorem dX0_mark_26 : decode cX0_mark 26 = .ok (.iload_n 2, 1) := dk_28 (dk_at dksX0_mark_1 2 rfl rfl)
theorem dX0_mark_27 : decode cX0_mark 27 = .ok (.lookupswitch 68 #[(1, 25), (2, 56)], 25) := by decide +kernel
theorem dX0_mark_52 : decode cX0_mark 52 = .ok (.aload_n 3, 1) := dk_45 (dk_at dksX0_mark_3 0 rfl rfl)
theorem dX0_mark_53 : decode cX0_mark 53 = .ok (.checkcast 107, 3) := dk_192 0 107 (dk_at dksX0_mark_3 1 rfl rfl)
theorem dX0_mark_56 : decode cX0_mark 56 = .ok (.astore 4, 2) := dk_58 4 (dk_at dksX0_mark_3 4 rfl rfl)
theorem dX0_mark_58 : decode cX0_mark 58 = .ok (.aload 4, 2) := dk_25 4 (dk_at dksX0_mark_3 6 rfl rfl)
theorem dX0_mark_60 : decode cX0_mark 60 = .ok (.instanceof 115, 3) := dk_193 0 115 (dk_at dksX0_mark_3 8 rfl rfl)
theorem dX0_mark_63 : decode cX0_mark 63 = .ok (.ifCond .eq 14, 3) := dk_153 0 14 (dk_at dksX0_mark_3 11 rfl rfl)
theorem dX0_mark_66 : decode cX0_mark 66 = .ok (.aload 4, 2) := dk_25 4 (dk_at dksX0_mark_3 14 rfl rfl)
theorem dX0_mark_68 : decode cX0_mark 68 = .ok (.checkcast 115, 3) := dk_192 0 115 (dk_at dksX0_mark_3 16 rfl rfl)
theorem dX0_mark_71 : decode cX0_mark 71 = .ok (.invokevirtual 159, 3) := dk_182 0 159 (dk_at dksX0_mark_3 19 rfl rfl)
theorem dX0_mark_74 : decode cX0_mark 74 = .ok (.goto 8, 3) := dk_167 0 8 (dk_at dksX0_mark_4 0 rfl rfl)
theorem dX0_mark_77 : decode cX0_mark 77 = .ok (.aload 4, 2) := dk_25 4 (dk_at dksX0_mark_4 3 rfl rfl)
theorem dX0_mark_79 : decode cX0_mark 79 = .ok (.invokevirtual 162, 3) := dk_182 0 162 (dk_at dksX0_mark_4 5 rfl rfl)
theorem dX0_mark_82 : decode cX0_mark 82 = .ok (.ireturn, 1) := dk_172 (dk_at dksX0_mark_4 8 rfl rfl)
theorem dX0_mark_83 : decode cX0_mark 83 = .ok (.aload_n 3, 1) := dk_45 (dk_at dksX0_mark_4 9 rfl rfl)
theorem dX0_mark_84 : decode cX0_mark 84 = .ok (.checkcast 112, 3) := dk_192 0 112 (dk_at dksX0_mark_4 10 rfl rfl)
theorem dX0_mark_87 : decode cX0_mark 87 = .ok (.astore 5, 2) := dk_58 5 (dk_at dksX0_mark_4 13 rfl rfl)
theorem dX0_mark_89 : decode cX0_mark 89 = .ok (.aload 5, 2) := dk_25 5 (dk_at dksX0_mark_4 15 rfl rfl)
theorem dX0_mark_91 : decode cX0_mark 91 = .ok (.invokevirtual 165, 3) := dk_182 0 165 (dk_at dksX0_mark_4 17 rfl rfl)
theorem dX0_mark_94 : decode cX0_mark 94 = .ok (.ireturn, 1) := dk_172 (dk_at dksX0_mark_4 20 rfl rfl)
theorem dX0_mark_95 : decode cX0_mark 95 = .ok (.aload_n 3, 1) := dk_45 (dk_at dksX0_mark_4 21 rfl rfl)
theorem dX0_mark_96 : decode cX0_mark 96 = .ok (.checkcast 115, 3) := dk_192 0 115 (dk_at dksX0_mark_5 0 rfl rfl)
theorem dX0_mark_99 : decode cX0_mark 99 = .ok (.astore 6, 2) := dk_58 6 (dk_at dksX0_mark_5 3 rfl rfl)
theorem dX0_mark_101 : decode cX0_mark 101 = .ok (.aload 6, 2) := dk_25 6 (dk_at dksX0_mark_5 5 rfl rfl)
theorem dX0_mark_103 : decode cX0_mark 103 = .ok (.invokevirtual 166, 3) := dk_182 0 166 (dk_at dksX0_mark_5 7 rfl rfl)
theorem dX0_mark_106 : decode cX0_mark 106 = .ok (.ireturn, 1) := dk_172 (dk_at dksX0_mark_5 10 rfl rfl)
theorem dX0_mark_107 : decode cX0_mark 107 = .ok (.astore 4, 2) := dk_58 4 (dk_at dksX0_mark_5 11 rfl rfl)
theorem dX0_mark_109 : decode cX0_mark 109 = .ok (.aload_n 0, 1) := dk_42 (dk_at dksX0_mark_5 13 rfl rfl)
theorem dX0_mark_110 : decode cX0_mark 110 = .ok (.iconst 3, 1) := dk_6 (dk_at dksX0_mark_5 14 rfl rfl)
theorem dX0_mark_111 : decode cX0_mark 111 = .ok (.invokevirtual 79, 3) := dk_182 0 79 (dk_at dksX0_mark_5 15 rfl rfl)
theorem dX0_mark_114 : decode cX0_mark 114 = .ok (.ireturn, 1) := dk_172 (dk_at dksX0_mark_5 18 rfl rfl)
abbrev cX0_notch : ByteArray := prog_1_method_24_code
def yX0_notch : MethodName := ⟨RX0, "notch", "(II)I"⟩
def dkwX0_notch_1 : List UInt8 := [182, 0, 79, 172, 42, 180, 0, 28, 27, 50, 28, 182, 0, 169, 172, 78, 42, 5, 182, 0, 79, 172]
abbrev dktX0_notch_1 : List UInt8 := dkwX0_notch_1 ++ []
def dkwX0_notch_0 : List UInt8 := [42, 27, 182, 0, 120, 154, 0, 5, 2, 172, 42, 180, 0, 28, 27, 50, 182, 0, 140, 154, 0, 9, 42, 6]
abbrev dktX0_notch_0 : List UInt8 := dkwX0_notch_0 ++ dktX0_notch_1
theorem dksX0_notch_0 : cX0_notch.data.toList.drop 0 = dktX0_notch_0 := by decide +kernel
theorem dksX0_notch_1 : cX0_notch.data.toList.drop 24 = dktX0_notch_1 := dk_seg dksX0_notch_0 24 rfl rfl
theorem dX0_notch_0 : decode cX0_notch 0 = .ok (.aload_n 0, 1) := dk_42 (dk_at dksX0_notch_0 0 rfl rfl)
theorem dX0_notch_1 : decode cX0_notch 1 = .ok (.iload_n 1, 1) := dk_27 (dk_at dksX0_notch_0 1 rfl rfl)
theorem dX0_notch_2 : decode cX0_notch 2 = .ok (.invokevirtual 120, 3) := dk_182 0 120 (dk_at dksX0_notch_0 2 rfl rfl)
theorem dX0_notch_5 : decode cX0_notch 5 = .ok (.ifCond .ne 5, 3) := dk_154 0 5 (dk_at dksX0_notch_0 5 rfl rfl)
theorem dX0_notch_8 : decode cX0_notch 8 = .ok (.iconst (-1), 1) := dk_2 (dk_at dksX0_notch_0 8 rfl rfl)
theorem dX0_notch_9 : decode cX0_notch 9 = .ok (.ireturn, 1) := dk_172 (dk_at dksX0_notch_0 9 rfl rfl)
theorem dX0_notch_10 : decode cX0_notch 10 = .ok (.aload_n 0, 1) := dk_42 (dk_at dksX0_notch_0 10 rfl rfl)
theorem dX0_notch_11 : decode cX0_notch 11 = .ok (.getfield 28, 3) := dk_180 0 28 (dk_at dksX0_notch_0 11 rfl rfl)
theorem dX0_notch_14 : decode cX0_notch 14 = .ok (.iload_n 1, 1) := dk_27 (dk_at dksX0_notch_0 14 rfl rfl)
theorem dX0_notch_15 : decode cX0_notch 15 = .ok (.aaload, 1) := dk_50 (dk_at dksX0_notch_0 15 rfl rfl)
theorem dX0_notch_16 : decode cX0_notch 16 = .ok (.invokevirtual 140, 3) := dk_182 0 140 (dk_at dksX0_notch_0 16 rfl rfl)
theorem dX0_notch_19 : decode cX0_notch 19 = .ok (.ifCond .ne 9, 3) := dk_154 0 9 (dk_at dksX0_notch_0 19 rfl rfl)
theorem dX0_notch_22 : decode cX0_notch 22 = .ok (.aload_n 0, 1) := dk_42 (dk_at dksX0_notch_0 22 rfl rfl)
theorem dX0_notch_23 : decode cX0_notch 23 = .ok (.iconst 3, 1) := dk_6 (dk_at dksX0_notch_0 23 rfl rfl)
theorem dX0_notch_24 : decode cX0_notch 24 = .ok (.invokevirtual 79, 3) := dk_182 0 79 (dk_at dksX0_notch_1 0 rfl rfl)
theorem dX0_notch_27 : decode cX0_notch 27 = .ok (.ireturn, 1) := dk_172 (dk_at dksX0_notch_1 3 rfl rfl)
theorem dX0_notch_28 : decode cX0_notch 28 = .ok (.aload_n 0, 1) := dk_42 (dk_at dksX0_notch_1 4 rfl rfl)
theorem dX0_notch_29 : decode cX0_notch 29 = .ok (.getfield 28, 3) := dk_180 0 28 (dk_at dksX0_notch_1 5 rfl rfl)
theorem dX0_notch_32 : decode cX0_notch 32 = .ok (.iload_n 1, 1) := dk_27 (dk_at dksX0_notch_1 8 rfl rfl)
theorem dX0_notch_33 : decode cX0_notch 33 = .ok (.aaload, 1) := dk_50 (dk_at dksX0_notch_1 9 rfl rfl)
theorem dX0_notch_34 : decode cX0_notch 34 = .ok (.iload_n 2, 1) := dk_28 (dk_at dksX0_notch_1 10 rfl rfl)
theorem dX0_notch_35 : decode cX0_notch 35 = .ok (.invokevirtual 169, 3) := dk_182 0 169 (dk_at dksX0_notch_1 11 rfl rfl)
theorem dX0_notch_38 : decode cX0_notch 38 = .ok (.ireturn, 1) := dk_172 (dk_at dksX0_notch_1 14 rfl rfl)
theorem dX0_notch_39 : decode cX0_notch 39 = .ok (.astore_n 3, 1) := dk_78 (dk_at dksX0_notch_1 15 rfl rfl)
theorem dX0_notch_40 : decode cX0_notch 40 = .ok (.aload_n 0, 1) := dk_42 (dk_at dksX0_notch_1 16 rfl rfl)
theorem dX0_notch_41 : decode cX0_notch 41 = .ok (.iconst 2, 1) := dk_5 (dk_at dksX0_notch_1 17 rfl rfl)
theorem dX0_notch_42 : decode cX0_notch 42 = .ok (.invokevirtual 79, 3) := dk_182 0 79 (dk_at dksX0_notch_1 18 rfl rfl)
theorem dX0_notch_45 : decode cX0_notch 45 = .ok (.ireturn, 1) := dk_172 (dk_at dksX0_notch_1 21 rfl rfl)
abbrev cX0_cut : ByteArray := prog_1_method_25_code
def yX0_cut : MethodName := ⟨RX0, "cut", "(III)I"⟩
def dkwX0_cut_2 : List UInt8 := [54, 4, 42, 180, 0, 28, 27, 50, 28, 29, 182, 0, 172, 21, 4, 172, 58, 4, 42, 5, 182, 0, 79, 172]
abbrev dktX0_cut_2 : List UInt8 := dkwX0_cut_2 ++ []
def dkwX0_cut_1 : List UInt8 := [27, 50, 182, 0, 140, 154, 0, 9, 42, 6, 182, 0, 79, 172, 42, 180, 0, 28, 27, 50, 28, 182, 0, 169]
abbrev dktX0_cut_1 : List UInt8 := dkwX0_cut_1 ++ dktX0_cut_2
def dkwX0_cut_0 : List UInt8 := [42, 27, 182, 0, 120, 153, 0, 13, 29, 4, 16, 24, 184, 0, 69, 154, 0, 5, 2, 172, 42, 180, 0, 28]
abbrev dktX0_cut_0 : List UInt8 := dkwX0_cut_0 ++ dktX0_cut_1
theorem dksX0_cut_0 : cX0_cut.data.toList.drop 0 = dktX0_cut_0 := by decide +kernel
theorem dksX0_cut_1 : cX0_cut.data.toList.drop 24 = dktX0_cut_1 := dk_seg dksX0_cut_0 24 rfl rfl
theorem dksX0_cut_2 : cX0_cut.data.toList.drop 48 = dktX0_cut_2 := dk_seg dksX0_cut_1 24 rfl rfl
theorem dX0_cut_0 : decode cX0_cut 0 = .ok (.aload_n 0, 1) := dk_42 (dk_at dksX0_cut_0 0 rfl rfl)
theorem dX0_cut_1 : decode cX0_cut 1 = .ok (.iload_n 1, 1) := dk_27 (dk_at dksX0_cut_0 1 rfl rfl)
theorem dX0_cut_2 : decode cX0_cut 2 = .ok (.invokevirtual 120, 3) := dk_182 0 120 (dk_at dksX0_cut_0 2 rfl rfl)
theorem dX0_cut_5 : decode cX0_cut 5 = .ok (.ifCond .eq 13, 3) := dk_153 0 13 (dk_at dksX0_cut_0 5 rfl rfl)
theorem dX0_cut_8 : decode cX0_cut 8 = .ok (.iload_n 3, 1) := dk_29 (dk_at dksX0_cut_0 8 rfl rfl)
theorem dX0_cut_9 : decode cX0_cut 9 = .ok (.iconst 1, 1) := dk_4 (dk_at dksX0_cut_0 9 rfl rfl)
theorem dX0_cut_10 : decode cX0_cut 10 = .ok (.bipush 24, 2) := dk_16 24 (dk_at dksX0_cut_0 10 rfl rfl)
theorem dX0_cut_12 : decode cX0_cut 12 = .ok (.invokestatic 69, 3) := dk_184 0 69 (dk_at dksX0_cut_0 12 rfl rfl)
theorem dX0_cut_15 : decode cX0_cut 15 = .ok (.ifCond .ne 5, 3) := dk_154 0 5 (dk_at dksX0_cut_0 15 rfl rfl)
theorem dX0_cut_18 : decode cX0_cut 18 = .ok (.iconst (-1), 1) := dk_2 (dk_at dksX0_cut_0 18 rfl rfl)
theorem dX0_cut_19 : decode cX0_cut 19 = .ok (.ireturn, 1) := dk_172 (dk_at dksX0_cut_0 19 rfl rfl)
theorem dX0_cut_20 : decode cX0_cut 20 = .ok (.aload_n 0, 1) := dk_42 (dk_at dksX0_cut_0 20 rfl rfl)
theorem dX0_cut_21 : decode cX0_cut 21 = .ok (.getfield 28, 3) := dk_180 0 28 (dk_at dksX0_cut_0 21 rfl rfl)
theorem dX0_cut_24 : decode cX0_cut 24 = .ok (.iload_n 1, 1) := dk_27 (dk_at dksX0_cut_1 0 rfl rfl)
theorem dX0_cut_25 : decode cX0_cut 25 = .ok (.aaload, 1) := dk_50 (dk_at dksX0_cut_1 1 rfl rfl)
theorem dX0_cut_26 : decode cX0_cut 26 = .ok (.invokevirtual 140, 3) := dk_182 0 140 (dk_at dksX0_cut_1 2 rfl rfl)
theorem dX0_cut_29 : decode cX0_cut 29 = .ok (.ifCond .ne 9, 3) := dk_154 0 9 (dk_at dksX0_cut_1 5 rfl rfl)
theorem dX0_cut_32 : decode cX0_cut 32 = .ok (.aload_n 0, 1) := dk_42 (dk_at dksX0_cut_1 8 rfl rfl)
theorem dX0_cut_33 : decode cX0_cut 33 = .ok (.iconst 3, 1) := dk_6 (dk_at dksX0_cut_1 9 rfl rfl)
theorem dX0_cut_34 : decode cX0_cut 34 = .ok (.invokevirtual 79, 3) := dk_182 0 79 (dk_at dksX0_cut_1 10 rfl rfl)
theorem dX0_cut_37 : decode cX0_cut 37 = .ok (.ireturn, 1) := dk_172 (dk_at dksX0_cut_1 13 rfl rfl)
theorem dX0_cut_38 : decode cX0_cut 38 = .ok (.aload_n 0, 1) := dk_42 (dk_at dksX0_cut_1 14 rfl rfl)
theorem dX0_cut_39 : decode cX0_cut 39 = .ok (.getfield 28, 3) := dk_180 0 28 (dk_at dksX0_cut_1 15 rfl rfl)
theorem dX0_cut_42 : decode cX0_cut 42 = .ok (.iload_n 1, 1) := dk_27 (dk_at dksX0_cut_1 18 rfl rfl)
theorem dX0_cut_43 : decode cX0_cut 43 = .ok (.aaload, 1) := dk_50 (dk_at dksX0_cut_1 19 rfl rfl)
theorem dX0_cut_44 : decode cX0_cut 44 = .ok (.iload_n 2, 1) := dk_28 (dk_at dksX0_cut_1 20 rfl rfl)
theorem dX0_cut_45 : decode cX0_cut 45 = .ok (.invokevirtual 169, 3) := dk_182 0 169 (dk_at dksX0_cut_1 21 rfl rfl)
theorem dX0_cut_48 : decode cX0_cut 48 = .ok (.istore 4, 2) := dk_54 4 (dk_at dksX0_cut_2 0 rfl rfl)
theorem dX0_cut_50 : decode cX0_cut 50 = .ok (.aload_n 0, 1) := dk_42 (dk_at dksX0_cut_2 2 rfl rfl)
theorem dX0_cut_51 : decode cX0_cut 51 = .ok (.getfield 28, 3) := dk_180 0 28 (dk_at dksX0_cut_2 3 rfl rfl)
theorem dX0_cut_54 : decode cX0_cut 54 = .ok (.iload_n 1, 1) := dk_27 (dk_at dksX0_cut_2 6 rfl rfl)
theorem dX0_cut_55 : decode cX0_cut 55 = .ok (.aaload, 1) := dk_50 (dk_at dksX0_cut_2 7 rfl rfl)
theorem dX0_cut_56 : decode cX0_cut 56 = .ok (.iload_n 2, 1) := dk_28 (dk_at dksX0_cut_2 8 rfl rfl)
theorem dX0_cut_57 : decode cX0_cut 57 = .ok (.iload_n 3, 1) := dk_29 (dk_at dksX0_cut_2 9 rfl rfl)
theorem dX0_cut_58 : decode cX0_cut 58 = .ok (.invokevirtual 172, 3) := dk_182 0 172 (dk_at dksX0_cut_2 10 rfl rfl)
theorem dX0_cut_61 : decode cX0_cut 61 = .ok (.iload 4, 2) := dk_21 4 (dk_at dksX0_cut_2 13 rfl rfl)
theorem dX0_cut_63 : decode cX0_cut 63 = .ok (.ireturn, 1) := dk_172 (dk_at dksX0_cut_2 15 rfl rfl)
theorem dX0_cut_64 : decode cX0_cut 64 = .ok (.astore 4, 2) := dk_58 4 (dk_at dksX0_cut_2 16 rfl rfl)
theorem dX0_cut_66 : decode cX0_cut 66 = .ok (.aload_n 0, 1) := dk_42 (dk_at dksX0_cut_2 18 rfl rfl)
theorem dX0_cut_67 : decode cX0_cut 67 = .ok (.iconst 2, 1) := dk_5 (dk_at dksX0_cut_2 19 rfl rfl)
theorem dX0_cut_68 : decode cX0_cut 68 = .ok (.invokevirtual 79, 3) := dk_182 0 79 (dk_at dksX0_cut_2 20 rfl rfl)
theorem dX0_cut_71 : decode cX0_cut 71 = .ok (.ireturn, 1) := dk_172 (dk_at dksX0_cut_2 23 rfl rfl)
abbrev cX0_put : ByteArray := prog_1_method_26_code
def yX0_put : MethodName := ⟨RX0, "put", "(II)I"⟩
def dkwX0_put_2 : List UInt8 := [28, 181, 0, 177, 21, 4, 172, 78, 42, 6, 182, 0, 79, 172]
abbrev dktX0_put_2 : List UInt8 := dkwX0_put_2 ++ []
def dkwX0_put_1 : List UInt8 := [182, 0, 176, 4, 100, 184, 0, 69, 154, 0, 9, 42, 5, 182, 0, 79, 172, 45, 180, 0, 177, 54, 4, 45]
abbrev dktX0_put_1 : List UInt8 := dkwX0_put_1 ++ dktX0_put_2
def dkwX0_put_0 : List UInt8 := [42, 27, 182, 0, 120, 154, 0, 5, 2, 172, 42, 180, 0, 28, 27, 50, 192, 0, 107, 78, 28, 3, 45]
abbrev dktX0_put_0 : List UInt8 := dkwX0_put_0 ++ dktX0_put_1
theorem dksX0_put_0 : cX0_put.data.toList.drop 0 = dktX0_put_0 := by decide +kernel
theorem dksX0_put_1 : cX0_put.data.toList.drop 23 = dktX0_put_1 := dk_seg dksX0_put_0 23 rfl rfl
theorem dksX0_put_2 : cX0_put.data.toList.drop 47 = dktX0_put_2 := dk_seg dksX0_put_1 24 rfl rfl
theorem dX0_put_0 : decode cX0_put 0 = .ok (.aload_n 0, 1) := dk_42 (dk_at dksX0_put_0 0 rfl rfl)
theorem dX0_put_1 : decode cX0_put 1 = .ok (.iload_n 1, 1) := dk_27 (dk_at dksX0_put_0 1 rfl rfl)
theorem dX0_put_2 : decode cX0_put 2 = .ok (.invokevirtual 120, 3) := dk_182 0 120 (dk_at dksX0_put_0 2 rfl rfl)
theorem dX0_put_5 : decode cX0_put 5 = .ok (.ifCond .ne 5, 3) := dk_154 0 5 (dk_at dksX0_put_0 5 rfl rfl)
theorem dX0_put_8 : decode cX0_put 8 = .ok (.iconst (-1), 1) := dk_2 (dk_at dksX0_put_0 8 rfl rfl)
theorem dX0_put_9 : decode cX0_put 9 = .ok (.ireturn, 1) := dk_172 (dk_at dksX0_put_0 9 rfl rfl)
theorem dX0_put_10 : decode cX0_put 10 = .ok (.aload_n 0, 1) := dk_42 (dk_at dksX0_put_0 10 rfl rfl)
theorem dX0_put_11 : decode cX0_put 11 = .ok (.getfield 28, 3) := dk_180 0 28 (dk_at dksX0_put_0 11 rfl rfl)
theorem dX0_put_14 : decode cX0_put 14 = .ok (.iload_n 1, 1) := dk_27 (dk_at dksX0_put_0 14 rfl rfl)
theorem dX0_put_15 : decode cX0_put 15 = .ok (.aaload, 1) := dk_50 (dk_at dksX0_put_0 15 rfl rfl)
theorem dX0_put_16 : decode cX0_put 16 = .ok (.checkcast 107, 3) := dk_192 0 107 (dk_at dksX0_put_0 16 rfl rfl)
theorem dX0_put_19 : decode cX0_put 19 = .ok (.astore_n 3, 1) := dk_78 (dk_at dksX0_put_0 19 rfl rfl)
theorem dX0_put_20 : decode cX0_put 20 = .ok (.iload_n 2, 1) := dk_28 (dk_at dksX0_put_0 20 rfl rfl)
theorem dX0_put_21 : decode cX0_put 21 = .ok (.iconst 0, 1) := dk_3 (dk_at dksX0_put_0 21 rfl rfl)
theorem dX0_put_22 : decode cX0_put 22 = .ok (.aload_n 3, 1) := dk_45 (dk_at dksX0_put_0 22 rfl rfl)
theorem dX0_put_23 : decode cX0_put 23 = .ok (.invokevirtual 176, 3) := dk_182 0 176 (dk_at dksX0_put_1 0 rfl rfl)
theorem dX0_put_26 : decode cX0_put 26 = .ok (.iconst 1, 1) := dk_4 (dk_at dksX0_put_1 3 rfl rfl)
theorem dX0_put_27 : decode cX0_put 27 = .ok (.isub, 1) := dk_100 (dk_at dksX0_put_1 4 rfl rfl)
theorem dX0_put_28 : decode cX0_put 28 = .ok (.invokestatic 69, 3) := dk_184 0 69 (dk_at dksX0_put_1 5 rfl rfl)
theorem dX0_put_31 : decode cX0_put 31 = .ok (.ifCond .ne 9, 3) := dk_154 0 9 (dk_at dksX0_put_1 8 rfl rfl)
theorem dX0_put_34 : decode cX0_put 34 = .ok (.aload_n 0, 1) := dk_42 (dk_at dksX0_put_1 11 rfl rfl)
theorem dX0_put_35 : decode cX0_put 35 = .ok (.iconst 2, 1) := dk_5 (dk_at dksX0_put_1 12 rfl rfl)
theorem dX0_put_36 : decode cX0_put 36 = .ok (.invokevirtual 79, 3) := dk_182 0 79 (dk_at dksX0_put_1 13 rfl rfl)
theorem dX0_put_39 : decode cX0_put 39 = .ok (.ireturn, 1) := dk_172 (dk_at dksX0_put_1 16 rfl rfl)
theorem dX0_put_40 : decode cX0_put 40 = .ok (.aload_n 3, 1) := dk_45 (dk_at dksX0_put_1 17 rfl rfl)
theorem dX0_put_41 : decode cX0_put 41 = .ok (.getfield 177, 3) := dk_180 0 177 (dk_at dksX0_put_1 18 rfl rfl)
theorem dX0_put_44 : decode cX0_put 44 = .ok (.istore 4, 2) := dk_54 4 (dk_at dksX0_put_1 21 rfl rfl)
theorem dX0_put_46 : decode cX0_put 46 = .ok (.aload_n 3, 1) := dk_45 (dk_at dksX0_put_1 23 rfl rfl)
theorem dX0_put_47 : decode cX0_put 47 = .ok (.iload_n 2, 1) := dk_28 (dk_at dksX0_put_2 0 rfl rfl)
theorem dX0_put_48 : decode cX0_put 48 = .ok (.putfield 177, 3) := dk_181 0 177 (dk_at dksX0_put_2 1 rfl rfl)
theorem dX0_put_51 : decode cX0_put 51 = .ok (.iload 4, 2) := dk_21 4 (dk_at dksX0_put_2 4 rfl rfl)
theorem dX0_put_53 : decode cX0_put 53 = .ok (.ireturn, 1) := dk_172 (dk_at dksX0_put_2 6 rfl rfl)
theorem dX0_put_54 : decode cX0_put 54 = .ok (.astore_n 3, 1) := dk_78 (dk_at dksX0_put_2 7 rfl rfl)
theorem dX0_put_55 : decode cX0_put 55 = .ok (.aload_n 0, 1) := dk_42 (dk_at dksX0_put_2 8 rfl rfl)
theorem dX0_put_56 : decode cX0_put 56 = .ok (.iconst 3, 1) := dk_6 (dk_at dksX0_put_2 9 rfl rfl)
theorem dX0_put_57 : decode cX0_put 57 = .ok (.invokevirtual 79, 3) := dk_182 0 79 (dk_at dksX0_put_2 10 rfl rfl)
theorem dX0_put_60 : decode cX0_put 60 = .ok (.ireturn, 1) := dk_172 (dk_at dksX0_put_2 13 rfl rfl)
abbrev cX0_mean : ByteArray := prog_1_method_27_code
def yX0_mean : MethodName := ⟨RX0, "mean", "(I)I"⟩
def dkwX0_mean_2 : List UInt8 := [182, 0, 140, 108, 172, 58, 4, 42, 7, 182, 0, 79, 172]
abbrev dktX0_mean_2 : List UInt8 := dkwX0_mean_2 ++ []
def dkwX0_mean_1 : List UInt8 := [44, 182, 0, 140, 162, 0, 18, 29, 44, 21, 4, 182, 0, 169, 96, 62, 132, 4, 1, 167, 255, 235, 29, 44]
abbrev dktX0_mean_1 : List UInt8 := dkwX0_mean_1 ++ dktX0_mean_2
def dkwX0_mean_0 : List UInt8 := [42, 27, 182, 0, 120, 154, 0, 5, 2, 172, 42, 180, 0, 28, 27, 50, 77, 3, 62, 3, 54, 4, 21, 4]
abbrev dktX0_mean_0 : List UInt8 := dkwX0_mean_0 ++ dktX0_mean_1
theorem dksX0_mean_0 : cX0_mean.data.toList.drop 0 = dktX0_mean_0 := by decide +kernel
theorem dksX0_mean_1 : cX0_mean.data.toList.drop 24 = dktX0_mean_1 := dk_seg dksX0_mean_0 24 rfl rfl
theorem dksX0_mean_2 : cX0_mean.data.toList.drop 48 = dktX0_mean_2 := dk_seg dksX0_mean_1 24 rfl rfl
theorem dX0_mean_0 : decode cX0_mean 0 = .ok (.aload_n 0, 1) := dk_42 (dk_at dksX0_mean_0 0 rfl rfl)
theorem dX0_mean_1 : decode cX0_mean 1 = .ok (.iload_n 1, 1) := dk_27 (dk_at dksX0_mean_0 1 rfl rfl)
theorem dX0_mean_2 : decode cX0_mean 2 = .ok (.invokevirtual 120, 3) := dk_182 0 120 (dk_at dksX0_mean_0 2 rfl rfl)
theorem dX0_mean_5 : decode cX0_mean 5 = .ok (.ifCond .ne 5, 3) := dk_154 0 5 (dk_at dksX0_mean_0 5 rfl rfl)
theorem dX0_mean_8 : decode cX0_mean 8 = .ok (.iconst (-1), 1) := dk_2 (dk_at dksX0_mean_0 8 rfl rfl)
theorem dX0_mean_9 : decode cX0_mean 9 = .ok (.ireturn, 1) := dk_172 (dk_at dksX0_mean_0 9 rfl rfl)
theorem dX0_mean_10 : decode cX0_mean 10 = .ok (.aload_n 0, 1) := dk_42 (dk_at dksX0_mean_0 10 rfl rfl)
theorem dX0_mean_11 : decode cX0_mean 11 = .ok (.getfield 28, 3) := dk_180 0 28 (dk_at dksX0_mean_0 11 rfl rfl)
theorem dX0_mean_14 : decode cX0_mean 14 = .ok (.iload_n 1, 1) := dk_27 (dk_at dksX0_mean_0 14 rfl rfl)
theorem dX0_mean_15 : decode cX0_mean 15 = .ok (.aaload, 1) := dk_50 (dk_at dksX0_mean_0 15 rfl rfl)
theorem dX0_mean_16 : decode cX0_mean 16 = .ok (.astore_n 2, 1) := dk_77 (dk_at dksX0_mean_0 16 rfl rfl)
theorem dX0_mean_17 : decode cX0_mean 17 = .ok (.iconst 0, 1) := dk_3 (dk_at dksX0_mean_0 17 rfl rfl)
theorem dX0_mean_18 : decode cX0_mean 18 = .ok (.istore_n 3, 1) := dk_62 (dk_at dksX0_mean_0 18 rfl rfl)
theorem dX0_mean_19 : decode cX0_mean 19 = .ok (.iconst 0, 1) := dk_3 (dk_at dksX0_mean_0 19 rfl rfl)
theorem dX0_mean_20 : decode cX0_mean 20 = .ok (.istore 4, 2) := dk_54 4 (dk_at dksX0_mean_0 20 rfl rfl)
theorem dX0_mean_22 : decode cX0_mean 22 = .ok (.iload 4, 2) := dk_21 4 (dk_at dksX0_mean_0 22 rfl rfl)
theorem dX0_mean_24 : decode cX0_mean 24 = .ok (.aload_n 2, 1) := dk_44 (dk_at dksX0_mean_1 0 rfl rfl)
theorem dX0_mean_25 : decode cX0_mean 25 = .ok (.invokevirtual 140, 3) := dk_182 0 140 (dk_at dksX0_mean_1 1 rfl rfl)
theorem dX0_mean_28 : decode cX0_mean 28 = .ok (.if_icmp .ge 18, 3) := dk_162 0 18 (dk_at dksX0_mean_1 4 rfl rfl)
theorem dX0_mean_31 : decode cX0_mean 31 = .ok (.iload_n 3, 1) := dk_29 (dk_at dksX0_mean_1 7 rfl rfl)
theorem dX0_mean_32 : decode cX0_mean 32 = .ok (.aload_n 2, 1) := dk_44 (dk_at dksX0_mean_1 8 rfl rfl)
theorem dX0_mean_33 : decode cX0_mean 33 = .ok (.iload 4, 2) := dk_21 4 (dk_at dksX0_mean_1 9 rfl rfl)
theorem dX0_mean_35 : decode cX0_mean 35 = .ok (.invokevirtual 169, 3) := dk_182 0 169 (dk_at dksX0_mean_1 11 rfl rfl)
theorem dX0_mean_38 : decode cX0_mean 38 = .ok (.iadd, 1) := dk_96 (dk_at dksX0_mean_1 14 rfl rfl)
theorem dX0_mean_39 : decode cX0_mean 39 = .ok (.istore_n 3, 1) := dk_62 (dk_at dksX0_mean_1 15 rfl rfl)
theorem dX0_mean_40 : decode cX0_mean 40 = .ok (.iinc 4 1, 3) := dk_132 4 1 (dk_at dksX0_mean_1 16 rfl rfl)
theorem dX0_mean_43 : decode cX0_mean 43 = .ok (.goto (-21), 3) := dk_167 255 235 (dk_at dksX0_mean_1 19 rfl rfl)
theorem dX0_mean_46 : decode cX0_mean 46 = .ok (.iload_n 3, 1) := dk_29 (dk_at dksX0_mean_1 22 rfl rfl)
theorem dX0_mean_47 : decode cX0_mean 47 = .ok (.aload_n 2, 1) := dk_44 (dk_at dksX0_mean_1 23 rfl rfl)
theorem dX0_mean_48 : decode cX0_mean 48 = .ok (.invokevirtual 140, 3) := dk_182 0 140 (dk_at dksX0_mean_2 0 rfl rfl)
theorem dX0_mean_51 : decode cX0_mean 51 = .ok (.idiv, 1) := dk_108 (dk_at dksX0_mean_2 3 rfl rfl)
theorem dX0_mean_52 : decode cX0_mean 52 = .ok (.ireturn, 1) := dk_172 (dk_at dksX0_mean_2 4 rfl rfl)
theorem dX0_mean_53 : decode cX0_mean 53 = .ok (.astore 4, 2) := dk_58 4 (dk_at dksX0_mean_2 5 rfl rfl)
theorem dX0_mean_55 : decode cX0_mean 55 = .ok (.aload_n 0, 1) := dk_42 (dk_at dksX0_mean_2 7 rfl rfl)
theorem dX0_mean_56 : decode cX0_mean 56 = .ok (.iconst 4, 1) := dk_7 (dk_at dksX0_mean_2 8 rfl rfl)
theorem dX0_mean_57 : decode cX0_mean 57 = .ok (.invokevirtual 79, 3) := dk_182 0 79 (dk_at dksX0_mean_2 9 rfl rfl)
theorem dX0_mean_60 : decode cX0_mean 60 = .ok (.ireturn, 1) := dk_172 (dk_at dksX0_mean_2 12 rfl rfl)
abbrev cX0_tower : ByteArray := prog_1_method_36_code
def yX0_tower : MethodName := ⟨RX0, "tower", "(I)I"⟩
def dkwX0_tower_3 : List UInt8 := [167, 255, 213, 42, 180, 0, 34, 27, 187, 0, 32, 89, 42, 183, 0, 195, 83, 28, 172]
abbrev dktX0_tower_3 : List UInt8 := dkwX0_tower_3 ++ []
def dkwX0_tower_2 : List UInt8 := [198, 0, 19, 42, 180, 0, 34, 27, 50, 180, 0, 188, 29, 50, 16, 247, 181, 0, 149, 132, 3, 1]
abbrev dktX0_tower_2 : List UInt8 := dkwX0_tower_2 ++ dktX0_tower_3
def dkwX0_tower_1 : List UInt8 := [3, 62, 29, 5, 162, 0, 44, 28, 4, 160, 0, 39, 42, 180, 0, 34, 27, 50, 180, 0, 188, 29, 50]
abbrev dktX0_tower_1 : List UInt8 := dkwX0_tower_1 ++ dktX0_tower_2
def dkwX0_tower_0 : List UInt8 := [27, 184, 0, 181, 154, 0, 5, 2, 172, 42, 180, 0, 34, 27, 50, 199, 0, 7, 3, 167, 0, 4, 4, 61]
abbrev dktX0_tower_0 : List UInt8 := dkwX0_tower_0 ++ dktX0_tower_1
theorem dksX0_tower_0 : cX0_tower.data.toList.drop 0 = dktX0_tower_0 := by decide +kernel
theorem dksX0_tower_1 : cX0_tower.data.toList.drop 24 = dktX0_tower_1 := dk_seg dksX0_tower_0 24 rfl rfl
theorem dksX0_tower_2 : cX0_tower.data.toList.drop 47 = dktX0_tower_2 := dk_seg dksX0_tower_1 23 rfl rfl
theorem dksX0_tower_3 : cX0_tower.data.toList.drop 69 = dktX0_tower_3 := dk_seg dksX0_tower_2 22 rfl rfl
theorem dX0_tower_0 : decode cX0_tower 0 = .ok (.iload_n 1, 1) := dk_27 (dk_at dksX0_tower_0 0 rfl rfl)
theorem dX0_tower_1 : decode cX0_tower 1 = .ok (.invokestatic 181, 3) := dk_184 0 181 (dk_at dksX0_tower_0 1 rfl rfl)
theorem dX0_tower_4 : decode cX0_tower 4 = .ok (.ifCond .ne 5, 3) := dk_154 0 5 (dk_at dksX0_tower_0 4 rfl rfl)
theorem dX0_tower_7 : decode cX0_tower 7 = .ok (.iconst (-1), 1) := dk_2 (dk_at dksX0_tower_0 7 rfl rfl)
theorem dX0_tower_8 : decode cX0_tower 8 = .ok (.ireturn, 1) := dk_172 (dk_at dksX0_tower_0 8 rfl rfl)
theorem dX0_tower_9 : decode cX0_tower 9 = .ok (.aload_n 0, 1) := dk_42 (dk_at dksX0_tower_0 9 rfl rfl)
theorem dX0_tower_10 : decode cX0_tower 10 = .ok (.getfield 34, 3) := dk_180 0 34 (dk_at dksX0_tower_0 10 rfl rfl)
theorem dX0_tower_13 : decode cX0_tower 13 = .ok (.iload_n 1, 1) := dk_27 (dk_at dksX0_tower_0 13 rfl rfl)
theorem dX0_tower_14 : decode cX0_tower 14 = .ok (.aaload, 1) := dk_50 (dk_at dksX0_tower_0 14 rfl rfl)
theorem dX0_tower_15 : decode cX0_tower 15 = .ok (.ifnonnull 7, 3) := dk_199 0 7 (dk_at dksX0_tower_0 15 rfl rfl)
theorem dX0_tower_18 : decode cX0_tower 18 = .ok (.iconst 0, 1) := dk_3 (dk_at dksX0_tower_0 18 rfl rfl)
theorem dX0_tower_19 : decode cX0_tower 19 = .ok (.goto 4, 3) := dk_167 0 4 (dk_at dksX0_tower_0 19 rfl rfl)
theorem dX0_tower_22 : decode cX0_tower 22 = .ok (.iconst 1, 1) := dk_4 (dk_at dksX0_tower_0 22 rfl rfl)
theorem dX0_tower_23 : decode cX0_tower 23 = .ok (.istore_n 2, 1) := dk_61 (dk_at dksX0_tower_0 23 rfl rfl)
theorem dX0_tower_24 : decode cX0_tower 24 = .ok (.iconst 0, 1) := dk_3 (dk_at dksX0_tower_1 0 rfl rfl)
theorem dX0_tower_25 : decode cX0_tower 25 = .ok (.istore_n 3, 1) := dk_62 (dk_at dksX0_tower_1 1 rfl rfl)
theorem dX0_tower_26 : decode cX0_tower 26 = .ok (.iload_n 3, 1) := dk_29 (dk_at dksX0_tower_1 2 rfl rfl)
theorem dX0_tower_27 : decode cX0_tower 27 = .ok (.iconst 2, 1) := dk_5 (dk_at dksX0_tower_1 3 rfl rfl)
theorem dX0_tower_28 : decode cX0_tower 28 = .ok (.if_icmp .ge 44, 3) := dk_162 0 44 (dk_at dksX0_tower_1 4 rfl rfl)
theorem dX0_tower_31 : decode cX0_tower 31 = .ok (.iload_n 2, 1) := dk_28 (dk_at dksX0_tower_1 7 rfl rfl)
theorem dX0_tower_32 : decode cX0_tower 32 = .ok (.iconst 1, 1) := dk_4 (dk_at dksX0_tower_1 8 rfl rfl)
theorem dX0_tower_33 : decode cX0_tower 33 = .ok (.if_icmp .ne 39, 3) := dk_160 0 39 (dk_at dksX0_tower_1 9 rfl rfl)
theorem dX0_tower_36 : decode cX0_tower 36 = .ok (.aload_n 0, 1) := dk_42 (dk_at dksX0_tower_1 12 rfl rfl)
theorem dX0_tower_37 : decode cX0_tower 37 = .ok (.getfield 34, 3) := dk_180 0 34 (dk_at dksX0_tower_1 13 rfl rfl)
theorem dX0_tower_40 : decode cX0_tower 40 = .ok (.iload_n 1, 1) := dk_27 (dk_at dksX0_tower_1 16 rfl rfl)
theorem dX0_tower_41 : decode cX0_tower 41 = .ok (.aaload, 1) := dk_50 (dk_at dksX0_tower_1 17 rfl rfl)
theorem dX0_tower_42 : decode cX0_tower 42 = .ok (.getfield 188, 3) := dk_180 0 188 (dk_at dksX0_tower_1 18 rfl rfl)
theorem dX0_tower_45 : decode cX0_tower 45 = .ok (.iload_n 3, 1) := dk_29 (dk_at dksX0_tower_1 21 rfl rfl)
theorem dX0_tower_46 : decode cX0_tower 46 = .ok (.aaload, 1) := dk_50 (dk_at dksX0_tower_1 22 rfl rfl)
theorem dX0_tower_47 : decode cX0_tower 47 = .ok (.ifnull 19, 3) := dk_198 0 19 (dk_at dksX0_tower_2 0 rfl rfl)
theorem dX0_tower_50 : decode cX0_tower 50 = .ok (.aload_n 0, 1) := dk_42 (dk_at dksX0_tower_2 3 rfl rfl)
theorem dX0_tower_51 : decode cX0_tower 51 = .ok (.getfield 34, 3) := dk_180 0 34 (dk_at dksX0_tower_2 4 rfl rfl)
theorem dX0_tower_54 : decode cX0_tower 54 = .ok (.iload_n 1, 1) := dk_27 (dk_at dksX0_tower_2 7 rfl rfl)
theorem dX0_tower_55 : decode cX0_tower 55 = .ok (.aaload, 1) := dk_50 (dk_at dksX0_tower_2 8 rfl rfl)
theorem dX0_tower_56 : decode cX0_tower 56 = .ok (.getfield 188, 3) := dk_180 0 188 (dk_at dksX0_tower_2 9 rfl rfl)
theorem dX0_tower_59 : decode cX0_tower 59 = .ok (.iload_n 3, 1) := dk_29 (dk_at dksX0_tower_2 12 rfl rfl)
theorem dX0_tower_60 : decode cX0_tower 60 = .ok (.aaload, 1) := dk_50 (dk_at dksX0_tower_2 13 rfl rfl)
theorem dX0_tower_61 : decode cX0_tower 61 = .ok (.bipush (-9), 2) := dk_16 247 (dk_at dksX0_tower_2 14 rfl rfl)
theorem dX0_tower_63 : decode cX0_tower 63 = .ok (.putfield 149, 3) := dk_181 0 149 (dk_at dksX0_tower_2 16 rfl rfl)
theorem dX0_tower_66 : decode cX0_tower 66 = .ok (.iinc 3 1, 3) := dk_132 3 1 (dk_at dksX0_tower_2 19 rfl rfl)
theorem dX0_tower_69 : decode cX0_tower 69 = .ok (.goto (-43), 3) := dk_167 255 213 (dk_at dksX0_tower_3 0 rfl rfl)
theorem dX0_tower_72 : decode cX0_tower 72 = .ok (.aload_n 0, 1) := dk_42 (dk_at dksX0_tower_3 3 rfl rfl)
theorem dX0_tower_73 : decode cX0_tower 73 = .ok (.getfield 34, 3) := dk_180 0 34 (dk_at dksX0_tower_3 4 rfl rfl)
theorem dX0_tower_76 : decode cX0_tower 76 = .ok (.iload_n 1, 1) := dk_27 (dk_at dksX0_tower_3 7 rfl rfl)
theorem dX0_tower_77 : decode cX0_tower 77 = .ok (.new 32, 3) := dk_187 0 32 (dk_at dksX0_tower_3 8 rfl rfl)
theorem dX0_tower_80 : decode cX0_tower 80 = .ok (.dup, 1) := dk_89 (dk_at dksX0_tower_3 11 rfl rfl)
theorem dX0_tower_81 : decode cX0_tower 81 = .ok (.aload_n 0, 1) := dk_42 (dk_at dksX0_tower_3 12 rfl rfl)
theorem dX0_tower_82 : decode cX0_tower 82 = .ok (.invokespecial 195, 3) := dk_183 0 195 (dk_at dksX0_tower_3 13 rfl rfl)
theorem dX0_tower_85 : decode cX0_tower 85 = .ok (.aastore, 1) := dk_83 (dk_at dksX0_tower_3 16 rfl rfl)
theorem dX0_tower_86 : decode cX0_tower 86 = .ok (.iload_n 2, 1) := dk_28 (dk_at dksX0_tower_3 17 rfl rfl)
theorem dX0_tower_87 : decode cX0_tower 87 = .ok (.ireturn, 1) := dk_172 (dk_at dksX0_tower_3 18 rfl rfl)
abbrev cX0_isTower : ByteArray := prog_1_method_32_code
def yX0_isTower : MethodName := ⟨RX0, "isTower", "(I)Z"⟩
def dkwX0_isTower_0 : List UInt8 := [26, 3, 6, 184, 0, 69, 172]
abbrev dktX0_isTower_0 : List UInt8 := dkwX0_isTower_0 ++ []
theorem dksX0_isTower_0 : cX0_isTower.data.toList.drop 0 = dktX0_isTower_0 := by decide +kernel
theorem dX0_isTower_0 : decode cX0_isTower 0 = .ok (.iload_n 0, 1) := dk_26 (dk_at dksX0_isTower_0 0 rfl rfl)
theorem dX0_isTower_1 : decode cX0_isTower 1 = .ok (.iconst 0, 1) := dk_3 (dk_at dksX0_isTower_0 1 rfl rfl)
theorem dX0_isTower_2 : decode cX0_isTower 2 = .ok (.iconst 3, 1) := dk_6 (dk_at dksX0_isTower_0 2 rfl rfl)
theorem dX0_isTower_3 : decode cX0_isTower 3 = .ok (.invokestatic 69, 3) := dk_184 0 69 (dk_at dksX0_isTower_0 3 rfl rfl)
theorem dX0_isTower_6 : decode cX0_isTower 6 = .ok (.ireturn, 1) := dk_172 (dk_at dksX0_isTower_0 6 rfl rfl)
abbrev cX0_hang : ByteArray := prog_1_method_37_code
def yX0_hang : MethodName := ⟨RX0, "hang", "(IIZ)I"⟩
def dkwX0_hang_5 : List UInt8 := [167, 0, 8, 25, 6, 180, 0, 205, 172]
abbrev dktX0_hang_5 : List UInt8 := dkwX0_hang_5 ++ []
def dkwX0_hang_4 : List UInt8 := [181, 0, 198, 25, 5, 3, 181, 0, 202, 25, 5, 3, 181, 0, 146, 25, 6, 199, 0, 8, 16, 247]
abbrev dktX0_hang_4 : List UInt8 := dkwX0_hang_4 ++ dktX0_hang_5
def dkwX0_hang_3 : List UInt8 := [180, 0, 34, 27, 50, 180, 0, 188, 29, 184, 0, 191, 25, 5, 83, 25, 5, 27, 181, 0, 149, 25, 5, 3]
abbrev dktX0_hang_3 : List UInt8 := dkwX0_hang_3 ++ dktX0_hang_4
def dkwX0_hang_2 : List UInt8 := [180, 0, 188, 29, 184, 0, 191, 50, 58, 6, 25, 6, 198, 0, 10, 25, 6, 16, 247, 181, 0, 149, 42]
abbrev dktX0_hang_2 : List UInt8 := dkwX0_hang_2 ++ dktX0_hang_3
def dkwX0_hang_1 : List UInt8 := [28, 50, 58, 5, 25, 5, 180, 0, 149, 16, 247, 159, 0, 6, 16, 252, 172, 42, 180, 0, 34, 27, 50]
abbrev dktX0_hang_1 : List UInt8 := dkwX0_hang_1 ++ dktX0_hang_2
def dkwX0_hang_0 : List UInt8 := [42, 42, 28, 182, 0, 120, 27, 182, 0, 184, 54, 4, 21, 4, 156, 0, 6, 21, 4, 172, 42, 180, 0, 28]
abbrev dktX0_hang_0 : List UInt8 := dkwX0_hang_0 ++ dktX0_hang_1
theorem dksX0_hang_0 : cX0_hang.data.toList.drop 0 = dktX0_hang_0 := by decide +kernel
theorem dksX0_hang_1 : cX0_hang.data.toList.drop 24 = dktX0_hang_1 := dk_seg dksX0_hang_0 24 rfl rfl
theorem dksX0_hang_2 : cX0_hang.data.toList.drop 47 = dktX0_hang_2 := dk_seg dksX0_hang_1 23 rfl rfl
theorem dksX0_hang_3 : cX0_hang.data.toList.drop 70 = dktX0_hang_3 := dk_seg dksX0_hang_2 23 rfl rfl
theorem dksX0_hang_4 : cX0_hang.data.toList.drop 94 = dktX0_hang_4 := dk_seg dksX0_hang_3 24 rfl rfl
theorem dksX0_hang_5 : cX0_hang.data.toList.drop 116 = dktX0_hang_5 := dk_seg dksX0_hang_4 22 rfl rfl
theorem dX0_hang_0 : decode cX0_hang 0 = .ok (.aload_n 0, 1) := dk_42 (dk_at dksX0_hang_0 0 rfl rfl)
theorem dX0_hang_1 : decode cX0_hang 1 = .ok (.aload_n 0, 1) := dk_42 (dk_at dksX0_hang_0 1 rfl rfl)
theorem dX0_hang_2 : decode cX0_hang 2 = .ok (.iload_n 2, 1) := dk_28 (dk_at dksX0_hang_0 2 rfl rfl)
theorem dX0_hang_3 : decode cX0_hang 3 = .ok (.invokevirtual 120, 3) := dk_182 0 120 (dk_at dksX0_hang_0 3 rfl rfl)
theorem dX0_hang_6 : decode cX0_hang 6 = .ok (.iload_n 1, 1) := dk_27 (dk_at dksX0_hang_0 6 rfl rfl)
theorem dX0_hang_7 : decode cX0_hang 7 = .ok (.invokevirtual 184, 3) := dk_182 0 184 (dk_at dksX0_hang_0 7 rfl rfl)
theorem dX0_hang_10 : decode cX0_hang 10 = .ok (.istore 4, 2) := dk_54 4 (dk_at dksX0_hang_0 10 rfl rfl)
theorem dX0_hang_12 : decode cX0_hang 12 = .ok (.iload 4, 2) := dk_21 4 (dk_at dksX0_hang_0 12 rfl rfl)
theorem dX0_hang_14 : decode cX0_hang 14 = .ok (.ifCond .ge 6, 3) := dk_156 0 6 (dk_at dksX0_hang_0 14 rfl rfl)
theorem dX0_hang_17 : decode cX0_hang 17 = .ok (.iload 4, 2) := dk_21 4 (dk_at dksX0_hang_0 17 rfl rfl)
theorem dX0_hang_19 : decode cX0_hang 19 = .ok (.ireturn, 1) := dk_172 (dk_at dksX0_hang_0 19 rfl rfl)
theorem dX0_hang_20 : decode cX0_hang 20 = .ok (.aload_n 0, 1) := dk_42 (dk_at dksX0_hang_0 20 rfl rfl)
theorem dX0_hang_21 : decode cX0_hang 21 = .ok (.getfield 28, 3) := dk_180 0 28 (dk_at dksX0_hang_0 21 rfl rfl)
theorem dX0_hang_24 : decode cX0_hang 24 = .ok (.iload_n 2, 1) := dk_28 (dk_at dksX0_hang_1 0 rfl rfl)
theorem dX0_hang_25 : decode cX0_hang 25 = .ok (.aaload, 1) := dk_50 (dk_at dksX0_hang_1 1 rfl rfl)
theorem dX0_hang_26 : decode cX0_hang 26 = .ok (.astore 5, 2) := dk_58 5 (dk_at dksX0_hang_1 2 rfl rfl)
theorem dX0_hang_28 : decode cX0_hang 28 = .ok (.aload 5, 2) := dk_25 5 (dk_at dksX0_hang_1 4 rfl rfl)
theorem dX0_hang_30 : decode cX0_hang 30 = .ok (.getfield 149, 3) := dk_180 0 149 (dk_at dksX0_hang_1 6 rfl rfl)
theorem dX0_hang_33 : decode cX0_hang 33 = .ok (.bipush (-9), 2) := dk_16 247 (dk_at dksX0_hang_1 9 rfl rfl)
theorem dX0_hang_35 : decode cX0_hang 35 = .ok (.if_icmp .eq 6, 3) := dk_159 0 6 (dk_at dksX0_hang_1 11 rfl rfl)
theorem dX0_hang_38 : decode cX0_hang 38 = .ok (.bipush (-4), 2) := dk_16 252 (dk_at dksX0_hang_1 14 rfl rfl)
theorem dX0_hang_40 : decode cX0_hang 40 = .ok (.ireturn, 1) := dk_172 (dk_at dksX0_hang_1 16 rfl rfl)
theorem dX0_hang_41 : decode cX0_hang 41 = .ok (.aload_n 0, 1) := dk_42 (dk_at dksX0_hang_1 17 rfl rfl)
theorem dX0_hang_42 : decode cX0_hang 42 = .ok (.getfield 34, 3) := dk_180 0 34 (dk_at dksX0_hang_1 18 rfl rfl)
theorem dX0_hang_45 : decode cX0_hang 45 = .ok (.iload_n 1, 1) := dk_27 (dk_at dksX0_hang_1 21 rfl rfl)
theorem dX0_hang_46 : decode cX0_hang 46 = .ok (.aaload, 1) := dk_50 (dk_at dksX0_hang_1 22 rfl rfl)
theorem dX0_hang_47 : decode cX0_hang 47 = .ok (.getfield 188, 3) := dk_180 0 188 (dk_at dksX0_hang_2 0 rfl rfl)
theorem dX0_hang_50 : decode cX0_hang 50 = .ok (.iload_n 3, 1) := dk_29 (dk_at dksX0_hang_2 3 rfl rfl)
theorem dX0_hang_51 : decode cX0_hang 51 = .ok (.invokestatic 191, 3) := dk_184 0 191 (dk_at dksX0_hang_2 4 rfl rfl)
theorem dX0_hang_54 : decode cX0_hang 54 = .ok (.aaload, 1) := dk_50 (dk_at dksX0_hang_2 7 rfl rfl)
theorem dX0_hang_55 : decode cX0_hang 55 = .ok (.astore 6, 2) := dk_58 6 (dk_at dksX0_hang_2 8 rfl rfl)
theorem dX0_hang_57 : decode cX0_hang 57 = .ok (.aload 6, 2) := dk_25 6 (dk_at dksX0_hang_2 10 rfl rfl)
theorem dX0_hang_59 : decode cX0_hang 59 = .ok (.ifnull 10, 3) := dk_198 0 10 (dk_at dksX0_hang_2 12 rfl rfl)
theorem dX0_hang_62 : decode cX0_hang 62 = .ok (.aload 6, 2) := dk_25 6 (dk_at dksX0_hang_2 15 rfl rfl)
theorem dX0_hang_64 : decode cX0_hang 64 = .ok (.bipush (-9), 2) := dk_16 247 (dk_at dksX0_hang_2 17 rfl rfl)
theorem dX0_hang_66 : decode cX0_hang 66 = .ok (.putfield 149, 3) := dk_181 0 149 (dk_at dksX0_hang_2 19 rfl rfl)
theorem dX0_hang_69 : decode cX0_hang 69 = .ok (.aload_n 0, 1) := dk_42 (dk_at dksX0_hang_2 22 rfl rfl)
theorem dX0_hang_70 : decode cX0_hang 70 = .ok (.getfield 34, 3) := dk_180 0 34 (dk_at dksX0_hang_3 0 rfl rfl)
theorem dX0_hang_73 : decode cX0_hang 73 = .ok (.iload_n 1, 1) := dk_27 (dk_at dksX0_hang_3 3 rfl rfl)
theorem dX0_hang_74 : decode cX0_hang 74 = .ok (.aaload, 1) := dk_50 (dk_at dksX0_hang_3 4 rfl rfl)
theorem dX0_hang_75 : decode cX0_hang 75 = .ok (.getfield 188, 3) := dk_180 0 188 (dk_at dksX0_hang_3 5 rfl rfl)
theorem dX0_hang_78 : decode cX0_hang 78 = .ok (.iload_n 3, 1) := dk_29 (dk_at dksX0_hang_3 8 rfl rfl)
theorem dX0_hang_79 : decode cX0_hang 79 = .ok (.invokestatic 191, 3) := dk_184 0 191 (dk_at dksX0_hang_3 9 rfl rfl)
theorem dX0_hang_82 : decode cX0_hang 82 = .ok (.aload 5, 2) := dk_25 5 (dk_at dksX0_hang_3 12 rfl rfl)
theorem dX0_hang_84 : decode cX0_hang 84 = .ok (.aastore, 1) := dk_83 (dk_at dksX0_hang_3 14 rfl rfl)
theorem dX0_hang_85 : decode cX0_hang 85 = .ok (.aload 5, 2) := dk_25 5 (dk_at dksX0_hang_3 15 rfl rfl)
theorem dX0_hang_87 : decode cX0_hang 87 = .ok (.iload_n 1, 1) := dk_27 (dk_at dksX0_hang_3 17 rfl rfl)
theorem dX0_hang_88 : decode cX0_hang 88 = .ok (.putfield 149, 3) := dk_181 0 149 (dk_at dksX0_hang_3 18 rfl rfl)
theorem dX0_hang_91 : decode cX0_hang 91 = .ok (.aload 5, 2) := dk_25 5 (dk_at dksX0_hang_3 21 rfl rfl)
theorem dX0_hang_93 : decode cX0_hang 93 = .ok (.iconst 0, 1) := dk_3 (dk_at dksX0_hang_3 23 rfl rfl)
theorem dX0_hang_94 : decode cX0_hang 94 = .ok (.putfield 198, 3) := dk_181 0 198 (dk_at dksX0_hang_4 0 rfl rfl)
theorem dX0_hang_97 : decode cX0_hang 97 = .ok (.aload 5, 2) := dk_25 5 (dk_at dksX0_hang_4 3 rfl rfl)
theorem dX0_hang_99 : decode cX0_hang 99 = .ok (.iconst 0, 1) := dk_3 (dk_at dksX0_hang_4 5 rfl rfl)
theorem dX0_hang_100 : decode cX0_hang 100 = .ok (.putfield 202, 3) := dk_181 0 202 (dk_at dksX0_hang_4 6 rfl rfl)
theorem dX0_hang_103 : decode cX0_hang 103 = .ok (.aload 5, 2) := dk_25 5 (dk_at dksX0_hang_4 9 rfl rfl)
theorem dX0_hang_105 : decode cX0_hang 105 = .ok (.iconst 0, 1) := dk_3 (dk_at dksX0_hang_4 11 rfl rfl)
theorem dX0_hang_106 : decode cX0_hang 106 = .ok (.putfield 146, 3) := dk_181 0 146 (dk_at dksX0_hang_4 12 rfl rfl)
theorem dX0_hang_109 : decode cX0_hang 109 = .ok (.aload 6, 2) := dk_25 6 (dk_at dksX0_hang_4 15 rfl rfl)
theorem dX0_hang_111 : decode cX0_hang 111 = .ok (.ifnonnull 8, 3) := dk_199 0 8 (dk_at dksX0_hang_4 17 rfl rfl)
theorem dX0_hang_114 : decode cX0_hang 114 = .ok (.bipush (-9), 2) := dk_16 247 (dk_at dksX0_hang_4 20 rfl rfl)
theorem dX0_hang_116 : decode cX0_hang 116 = .ok (.goto 8, 3) := dk_167 0 8 (dk_at dksX0_hang_5 0 rfl rfl)
theorem dX0_hang_119 : decode cX0_hang 119 = .ok (.aload 6, 2) := dk_25 6 (dk_at dksX0_hang_5 3 rfl rfl)
theorem dX0_hang_121 : decode cX0_hang 121 = .ok (.getfield 205, 3) := dk_180 0 205 (dk_at dksX0_hang_5 5 rfl rfl)
theorem dX0_hang_124 : decode cX0_hang 124 = .ok (.ireturn, 1) := dk_172 (dk_at dksX0_hang_5 8 rfl rfl)
abbrev cX0_need : ByteArray := prog_1_method_33_code
def yX0_need : MethodName := ⟨RX0, "need", "(ZI)I"⟩
def dkwX0_need_1 : List UInt8 := [42, 4, 182, 0, 79, 167, 0, 4, 3, 172]
abbrev dktX0_need_1 : List UInt8 := dkwX0_need_1 ++ []
def dkwX0_need_0 : List UInt8 := [28, 184, 0, 181, 153, 0, 7, 27, 154, 0, 7, 2, 167, 0, 21, 42, 180, 0, 34, 28, 50, 199, 0, 11]
abbrev dktX0_need_0 : List UInt8 := dkwX0_need_0 ++ dktX0_need_1
theorem dksX0_need_0 : cX0_need.data.toList.drop 0 = dktX0_need_0 := by decide +kernel
theorem dksX0_need_1 : cX0_need.data.toList.drop 24 = dktX0_need_1 := dk_seg dksX0_need_0 24 rfl rfl
theorem dX0_need_0 : decode cX0_need 0 = .ok (.iload_n 2, 1) := dk_28 (dk_at dksX0_need_0 0 rfl rfl)
theorem dX0_need_1 : decode cX0_need 1 = .ok (.invokestatic 181, 3) := dk_184 0 181 (dk_at dksX0_need_0 1 rfl rfl)
theorem dX0_need_4 : decode cX0_need 4 = .ok (.ifCond .eq 7, 3) := dk_153 0 7 (dk_at dksX0_need_0 4 rfl rfl)
theorem dX0_need_7 : decode cX0_need 7 = .ok (.iload_n 1, 1) := dk_27 (dk_at dksX0_need_0 7 rfl rfl)
theorem dX0_need_8 : decode cX0_need 8 = .ok (.ifCond .ne 7, 3) := dk_154 0 7 (dk_at dksX0_need_0 8 rfl rfl)
theorem dX0_need_11 : decode cX0_need 11 = .ok (.iconst (-1), 1) := dk_2 (dk_at dksX0_need_0 11 rfl rfl)
theorem dX0_need_12 : decode cX0_need 12 = .ok (.goto 21, 3) := dk_167 0 21 (dk_at dksX0_need_0 12 rfl rfl)
theorem dX0_need_15 : decode cX0_need 15 = .ok (.aload_n 0, 1) := dk_42 (dk_at dksX0_need_0 15 rfl rfl)
theorem dX0_need_16 : decode cX0_need 16 = .ok (.getfield 34, 3) := dk_180 0 34 (dk_at dksX0_need_0 16 rfl rfl)
theorem dX0_need_19 : decode cX0_need 19 = .ok (.iload_n 2, 1) := dk_28 (dk_at dksX0_need_0 19 rfl rfl)
theorem dX0_need_20 : decode cX0_need 20 = .ok (.aaload, 1) := dk_50 (dk_at dksX0_need_0 20 rfl rfl)
theorem dX0_need_21 : decode cX0_need 21 = .ok (.ifnonnull 11, 3) := dk_199 0 11 (dk_at dksX0_need_0 21 rfl rfl)
theorem dX0_need_24 : decode cX0_need 24 = .ok (.aload_n 0, 1) := dk_42 (dk_at dksX0_need_1 0 rfl rfl)
theorem dX0_need_25 : decode cX0_need 25 = .ok (.iconst 1, 1) := dk_4 (dk_at dksX0_need_1 1 rfl rfl)
theorem dX0_need_26 : decode cX0_need 26 = .ok (.invokevirtual 79, 3) := dk_182 0 79 (dk_at dksX0_need_1 2 rfl rfl)
theorem dX0_need_29 : decode cX0_need 29 = .ok (.goto 4, 3) := dk_167 0 4 (dk_at dksX0_need_1 5 rfl rfl)
theorem dX0_need_32 : decode cX0_need 32 = .ok (.iconst 0, 1) := dk_3 (dk_at dksX0_need_1 8 rfl rfl)
theorem dX0_need_33 : decode cX0_need 33 = .ok (.ireturn, 1) := dk_172 (dk_at dksX0_need_1 9 rfl rfl)
abbrev cX0_kOf : ByteArray := prog_1_method_34_code
def yX0_kOf : MethodName := ⟨RX0, "kOf", "(Z)I"⟩
def dkwX0_kOf_0 : List UInt8 := [26, 153, 0, 7, 4, 167, 0, 4, 3, 172]
abbrev dktX0_kOf_0 : List UInt8 := dkwX0_kOf_0 ++ []
theorem dksX0_kOf_0 : cX0_kOf.data.toList.drop 0 = dktX0_kOf_0 := by decide +kernel
theorem dX0_kOf_0 : decode cX0_kOf 0 = .ok (.iload_n 0, 1) := dk_26 (dk_at dksX0_kOf_0 0 rfl rfl)
theorem dX0_kOf_1 : decode cX0_kOf 1 = .ok (.ifCond .eq 7, 3) := dk_153 0 7 (dk_at dksX0_kOf_0 1 rfl rfl)
theorem dX0_kOf_4 : decode cX0_kOf 4 = .ok (.iconst 1, 1) := dk_4 (dk_at dksX0_kOf_0 4 rfl rfl)
theorem dX0_kOf_5 : decode cX0_kOf 5 = .ok (.goto 4, 3) := dk_167 0 4 (dk_at dksX0_kOf_0 5 rfl rfl)
theorem dX0_kOf_8 : decode cX0_kOf 8 = .ok (.iconst 0, 1) := dk_3 (dk_at dksX0_kOf_0 8 rfl rfl)
theorem dX0_kOf_9 : decode cX0_kOf 9 = .ok (.ireturn, 1) := dk_172 (dk_at dksX0_kOf_0 9 rfl rfl)
abbrev cX0_unhang : ByteArray := prog_1_method_38_code
def yX0_unhang : MethodName := ⟨RX0, "unhang", "(IZ)I"⟩
def dkwX0_unhang_2 : List UInt8 := [184, 0, 191, 1, 83, 25, 4, 180, 0, 205, 172]
abbrev dktX0_unhang_2 : List UInt8 := dkwX0_unhang_2 ++ []
def dkwX0_unhang_1 : List UInt8 := [184, 0, 191, 50, 58, 4, 25, 4, 16, 247, 181, 0, 149, 42, 180, 0, 34, 27, 50, 180, 0, 188, 28]
abbrev dktX0_unhang_1 : List UInt8 := dkwX0_unhang_1 ++ dktX0_unhang_2
def dkwX0_unhang_0 : List UInt8 := [42, 27, 28, 182, 0, 208, 62, 29, 156, 0, 5, 29, 172, 42, 180, 0, 34, 27, 50, 180, 0, 188, 28]
abbrev dktX0_unhang_0 : List UInt8 := dkwX0_unhang_0 ++ dktX0_unhang_1
theorem dksX0_unhang_0 : cX0_unhang.data.toList.drop 0 = dktX0_unhang_0 := by decide +kernel
theorem dksX0_unhang_1 : cX0_unhang.data.toList.drop 23 = dktX0_unhang_1 := dk_seg dksX0_unhang_0 23 rfl rfl
theorem dksX0_unhang_2 : cX0_unhang.data.toList.drop 46 = dktX0_unhang_2 := dk_seg dksX0_unhang_1 23 rfl rfl
theorem dX0_unhang_0 : decode cX0_unhang 0 = .ok (.aload_n 0, 1) := dk_42 (dk_at dksX0_unhang_0 0 rfl rfl)
theorem dX0_unhang_1 : decode cX0_unhang 1 = .ok (.iload_n 1, 1) := dk_27 (dk_at dksX0_unhang_0 1 rfl rfl)
theorem dX0_unhang_2 : decode cX0_unhang 2 = .ok (.iload_n 2, 1) := dk_28 (dk_at dksX0_unhang_0 2 rfl rfl)
theorem dX0_unhang_3 : decode cX0_unhang 3 = .ok (.invokevirtual 208, 3) := dk_182 0 208 (dk_at dksX0_unhang_0 3 rfl rfl)
theorem dX0_unhang_6 : decode cX0_unhang 6 = .ok (.istore_n 3, 1) := dk_62 (dk_at dksX0_unhang_0 6 rfl rfl)
theorem dX0_unhang_7 : decode cX0_unhang 7 = .ok (.iload_n 3, 1) := dk_29 (dk_at dksX0_unhang_0 7 rfl rfl)
theorem dX0_unhang_8 : decode cX0_unhang 8 = .ok (.ifCond .ge 5, 3) := dk_156 0 5 (dk_at dksX0_unhang_0 8 rfl rfl)
theorem dX0_unhang_11 : decode cX0_unhang 11 = .ok (.iload_n 3, 1) := dk_29 (dk_at dksX0_unhang_0 11 rfl rfl)
theorem dX0_unhang_12 : decode cX0_unhang 12 = .ok (.ireturn, 1) := dk_172 (dk_at dksX0_unhang_0 12 rfl rfl)
theorem dX0_unhang_13 : decode cX0_unhang 13 = .ok (.aload_n 0, 1) := dk_42 (dk_at dksX0_unhang_0 13 rfl rfl)
theorem dX0_unhang_14 : decode cX0_unhang 14 = .ok (.getfield 34, 3) := dk_180 0 34 (dk_at dksX0_unhang_0 14 rfl rfl)
theorem dX0_unhang_17 : decode cX0_unhang 17 = .ok (.iload_n 1, 1) := dk_27 (dk_at dksX0_unhang_0 17 rfl rfl)
theorem dX0_unhang_18 : decode cX0_unhang 18 = .ok (.aaload, 1) := dk_50 (dk_at dksX0_unhang_0 18 rfl rfl)
theorem dX0_unhang_19 : decode cX0_unhang 19 = .ok (.getfield 188, 3) := dk_180 0 188 (dk_at dksX0_unhang_0 19 rfl rfl)
theorem dX0_unhang_22 : decode cX0_unhang 22 = .ok (.iload_n 2, 1) := dk_28 (dk_at dksX0_unhang_0 22 rfl rfl)
theorem dX0_unhang_23 : decode cX0_unhang 23 = .ok (.invokestatic 191, 3) := dk_184 0 191 (dk_at dksX0_unhang_1 0 rfl rfl)
theorem dX0_unhang_26 : decode cX0_unhang 26 = .ok (.aaload, 1) := dk_50 (dk_at dksX0_unhang_1 3 rfl rfl)
theorem dX0_unhang_27 : decode cX0_unhang 27 = .ok (.astore 4, 2) := dk_58 4 (dk_at dksX0_unhang_1 4 rfl rfl)
theorem dX0_unhang_29 : decode cX0_unhang 29 = .ok (.aload 4, 2) := dk_25 4 (dk_at dksX0_unhang_1 6 rfl rfl)
theorem dX0_unhang_31 : decode cX0_unhang 31 = .ok (.bipush (-9), 2) := dk_16 247 (dk_at dksX0_unhang_1 8 rfl rfl)
theorem dX0_unhang_33 : decode cX0_unhang 33 = .ok (.putfield 149, 3) := dk_181 0 149 (dk_at dksX0_unhang_1 10 rfl rfl)
theorem dX0_unhang_36 : decode cX0_unhang 36 = .ok (.aload_n 0, 1) := dk_42 (dk_at dksX0_unhang_1 13 rfl rfl)
theorem dX0_unhang_37 : decode cX0_unhang 37 = .ok (.getfield 34, 3) := dk_180 0 34 (dk_at dksX0_unhang_1 14 rfl rfl)
theorem dX0_unhang_40 : decode cX0_unhang 40 = .ok (.iload_n 1, 1) := dk_27 (dk_at dksX0_unhang_1 17 rfl rfl)
theorem dX0_unhang_41 : decode cX0_unhang 41 = .ok (.aaload, 1) := dk_50 (dk_at dksX0_unhang_1 18 rfl rfl)
theorem dX0_unhang_42 : decode cX0_unhang 42 = .ok (.getfield 188, 3) := dk_180 0 188 (dk_at dksX0_unhang_1 19 rfl rfl)
theorem dX0_unhang_45 : decode cX0_unhang 45 = .ok (.iload_n 2, 1) := dk_28 (dk_at dksX0_unhang_1 22 rfl rfl)
theorem dX0_unhang_46 : decode cX0_unhang 46 = .ok (.invokestatic 191, 3) := dk_184 0 191 (dk_at dksX0_unhang_2 0 rfl rfl)
theorem dX0_unhang_49 : decode cX0_unhang 49 = .ok (.aconst_null, 1) := dk_1 (dk_at dksX0_unhang_2 3 rfl rfl)
theorem dX0_unhang_50 : decode cX0_unhang 50 = .ok (.aastore, 1) := dk_83 (dk_at dksX0_unhang_2 4 rfl rfl)
theorem dX0_unhang_51 : decode cX0_unhang 51 = .ok (.aload 4, 2) := dk_25 4 (dk_at dksX0_unhang_2 5 rfl rfl)
theorem dX0_unhang_53 : decode cX0_unhang 53 = .ok (.getfield 205, 3) := dk_180 0 205 (dk_at dksX0_unhang_2 7 rfl rfl)
theorem dX0_unhang_56 : decode cX0_unhang 56 = .ok (.ireturn, 1) := dk_172 (dk_at dksX0_unhang_2 10 rfl rfl)
abbrev cX0_needOwn : ByteArray := prog_1_method_35_code
def yX0_needOwn : MethodName := ⟨RX0, "needOwn", "(IZ)I"⟩
def dkwX0_needOwn_1 : List UInt8 := [28, 184, 0, 191, 50, 199, 0, 11, 42, 4, 182, 0, 79, 167, 0, 4, 3, 172]
abbrev dktX0_needOwn_1 : List UInt8 := dkwX0_needOwn_1 ++ []
def dkwX0_needOwn_0 : List UInt8 := [42, 4, 27, 182, 0, 184, 62, 29, 156, 0, 7, 29, 167, 0, 29, 42, 180, 0, 34, 27, 50, 180, 0, 188]
abbrev dktX0_needOwn_0 : List UInt8 := dkwX0_needOwn_0 ++ dktX0_needOwn_1
theorem dksX0_needOwn_0 : cX0_needOwn.data.toList.drop 0 = dktX0_needOwn_0 := by decide +kernel
theorem dksX0_needOwn_1 : cX0_needOwn.data.toList.drop 24 = dktX0_needOwn_1 := dk_seg dksX0_needOwn_0 24 rfl rfl
theorem dX0_needOwn_0 : decode cX0_needOwn 0 = .ok (.aload_n 0, 1) := dk_42 (dk_at dksX0_needOwn_0 0 rfl rfl)
theorem dX0_needOwn_1 : decode cX0_needOwn 1 = .ok (.iconst 1, 1) := dk_4 (dk_at dksX0_needOwn_0 1 rfl rfl)
theorem dX0_needOwn_2 : decode cX0_needOwn 2 = .ok (.iload_n 1, 1) := dk_27 (dk_at dksX0_needOwn_0 2 rfl rfl)
theorem dX0_needOwn_3 : decode cX0_needOwn 3 = .ok (.invokevirtual 184, 3) := dk_182 0 184 (dk_at dksX0_needOwn_0 3 rfl rfl)
theorem dX0_needOwn_6 : decode cX0_needOwn 6 = .ok (.istore_n 3, 1) := dk_62 (dk_at dksX0_needOwn_0 6 rfl rfl)
theorem dX0_needOwn_7 : decode cX0_needOwn 7 = .ok (.iload_n 3, 1) := dk_29 (dk_at dksX0_needOwn_0 7 rfl rfl)
theorem dX0_needOwn_8 : decode cX0_needOwn 8 = .ok (.ifCond .ge 7, 3) := dk_156 0 7 (dk_at dksX0_needOwn_0 8 rfl rfl)
theorem dX0_needOwn_11 : decode cX0_needOwn 11 = .ok (.iload_n 3, 1) := dk_29 (dk_at dksX0_needOwn_0 11 rfl rfl)
theorem dX0_needOwn_12 : decode cX0_needOwn 12 = .ok (.goto 29, 3) := dk_167 0 29 (dk_at dksX0_needOwn_0 12 rfl rfl)
theorem dX0_needOwn_15 : decode cX0_needOwn 15 = .ok (.aload_n 0, 1) := dk_42 (dk_at dksX0_needOwn_0 15 rfl rfl)
theorem dX0_needOwn_16 : decode cX0_needOwn 16 = .ok (.getfield 34, 3) := dk_180 0 34 (dk_at dksX0_needOwn_0 16 rfl rfl)
theorem dX0_needOwn_19 : decode cX0_needOwn 19 = .ok (.iload_n 1, 1) := dk_27 (dk_at dksX0_needOwn_0 19 rfl rfl)
theorem dX0_needOwn_20 : decode cX0_needOwn 20 = .ok (.aaload, 1) := dk_50 (dk_at dksX0_needOwn_0 20 rfl rfl)
theorem dX0_needOwn_21 : decode cX0_needOwn 21 = .ok (.getfield 188, 3) := dk_180 0 188 (dk_at dksX0_needOwn_0 21 rfl rfl)
theorem dX0_needOwn_24 : decode cX0_needOwn 24 = .ok (.iload_n 2, 1) := dk_28 (dk_at dksX0_needOwn_1 0 rfl rfl)
theorem dX0_needOwn_25 : decode cX0_needOwn 25 = .ok (.invokestatic 191, 3) := dk_184 0 191 (dk_at dksX0_needOwn_1 1 rfl rfl)
theorem dX0_needOwn_28 : decode cX0_needOwn 28 = .ok (.aaload, 1) := dk_50 (dk_at dksX0_needOwn_1 4 rfl rfl)
theorem dX0_needOwn_29 : decode cX0_needOwn 29 = .ok (.ifnonnull 11, 3) := dk_199 0 11 (dk_at dksX0_needOwn_1 5 rfl rfl)
theorem dX0_needOwn_32 : decode cX0_needOwn 32 = .ok (.aload_n 0, 1) := dk_42 (dk_at dksX0_needOwn_1 8 rfl rfl)
theorem dX0_needOwn_33 : decode cX0_needOwn 33 = .ok (.iconst 1, 1) := dk_4 (dk_at dksX0_needOwn_1 9 rfl rfl)
theorem dX0_needOwn_34 : decode cX0_needOwn 34 = .ok (.invokevirtual 79, 3) := dk_182 0 79 (dk_at dksX0_needOwn_1 10 rfl rfl)
theorem dX0_needOwn_37 : decode cX0_needOwn 37 = .ok (.goto 4, 3) := dk_167 0 4 (dk_at dksX0_needOwn_1 13 rfl rfl)
theorem dX0_needOwn_40 : decode cX0_needOwn 40 = .ok (.iconst 0, 1) := dk_3 (dk_at dksX0_needOwn_1 16 rfl rfl)
theorem dX0_needOwn_41 : decode cX0_needOwn 41 = .ok (.ireturn, 1) := dk_172 (dk_at dksX0_needOwn_1 17 rfl rfl)
abbrev cX0_hands : ByteArray := prog_1_method_39_code
def yX0_hands : MethodName := ⟨RX0, "hands", "(II)I"⟩
def dkwX0_hands_1 : List UInt8 := [27, 50, 180, 0, 212, 54, 4, 42, 180, 0, 34, 27, 50, 28, 181, 0, 212, 21, 4, 172]
abbrev dktX0_hands_1 : List UInt8 := dkwX0_hands_1 ++ []
def dkwX0_hands_0 : List UInt8 := [42, 28, 3, 17, 5, 159, 184, 0, 69, 27, 182, 0, 184, 62, 29, 156, 0, 5, 29, 172, 42, 180, 0, 34]
abbrev dktX0_hands_0 : List UInt8 := dkwX0_hands_0 ++ dktX0_hands_1
theorem dksX0_hands_0 : cX0_hands.data.toList.drop 0 = dktX0_hands_0 := by decide +kernel
theorem dksX0_hands_1 : cX0_hands.data.toList.drop 24 = dktX0_hands_1 := dk_seg dksX0_hands_0 24 rfl rfl
theorem dX0_hands_0 : decode cX0_hands 0 = .ok (.aload_n 0, 1) := dk_42 (dk_at dksX0_hands_0 0 rfl rfl)
theorem dX0_hands_1 : decode cX0_hands 1 = .ok (.iload_n 2, 1) := dk_28 (dk_at dksX0_hands_0 1 rfl rfl)
theorem dX0_hands_2 : decode cX0_hands 2 = .ok (.iconst 0, 1) := dk_3 (dk_at dksX0_hands_0 2 rfl rfl)
theorem dX0_hands_3 : decode cX0_hands 3 = .ok (.sipush 1439, 3) := dk_17 5 159 (dk_at dksX0_hands_0 3 rfl rfl)
theorem dX0_hands_6 : decode cX0_hands 6 = .ok (.invokestatic 69, 3) := dk_184 0 69 (dk_at dksX0_hands_0 6 rfl rfl)
theorem dX0_hands_9 : decode cX0_hands 9 = .ok (.iload_n 1, 1) := dk_27 (dk_at dksX0_hands_0 9 rfl rfl)
theorem dX0_hands_10 : decode cX0_hands 10 = .ok (.invokevirtual 184, 3) := dk_182 0 184 (dk_at dksX0_hands_0 10 rfl rfl)
theorem dX0_hands_13 : decode cX0_hands 13 = .ok (.istore_n 3, 1) := dk_62 (dk_at dksX0_hands_0 13 rfl rfl)
theorem dX0_hands_14 : decode cX0_hands 14 = .ok (.iload_n 3, 1) := dk_29 (dk_at dksX0_hands_0 14 rfl rfl)
theorem dX0_hands_15 : decode cX0_hands 15 = .ok (.ifCond .ge 5, 3) := dk_156 0 5 (dk_at dksX0_hands_0 15 rfl rfl)
theorem dX0_hands_18 : decode cX0_hands 18 = .ok (.iload_n 3, 1) := dk_29 (dk_at dksX0_hands_0 18 rfl rfl)
theorem dX0_hands_19 : decode cX0_hands 19 = .ok (.ireturn, 1) := dk_172 (dk_at dksX0_hands_0 19 rfl rfl)
theorem dX0_hands_20 : decode cX0_hands 20 = .ok (.aload_n 0, 1) := dk_42 (dk_at dksX0_hands_0 20 rfl rfl)
theorem dX0_hands_21 : decode cX0_hands 21 = .ok (.getfield 34, 3) := dk_180 0 34 (dk_at dksX0_hands_0 21 rfl rfl)
theorem dX0_hands_24 : decode cX0_hands 24 = .ok (.iload_n 1, 1) := dk_27 (dk_at dksX0_hands_1 0 rfl rfl)
theorem dX0_hands_25 : decode cX0_hands 25 = .ok (.aaload, 1) := dk_50 (dk_at dksX0_hands_1 1 rfl rfl)
theorem dX0_hands_26 : decode cX0_hands 26 = .ok (.getfield 212, 3) := dk_180 0 212 (dk_at dksX0_hands_1 2 rfl rfl)
theorem dX0_hands_29 : decode cX0_hands 29 = .ok (.istore 4, 2) := dk_54 4 (dk_at dksX0_hands_1 5 rfl rfl)
theorem dX0_hands_31 : decode cX0_hands 31 = .ok (.aload_n 0, 1) := dk_42 (dk_at dksX0_hands_1 7 rfl rfl)
theorem dX0_hands_32 : decode cX0_hands 32 = .ok (.getfield 34, 3) := dk_180 0 34 (dk_at dksX0_hands_1 8 rfl rfl)
theorem dX0_hands_35 : decode cX0_hands 35 = .ok (.iload_n 1, 1) := dk_27 (dk_at dksX0_hands_1 11 rfl rfl)
theorem dX0_hands_36 : decode cX0_hands 36 = .ok (.aaload, 1) := dk_50 (dk_at dksX0_hands_1 12 rfl rfl)
theorem dX0_hands_37 : decode cX0_hands 37 = .ok (.iload_n 2, 1) := dk_28 (dk_at dksX0_hands_1 13 rfl rfl)
theorem dX0_hands_38 : decode cX0_hands 38 = .ok (.putfield 212, 3) := dk_181 0 212 (dk_at dksX0_hands_1 14 rfl rfl)
theorem dX0_hands_41 : decode cX0_hands 41 = .ok (.iload 4, 2) := dk_21 4 (dk_at dksX0_hands_1 17 rfl rfl)
theorem dX0_hands_43 : decode cX0_hands 43 = .ok (.ireturn, 1) := dk_172 (dk_at dksX0_hands_1 19 rfl rfl)
abbrev cX0_forward : ByteArray := prog_1_method_40_code
def yX0_forward : MethodName := ⟨RX0, "forward", "(II)I"⟩
def dkwX0_forward_2 : List UInt8 := [180, 0, 34, 27, 50, 180, 0, 212, 172]
abbrev dktX0_forward_2 : List UInt8 := dkwX0_forward_2 ++ []
def dkwX0_forward_1 : List UInt8 := [21, 4, 28, 162, 0, 18, 42, 180, 0, 34, 27, 50, 182, 0, 215, 132, 4, 1, 167, 255, 238, 42]
abbrev dktX0_forward_1 : List UInt8 := dkwX0_forward_1 ++ dktX0_forward_2
def dkwX0_forward_0 : List UInt8 := [42, 28, 3, 17, 5, 220, 184, 0, 69, 27, 182, 0, 184, 62, 29, 156, 0, 5, 29, 172, 3, 54, 4]
abbrev dktX0_forward_0 : List UInt8 := dkwX0_forward_0 ++ dktX0_forward_1
theorem dksX0_forward_0 : cX0_forward.data.toList.drop 0 = dktX0_forward_0 := by decide +kernel
theorem dksX0_forward_1 : cX0_forward.data.toList.drop 23 = dktX0_forward_1 := dk_seg dksX0_forward_0 23 rfl rfl
theorem dksX0_forward_2 : cX0_forward.data.toList.drop 45 = dktX0_forward_2 := dk_seg dksX0_forward_1 22 rfl rfl
theorem dX0_forward_0 : decode cX0_forward 0 = .ok (.aload_n 0, 1) := dk_42 (dk_at dksX0_forward_0 0 rfl rfl)
theorem dX0_forward_1 : decode cX0_forward 1 = .ok (.iload_n 2, 1) := dk_28 (dk_at dksX0_forward_0 1 rfl rfl)
theorem dX0_forward_2 : decode cX0_forward 2 = .ok (.iconst 0, 1) := dk_3 (dk_at dksX0_forward_0 2 rfl rfl)
theorem dX0_forward_3 : decode cX0_forward 3 = .ok (.sipush 1500, 3) := dk_17 5 220 (dk_at dksX0_forward_0 3 rfl rfl)
theorem dX0_forward_6 : decode cX0_forward 6 = .ok (.invokestatic 69, 3) := dk_184 0 69 (dk_at dksX0_forward_0 6 rfl rfl)
theorem dX0_forward_9 : decode cX0_forward 9 = .ok (.iload_n 1, 1) := dk_27 (dk_at dksX0_forward_0 9 rfl rfl)
theorem dX0_forward_10 : decode cX0_forward 10 = .ok (.invokevirtual 184, 3) := dk_182 0 184 (dk_at dksX0_forward_0 10 rfl rfl)
theorem dX0_forward_13 : decode cX0_forward 13 = .ok (.istore_n 3, 1) := dk_62 (dk_at dksX0_forward_0 13 rfl rfl)
theorem dX0_forward_14 : decode cX0_forward 14 = .ok (.iload_n 3, 1) := dk_29 (dk_at dksX0_forward_0 14 rfl rfl)
theorem dX0_forward_15 : decode cX0_forward 15 = .ok (.ifCond .ge 5, 3) := dk_156 0 5 (dk_at dksX0_forward_0 15 rfl rfl)
theorem dX0_forward_18 : decode cX0_forward 18 = .ok (.iload_n 3, 1) := dk_29 (dk_at dksX0_forward_0 18 rfl rfl)
theorem dX0_forward_19 : decode cX0_forward 19 = .ok (.ireturn, 1) := dk_172 (dk_at dksX0_forward_0 19 rfl rfl)
theorem dX0_forward_20 : decode cX0_forward 20 = .ok (.iconst 0, 1) := dk_3 (dk_at dksX0_forward_0 20 rfl rfl)
theorem dX0_forward_21 : decode cX0_forward 21 = .ok (.istore 4, 2) := dk_54 4 (dk_at dksX0_forward_0 21 rfl rfl)
theorem dX0_forward_23 : decode cX0_forward 23 = .ok (.iload 4, 2) := dk_21 4 (dk_at dksX0_forward_1 0 rfl rfl)
theorem dX0_forward_25 : decode cX0_forward 25 = .ok (.iload_n 2, 1) := dk_28 (dk_at dksX0_forward_1 2 rfl rfl)
theorem dX0_forward_26 : decode cX0_forward 26 = .ok (.if_icmp .ge 18, 3) := dk_162 0 18 (dk_at dksX0_forward_1 3 rfl rfl)
theorem dX0_forward_29 : decode cX0_forward 29 = .ok (.aload_n 0, 1) := dk_42 (dk_at dksX0_forward_1 6 rfl rfl)
theorem dX0_forward_30 : decode cX0_forward 30 = .ok (.getfield 34, 3) := dk_180 0 34 (dk_at dksX0_forward_1 7 rfl rfl)
theorem dX0_forward_33 : decode cX0_forward 33 = .ok (.iload_n 1, 1) := dk_27 (dk_at dksX0_forward_1 10 rfl rfl)
theorem dX0_forward_34 : decode cX0_forward 34 = .ok (.aaload, 1) := dk_50 (dk_at dksX0_forward_1 11 rfl rfl)
theorem dX0_forward_35 : decode cX0_forward 35 = .ok (.invokevirtual 215, 3) := dk_182 0 215 (dk_at dksX0_forward_1 12 rfl rfl)
theorem dX0_forward_38 : decode cX0_forward 38 = .ok (.iinc 4 1, 3) := dk_132 4 1 (dk_at dksX0_forward_1 15 rfl rfl)
theorem dX0_forward_41 : decode cX0_forward 41 = .ok (.goto (-18), 3) := dk_167 255 238 (dk_at dksX0_forward_1 18 rfl rfl)
theorem dX0_forward_44 : decode cX0_forward 44 = .ok (.aload_n 0, 1) := dk_42 (dk_at dksX0_forward_1 21 rfl rfl)
theorem dX0_forward_45 : decode cX0_forward 45 = .ok (.getfield 34, 3) := dk_180 0 34 (dk_at dksX0_forward_2 0 rfl rfl)
theorem dX0_forward_48 : decode cX0_forward 48 = .ok (.iload_n 1, 1) := dk_27 (dk_at dksX0_forward_2 3 rfl rfl)
theorem dX0_forward_49 : decode cX0_forward 49 = .ok (.aaload, 1) := dk_50 (dk_at dksX0_forward_2 4 rfl rfl)
theorem dX0_forward_50 : decode cX0_forward 50 = .ok (.getfield 212, 3) := dk_180 0 212 (dk_at dksX0_forward_2 5 rfl rfl)
theorem dX0_forward_53 : decode cX0_forward 53 = .ok (.ireturn, 1) := dk_172 (dk_at dksX0_forward_2 8 rfl rfl)
abbrev cX0_hourOf : ByteArray := prog_1_method_28_code
def yX0_hourOf : MethodName := ⟨RX0, "hourOf", "(I)I"⟩
def dkwX0_hourOf_0 : List UInt8 := [26, 16, 60, 108, 16, 12, 112, 60, 27, 154, 0, 8, 16, 12, 167, 0, 4, 27, 172]
abbrev dktX0_hourOf_0 : List UInt8 := dkwX0_hourOf_0 ++ []
theorem dksX0_hourOf_0 : cX0_hourOf.data.toList.drop 0 = dktX0_hourOf_0 := by decide +kernel
theorem dX0_hourOf_0 : decode cX0_hourOf 0 = .ok (.iload_n 0, 1) := dk_26 (dk_at dksX0_hourOf_0 0 rfl rfl)
theorem dX0_hourOf_1 : decode cX0_hourOf 1 = .ok (.bipush 60, 2) := dk_16 60 (dk_at dksX0_hourOf_0 1 rfl rfl)
theorem dX0_hourOf_3 : decode cX0_hourOf 3 = .ok (.idiv, 1) := dk_108 (dk_at dksX0_hourOf_0 3 rfl rfl)
theorem dX0_hourOf_4 : decode cX0_hourOf 4 = .ok (.bipush 12, 2) := dk_16 12 (dk_at dksX0_hourOf_0 4 rfl rfl)
theorem dX0_hourOf_6 : decode cX0_hourOf 6 = .ok (.irem, 1) := dk_112 (dk_at dksX0_hourOf_0 6 rfl rfl)
theorem dX0_hourOf_7 : decode cX0_hourOf 7 = .ok (.istore_n 1, 1) := dk_60 (dk_at dksX0_hourOf_0 7 rfl rfl)
theorem dX0_hourOf_8 : decode cX0_hourOf 8 = .ok (.iload_n 1, 1) := dk_27 (dk_at dksX0_hourOf_0 8 rfl rfl)
theorem dX0_hourOf_9 : decode cX0_hourOf 9 = .ok (.ifCond .ne 8, 3) := dk_154 0 8 (dk_at dksX0_hourOf_0 9 rfl rfl)
theorem dX0_hourOf_12 : decode cX0_hourOf 12 = .ok (.bipush 12, 2) := dk_16 12 (dk_at dksX0_hourOf_0 12 rfl rfl)
theorem dX0_hourOf_14 : decode cX0_hourOf 14 = .ok (.goto 4, 3) := dk_167 0 4 (dk_at dksX0_hourOf_0 14 rfl rfl)
theorem dX0_hourOf_17 : decode cX0_hourOf 17 = .ok (.iload_n 1, 1) := dk_27 (dk_at dksX0_hourOf_0 17 rfl rfl)
theorem dX0_hourOf_18 : decode cX0_hourOf 18 = .ok (.ireturn, 1) := dk_172 (dk_at dksX0_hourOf_0 18 rfl rfl)
abbrev cX0_quarterOf : ByteArray := prog_1_method_30_code
def yX0_quarterOf : MethodName := ⟨RX0, "quarterOf", "(I)I"⟩
def dkwX0_quarterOf_0 : List UInt8 := [26, 16, 60, 112, 16, 15, 108, 60, 27, 154, 0, 7, 7, 167, 0, 4, 27, 172]
abbrev dktX0_quarterOf_0 : List UInt8 := dkwX0_quarterOf_0 ++ []
theorem dksX0_quarterOf_0 : cX0_quarterOf.data.toList.drop 0 = dktX0_quarterOf_0 := by decide +kernel
theorem dX0_quarterOf_0 : decode cX0_quarterOf 0 = .ok (.iload_n 0, 1) := dk_26 (dk_at dksX0_quarterOf_0 0 rfl rfl)
theorem dX0_quarterOf_1 : decode cX0_quarterOf 1 = .ok (.bipush 60, 2) := dk_16 60 (dk_at dksX0_quarterOf_0 1 rfl rfl)
theorem dX0_quarterOf_3 : decode cX0_quarterOf 3 = .ok (.irem, 1) := dk_112 (dk_at dksX0_quarterOf_0 3 rfl rfl)
theorem dX0_quarterOf_4 : decode cX0_quarterOf 4 = .ok (.bipush 15, 2) := dk_16 15 (dk_at dksX0_quarterOf_0 4 rfl rfl)
theorem dX0_quarterOf_6 : decode cX0_quarterOf 6 = .ok (.idiv, 1) := dk_108 (dk_at dksX0_quarterOf_0 6 rfl rfl)
theorem dX0_quarterOf_7 : decode cX0_quarterOf 7 = .ok (.istore_n 1, 1) := dk_60 (dk_at dksX0_quarterOf_0 7 rfl rfl)
theorem dX0_quarterOf_8 : decode cX0_quarterOf 8 = .ok (.iload_n 1, 1) := dk_27 (dk_at dksX0_quarterOf_0 8 rfl rfl)
theorem dX0_quarterOf_9 : decode cX0_quarterOf 9 = .ok (.ifCond .ne 7, 3) := dk_154 0 7 (dk_at dksX0_quarterOf_0 9 rfl rfl)
theorem dX0_quarterOf_12 : decode cX0_quarterOf 12 = .ok (.iconst 4, 1) := dk_7 (dk_at dksX0_quarterOf_0 12 rfl rfl)
theorem dX0_quarterOf_13 : decode cX0_quarterOf 13 = .ok (.goto 4, 3) := dk_167 0 4 (dk_at dksX0_quarterOf_0 13 rfl rfl)
theorem dX0_quarterOf_16 : decode cX0_quarterOf 16 = .ok (.iload_n 1, 1) := dk_27 (dk_at dksX0_quarterOf_0 16 rfl rfl)
theorem dX0_quarterOf_17 : decode cX0_quarterOf 17 = .ok (.ireturn, 1) := dk_172 (dk_at dksX0_quarterOf_0 17 rfl rfl)
abbrev cX0_back : ByteArray := prog_1_method_41_code
def yX0_back : MethodName := ⟨RX0, "back", "(II)I"⟩
def dkwX0_back_2 : List UInt8 := [180, 0, 34, 27, 50, 180, 0, 212, 172]
abbrev dktX0_back_2 : List UInt8 := dkwX0_back_2 ++ []
def dkwX0_back_1 : List UInt8 := [21, 4, 28, 162, 0, 18, 42, 180, 0, 34, 27, 50, 182, 0, 218, 132, 4, 1, 167, 255, 238, 42]
abbrev dktX0_back_1 : List UInt8 := dkwX0_back_1 ++ dktX0_back_2
def dkwX0_back_0 : List UInt8 := [42, 28, 3, 17, 5, 220, 184, 0, 69, 27, 182, 0, 184, 62, 29, 156, 0, 5, 29, 172, 3, 54, 4]
abbrev dktX0_back_0 : List UInt8 := dkwX0_back_0 ++ dktX0_back_1
theorem dksX0_back_0 : cX0_back.data.toList.drop 0 = dktX0_back_0 := by decide +kernel
theorem dksX0_back_1 : cX0_back.data.toList.drop 23 = dktX0_back_1 := dk_seg dksX0_back_0 23 rfl rfl
theorem dksX0_back_2 : cX0_back.data.toList.drop 45 = dktX0_back_2 := dk_seg dksX0_back_1 22 rfl rfl
theorem dX0_back_0 : decode cX0_back 0 = .ok (.aload_n 0, 1) := dk_42 (dk_at dksX0_back_0 0 rfl rfl)
theorem dX0_back_1 : decode cX0_back 1 = .ok (.iload_n 2, 1) := dk_28 (dk_at dksX0_back_0 1 rfl rfl)
theorem dX0_back_2 : decode cX0_back 2 = .ok (.iconst 0, 1) := dk_3 (dk_at dksX0_back_0 2 rfl rfl)
theorem dX0_back_3 : decode cX0_back 3 = .ok (.sipush 1500, 3) := dk_17 5 220 (dk_at dksX0_back_0 3 rfl rfl)
theorem dX0_back_6 : decode cX0_back 6 = .ok (.invokestatic 69, 3) := dk_184 0 69 (dk_at dksX0_back_0 6 rfl rfl)
theorem dX0_back_9 : decode cX0_back 9 = .ok (.iload_n 1, 1) := dk_27 (dk_at dksX0_back_0 9 rfl rfl)
theorem dX0_back_10 : decode cX0_back 10 = .ok (.invokevirtual 184, 3) := dk_182 0 184 (dk_at dksX0_back_0 10 rfl rfl)
theorem dX0_back_13 : decode cX0_back 13 = .ok (.istore_n 3, 1) := dk_62 (dk_at dksX0_back_0 13 rfl rfl)
theorem dX0_back_14 : decode cX0_back 14 = .ok (.iload_n 3, 1) := dk_29 (dk_at dksX0_back_0 14 rfl rfl)
theorem dX0_back_15 : decode cX0_back 15 = .ok (.ifCond .ge 5, 3) := dk_156 0 5 (dk_at dksX0_back_0 15 rfl rfl)
theorem dX0_back_18 : decode cX0_back 18 = .ok (.iload_n 3, 1) := dk_29 (dk_at dksX0_back_0 18 rfl rfl)
theorem dX0_back_19 : decode cX0_back 19 = .ok (.ireturn, 1) := dk_172 (dk_at dksX0_back_0 19 rfl rfl)
theorem dX0_back_20 : decode cX0_back 20 = .ok (.iconst 0, 1) := dk_3 (dk_at dksX0_back_0 20 rfl rfl)
theorem dX0_back_21 : decode cX0_back 21 = .ok (.istore 4, 2) := dk_54 4 (dk_at dksX0_back_0 21 rfl rfl)
theorem dX0_back_23 : decode cX0_back 23 = .ok (.iload 4, 2) := dk_21 4 (dk_at dksX0_back_1 0 rfl rfl)
theorem dX0_back_25 : decode cX0_back 25 = .ok (.iload_n 2, 1) := dk_28 (dk_at dksX0_back_1 2 rfl rfl)
theorem dX0_back_26 : decode cX0_back 26 = .ok (.if_icmp .ge 18, 3) := dk_162 0 18 (dk_at dksX0_back_1 3 rfl rfl)
theorem dX0_back_29 : decode cX0_back 29 = .ok (.aload_n 0, 1) := dk_42 (dk_at dksX0_back_1 6 rfl rfl)
theorem dX0_back_30 : decode cX0_back 30 = .ok (.getfield 34, 3) := dk_180 0 34 (dk_at dksX0_back_1 7 rfl rfl)
theorem dX0_back_33 : decode cX0_back 33 = .ok (.iload_n 1, 1) := dk_27 (dk_at dksX0_back_1 10 rfl rfl)
theorem dX0_back_34 : decode cX0_back 34 = .ok (.aaload, 1) := dk_50 (dk_at dksX0_back_1 11 rfl rfl)
theorem dX0_back_35 : decode cX0_back 35 = .ok (.invokevirtual 218, 3) := dk_182 0 218 (dk_at dksX0_back_1 12 rfl rfl)
theorem dX0_back_38 : decode cX0_back 38 = .ok (.iinc 4 1, 3) := dk_132 4 1 (dk_at dksX0_back_1 15 rfl rfl)
theorem dX0_back_41 : decode cX0_back 41 = .ok (.goto (-18), 3) := dk_167 255 238 (dk_at dksX0_back_1 18 rfl rfl)
theorem dX0_back_44 : decode cX0_back 44 = .ok (.aload_n 0, 1) := dk_42 (dk_at dksX0_back_1 21 rfl rfl)
theorem dX0_back_45 : decode cX0_back 45 = .ok (.getfield 34, 3) := dk_180 0 34 (dk_at dksX0_back_2 0 rfl rfl)
theorem dX0_back_48 : decode cX0_back 48 = .ok (.iload_n 1, 1) := dk_27 (dk_at dksX0_back_2 3 rfl rfl)
theorem dX0_back_49 : decode cX0_back 49 = .ok (.aaload, 1) := dk_50 (dk_at dksX0_back_2 4 rfl rfl)
theorem dX0_back_50 : decode cX0_back 50 = .ok (.getfield 212, 3) := dk_180 0 212 (dk_at dksX0_back_2 5 rfl rfl)
theorem dX0_back_53 : decode cX0_back 53 = .ok (.ireturn, 1) := dk_172 (dk_at dksX0_back_2 8 rfl rfl)
abbrev cX0_rate : ByteArray := prog_1_method_42_code
def yX0_rate : MethodName := ⟨RX0, "rate", "(II)I"⟩
def dkwX0_rate_1 : List UInt8 := [180, 0, 34, 27, 50, 180, 0, 221, 54, 4, 42, 180, 0, 34, 27, 50, 28, 181, 0, 221, 21, 4, 172]
abbrev dktX0_rate_1 : List UInt8 := dkwX0_rate_1 ++ []
def dkwX0_rate_0 : List UInt8 := [42, 28, 17, 241, 240, 17, 14, 16, 184, 0, 69, 27, 182, 0, 184, 62, 29, 156, 0, 5, 29, 172, 42]
abbrev dktX0_rate_0 : List UInt8 := dkwX0_rate_0 ++ dktX0_rate_1
theorem dksX0_rate_0 : cX0_rate.data.toList.drop 0 = dktX0_rate_0 := by decide +kernel
theorem dksX0_rate_1 : cX0_rate.data.toList.drop 23 = dktX0_rate_1 := dk_seg dksX0_rate_0 23 rfl rfl
theorem dX0_rate_0 : decode cX0_rate 0 = .ok (.aload_n 0, 1) := dk_42 (dk_at dksX0_rate_0 0 rfl rfl)
theorem dX0_rate_1 : decode cX0_rate 1 = .ok (.iload_n 2, 1) := dk_28 (dk_at dksX0_rate_0 1 rfl rfl)
theorem dX0_rate_2 : decode cX0_rate 2 = .ok (.sipush (-3600), 3) := dk_17 241 240 (dk_at dksX0_rate_0 2 rfl rfl)
theorem dX0_rate_5 : decode cX0_rate 5 = .ok (.sipush 3600, 3) := dk_17 14 16 (dk_at dksX0_rate_0 5 rfl rfl)
theorem dX0_rate_8 : decode cX0_rate 8 = .ok (.invokestatic 69, 3) := dk_184 0 69 (dk_at dksX0_rate_0 8 rfl rfl)
theorem dX0_rate_11 : decode cX0_rate 11 = .ok (.iload_n 1, 1) := dk_27 (dk_at dksX0_rate_0 11 rfl rfl)
theorem dX0_rate_12 : decode cX0_rate 12 = .ok (.invokevirtual 184, 3) := dk_182 0 184 (dk_at dksX0_rate_0 12 rfl rfl)
theorem dX0_rate_15 : decode cX0_rate 15 = .ok (.istore_n 3, 1) := dk_62 (dk_at dksX0_rate_0 15 rfl rfl)
theorem dX0_rate_16 : decode cX0_rate 16 = .ok (.iload_n 3, 1) := dk_29 (dk_at dksX0_rate_0 16 rfl rfl)
theorem dX0_rate_17 : decode cX0_rate 17 = .ok (.ifCond .ge 5, 3) := dk_156 0 5 (dk_at dksX0_rate_0 17 rfl rfl)
theorem dX0_rate_20 : decode cX0_rate 20 = .ok (.iload_n 3, 1) := dk_29 (dk_at dksX0_rate_0 20 rfl rfl)
theorem dX0_rate_21 : decode cX0_rate 21 = .ok (.ireturn, 1) := dk_172 (dk_at dksX0_rate_0 21 rfl rfl)
theorem dX0_rate_22 : decode cX0_rate 22 = .ok (.aload_n 0, 1) := dk_42 (dk_at dksX0_rate_0 22 rfl rfl)
theorem dX0_rate_23 : decode cX0_rate 23 = .ok (.getfield 34, 3) := dk_180 0 34 (dk_at dksX0_rate_1 0 rfl rfl)
theorem dX0_rate_26 : decode cX0_rate 26 = .ok (.iload_n 1, 1) := dk_27 (dk_at dksX0_rate_1 3 rfl rfl)
theorem dX0_rate_27 : decode cX0_rate 27 = .ok (.aaload, 1) := dk_50 (dk_at dksX0_rate_1 4 rfl rfl)
theorem dX0_rate_28 : decode cX0_rate 28 = .ok (.getfield 221, 3) := dk_180 0 221 (dk_at dksX0_rate_1 5 rfl rfl)
theorem dX0_rate_31 : decode cX0_rate 31 = .ok (.istore 4, 2) := dk_54 4 (dk_at dksX0_rate_1 8 rfl rfl)
theorem dX0_rate_33 : decode cX0_rate 33 = .ok (.aload_n 0, 1) := dk_42 (dk_at dksX0_rate_1 10 rfl rfl)
theorem dX0_rate_34 : decode cX0_rate 34 = .ok (.getfield 34, 3) := dk_180 0 34 (dk_at dksX0_rate_1 11 rfl rfl)
theorem dX0_rate_37 : decode cX0_rate 37 = .ok (.iload_n 1, 1) := dk_27 (dk_at dksX0_rate_1 14 rfl rfl)
theorem dX0_rate_38 : decode cX0_rate 38 = .ok (.aaload, 1) := dk_50 (dk_at dksX0_rate_1 15 rfl rfl)
theorem dX0_rate_39 : decode cX0_rate 39 = .ok (.iload_n 2, 1) := dk_28 (dk_at dksX0_rate_1 16 rfl rfl)
theorem dX0_rate_40 : decode cX0_rate 40 = .ok (.putfield 221, 3) := dk_181 0 221 (dk_at dksX0_rate_1 17 rfl rfl)
theorem dX0_rate_43 : decode cX0_rate 43 = .ok (.iload 4, 2) := dk_21 4 (dk_at dksX0_rate_1 20 rfl rfl)
theorem dX0_rate_45 : decode cX0_rate 45 = .ok (.ireturn, 1) := dk_172 (dk_at dksX0_rate_1 22 rfl rfl)
abbrev cX0_go : ByteArray := prog_1_method_43_code
def yX0_go : MethodName := ⟨RX0, "go", "(IZ)I"⟩
def dkwX0_go_1 : List UInt8 := [153, 0, 7, 4, 167, 0, 4, 3, 54, 4, 42, 180, 0, 34, 27, 50, 28, 181, 0, 224, 21, 4, 172]
abbrev dktX0_go_1 : List UInt8 := dkwX0_go_1 ++ []
def dkwX0_go_0 : List UInt8 := [42, 4, 27, 182, 0, 184, 62, 29, 156, 0, 5, 29, 172, 42, 180, 0, 34, 27, 50, 180, 0, 224]
abbrev dktX0_go_0 : List UInt8 := dkwX0_go_0 ++ dktX0_go_1
theorem dksX0_go_0 : cX0_go.data.toList.drop 0 = dktX0_go_0 := by decide +kernel
theorem dksX0_go_1 : cX0_go.data.toList.drop 22 = dktX0_go_1 := dk_seg dksX0_go_0 22 rfl rfl
theorem dX0_go_0 : decode cX0_go 0 = .ok (.aload_n 0, 1) := dk_42 (dk_at dksX0_go_0 0 rfl rfl)
theorem dX0_go_1 : decode cX0_go 1 = .ok (.iconst 1, 1) := dk_4 (dk_at dksX0_go_0 1 rfl rfl)
theorem dX0_go_2 : decode cX0_go 2 = .ok (.iload_n 1, 1) := dk_27 (dk_at dksX0_go_0 2 rfl rfl)
theorem dX0_go_3 : decode cX0_go 3 = .ok (.invokevirtual 184, 3) := dk_182 0 184 (dk_at dksX0_go_0 3 rfl rfl)
theorem dX0_go_6 : decode cX0_go 6 = .ok (.istore_n 3, 1) := dk_62 (dk_at dksX0_go_0 6 rfl rfl)
theorem dX0_go_7 : decode cX0_go 7 = .ok (.iload_n 3, 1) := dk_29 (dk_at dksX0_go_0 7 rfl rfl)
theorem dX0_go_8 : decode cX0_go 8 = .ok (.ifCond .ge 5, 3) := dk_156 0 5 (dk_at dksX0_go_0 8 rfl rfl)
theorem dX0_go_11 : decode cX0_go 11 = .ok (.iload_n 3, 1) := dk_29 (dk_at dksX0_go_0 11 rfl rfl)
theorem dX0_go_12 : decode cX0_go 12 = .ok (.ireturn, 1) := dk_172 (dk_at dksX0_go_0 12 rfl rfl)
theorem dX0_go_13 : decode cX0_go 13 = .ok (.aload_n 0, 1) := dk_42 (dk_at dksX0_go_0 13 rfl rfl)
theorem dX0_go_14 : decode cX0_go 14 = .ok (.getfield 34, 3) := dk_180 0 34 (dk_at dksX0_go_0 14 rfl rfl)
theorem dX0_go_17 : decode cX0_go 17 = .ok (.iload_n 1, 1) := dk_27 (dk_at dksX0_go_0 17 rfl rfl)
theorem dX0_go_18 : decode cX0_go 18 = .ok (.aaload, 1) := dk_50 (dk_at dksX0_go_0 18 rfl rfl)
theorem dX0_go_19 : decode cX0_go 19 = .ok (.getfield 224, 3) := dk_180 0 224 (dk_at dksX0_go_0 19 rfl rfl)
theorem dX0_go_22 : decode cX0_go 22 = .ok (.ifCond .eq 7, 3) := dk_153 0 7 (dk_at dksX0_go_1 0 rfl rfl)
theorem dX0_go_25 : decode cX0_go 25 = .ok (.iconst 1, 1) := dk_4 (dk_at dksX0_go_1 3 rfl rfl)
theorem dX0_go_26 : decode cX0_go 26 = .ok (.goto 4, 3) := dk_167 0 4 (dk_at dksX0_go_1 4 rfl rfl)
theorem dX0_go_29 : decode cX0_go 29 = .ok (.iconst 0, 1) := dk_3 (dk_at dksX0_go_1 7 rfl rfl)
theorem dX0_go_30 : decode cX0_go 30 = .ok (.istore 4, 2) := dk_54 4 (dk_at dksX0_go_1 8 rfl rfl)
theorem dX0_go_32 : decode cX0_go 32 = .ok (.aload_n 0, 1) := dk_42 (dk_at dksX0_go_1 10 rfl rfl)
theorem dX0_go_33 : decode cX0_go 33 = .ok (.getfield 34, 3) := dk_180 0 34 (dk_at dksX0_go_1 11 rfl rfl)
theorem dX0_go_36 : decode cX0_go 36 = .ok (.iload_n 1, 1) := dk_27 (dk_at dksX0_go_1 14 rfl rfl)
theorem dX0_go_37 : decode cX0_go 37 = .ok (.aaload, 1) := dk_50 (dk_at dksX0_go_1 15 rfl rfl)
theorem dX0_go_38 : decode cX0_go 38 = .ok (.iload_n 2, 1) := dk_28 (dk_at dksX0_go_1 16 rfl rfl)
theorem dX0_go_39 : decode cX0_go 39 = .ok (.putfield 224, 3) := dk_181 0 224 (dk_at dksX0_go_1 17 rfl rfl)
theorem dX0_go_42 : decode cX0_go 42 = .ok (.iload 4, 2) := dk_21 4 (dk_at dksX0_go_1 20 rfl rfl)
theorem dX0_go_44 : decode cX0_go 44 = .ok (.ireturn, 1) := dk_172 (dk_at dksX0_go_1 22 rfl rfl)
abbrev cX0_windGoing : ByteArray := prog_1_method_44_code
def yX0_windGoing : MethodName := ⟨RX0, "windGoing", "(II)I"⟩
def dkwX0_windGoing_1 : List UInt8 := [50, 180, 0, 227, 54, 4, 42, 180, 0, 34, 27, 50, 28, 181, 0, 227, 21, 4, 172]
abbrev dktX0_windGoing_1 : List UInt8 := dkwX0_windGoing_1 ++ []
def dkwX0_windGoing_0 : List UInt8 := [42, 28, 3, 18, 123, 184, 0, 69, 27, 182, 0, 184, 62, 29, 156, 0, 5, 29, 172, 42, 180, 0, 34, 27]
abbrev dktX0_windGoing_0 : List UInt8 := dkwX0_windGoing_0 ++ dktX0_windGoing_1
theorem dksX0_windGoing_0 : cX0_windGoing.data.toList.drop 0 = dktX0_windGoing_0 := by decide +kernel
theorem dksX0_windGoing_1 : cX0_windGoing.data.toList.drop 24 = dktX0_windGoing_1 := dk_seg dksX0_windGoing_0 24 rfl rfl
theorem dX0_windGoing_0 : decode cX0_windGoing 0 = .ok (.aload_n 0, 1) := dk_42 (dk_at dksX0_windGoing_0 0 rfl rfl)
theorem dX0_windGoing_1 : decode cX0_windGoing 1 = .ok (.iload_n 2, 1) := dk_28 (dk_at dksX0_windGoing_0 1 rfl rfl)
theorem dX0_windGoing_2 : decode cX0_windGoing 2 = .ok (.iconst 0, 1) := dk_3 (dk_at dksX0_windGoing_0 2 rfl rfl)
theorem dX0_windGoing_3 : decode cX0_windGoing 3 = .ok (.ldc 123, 2) := dk_18 123 (dk_at dksX0_windGoing_0 3 rfl rfl)
theorem dX0_windGoing_5 : decode cX0_windGoing 5 = .ok (.invokestatic 69, 3) := dk_184 0 69 (dk_at dksX0_windGoing_0 5 rfl rfl)
theorem dX0_windGoing_8 : decode cX0_windGoing 8 = .ok (.iload_n 1, 1) := dk_27 (dk_at dksX0_windGoing_0 8 rfl rfl)
theorem dX0_windGoing_9 : decode cX0_windGoing 9 = .ok (.invokevirtual 184, 3) := dk_182 0 184 (dk_at dksX0_windGoing_0 9 rfl rfl)
theorem dX0_windGoing_12 : decode cX0_windGoing 12 = .ok (.istore_n 3, 1) := dk_62 (dk_at dksX0_windGoing_0 12 rfl rfl)
theorem dX0_windGoing_13 : decode cX0_windGoing 13 = .ok (.iload_n 3, 1) := dk_29 (dk_at dksX0_windGoing_0 13 rfl rfl)
theorem dX0_windGoing_14 : decode cX0_windGoing 14 = .ok (.ifCond .ge 5, 3) := dk_156 0 5 (dk_at dksX0_windGoing_0 14 rfl rfl)
theorem dX0_windGoing_17 : decode cX0_windGoing 17 = .ok (.iload_n 3, 1) := dk_29 (dk_at dksX0_windGoing_0 17 rfl rfl)
theorem dX0_windGoing_18 : decode cX0_windGoing 18 = .ok (.ireturn, 1) := dk_172 (dk_at dksX0_windGoing_0 18 rfl rfl)
theorem dX0_windGoing_19 : decode cX0_windGoing 19 = .ok (.aload_n 0, 1) := dk_42 (dk_at dksX0_windGoing_0 19 rfl rfl)
theorem dX0_windGoing_20 : decode cX0_windGoing 20 = .ok (.getfield 34, 3) := dk_180 0 34 (dk_at dksX0_windGoing_0 20 rfl rfl)
theorem dX0_windGoing_23 : decode cX0_windGoing 23 = .ok (.iload_n 1, 1) := dk_27 (dk_at dksX0_windGoing_0 23 rfl rfl)
theorem dX0_windGoing_24 : decode cX0_windGoing 24 = .ok (.aaload, 1) := dk_50 (dk_at dksX0_windGoing_1 0 rfl rfl)
theorem dX0_windGoing_25 : decode cX0_windGoing 25 = .ok (.getfield 227, 3) := dk_180 0 227 (dk_at dksX0_windGoing_1 1 rfl rfl)
theorem dX0_windGoing_28 : decode cX0_windGoing 28 = .ok (.istore 4, 2) := dk_54 4 (dk_at dksX0_windGoing_1 4 rfl rfl)
theorem dX0_windGoing_30 : decode cX0_windGoing 30 = .ok (.aload_n 0, 1) := dk_42 (dk_at dksX0_windGoing_1 6 rfl rfl)
theorem dX0_windGoing_31 : decode cX0_windGoing 31 = .ok (.getfield 34, 3) := dk_180 0 34 (dk_at dksX0_windGoing_1 7 rfl rfl)
theorem dX0_windGoing_34 : decode cX0_windGoing 34 = .ok (.iload_n 1, 1) := dk_27 (dk_at dksX0_windGoing_1 10 rfl rfl)
theorem dX0_windGoing_35 : decode cX0_windGoing 35 = .ok (.aaload, 1) := dk_50 (dk_at dksX0_windGoing_1 11 rfl rfl)
theorem dX0_windGoing_36 : decode cX0_windGoing 36 = .ok (.iload_n 2, 1) := dk_28 (dk_at dksX0_windGoing_1 12 rfl rfl)
theorem dX0_windGoing_37 : decode cX0_windGoing 37 = .ok (.putfield 227, 3) := dk_181 0 227 (dk_at dksX0_windGoing_1 13 rfl rfl)
theorem dX0_windGoing_40 : decode cX0_windGoing 40 = .ok (.iload 4, 2) := dk_21 4 (dk_at dksX0_windGoing_1 16 rfl rfl)
theorem dX0_windGoing_42 : decode cX0_windGoing 42 = .ok (.ireturn, 1) := dk_172 (dk_at dksX0_windGoing_1 18 rfl rfl)
abbrev cX0_silence : ByteArray := prog_1_method_45_code
def yX0_silence : MethodName := ⟨RX0, "silence", "(IIII)I"⟩
def dkwX0_silence_3 : List UInt8 := [180, 0, 34, 27, 50, 21, 4, 181, 0, 236, 4, 172]
abbrev dktX0_silence_3 : List UInt8 := dkwX0_silence_3 ++ []
def dkwX0_silence_2 : List UInt8 := [21, 5, 172, 42, 180, 0, 34, 27, 50, 28, 181, 0, 230, 42, 180, 0, 34, 27, 50, 29, 181, 0, 233, 42]
abbrev dktX0_silence_2 : List UInt8 := dkwX0_silence_2 ++ dktX0_silence_3
def dkwX0_silence_1 : List UInt8 := [4, 184, 0, 69, 153, 0, 7, 4, 167, 0, 4, 3, 27, 182, 0, 184, 54, 5, 21, 5, 156, 0, 6]
abbrev dktX0_silence_1 : List UInt8 := dkwX0_silence_1 ++ dktX0_silence_2
def dkwX0_silence_0 : List UInt8 := [42, 28, 3, 16, 23, 184, 0, 69, 153, 0, 27, 29, 3, 16, 23, 184, 0, 69, 153, 0, 17, 21, 4, 3]
abbrev dktX0_silence_0 : List UInt8 := dkwX0_silence_0 ++ dktX0_silence_1
theorem dksX0_silence_0 : cX0_silence.data.toList.drop 0 = dktX0_silence_0 := by decide +kernel
theorem dksX0_silence_1 : cX0_silence.data.toList.drop 24 = dktX0_silence_1 := dk_seg dksX0_silence_0 24 rfl rfl
theorem dksX0_silence_2 : cX0_silence.data.toList.drop 47 = dktX0_silence_2 := dk_seg dksX0_silence_1 23 rfl rfl
theorem dksX0_silence_3 : cX0_silence.data.toList.drop 71 = dktX0_silence_3 := dk_seg dksX0_silence_2 24 rfl rfl
theorem dX0_silence_0 : decode cX0_silence 0 = .ok (.aload_n 0, 1) := dk_42 (dk_at dksX0_silence_0 0 rfl rfl)
theorem dX0_silence_1 : decode cX0_silence 1 = .ok (.iload_n 2, 1) := dk_28 (dk_at dksX0_silence_0 1 rfl rfl)
theorem dX0_silence_2 : decode cX0_silence 2 = .ok (.iconst 0, 1) := dk_3 (dk_at dksX0_silence_0 2 rfl rfl)
theorem dX0_silence_3 : decode cX0_silence 3 = .ok (.bipush 23, 2) := dk_16 23 (dk_at dksX0_silence_0 3 rfl rfl)
theorem dX0_silence_5 : decode cX0_silence 5 = .ok (.invokestatic 69, 3) := dk_184 0 69 (dk_at dksX0_silence_0 5 rfl rfl)
theorem dX0_silence_8 : decode cX0_silence 8 = .ok (.ifCond .eq 27, 3) := dk_153 0 27 (dk_at dksX0_silence_0 8 rfl rfl)
theorem dX0_silence_11 : decode cX0_silence 11 = .ok (.iload_n 3, 1) := dk_29 (dk_at dksX0_silence_0 11 rfl rfl)
theorem dX0_silence_12 : decode cX0_silence 12 = .ok (.iconst 0, 1) := dk_3 (dk_at dksX0_silence_0 12 rfl rfl)
theorem dX0_silence_13 : decode cX0_silence 13 = .ok (.bipush 23, 2) := dk_16 23 (dk_at dksX0_silence_0 13 rfl rfl)
theorem dX0_silence_15 : decode cX0_silence 15 = .ok (.invokestatic 69, 3) := dk_184 0 69 (dk_at dksX0_silence_0 15 rfl rfl)
theorem dX0_silence_18 : decode cX0_silence 18 = .ok (.ifCond .eq 17, 3) := dk_153 0 17 (dk_at dksX0_silence_0 18 rfl rfl)
theorem dX0_silence_21 : decode cX0_silence 21 = .ok (.iload 4, 2) := dk_21 4 (dk_at dksX0_silence_0 21 rfl rfl)
theorem dX0_silence_23 : decode cX0_silence 23 = .ok (.iconst 0, 1) := dk_3 (dk_at dksX0_silence_0 23 rfl rfl)
theorem dX0_silence_24 : decode cX0_silence 24 = .ok (.iconst 1, 1) := dk_4 (dk_at dksX0_silence_1 0 rfl rfl)
theorem dX0_silence_25 : decode cX0_silence 25 = .ok (.invokestatic 69, 3) := dk_184 0 69 (dk_at dksX0_silence_1 1 rfl rfl)
theorem dX0_silence_28 : decode cX0_silence 28 = .ok (.ifCond .eq 7, 3) := dk_153 0 7 (dk_at dksX0_silence_1 4 rfl rfl)
theorem dX0_silence_31 : decode cX0_silence 31 = .ok (.iconst 1, 1) := dk_4 (dk_at dksX0_silence_1 7 rfl rfl)
theorem dX0_silence_32 : decode cX0_silence 32 = .ok (.goto 4, 3) := dk_167 0 4 (dk_at dksX0_silence_1 8 rfl rfl)
theorem dX0_silence_35 : decode cX0_silence 35 = .ok (.iconst 0, 1) := dk_3 (dk_at dksX0_silence_1 11 rfl rfl)
theorem dX0_silence_36 : decode cX0_silence 36 = .ok (.iload_n 1, 1) := dk_27 (dk_at dksX0_silence_1 12 rfl rfl)
theorem dX0_silence_37 : decode cX0_silence 37 = .ok (.invokevirtual 184, 3) := dk_182 0 184 (dk_at dksX0_silence_1 13 rfl rfl)
theorem dX0_silence_40 : decode cX0_silence 40 = .ok (.istore 5, 2) := dk_54 5 (dk_at dksX0_silence_1 16 rfl rfl)
theorem dX0_silence_42 : decode cX0_silence 42 = .ok (.iload 5, 2) := dk_21 5 (dk_at dksX0_silence_1 18 rfl rfl)
theorem dX0_silence_44 : decode cX0_silence 44 = .ok (.ifCond .ge 6, 3) := dk_156 0 6 (dk_at dksX0_silence_1 20 rfl rfl)
theorem dX0_silence_47 : decode cX0_silence 47 = .ok (.iload 5, 2) := dk_21 5 (dk_at dksX0_silence_2 0 rfl rfl)
theorem dX0_silence_49 : decode cX0_silence 49 = .ok (.ireturn, 1) := dk_172 (dk_at dksX0_silence_2 2 rfl rfl)
theorem dX0_silence_50 : decode cX0_silence 50 = .ok (.aload_n 0, 1) := dk_42 (dk_at dksX0_silence_2 3 rfl rfl)
theorem dX0_silence_51 : decode cX0_silence 51 = .ok (.getfield 34, 3) := dk_180 0 34 (dk_at dksX0_silence_2 4 rfl rfl)
theorem dX0_silence_54 : decode cX0_silence 54 = .ok (.iload_n 1, 1) := dk_27 (dk_at dksX0_silence_2 7 rfl rfl)
theorem dX0_silence_55 : decode cX0_silence 55 = .ok (.aaload, 1) := dk_50 (dk_at dksX0_silence_2 8 rfl rfl)
theorem dX0_silence_56 : decode cX0_silence 56 = .ok (.iload_n 2, 1) := dk_28 (dk_at dksX0_silence_2 9 rfl rfl)
theorem dX0_silence_57 : decode cX0_silence 57 = .ok (.putfield 230, 3) := dk_181 0 230 (dk_at dksX0_silence_2 10 rfl rfl)
theorem dX0_silence_60 : decode cX0_silence 60 = .ok (.aload_n 0, 1) := dk_42 (dk_at dksX0_silence_2 13 rfl rfl)
theorem dX0_silence_61 : decode cX0_silence 61 = .ok (.getfield 34, 3) := dk_180 0 34 (dk_at dksX0_silence_2 14 rfl rfl)
theorem dX0_silence_64 : decode cX0_silence 64 = .ok (.iload_n 1, 1) := dk_27 (dk_at dksX0_silence_2 17 rfl rfl)
theorem dX0_silence_65 : decode cX0_silence 65 = .ok (.aaload, 1) := dk_50 (dk_at dksX0_silence_2 18 rfl rfl)
theorem dX0_silence_66 : decode cX0_silence 66 = .ok (.iload_n 3, 1) := dk_29 (dk_at dksX0_silence_2 19 rfl rfl)
theorem dX0_silence_67 : decode cX0_silence 67 = .ok (.putfield 233, 3) := dk_181 0 233 (dk_at dksX0_silence_2 20 rfl rfl)
theorem dX0_silence_70 : decode cX0_silence 70 = .ok (.aload_n 0, 1) := dk_42 (dk_at dksX0_silence_2 23 rfl rfl)
theorem dX0_silence_71 : decode cX0_silence 71 = .ok (.getfield 34, 3) := dk_180 0 34 (dk_at dksX0_silence_3 0 rfl rfl)
theorem dX0_silence_74 : decode cX0_silence 74 = .ok (.iload_n 1, 1) := dk_27 (dk_at dksX0_silence_3 3 rfl rfl)
theorem dX0_silence_75 : decode cX0_silence 75 = .ok (.aaload, 1) := dk_50 (dk_at dksX0_silence_3 4 rfl rfl)
theorem dX0_silence_76 : decode cX0_silence 76 = .ok (.iload 4, 2) := dk_21 4 (dk_at dksX0_silence_3 5 rfl rfl)
theorem dX0_silence_78 : decode cX0_silence 78 = .ok (.putfield 236, 3) := dk_181 0 236 (dk_at dksX0_silence_3 7 rfl rfl)
theorem dX0_silence_81 : decode cX0_silence 81 = .ok (.iconst 1, 1) := dk_4 (dk_at dksX0_silence_3 10 rfl rfl)
theorem dX0_silence_82 : decode cX0_silence 82 = .ok (.ireturn, 1) := dk_172 (dk_at dksX0_silence_3 11 rfl rfl)
abbrev cX0_letOff : ByteArray := prog_1_method_46_code
def yX0_letOff : MethodName := ⟨RX0, "letOff", "(IZ)I"⟩
def dkwX0_letOff_1 : List UInt8 := [182, 0, 239, 42, 180, 0, 34, 27, 50, 180, 0, 188, 28, 184, 0, 191, 50, 180, 0, 146, 172]
abbrev dktX0_letOff_1 : List UInt8 := dkwX0_letOff_1 ++ []
def dkwX0_letOff_0 : List UInt8 := [42, 27, 28, 182, 0, 208, 62, 29, 156, 0, 5, 29, 172, 42, 180, 0, 34, 27, 50, 28, 184, 0, 191]
abbrev dktX0_letOff_0 : List UInt8 := dkwX0_letOff_0 ++ dktX0_letOff_1
theorem dksX0_letOff_0 : cX0_letOff.data.toList.drop 0 = dktX0_letOff_0 := by decide +kernel
theorem dksX0_letOff_1 : cX0_letOff.data.toList.drop 23 = dktX0_letOff_1 := dk_seg dksX0_letOff_0 23 rfl rfl
theorem dX0_letOff_0 : decode cX0_letOff 0 = .ok (.aload_n 0, 1) := dk_42 (dk_at dksX0_letOff_0 0 rfl rfl)
theorem dX0_letOff_1 : decode cX0_letOff 1 = .ok (.iload_n 1, 1) := dk_27 (dk_at dksX0_letOff_0 1 rfl rfl)
theorem dX0_letOff_2 : decode cX0_letOff 2 = .ok (.iload_n 2, 1) := dk_28 (dk_at dksX0_letOff_0 2 rfl rfl)
theorem dX0_letOff_3 : decode cX0_letOff 3 = .ok (.invokevirtual 208, 3) := dk_182 0 208 (dk_at dksX0_letOff_0 3 rfl rfl)
theorem dX0_letOff_6 : decode cX0_letOff 6 = .ok (.istore_n 3, 1) := dk_62 (dk_at dksX0_letOff_0 6 rfl rfl)
theorem dX0_letOff_7 : decode cX0_letOff 7 = .ok (.iload_n 3, 1) := dk_29 (dk_at dksX0_letOff_0 7 rfl rfl)
theorem dX0_letOff_8 : decode cX0_letOff 8 = .ok (.ifCond .ge 5, 3) := dk_156 0 5 (dk_at dksX0_letOff_0 8 rfl rfl)
theorem dX0_letOff_11 : decode cX0_letOff 11 = .ok (.iload_n 3, 1) := dk_29 (dk_at dksX0_letOff_0 11 rfl rfl)
theorem dX0_letOff_12 : decode cX0_letOff 12 = .ok (.ireturn, 1) := dk_172 (dk_at dksX0_letOff_0 12 rfl rfl)
theorem dX0_letOff_13 : decode cX0_letOff 13 = .ok (.aload_n 0, 1) := dk_42 (dk_at dksX0_letOff_0 13 rfl rfl)
theorem dX0_letOff_14 : decode cX0_letOff 14 = .ok (.getfield 34, 3) := dk_180 0 34 (dk_at dksX0_letOff_0 14 rfl rfl)
theorem dX0_letOff_17 : decode cX0_letOff 17 = .ok (.iload_n 1, 1) := dk_27 (dk_at dksX0_letOff_0 17 rfl rfl)
theorem dX0_letOff_18 : decode cX0_letOff 18 = .ok (.aaload, 1) := dk_50 (dk_at dksX0_letOff_0 18 rfl rfl)
theorem dX0_letOff_19 : decode cX0_letOff 19 = .ok (.iload_n 2, 1) := dk_28 (dk_at dksX0_letOff_0 19 rfl rfl)
theorem dX0_letOff_20 : decode cX0_letOff 20 = .ok (.invokestatic 191, 3) := dk_184 0 191 (dk_at dksX0_letOff_0 20 rfl rfl)
theorem dX0_letOff_23 : decode cX0_letOff 23 = .ok (.invokevirtual 239, 3) := dk_182 0 239 (dk_at dksX0_letOff_1 0 rfl rfl)
theorem dX0_letOff_26 : decode cX0_letOff 26 = .ok (.aload_n 0, 1) := dk_42 (dk_at dksX0_letOff_1 3 rfl rfl)
theorem dX0_letOff_27 : decode cX0_letOff 27 = .ok (.getfield 34, 3) := dk_180 0 34 (dk_at dksX0_letOff_1 4 rfl rfl)
theorem dX0_letOff_30 : decode cX0_letOff 30 = .ok (.iload_n 1, 1) := dk_27 (dk_at dksX0_letOff_1 7 rfl rfl)
theorem dX0_letOff_31 : decode cX0_letOff 31 = .ok (.aaload, 1) := dk_50 (dk_at dksX0_letOff_1 8 rfl rfl)
theorem dX0_letOff_32 : decode cX0_letOff 32 = .ok (.getfield 188, 3) := dk_180 0 188 (dk_at dksX0_letOff_1 9 rfl rfl)
theorem dX0_letOff_35 : decode cX0_letOff 35 = .ok (.iload_n 2, 1) := dk_28 (dk_at dksX0_letOff_1 12 rfl rfl)
theorem dX0_letOff_36 : decode cX0_letOff 36 = .ok (.invokestatic 191, 3) := dk_184 0 191 (dk_at dksX0_letOff_1 13 rfl rfl)
theorem dX0_letOff_39 : decode cX0_letOff 39 = .ok (.aaload, 1) := dk_50 (dk_at dksX0_letOff_1 16 rfl rfl)
theorem dX0_letOff_40 : decode cX0_letOff 40 = .ok (.getfield 146, 3) := dk_180 0 146 (dk_at dksX0_letOff_1 17 rfl rfl)
theorem dX0_letOff_43 : decode cX0_letOff 43 = .ok (.ireturn, 1) := dk_172 (dk_at dksX0_letOff_1 20 rfl rfl)
abbrev cX0_runOut : ByteArray := prog_1_method_47_code
def yX0_runOut : MethodName := ⟨RX0, "runOut", "(IZ)I"⟩
def dkwX0_runOut_1 : List UInt8 := [50, 21, 4, 42, 180, 0, 34, 27, 50, 180, 0, 188, 21, 4, 50, 180, 0, 146, 182, 0, 243, 172]
abbrev dktX0_runOut_1 : List UInt8 := dkwX0_runOut_1 ++ []
def dkwX0_runOut_0 : List UInt8 := [42, 27, 28, 182, 0, 208, 62, 29, 156, 0, 5, 29, 172, 28, 184, 0, 191, 54, 4, 42, 180, 0, 34, 27]
abbrev dktX0_runOut_0 : List UInt8 := dkwX0_runOut_0 ++ dktX0_runOut_1
theorem dksX0_runOut_0 : cX0_runOut.data.toList.drop 0 = dktX0_runOut_0 := by decide +kernel
theorem dksX0_runOut_1 : cX0_runOut.data.toList.drop 24 = dktX0_runOut_1 := dk_seg dksX0_runOut_0 24 rfl rfl
theorem dX0_runOut_0 : decode cX0_runOut 0 = .ok (.aload_n 0, 1) := dk_42 (dk_at dksX0_runOut_0 0 rfl rfl)
theorem dX0_runOut_1 : decode cX0_runOut 1 = .ok (.iload_n 1, 1) := dk_27 (dk_at dksX0_runOut_0 1 rfl rfl)
theorem dX0_runOut_2 : decode cX0_runOut 2 = .ok (.iload_n 2, 1) := dk_28 (dk_at dksX0_runOut_0 2 rfl rfl)
theorem dX0_runOut_3 : decode cX0_runOut 3 = .ok (.invokevirtual 208, 3) := dk_182 0 208 (dk_at dksX0_runOut_0 3 rfl rfl)
theorem dX0_runOut_6 : decode cX0_runOut 6 = .ok (.istore_n 3, 1) := dk_62 (dk_at dksX0_runOut_0 6 rfl rfl)
theorem dX0_runOut_7 : decode cX0_runOut 7 = .ok (.iload_n 3, 1) := dk_29 (dk_at dksX0_runOut_0 7 rfl rfl)
theorem dX0_runOut_8 : decode cX0_runOut 8 = .ok (.ifCond .ge 5, 3) := dk_156 0 5 (dk_at dksX0_runOut_0 8 rfl rfl)
theorem dX0_runOut_11 : decode cX0_runOut 11 = .ok (.iload_n 3, 1) := dk_29 (dk_at dksX0_runOut_0 11 rfl rfl)
theorem dX0_runOut_12 : decode cX0_runOut 12 = .ok (.ireturn, 1) := dk_172 (dk_at dksX0_runOut_0 12 rfl rfl)
theorem dX0_runOut_13 : decode cX0_runOut 13 = .ok (.iload_n 2, 1) := dk_28 (dk_at dksX0_runOut_0 13 rfl rfl)
theorem dX0_runOut_14 : decode cX0_runOut 14 = .ok (.invokestatic 191, 3) := dk_184 0 191 (dk_at dksX0_runOut_0 14 rfl rfl)
theorem dX0_runOut_17 : decode cX0_runOut 17 = .ok (.istore 4, 2) := dk_54 4 (dk_at dksX0_runOut_0 17 rfl rfl)
theorem dX0_runOut_19 : decode cX0_runOut 19 = .ok (.aload_n 0, 1) := dk_42 (dk_at dksX0_runOut_0 19 rfl rfl)
theorem dX0_runOut_20 : decode cX0_runOut 20 = .ok (.getfield 34, 3) := dk_180 0 34 (dk_at dksX0_runOut_0 20 rfl rfl)
theorem dX0_runOut_23 : decode cX0_runOut 23 = .ok (.iload_n 1, 1) := dk_27 (dk_at dksX0_runOut_0 23 rfl rfl)
theorem dX0_runOut_24 : decode cX0_runOut 24 = .ok (.aaload, 1) := dk_50 (dk_at dksX0_runOut_1 0 rfl rfl)
theorem dX0_runOut_25 : decode cX0_runOut 25 = .ok (.iload 4, 2) := dk_21 4 (dk_at dksX0_runOut_1 1 rfl rfl)
theorem dX0_runOut_27 : decode cX0_runOut 27 = .ok (.aload_n 0, 1) := dk_42 (dk_at dksX0_runOut_1 3 rfl rfl)
theorem dX0_runOut_28 : decode cX0_runOut 28 = .ok (.getfield 34, 3) := dk_180 0 34 (dk_at dksX0_runOut_1 4 rfl rfl)
theorem dX0_runOut_31 : decode cX0_runOut 31 = .ok (.iload_n 1, 1) := dk_27 (dk_at dksX0_runOut_1 7 rfl rfl)
theorem dX0_runOut_32 : decode cX0_runOut 32 = .ok (.aaload, 1) := dk_50 (dk_at dksX0_runOut_1 8 rfl rfl)
theorem dX0_runOut_33 : decode cX0_runOut 33 = .ok (.getfield 188, 3) := dk_180 0 188 (dk_at dksX0_runOut_1 9 rfl rfl)
theorem dX0_runOut_36 : decode cX0_runOut 36 = .ok (.iload 4, 2) := dk_21 4 (dk_at dksX0_runOut_1 12 rfl rfl)
theorem dX0_runOut_38 : decode cX0_runOut 38 = .ok (.aaload, 1) := dk_50 (dk_at dksX0_runOut_1 14 rfl rfl)
theorem dX0_runOut_39 : decode cX0_runOut 39 = .ok (.getfield 146, 3) := dk_180 0 146 (dk_at dksX0_runOut_1 15 rfl rfl)
theorem dX0_runOut_42 : decode cX0_runOut 42 = .ok (.invokevirtual 243, 3) := dk_182 0 243 (dk_at dksX0_runOut_1 18 rfl rfl)
theorem dX0_runOut_45 : decode cX0_runOut 45 = .ok (.ireturn, 1) := dk_172 (dk_at dksX0_runOut_1 21 rfl rfl)
abbrev cX0_pass : ByteArray := prog_1_method_48_code
def yX0_pass : MethodName := ⟨RX0, "pass", "(I)I"⟩
def dkwX0_pass_3 : List UInt8 := [96, 181, 0, 247, 132, 2, 1, 167, 255, 207, 42, 180, 0, 247, 172]
abbrev dktX0_pass_3 : List UInt8 := dkwX0_pass_3 ++ []
def dkwX0_pass_2 : List UInt8 := [198, 0, 12, 42, 180, 0, 34, 29, 50, 182, 0, 251, 132, 3, 1, 167, 255, 230, 42, 89, 180, 0, 247, 4]
abbrev dktX0_pass_2 : List UInt8 := dkwX0_pass_2 ++ dktX0_pass_3
def dkwX0_pass_1 : List UInt8 := [16, 254, 172, 3, 61, 28, 27, 162, 0, 50, 3, 62, 29, 7, 162, 0, 27, 42, 180, 0, 34, 29, 50]
abbrev dktX0_pass_1 : List UInt8 := dkwX0_pass_1 ++ dktX0_pass_2
def dkwX0_pass_0 : List UInt8 := [27, 3, 17, 11, 184, 184, 0, 69, 154, 0, 5, 2, 172, 42, 180, 0, 247, 27, 96, 18, 250, 164, 0, 6]
abbrev dktX0_pass_0 : List UInt8 := dkwX0_pass_0 ++ dktX0_pass_1
theorem dksX0_pass_0 : cX0_pass.data.toList.drop 0 = dktX0_pass_0 := by decide +kernel
theorem dksX0_pass_1 : cX0_pass.data.toList.drop 24 = dktX0_pass_1 := dk_seg dksX0_pass_0 24 rfl rfl
theorem dksX0_pass_2 : cX0_pass.data.toList.drop 47 = dktX0_pass_2 := dk_seg dksX0_pass_1 23 rfl rfl
theorem dksX0_pass_3 : cX0_pass.data.toList.drop 71 = dktX0_pass_3 := dk_seg dksX0_pass_2 24 rfl rfl
theorem dX0_pass_0 : decode cX0_pass 0 = .ok (.iload_n 1, 1) := dk_27 (dk_at dksX0_pass_0 0 rfl rfl)
theorem dX0_pass_1 : decode cX0_pass 1 = .ok (.iconst 0, 1) := dk_3 (dk_at dksX0_pass_0 1 rfl rfl)
theorem dX0_pass_2 : decode cX0_pass 2 = .ok (.sipush 3000, 3) := dk_17 11 184 (dk_at dksX0_pass_0 2 rfl rfl)
theorem dX0_pass_5 : decode cX0_pass 5 = .ok (.invokestatic 69, 3) := dk_184 0 69 (dk_at dksX0_pass_0 5 rfl rfl)
theorem dX0_pass_8 : decode cX0_pass 8 = .ok (.ifCond .ne 5, 3) := dk_154 0 5 (dk_at dksX0_pass_0 8 rfl rfl)
theorem dX0_pass_11 : decode cX0_pass 11 = .ok (.iconst (-1), 1) := dk_2 (dk_at dksX0_pass_0 11 rfl rfl)
theorem dX0_pass_12 : decode cX0_pass 12 = .ok (.ireturn, 1) := dk_172 (dk_at dksX0_pass_0 12 rfl rfl)
theorem dX0_pass_13 : decode cX0_pass 13 = .ok (.aload_n 0, 1) := dk_42 (dk_at dksX0_pass_0 13 rfl rfl)
theorem dX0_pass_14 : decode cX0_pass 14 = .ok (.getfield 247, 3) := dk_180 0 247 (dk_at dksX0_pass_0 14 rfl rfl)
theorem dX0_pass_17 : decode cX0_pass 17 = .ok (.iload_n 1, 1) := dk_27 (dk_at dksX0_pass_0 17 rfl rfl)
theorem dX0_pass_18 : decode cX0_pass 18 = .ok (.iadd, 1) := dk_96 (dk_at dksX0_pass_0 18 rfl rfl)
theorem dX0_pass_19 : decode cX0_pass 19 = .ok (.ldc 250, 2) := dk_18 250 (dk_at dksX0_pass_0 19 rfl rfl)
theorem dX0_pass_21 : decode cX0_pass 21 = .ok (.if_icmp .le 6, 3) := dk_164 0 6 (dk_at dksX0_pass_0 21 rfl rfl)
theorem dX0_pass_24 : decode cX0_pass 24 = .ok (.bipush (-2), 2) := dk_16 254 (dk_at dksX0_pass_1 0 rfl rfl)
theorem dX0_pass_26 : decode cX0_pass 26 = .ok (.ireturn, 1) := dk_172 (dk_at dksX0_pass_1 2 rfl rfl)
theorem dX0_pass_27 : decode cX0_pass 27 = .ok (.iconst 0, 1) := dk_3 (dk_at dksX0_pass_1 3 rfl rfl)
theorem dX0_pass_28 : decode cX0_pass 28 = .ok (.istore_n 2, 1) := dk_61 (dk_at dksX0_pass_1 4 rfl rfl)
theorem dX0_pass_29 : decode cX0_pass 29 = .ok (.iload_n 2, 1) := dk_28 (dk_at dksX0_pass_1 5 rfl rfl)
theorem dX0_pass_30 : decode cX0_pass 30 = .ok (.iload_n 1, 1) := dk_27 (dk_at dksX0_pass_1 6 rfl rfl)
theorem dX0_pass_31 : decode cX0_pass 31 = .ok (.if_icmp .ge 50, 3) := dk_162 0 50 (dk_at dksX0_pass_1 7 rfl rfl)
theorem dX0_pass_34 : decode cX0_pass 34 = .ok (.iconst 0, 1) := dk_3 (dk_at dksX0_pass_1 10 rfl rfl)
theorem dX0_pass_35 : decode cX0_pass 35 = .ok (.istore_n 3, 1) := dk_62 (dk_at dksX0_pass_1 11 rfl rfl)
theorem dX0_pass_36 : decode cX0_pass 36 = .ok (.iload_n 3, 1) := dk_29 (dk_at dksX0_pass_1 12 rfl rfl)
theorem dX0_pass_37 : decode cX0_pass 37 = .ok (.iconst 4, 1) := dk_7 (dk_at dksX0_pass_1 13 rfl rfl)
theorem dX0_pass_38 : decode cX0_pass 38 = .ok (.if_icmp .ge 27, 3) := dk_162 0 27 (dk_at dksX0_pass_1 14 rfl rfl)
theorem dX0_pass_41 : decode cX0_pass 41 = .ok (.aload_n 0, 1) := dk_42 (dk_at dksX0_pass_1 17 rfl rfl)
theorem dX0_pass_42 : decode cX0_pass 42 = .ok (.getfield 34, 3) := dk_180 0 34 (dk_at dksX0_pass_1 18 rfl rfl)
theorem dX0_pass_45 : decode cX0_pass 45 = .ok (.iload_n 3, 1) := dk_29 (dk_at dksX0_pass_1 21 rfl rfl)
theorem dX0_pass_46 : decode cX0_pass 46 = .ok (.aaload, 1) := dk_50 (dk_at dksX0_pass_1 22 rfl rfl)
theorem dX0_pass_47 : decode cX0_pass 47 = .ok (.ifnull 12, 3) := dk_198 0 12 (dk_at dksX0_pass_2 0 rfl rfl)
theorem dX0_pass_50 : decode cX0_pass 50 = .ok (.aload_n 0, 1) := dk_42 (dk_at dksX0_pass_2 3 rfl rfl)
theorem dX0_pass_51 : decode cX0_pass 51 = .ok (.getfield 34, 3) := dk_180 0 34 (dk_at dksX0_pass_2 4 rfl rfl)
theorem dX0_pass_54 : decode cX0_pass 54 = .ok (.iload_n 3, 1) := dk_29 (dk_at dksX0_pass_2 7 rfl rfl)
theorem dX0_pass_55 : decode cX0_pass 55 = .ok (.aaload, 1) := dk_50 (dk_at dksX0_pass_2 8 rfl rfl)
theorem dX0_pass_56 : decode cX0_pass 56 = .ok (.invokevirtual 251, 3) := dk_182 0 251 (dk_at dksX0_pass_2 9 rfl rfl)
theorem dX0_pass_59 : decode cX0_pass 59 = .ok (.iinc 3 1, 3) := dk_132 3 1 (dk_at dksX0_pass_2 12 rfl rfl)
theorem dX0_pass_62 : decode cX0_pass 62 = .ok (.goto (-26), 3) := dk_167 255 230 (dk_at dksX0_pass_2 15 rfl rfl)
theorem dX0_pass_65 : decode cX0_pass 65 = .ok (.aload_n 0, 1) := dk_42 (dk_at dksX0_pass_2 18 rfl rfl)
theorem dX0_pass_66 : decode cX0_pass 66 = .ok (.dup, 1) := dk_89 (dk_at dksX0_pass_2 19 rfl rfl)
theorem dX0_pass_67 : decode cX0_pass 67 = .ok (.getfield 247, 3) := dk_180 0 247 (dk_at dksX0_pass_2 20 rfl rfl)
theorem dX0_pass_70 : decode cX0_pass 70 = .ok (.iconst 1, 1) := dk_4 (dk_at dksX0_pass_2 23 rfl rfl)
theorem dX0_pass_71 : decode cX0_pass 71 = .ok (.iadd, 1) := dk_96 (dk_at dksX0_pass_3 0 rfl rfl)
theorem dX0_pass_72 : decode cX0_pass 72 = .ok (.putfield 247, 3) := dk_181 0 247 (dk_at dksX0_pass_3 1 rfl rfl)
theorem dX0_pass_75 : decode cX0_pass 75 = .ok (.iinc 2 1, 3) := dk_132 2 1 (dk_at dksX0_pass_3 4 rfl rfl)
theorem dX0_pass_78 : decode cX0_pass 78 = .ok (.goto (-49), 3) := dk_167 255 207 (dk_at dksX0_pass_3 7 rfl rfl)
theorem dX0_pass_81 : decode cX0_pass 81 = .ok (.aload_n 0, 1) := dk_42 (dk_at dksX0_pass_3 10 rfl rfl)
theorem dX0_pass_82 : decode cX0_pass 82 = .ok (.getfield 247, 3) := dk_180 0 247 (dk_at dksX0_pass_3 11 rfl rfl)
theorem dX0_pass_85 : decode cX0_pass 85 = .ok (.ireturn, 1) := dk_172 (dk_at dksX0_pass_3 14 rfl rfl)
abbrev cX0_tells : ByteArray := prog_1_method_52_code
def yX0_tells : MethodName := ⟨RX0, "tells", "(II)I"⟩
def dkwX0_tells_1 : List UInt8 := [180, 0, 34, 27, 50, 28, 184, 1, 10, 172]
abbrev dktX0_tells_1 : List UInt8 := dkwX0_tells_1 ++ []
def dkwX0_tells_0 : List UInt8 := [42, 28, 3, 16, 8, 184, 0, 69, 27, 182, 0, 184, 62, 29, 156, 0, 7, 29, 167, 0, 13, 42]
abbrev dktX0_tells_0 : List UInt8 := dkwX0_tells_0 ++ dktX0_tells_1
theorem dksX0_tells_0 : cX0_tells.data.toList.drop 0 = dktX0_tells_0 := by decide +kernel
theorem dksX0_tells_1 : cX0_tells.data.toList.drop 22 = dktX0_tells_1 := dk_seg dksX0_tells_0 22 rfl rfl
theorem dX0_tells_0 : decode cX0_tells 0 = .ok (.aload_n 0, 1) := dk_42 (dk_at dksX0_tells_0 0 rfl rfl)
theorem dX0_tells_1 : decode cX0_tells 1 = .ok (.iload_n 2, 1) := dk_28 (dk_at dksX0_tells_0 1 rfl rfl)
theorem dX0_tells_2 : decode cX0_tells 2 = .ok (.iconst 0, 1) := dk_3 (dk_at dksX0_tells_0 2 rfl rfl)
theorem dX0_tells_3 : decode cX0_tells 3 = .ok (.bipush 8, 2) := dk_16 8 (dk_at dksX0_tells_0 3 rfl rfl)
theorem dX0_tells_5 : decode cX0_tells 5 = .ok (.invokestatic 69, 3) := dk_184 0 69 (dk_at dksX0_tells_0 5 rfl rfl)
theorem dX0_tells_8 : decode cX0_tells 8 = .ok (.iload_n 1, 1) := dk_27 (dk_at dksX0_tells_0 8 rfl rfl)
theorem dX0_tells_9 : decode cX0_tells 9 = .ok (.invokevirtual 184, 3) := dk_182 0 184 (dk_at dksX0_tells_0 9 rfl rfl)
theorem dX0_tells_12 : decode cX0_tells 12 = .ok (.istore_n 3, 1) := dk_62 (dk_at dksX0_tells_0 12 rfl rfl)
theorem dX0_tells_13 : decode cX0_tells 13 = .ok (.iload_n 3, 1) := dk_29 (dk_at dksX0_tells_0 13 rfl rfl)
theorem dX0_tells_14 : decode cX0_tells 14 = .ok (.ifCond .ge 7, 3) := dk_156 0 7 (dk_at dksX0_tells_0 14 rfl rfl)
theorem dX0_tells_17 : decode cX0_tells 17 = .ok (.iload_n 3, 1) := dk_29 (dk_at dksX0_tells_0 17 rfl rfl)
theorem dX0_tells_18 : decode cX0_tells 18 = .ok (.goto 13, 3) := dk_167 0 13 (dk_at dksX0_tells_0 18 rfl rfl)
theorem dX0_tells_21 : decode cX0_tells 21 = .ok (.aload_n 0, 1) := dk_42 (dk_at dksX0_tells_0 21 rfl rfl)
theorem dX0_tells_22 : decode cX0_tells 22 = .ok (.getfield 34, 3) := dk_180 0 34 (dk_at dksX0_tells_1 0 rfl rfl)
theorem dX0_tells_25 : decode cX0_tells 25 = .ok (.iload_n 1, 1) := dk_27 (dk_at dksX0_tells_1 3 rfl rfl)
theorem dX0_tells_26 : decode cX0_tells 26 = .ok (.aaload, 1) := dk_50 (dk_at dksX0_tells_1 4 rfl rfl)
theorem dX0_tells_27 : decode cX0_tells 27 = .ok (.iload_n 2, 1) := dk_28 (dk_at dksX0_tells_1 5 rfl rfl)
theorem dX0_tells_28 : decode cX0_tells 28 = .ok (.invokestatic 266, 3) := dk_184 1 10 (dk_at dksX0_tells_1 6 rfl rfl)
theorem dX0_tells_31 : decode cX0_tells 31 = .ok (.ireturn, 1) := dk_172 (dk_at dksX0_tells_1 9 rfl rfl)
abbrev cX0_tellsOf : ByteArray := prog_1_method_51_code
def yX0_tellsOf : MethodName := ⟨RX0, "tellsOf", "(LHammerTowers$Tower;I)I"⟩
def dkwX0_tellsOf_5 : List UInt8 := [182, 1, 7, 172]
abbrev dktX0_tellsOf_5 : List UInt8 := dkwX0_tellsOf_5 ++ []
def dkwX0_tellsOf_4 : List UInt8 := [172, 42, 180, 0, 188, 3, 50, 184, 1, 4, 172, 42, 180, 0, 188, 4, 50, 184, 1, 4, 172, 42]
abbrev dktX0_tellsOf_4 : List UInt8 := dkwX0_tellsOf_4 ++ dktX0_tellsOf_5
def dkwX0_tellsOf_3 : List UInt8 := [167, 0, 4, 3, 172, 42, 180, 0, 188, 3, 50, 184, 1, 1, 172, 42, 180, 0, 188, 4, 50, 184, 1, 1]
abbrev dktX0_tellsOf_3 : List UInt8 := dkwX0_tellsOf_3 ++ dktX0_tellsOf_4
def dkwX0_tellsOf_2 : List UInt8 := [42, 180, 0, 212, 172, 42, 180, 0, 254, 172, 42, 180, 0, 227, 172, 42, 180, 0, 224, 153, 0, 7, 4]
abbrev dktX0_tellsOf_2 : List UInt8 := dkwX0_tellsOf_2 ++ dktX0_tellsOf_3
def dkwX0_tellsOf_1 : List UInt8 := [170, 0, 0, 0, 0, 0, 115, 0, 0, 0, 0, 0, 0, 0, 7, 0, 0, 0, 47, 0, 0, 0, 52, 0, 0, 0, 57, 0, 0, 0, 62, 0, 0, 0, 75, 0, 0, 0, 85, 0, 0, 0, 95, 0, 0, 0, 105]
abbrev dktX0_tellsOf_1 : List UInt8 := dkwX0_tellsOf_1 ++ dktX0_tellsOf_2
def dkwX0_tellsOf_0 : List UInt8 := [27]
abbrev dktX0_tellsOf_0 : List UInt8 := dkwX0_tellsOf_0 ++ dktX0_tellsOf_1
theorem dksX0_tellsOf_0 : cX0_tellsOf.data.toList.drop 0 = dktX0_tellsOf_0 := by decide +kernel
theorem dksX0_tellsOf_1 : cX0_tellsOf.data.toList.drop 1 = dktX0_tellsOf_1 := dk_seg dksX0_tellsOf_0 1 rfl rfl
theorem dksX0_tellsOf_2 : cX0_tellsOf.data.toList.drop 48 = dktX0_tellsOf_2 := dk_seg dksX0_tellsOf_1 47 rfl rfl
theorem dksX0_tellsOf_3 : cX0_tellsOf.data.toList.drop 71 = dktX0_tellsOf_3 := dk_seg dksX0_tellsOf_2 23 rfl rfl
theorem dksX0_tellsOf_4 : cX0_tellsOf.data.toList.drop 95 = dktX0_tellsOf_4 := dk_seg dksX0_tellsOf_3 24 rfl rfl
theorem dksX0_tellsOf_5 : cX0_tellsOf.data.toList.drop 117 = dktX0_tellsOf_5 := dk_seg dksX0_tellsOf_4 22 rfl rfl
theorem dX0_tellsOf_0 : decode cX0_tellsOf 0 = .ok (.iload_n 1, 1) := dk_27 (dk_at dksX0_tellsOf_0 0 rfl rfl)
theorem dX0_tellsOf_1 : decode cX0_tellsOf 1 = .ok (.tableswitch 115 0 7 #[47, 52, 57, 62, 75, 85, 95, 105], 47) := by decide +kernel
theorem dX0_tellsOf_48 : decode cX0_tellsOf 48 = .ok (.aload_n 0, 1) := dk_42 (dk_at dksX0_tellsOf_2 0 rfl rfl)
theorem dX0_tellsOf_49 : decode cX0_tellsOf 49 = .ok (.getfield 212, 3) := dk_180 0 212 (dk_at dksX0_tellsOf_2 1 rfl rfl)
theorem dX0_tellsOf_52 : decode cX0_tellsOf 52 = .ok (.ireturn, 1) := dk_172 (dk_at dksX0_tellsOf_2 4 rfl rfl)
theorem dX0_tellsOf_53 : decode cX0_tellsOf 53 = .ok (.aload_n 0, 1) := dk_42 (dk_at dksX0_tellsOf_2 5 rfl rfl)
theorem dX0_tellsOf_54 : decode cX0_tellsOf 54 = .ok (.getfield 254, 3) := dk_180 0 254 (dk_at dksX0_tellsOf_2 6 rfl rfl)
theorem dX0_tellsOf_57 : decode cX0_tellsOf 57 = .ok (.ireturn, 1) := dk_172 (dk_at dksX0_tellsOf_2 9 rfl rfl)
theorem dX0_tellsOf_58 : decode cX0_tellsOf 58 = .ok (.aload_n 0, 1) := dk_42 (dk_at dksX0_tellsOf_2 10 rfl rfl)
theorem dX0_tellsOf_59 : decode cX0_tellsOf 59 = .ok (.getfield 227, 3) := dk_180 0 227 (dk_at dksX0_tellsOf_2 11 rfl rfl)
theorem dX0_tellsOf_62 : decode cX0_tellsOf 62 = .ok (.ireturn, 1) := dk_172 (dk_at dksX0_tellsOf_2 14 rfl rfl)
theorem dX0_tellsOf_63 : decode cX0_tellsOf 63 = .ok (.aload_n 0, 1) := dk_42 (dk_at dksX0_tellsOf_2 15 rfl rfl)
theorem dX0_tellsOf_64 : decode cX0_tellsOf 64 = .ok (.getfield 224, 3) := dk_180 0 224 (dk_at dksX0_tellsOf_2 16 rfl rfl)
theorem dX0_tellsOf_67 : decode cX0_tellsOf 67 = .ok (.ifCond .eq 7, 3) := dk_153 0 7 (dk_at dksX0_tellsOf_2 19 rfl rfl)
theorem dX0_tellsOf_70 : decode cX0_tellsOf 70 = .ok (.iconst 1, 1) := dk_4 (dk_at dksX0_tellsOf_2 22 rfl rfl)
theorem dX0_tellsOf_71 : decode cX0_tellsOf 71 = .ok (.goto 4, 3) := dk_167 0 4 (dk_at dksX0_tellsOf_3 0 rfl rfl)
theorem dX0_tellsOf_74 : decode cX0_tellsOf 74 = .ok (.iconst 0, 1) := dk_3 (dk_at dksX0_tellsOf_3 3 rfl rfl)
theorem dX0_tellsOf_75 : decode cX0_tellsOf 75 = .ok (.ireturn, 1) := dk_172 (dk_at dksX0_tellsOf_3 4 rfl rfl)
theorem dX0_tellsOf_76 : decode cX0_tellsOf 76 = .ok (.aload_n 0, 1) := dk_42 (dk_at dksX0_tellsOf_3 5 rfl rfl)
theorem dX0_tellsOf_77 : decode cX0_tellsOf 77 = .ok (.getfield 188, 3) := dk_180 0 188 (dk_at dksX0_tellsOf_3 6 rfl rfl)
theorem dX0_tellsOf_80 : decode cX0_tellsOf 80 = .ok (.iconst 0, 1) := dk_3 (dk_at dksX0_tellsOf_3 9 rfl rfl)
theorem dX0_tellsOf_81 : decode cX0_tellsOf 81 = .ok (.aaload, 1) := dk_50 (dk_at dksX0_tellsOf_3 10 rfl rfl)
theorem dX0_tellsOf_82 : decode cX0_tellsOf 82 = .ok (.invokestatic 257, 3) := dk_184 1 1 (dk_at dksX0_tellsOf_3 11 rfl rfl)
theorem dX0_tellsOf_85 : decode cX0_tellsOf 85 = .ok (.ireturn, 1) := dk_172 (dk_at dksX0_tellsOf_3 14 rfl rfl)
theorem dX0_tellsOf_86 : decode cX0_tellsOf 86 = .ok (.aload_n 0, 1) := dk_42 (dk_at dksX0_tellsOf_3 15 rfl rfl)
theorem dX0_tellsOf_87 : decode cX0_tellsOf 87 = .ok (.getfield 188, 3) := dk_180 0 188 (dk_at dksX0_tellsOf_3 16 rfl rfl)
theorem dX0_tellsOf_90 : decode cX0_tellsOf 90 = .ok (.iconst 1, 1) := dk_4 (dk_at dksX0_tellsOf_3 19 rfl rfl)
theorem dX0_tellsOf_91 : decode cX0_tellsOf 91 = .ok (.aaload, 1) := dk_50 (dk_at dksX0_tellsOf_3 20 rfl rfl)
theorem dX0_tellsOf_92 : decode cX0_tellsOf 92 = .ok (.invokestatic 257, 3) := dk_184 1 1 (dk_at dksX0_tellsOf_3 21 rfl rfl)
theorem dX0_tellsOf_95 : decode cX0_tellsOf 95 = .ok (.ireturn, 1) := dk_172 (dk_at dksX0_tellsOf_4 0 rfl rfl)
theorem dX0_tellsOf_96 : decode cX0_tellsOf 96 = .ok (.aload_n 0, 1) := dk_42 (dk_at dksX0_tellsOf_4 1 rfl rfl)
theorem dX0_tellsOf_97 : decode cX0_tellsOf 97 = .ok (.getfield 188, 3) := dk_180 0 188 (dk_at dksX0_tellsOf_4 2 rfl rfl)
theorem dX0_tellsOf_100 : decode cX0_tellsOf 100 = .ok (.iconst 0, 1) := dk_3 (dk_at dksX0_tellsOf_4 5 rfl rfl)
theorem dX0_tellsOf_101 : decode cX0_tellsOf 101 = .ok (.aaload, 1) := dk_50 (dk_at dksX0_tellsOf_4 6 rfl rfl)
theorem dX0_tellsOf_102 : decode cX0_tellsOf 102 = .ok (.invokestatic 260, 3) := dk_184 1 4 (dk_at dksX0_tellsOf_4 7 rfl rfl)
theorem dX0_tellsOf_105 : decode cX0_tellsOf 105 = .ok (.ireturn, 1) := dk_172 (dk_at dksX0_tellsOf_4 10 rfl rfl)
theorem dX0_tellsOf_106 : decode cX0_tellsOf 106 = .ok (.aload_n 0, 1) := dk_42 (dk_at dksX0_tellsOf_4 11 rfl rfl)
theorem dX0_tellsOf_107 : decode cX0_tellsOf 107 = .ok (.getfield 188, 3) := dk_180 0 188 (dk_at dksX0_tellsOf_4 12 rfl rfl)
theorem dX0_tellsOf_110 : decode cX0_tellsOf 110 = .ok (.iconst 1, 1) := dk_4 (dk_at dksX0_tellsOf_4 15 rfl rfl)
theorem dX0_tellsOf_111 : decode cX0_tellsOf 111 = .ok (.aaload, 1) := dk_50 (dk_at dksX0_tellsOf_4 16 rfl rfl)
theorem dX0_tellsOf_112 : decode cX0_tellsOf 112 = .ok (.invokestatic 260, 3) := dk_184 1 4 (dk_at dksX0_tellsOf_4 17 rfl rfl)
theorem dX0_tellsOf_115 : decode cX0_tellsOf 115 = .ok (.ireturn, 1) := dk_172 (dk_at dksX0_tellsOf_4 20 rfl rfl)
theorem dX0_tellsOf_116 : decode cX0_tellsOf 116 = .ok (.aload_n 0, 1) := dk_42 (dk_at dksX0_tellsOf_4 21 rfl rfl)
theorem dX0_tellsOf_117 : decode cX0_tellsOf 117 = .ok (.invokevirtual 263, 3) := dk_182 1 7 (dk_at dksX0_tellsOf_5 0 rfl rfl)
theorem dX0_tellsOf_120 : decode cX0_tellsOf 120 = .ok (.ireturn, 1) := dk_172 (dk_at dksX0_tellsOf_5 3 rfl rfl)
abbrev cX0_trainOf : ByteArray := prog_1_method_49_code
def yX0_trainOf : MethodName := ⟨RX0, "trainOf", "(LHammerTowers$Train;)I"⟩
def dkwX0_trainOf_0 : List UInt8 := [42, 199, 0, 8, 16, 247, 167, 0, 7, 42, 180, 0, 205, 172]
abbrev dktX0_trainOf_0 : List UInt8 := dkwX0_trainOf_0 ++ []
theorem dksX0_trainOf_0 : cX0_trainOf.data.toList.drop 0 = dktX0_trainOf_0 := by decide +kernel
theorem dX0_trainOf_0 : decode cX0_trainOf 0 = .ok (.aload_n 0, 1) := dk_42 (dk_at dksX0_trainOf_0 0 rfl rfl)
theorem dX0_trainOf_1 : decode cX0_trainOf 1 = .ok (.ifnonnull 8, 3) := dk_199 0 8 (dk_at dksX0_trainOf_0 1 rfl rfl)
theorem dX0_trainOf_4 : decode cX0_trainOf 4 = .ok (.bipush (-9), 2) := dk_16 247 (dk_at dksX0_trainOf_0 4 rfl rfl)
theorem dX0_trainOf_6 : decode cX0_trainOf 6 = .ok (.goto 7, 3) := dk_167 0 7 (dk_at dksX0_trainOf_0 6 rfl rfl)
theorem dX0_trainOf_9 : decode cX0_trainOf 9 = .ok (.aload_n 0, 1) := dk_42 (dk_at dksX0_trainOf_0 9 rfl rfl)
theorem dX0_trainOf_10 : decode cX0_trainOf 10 = .ok (.getfield 205, 3) := dk_180 0 205 (dk_at dksX0_trainOf_0 10 rfl rfl)
theorem dX0_trainOf_13 : decode cX0_trainOf 13 = .ok (.ireturn, 1) := dk_172 (dk_at dksX0_trainOf_0 13 rfl rfl)
abbrev cX0_warnedOf : ByteArray := prog_1_method_50_code
def yX0_warnedOf : MethodName := ⟨RX0, "warnedOf", "(LHammerTowers$Train;)I"⟩
def dkwX0_warnedOf_0 : List UInt8 := [42, 198, 0, 14, 42, 180, 0, 198, 153, 0, 7, 4, 167, 0, 4, 3, 172]
abbrev dktX0_warnedOf_0 : List UInt8 := dkwX0_warnedOf_0 ++ []
theorem dksX0_warnedOf_0 : cX0_warnedOf.data.toList.drop 0 = dktX0_warnedOf_0 := by decide +kernel
theorem dX0_warnedOf_0 : decode cX0_warnedOf 0 = .ok (.aload_n 0, 1) := dk_42 (dk_at dksX0_warnedOf_0 0 rfl rfl)
theorem dX0_warnedOf_1 : decode cX0_warnedOf 1 = .ok (.ifnull 14, 3) := dk_198 0 14 (dk_at dksX0_warnedOf_0 1 rfl rfl)
theorem dX0_warnedOf_4 : decode cX0_warnedOf 4 = .ok (.aload_n 0, 1) := dk_42 (dk_at dksX0_warnedOf_0 4 rfl rfl)
theorem dX0_warnedOf_5 : decode cX0_warnedOf 5 = .ok (.getfield 198, 3) := dk_180 0 198 (dk_at dksX0_warnedOf_0 5 rfl rfl)
theorem dX0_warnedOf_8 : decode cX0_warnedOf 8 = .ok (.ifCond .eq 7, 3) := dk_153 0 7 (dk_at dksX0_warnedOf_0 8 rfl rfl)
theorem dX0_warnedOf_11 : decode cX0_warnedOf 11 = .ok (.iconst 1, 1) := dk_4 (dk_at dksX0_warnedOf_0 11 rfl rfl)
theorem dX0_warnedOf_12 : decode cX0_warnedOf 12 = .ok (.goto 4, 3) := dk_167 0 4 (dk_at dksX0_warnedOf_0 12 rfl rfl)
theorem dX0_warnedOf_15 : decode cX0_warnedOf 15 = .ok (.iconst 0, 1) := dk_3 (dk_at dksX0_warnedOf_0 15 rfl rfl)
theorem dX0_warnedOf_16 : decode cX0_warnedOf 16 = .ok (.ireturn, 1) := dk_172 (dk_at dksX0_warnedOf_0 16 rfl rfl)
abbrev cX0_log : ByteArray := prog_1_method_53_code
def yX0_log : MethodName := ⟨RX0, "log", "(III)I"⟩
def dkwX0_log_2 : List UInt8 := [180, 1, 17, 7, 25, 5, 180, 1, 14, 4, 100, 28, 100, 104, 29, 96, 46, 167, 0, 5, 16, 247, 172]
abbrev dktX0_log_2 : List UInt8 := dkwX0_log_2 ++ []
def dkwX0_log_1 : List UInt8 := [180, 0, 34, 27, 50, 58, 5, 28, 3, 25, 5, 180, 1, 14, 4, 100, 184, 0, 69, 153, 0, 25, 25, 5]
abbrev dktX0_log_1 : List UInt8 := dkwX0_log_1 ++ dktX0_log_2
def dkwX0_log_0 : List UInt8 := [42, 29, 3, 6, 184, 0, 69, 27, 182, 0, 184, 54, 4, 21, 4, 156, 0, 6, 21, 4, 172, 42]
abbrev dktX0_log_0 : List UInt8 := dkwX0_log_0 ++ dktX0_log_1
theorem dksX0_log_0 : cX0_log.data.toList.drop 0 = dktX0_log_0 := by decide +kernel
theorem dksX0_log_1 : cX0_log.data.toList.drop 22 = dktX0_log_1 := dk_seg dksX0_log_0 22 rfl rfl
theorem dksX0_log_2 : cX0_log.data.toList.drop 46 = dktX0_log_2 := dk_seg dksX0_log_1 24 rfl rfl
theorem dX0_log_0 : decode cX0_log 0 = .ok (.aload_n 0, 1) := dk_42 (dk_at dksX0_log_0 0 rfl rfl)
theorem dX0_log_1 : decode cX0_log 1 = .ok (.iload_n 3, 1) := dk_29 (dk_at dksX0_log_0 1 rfl rfl)
theorem dX0_log_2 : decode cX0_log 2 = .ok (.iconst 0, 1) := dk_3 (dk_at dksX0_log_0 2 rfl rfl)
theorem dX0_log_3 : decode cX0_log 3 = .ok (.iconst 3, 1) := dk_6 (dk_at dksX0_log_0 3 rfl rfl)
theorem dX0_log_4 : decode cX0_log 4 = .ok (.invokestatic 69, 3) := dk_184 0 69 (dk_at dksX0_log_0 4 rfl rfl)
theorem dX0_log_7 : decode cX0_log 7 = .ok (.iload_n 1, 1) := dk_27 (dk_at dksX0_log_0 7 rfl rfl)
theorem dX0_log_8 : decode cX0_log 8 = .ok (.invokevirtual 184, 3) := dk_182 0 184 (dk_at dksX0_log_0 8 rfl rfl)
theorem dX0_log_11 : decode cX0_log 11 = .ok (.istore 4, 2) := dk_54 4 (dk_at dksX0_log_0 11 rfl rfl)
theorem dX0_log_13 : decode cX0_log 13 = .ok (.iload 4, 2) := dk_21 4 (dk_at dksX0_log_0 13 rfl rfl)
theorem dX0_log_15 : decode cX0_log 15 = .ok (.ifCond .ge 6, 3) := dk_156 0 6 (dk_at dksX0_log_0 15 rfl rfl)
theorem dX0_log_18 : decode cX0_log 18 = .ok (.iload 4, 2) := dk_21 4 (dk_at dksX0_log_0 18 rfl rfl)
theorem dX0_log_20 : decode cX0_log 20 = .ok (.ireturn, 1) := dk_172 (dk_at dksX0_log_0 20 rfl rfl)
theorem dX0_log_21 : decode cX0_log 21 = .ok (.aload_n 0, 1) := dk_42 (dk_at dksX0_log_0 21 rfl rfl)
theorem dX0_log_22 : decode cX0_log 22 = .ok (.getfield 34, 3) := dk_180 0 34 (dk_at dksX0_log_1 0 rfl rfl)
theorem dX0_log_25 : decode cX0_log 25 = .ok (.iload_n 1, 1) := dk_27 (dk_at dksX0_log_1 3 rfl rfl)
theorem dX0_log_26 : decode cX0_log 26 = .ok (.aaload, 1) := dk_50 (dk_at dksX0_log_1 4 rfl rfl)
theorem dX0_log_27 : decode cX0_log 27 = .ok (.astore 5, 2) := dk_58 5 (dk_at dksX0_log_1 5 rfl rfl)
theorem dX0_log_29 : decode cX0_log 29 = .ok (.iload_n 2, 1) := dk_28 (dk_at dksX0_log_1 7 rfl rfl)
theorem dX0_log_30 : decode cX0_log 30 = .ok (.iconst 0, 1) := dk_3 (dk_at dksX0_log_1 8 rfl rfl)
theorem dX0_log_31 : decode cX0_log 31 = .ok (.aload 5, 2) := dk_25 5 (dk_at dksX0_log_1 9 rfl rfl)
theorem dX0_log_33 : decode cX0_log 33 = .ok (.getfield 270, 3) := dk_180 1 14 (dk_at dksX0_log_1 11 rfl rfl)
theorem dX0_log_36 : decode cX0_log 36 = .ok (.iconst 1, 1) := dk_4 (dk_at dksX0_log_1 14 rfl rfl)
theorem dX0_log_37 : decode cX0_log 37 = .ok (.isub, 1) := dk_100 (dk_at dksX0_log_1 15 rfl rfl)
theorem dX0_log_38 : decode cX0_log 38 = .ok (.invokestatic 69, 3) := dk_184 0 69 (dk_at dksX0_log_1 16 rfl rfl)
theorem dX0_log_41 : decode cX0_log 41 = .ok (.ifCond .eq 25, 3) := dk_153 0 25 (dk_at dksX0_log_1 19 rfl rfl)
theorem dX0_log_44 : decode cX0_log 44 = .ok (.aload 5, 2) := dk_25 5 (dk_at dksX0_log_1 22 rfl rfl)
theorem dX0_log_46 : decode cX0_log 46 = .ok (.getfield 273, 3) := dk_180 1 17 (dk_at dksX0_log_2 0 rfl rfl)
theorem dX0_log_49 : decode cX0_log 49 = .ok (.iconst 4, 1) := dk_7 (dk_at dksX0_log_2 3 rfl rfl)
theorem dX0_log_50 : decode cX0_log 50 = .ok (.aload 5, 2) := dk_25 5 (dk_at dksX0_log_2 4 rfl rfl)
theorem dX0_log_52 : decode cX0_log 52 = .ok (.getfield 270, 3) := dk_180 1 14 (dk_at dksX0_log_2 6 rfl rfl)
theorem dX0_log_55 : decode cX0_log 55 = .ok (.iconst 1, 1) := dk_4 (dk_at dksX0_log_2 9 rfl rfl)
theorem dX0_log_56 : decode cX0_log 56 = .ok (.isub, 1) := dk_100 (dk_at dksX0_log_2 10 rfl rfl)
theorem dX0_log_57 : decode cX0_log 57 = .ok (.iload_n 2, 1) := dk_28 (dk_at dksX0_log_2 11 rfl rfl)
theorem dX0_log_58 : decode cX0_log 58 = .ok (.isub, 1) := dk_100 (dk_at dksX0_log_2 12 rfl rfl)
theorem dX0_log_59 : decode cX0_log 59 = .ok (.imul, 1) := dk_104 (dk_at dksX0_log_2 13 rfl rfl)
theorem dX0_log_60 : decode cX0_log 60 = .ok (.iload_n 3, 1) := dk_29 (dk_at dksX0_log_2 14 rfl rfl)
theorem dX0_log_61 : decode cX0_log 61 = .ok (.iadd, 1) := dk_96 (dk_at dksX0_log_2 15 rfl rfl)
theorem dX0_log_62 : decode cX0_log 62 = .ok (.iaload, 1) := dk_46 (dk_at dksX0_log_2 16 rfl rfl)
theorem dX0_log_63 : decode cX0_log 63 = .ok (.goto 5, 3) := dk_167 0 5 (dk_at dksX0_log_2 17 rfl rfl)
theorem dX0_log_66 : decode cX0_log 66 = .ok (.bipush (-9), 2) := dk_16 247 (dk_at dksX0_log_2 20 rfl rfl)
theorem dX0_log_68 : decode cX0_log 68 = .ok (.ireturn, 1) := dk_172 (dk_at dksX0_log_2 22 rfl rfl)
abbrev cX0_heard : ByteArray := prog_1_method_54_code
def yX0_heard : MethodName := ⟨RX0, "heard", "(III)I"⟩
def dkwX0_heard_4 : List UInt8 := [132, 7, 1, 167, 255, 204, 21, 6, 172]
abbrev dktX0_heard_4 : List UInt8 := dkwX0_heard_4 ++ []
def dkwX0_heard_3 : List UInt8 := [153, 0, 18, 25, 5, 180, 1, 17, 7, 21, 7, 104, 5, 96, 46, 167, 0, 4, 3, 96, 54, 6]
abbrev dktX0_heard_3 : List UInt8 := dkwX0_heard_3 ++ dktX0_heard_4
def dkwX0_heard_2 : List UInt8 := [180, 1, 14, 162, 0, 48, 21, 6, 25, 5, 180, 1, 17, 7, 21, 7, 104, 46, 28, 29, 184, 0, 69]
abbrev dktX0_heard_2 : List UInt8 := dkwX0_heard_2 ++ dktX0_heard_3
def dkwX0_heard_1 : List UInt8 := [156, 0, 6, 21, 4, 172, 42, 180, 0, 34, 27, 50, 58, 5, 3, 54, 6, 3, 54, 7, 21, 7, 25, 5]
abbrev dktX0_heard_1 : List UInt8 := dkwX0_heard_1 ++ dktX0_heard_2
def dkwX0_heard_0 : List UInt8 := [42, 28, 155, 0, 12, 28, 29, 163, 0, 7, 4, 167, 0, 4, 3, 27, 182, 0, 184, 54, 4, 21, 4]
abbrev dktX0_heard_0 : List UInt8 := dkwX0_heard_0 ++ dktX0_heard_1
theorem dksX0_heard_0 : cX0_heard.data.toList.drop 0 = dktX0_heard_0 := by decide +kernel
theorem dksX0_heard_1 : cX0_heard.data.toList.drop 23 = dktX0_heard_1 := dk_seg dksX0_heard_0 23 rfl rfl
theorem dksX0_heard_2 : cX0_heard.data.toList.drop 47 = dktX0_heard_2 := dk_seg dksX0_heard_1 24 rfl rfl
theorem dksX0_heard_3 : cX0_heard.data.toList.drop 70 = dktX0_heard_3 := dk_seg dksX0_heard_2 23 rfl rfl
theorem dksX0_heard_4 : cX0_heard.data.toList.drop 92 = dktX0_heard_4 := dk_seg dksX0_heard_3 22 rfl rfl
theorem dX0_heard_0 : decode cX0_heard 0 = .ok (.aload_n 0, 1) := dk_42 (dk_at dksX0_heard_0 0 rfl rfl)
theorem dX0_heard_1 : decode cX0_heard 1 = .ok (.iload_n 2, 1) := dk_28 (dk_at dksX0_heard_0 1 rfl rfl)
theorem dX0_heard_2 : decode cX0_heard 2 = .ok (.ifCond .lt 12, 3) := dk_155 0 12 (dk_at dksX0_heard_0 2 rfl rfl)
theorem dX0_heard_5 : decode cX0_heard 5 = .ok (.iload_n 2, 1) := dk_28 (dk_at dksX0_heard_0 5 rfl rfl)
theorem dX0_heard_6 : decode cX0_heard 6 = .ok (.iload_n 3, 1) := dk_29 (dk_at dksX0_heard_0 6 rfl rfl)
theorem dX0_heard_7 : decode cX0_heard 7 = .ok (.if_icmp .gt 7, 3) := dk_163 0 7 (dk_at dksX0_heard_0 7 rfl rfl)
theorem dX0_heard_10 : decode cX0_heard 10 = .ok (.iconst 1, 1) := dk_4 (dk_at dksX0_heard_0 10 rfl rfl)
theorem dX0_heard_11 : decode cX0_heard 11 = .ok (.goto 4, 3) := dk_167 0 4 (dk_at dksX0_heard_0 11 rfl rfl)
theorem dX0_heard_14 : decode cX0_heard 14 = .ok (.iconst 0, 1) := dk_3 (dk_at dksX0_heard_0 14 rfl rfl)
theorem dX0_heard_15 : decode cX0_heard 15 = .ok (.iload_n 1, 1) := dk_27 (dk_at dksX0_heard_0 15 rfl rfl)
theorem dX0_heard_16 : decode cX0_heard 16 = .ok (.invokevirtual 184, 3) := dk_182 0 184 (dk_at dksX0_heard_0 16 rfl rfl)
theorem dX0_heard_19 : decode cX0_heard 19 = .ok (.istore 4, 2) := dk_54 4 (dk_at dksX0_heard_0 19 rfl rfl)
theorem dX0_heard_21 : decode cX0_heard 21 = .ok (.iload 4, 2) := dk_21 4 (dk_at dksX0_heard_0 21 rfl rfl)
theorem dX0_heard_23 : decode cX0_heard 23 = .ok (.ifCond .ge 6, 3) := dk_156 0 6 (dk_at dksX0_heard_1 0 rfl rfl)
theorem dX0_heard_26 : decode cX0_heard 26 = .ok (.iload 4, 2) := dk_21 4 (dk_at dksX0_heard_1 3 rfl rfl)
theorem dX0_heard_28 : decode cX0_heard 28 = .ok (.ireturn, 1) := dk_172 (dk_at dksX0_heard_1 5 rfl rfl)
theorem dX0_heard_29 : decode cX0_heard 29 = .ok (.aload_n 0, 1) := dk_42 (dk_at dksX0_heard_1 6 rfl rfl)
theorem dX0_heard_30 : decode cX0_heard 30 = .ok (.getfield 34, 3) := dk_180 0 34 (dk_at dksX0_heard_1 7 rfl rfl)
theorem dX0_heard_33 : decode cX0_heard 33 = .ok (.iload_n 1, 1) := dk_27 (dk_at dksX0_heard_1 10 rfl rfl)
theorem dX0_heard_34 : decode cX0_heard 34 = .ok (.aaload, 1) := dk_50 (dk_at dksX0_heard_1 11 rfl rfl)
theorem dX0_heard_35 : decode cX0_heard 35 = .ok (.astore 5, 2) := dk_58 5 (dk_at dksX0_heard_1 12 rfl rfl)
theorem dX0_heard_37 : decode cX0_heard 37 = .ok (.iconst 0, 1) := dk_3 (dk_at dksX0_heard_1 14 rfl rfl)
theorem dX0_heard_38 : decode cX0_heard 38 = .ok (.istore 6, 2) := dk_54 6 (dk_at dksX0_heard_1 15 rfl rfl)
theorem dX0_heard_40 : decode cX0_heard 40 = .ok (.iconst 0, 1) := dk_3 (dk_at dksX0_heard_1 17 rfl rfl)
theorem dX0_heard_41 : decode cX0_heard 41 = .ok (.istore 7, 2) := dk_54 7 (dk_at dksX0_heard_1 18 rfl rfl)
theorem dX0_heard_43 : decode cX0_heard 43 = .ok (.iload 7, 2) := dk_21 7 (dk_at dksX0_heard_1 20 rfl rfl)
theorem dX0_heard_45 : decode cX0_heard 45 = .ok (.aload 5, 2) := dk_25 5 (dk_at dksX0_heard_1 22 rfl rfl)
theorem dX0_heard_47 : decode cX0_heard 47 = .ok (.getfield 270, 3) := dk_180 1 14 (dk_at dksX0_heard_2 0 rfl rfl)
theorem dX0_heard_50 : decode cX0_heard 50 = .ok (.if_icmp .ge 48, 3) := dk_162 0 48 (dk_at dksX0_heard_2 3 rfl rfl)
theorem dX0_heard_53 : decode cX0_heard 53 = .ok (.iload 6, 2) := dk_21 6 (dk_at dksX0_heard_2 6 rfl rfl)
theorem dX0_heard_55 : decode cX0_heard 55 = .ok (.aload 5, 2) := dk_25 5 (dk_at dksX0_heard_2 8 rfl rfl)
theorem dX0_heard_57 : decode cX0_heard 57 = .ok (.getfield 273, 3) := dk_180 1 17 (dk_at dksX0_heard_2 10 rfl rfl)
theorem dX0_heard_60 : decode cX0_heard 60 = .ok (.iconst 4, 1) := dk_7 (dk_at dksX0_heard_2 13 rfl rfl)
theorem dX0_heard_61 : decode cX0_heard 61 = .ok (.iload 7, 2) := dk_21 7 (dk_at dksX0_heard_2 14 rfl rfl)
theorem dX0_heard_63 : decode cX0_heard 63 = .ok (.imul, 1) := dk_104 (dk_at dksX0_heard_2 16 rfl rfl)
theorem dX0_heard_64 : decode cX0_heard 64 = .ok (.iaload, 1) := dk_46 (dk_at dksX0_heard_2 17 rfl rfl)
theorem dX0_heard_65 : decode cX0_heard 65 = .ok (.iload_n 2, 1) := dk_28 (dk_at dksX0_heard_2 18 rfl rfl)
theorem dX0_heard_66 : decode cX0_heard 66 = .ok (.iload_n 3, 1) := dk_29 (dk_at dksX0_heard_2 19 rfl rfl)
theorem dX0_heard_67 : decode cX0_heard 67 = .ok (.invokestatic 69, 3) := dk_184 0 69 (dk_at dksX0_heard_2 20 rfl rfl)
theorem dX0_heard_70 : decode cX0_heard 70 = .ok (.ifCond .eq 18, 3) := dk_153 0 18 (dk_at dksX0_heard_3 0 rfl rfl)
theorem dX0_heard_73 : decode cX0_heard 73 = .ok (.aload 5, 2) := dk_25 5 (dk_at dksX0_heard_3 3 rfl rfl)
theorem dX0_heard_75 : decode cX0_heard 75 = .ok (.getfield 273, 3) := dk_180 1 17 (dk_at dksX0_heard_3 5 rfl rfl)
theorem dX0_heard_78 : decode cX0_heard 78 = .ok (.iconst 4, 1) := dk_7 (dk_at dksX0_heard_3 8 rfl rfl)
theorem dX0_heard_79 : decode cX0_heard 79 = .ok (.iload 7, 2) := dk_21 7 (dk_at dksX0_heard_3 9 rfl rfl)
theorem dX0_heard_81 : decode cX0_heard 81 = .ok (.imul, 1) := dk_104 (dk_at dksX0_heard_3 11 rfl rfl)
theorem dX0_heard_82 : decode cX0_heard 82 = .ok (.iconst 2, 1) := dk_5 (dk_at dksX0_heard_3 12 rfl rfl)
theorem dX0_heard_83 : decode cX0_heard 83 = .ok (.iadd, 1) := dk_96 (dk_at dksX0_heard_3 13 rfl rfl)
theorem dX0_heard_84 : decode cX0_heard 84 = .ok (.iaload, 1) := dk_46 (dk_at dksX0_heard_3 14 rfl rfl)
theorem dX0_heard_85 : decode cX0_heard 85 = .ok (.goto 4, 3) := dk_167 0 4 (dk_at dksX0_heard_3 15 rfl rfl)
theorem dX0_heard_88 : decode cX0_heard 88 = .ok (.iconst 0, 1) := dk_3 (dk_at dksX0_heard_3 18 rfl rfl)
theorem dX0_heard_89 : decode cX0_heard 89 = .ok (.iadd, 1) := dk_96 (dk_at dksX0_heard_3 19 rfl rfl)
theorem dX0_heard_90 : decode cX0_heard 90 = .ok (.istore 6, 2) := dk_54 6 (dk_at dksX0_heard_3 20 rfl rfl)
theorem dX0_heard_92 : decode cX0_heard 92 = .ok (.iinc 7 1, 3) := dk_132 7 1 (dk_at dksX0_heard_4 0 rfl rfl)
theorem dX0_heard_95 : decode cX0_heard 95 = .ok (.goto (-52), 3) := dk_167 255 204 (dk_at dksX0_heard_4 3 rfl rfl)
theorem dX0_heard_98 : decode cX0_heard 98 = .ok (.iload 6, 2) := dk_21 6 (dk_at dksX0_heard_4 6 rfl rfl)
theorem dX0_heard_100 : decode cX0_heard 100 = .ok (.ireturn, 1) := dk_172 (dk_at dksX0_heard_4 8 rfl rfl)
abbrev cX0_ahead : ByteArray := prog_1_method_56_code
def yX0_ahead : MethodName := ⟨RX0, "ahead", "(II)I"⟩
def dkwX0_ahead_2 : List UInt8 := [164, 0, 12, 21, 4, 17, 5, 160, 100, 167, 0, 5, 21, 4, 172]
abbrev dktX0_ahead_2 : List UInt8 := dkwX0_ahead_2 ++ []
def dkwX0_ahead_1 : List UInt8 := [180, 0, 34, 28, 50, 180, 0, 212, 100, 17, 5, 160, 184, 1, 23, 54, 4, 21, 4, 17, 2, 208]
abbrev dktX0_ahead_1 : List UInt8 := dkwX0_ahead_1 ++ dktX0_ahead_2
def dkwX0_ahead_0 : List UInt8 := [42, 27, 28, 182, 1, 20, 62, 29, 156, 0, 5, 29, 172, 42, 180, 0, 34, 27, 50, 180, 0, 212, 42]
abbrev dktX0_ahead_0 : List UInt8 := dkwX0_ahead_0 ++ dktX0_ahead_1
theorem dksX0_ahead_0 : cX0_ahead.data.toList.drop 0 = dktX0_ahead_0 := by decide +kernel
theorem dksX0_ahead_1 : cX0_ahead.data.toList.drop 23 = dktX0_ahead_1 := dk_seg dksX0_ahead_0 23 rfl rfl
theorem dksX0_ahead_2 : cX0_ahead.data.toList.drop 45 = dktX0_ahead_2 := dk_seg dksX0_ahead_1 22 rfl rfl
theorem dX0_ahead_0 : decode cX0_ahead 0 = .ok (.aload_n 0, 1) := dk_42 (dk_at dksX0_ahead_0 0 rfl rfl)
theorem dX0_ahead_1 : decode cX0_ahead 1 = .ok (.iload_n 1, 1) := dk_27 (dk_at dksX0_ahead_0 1 rfl rfl)
theorem dX0_ahead_2 : decode cX0_ahead 2 = .ok (.iload_n 2, 1) := dk_28 (dk_at dksX0_ahead_0 2 rfl rfl)
theorem dX0_ahead_3 : decode cX0_ahead 3 = .ok (.invokevirtual 276, 3) := dk_182 1 20 (dk_at dksX0_ahead_0 3 rfl rfl)
theorem dX0_ahead_6 : decode cX0_ahead 6 = .ok (.istore_n 3, 1) := dk_62 (dk_at dksX0_ahead_0 6 rfl rfl)
theorem dX0_ahead_7 : decode cX0_ahead 7 = .ok (.iload_n 3, 1) := dk_29 (dk_at dksX0_ahead_0 7 rfl rfl)
theorem dX0_ahead_8 : decode cX0_ahead 8 = .ok (.ifCond .ge 5, 3) := dk_156 0 5 (dk_at dksX0_ahead_0 8 rfl rfl)
theorem dX0_ahead_11 : decode cX0_ahead 11 = .ok (.iload_n 3, 1) := dk_29 (dk_at dksX0_ahead_0 11 rfl rfl)
theorem dX0_ahead_12 : decode cX0_ahead 12 = .ok (.ireturn, 1) := dk_172 (dk_at dksX0_ahead_0 12 rfl rfl)
theorem dX0_ahead_13 : decode cX0_ahead 13 = .ok (.aload_n 0, 1) := dk_42 (dk_at dksX0_ahead_0 13 rfl rfl)
theorem dX0_ahead_14 : decode cX0_ahead 14 = .ok (.getfield 34, 3) := dk_180 0 34 (dk_at dksX0_ahead_0 14 rfl rfl)
theorem dX0_ahead_17 : decode cX0_ahead 17 = .ok (.iload_n 1, 1) := dk_27 (dk_at dksX0_ahead_0 17 rfl rfl)
theorem dX0_ahead_18 : decode cX0_ahead 18 = .ok (.aaload, 1) := dk_50 (dk_at dksX0_ahead_0 18 rfl rfl)
theorem dX0_ahead_19 : decode cX0_ahead 19 = .ok (.getfield 212, 3) := dk_180 0 212 (dk_at dksX0_ahead_0 19 rfl rfl)
theorem dX0_ahead_22 : decode cX0_ahead 22 = .ok (.aload_n 0, 1) := dk_42 (dk_at dksX0_ahead_0 22 rfl rfl)
theorem dX0_ahead_23 : decode cX0_ahead 23 = .ok (.getfield 34, 3) := dk_180 0 34 (dk_at dksX0_ahead_1 0 rfl rfl)
theorem dX0_ahead_26 : decode cX0_ahead 26 = .ok (.iload_n 2, 1) := dk_28 (dk_at dksX0_ahead_1 3 rfl rfl)
theorem dX0_ahead_27 : decode cX0_ahead 27 = .ok (.aaload, 1) := dk_50 (dk_at dksX0_ahead_1 4 rfl rfl)
theorem dX0_ahead_28 : decode cX0_ahead 28 = .ok (.getfield 212, 3) := dk_180 0 212 (dk_at dksX0_ahead_1 5 rfl rfl)
theorem dX0_ahead_31 : decode cX0_ahead 31 = .ok (.isub, 1) := dk_100 (dk_at dksX0_ahead_1 8 rfl rfl)
theorem dX0_ahead_32 : decode cX0_ahead 32 = .ok (.sipush 1440, 3) := dk_17 5 160 (dk_at dksX0_ahead_1 9 rfl rfl)
theorem dX0_ahead_35 : decode cX0_ahead 35 = .ok (.invokestatic 279, 3) := dk_184 1 23 (dk_at dksX0_ahead_1 12 rfl rfl)
theorem dX0_ahead_38 : decode cX0_ahead 38 = .ok (.istore 4, 2) := dk_54 4 (dk_at dksX0_ahead_1 15 rfl rfl)
theorem dX0_ahead_40 : decode cX0_ahead 40 = .ok (.iload 4, 2) := dk_21 4 (dk_at dksX0_ahead_1 17 rfl rfl)
theorem dX0_ahead_42 : decode cX0_ahead 42 = .ok (.sipush 720, 3) := dk_17 2 208 (dk_at dksX0_ahead_1 19 rfl rfl)
theorem dX0_ahead_45 : decode cX0_ahead 45 = .ok (.if_icmp .le 12, 3) := dk_164 0 12 (dk_at dksX0_ahead_2 0 rfl rfl)
theorem dX0_ahead_48 : decode cX0_ahead 48 = .ok (.iload 4, 2) := dk_21 4 (dk_at dksX0_ahead_2 3 rfl rfl)
theorem dX0_ahead_50 : decode cX0_ahead 50 = .ok (.sipush 1440, 3) := dk_17 5 160 (dk_at dksX0_ahead_2 5 rfl rfl)
theorem dX0_ahead_53 : decode cX0_ahead 53 = .ok (.isub, 1) := dk_100 (dk_at dksX0_ahead_2 8 rfl rfl)
theorem dX0_ahead_54 : decode cX0_ahead 54 = .ok (.goto 5, 3) := dk_167 0 5 (dk_at dksX0_ahead_2 9 rfl rfl)
theorem dX0_ahead_57 : decode cX0_ahead 57 = .ok (.iload 4, 2) := dk_21 4 (dk_at dksX0_ahead_2 12 rfl rfl)
theorem dX0_ahead_59 : decode cX0_ahead 59 = .ok (.ireturn, 1) := dk_172 (dk_at dksX0_ahead_2 14 rfl rfl)
abbrev cX0_needTwo : ByteArray := prog_1_method_55_code
def yX0_needTwo : MethodName := ⟨RX0, "needTwo", "(II)I"⟩
def dkwX0_needTwo_1 : List UInt8 := [198, 0, 12, 42, 180, 0, 34, 28, 50, 199, 0, 11, 42, 4, 182, 0, 79, 167, 0, 4, 3, 172]
abbrev dktX0_needTwo_1 : List UInt8 := dkwX0_needTwo_1 ++ []
def dkwX0_needTwo_0 : List UInt8 := [27, 184, 0, 181, 153, 0, 10, 28, 184, 0, 181, 154, 0, 7, 2, 167, 0, 30, 42, 180, 0, 34, 27, 50]
abbrev dktX0_needTwo_0 : List UInt8 := dkwX0_needTwo_0 ++ dktX0_needTwo_1
theorem dksX0_needTwo_0 : cX0_needTwo.data.toList.drop 0 = dktX0_needTwo_0 := by decide +kernel
theorem dksX0_needTwo_1 : cX0_needTwo.data.toList.drop 24 = dktX0_needTwo_1 := dk_seg dksX0_needTwo_0 24 rfl rfl
theorem dX0_needTwo_0 : decode cX0_needTwo 0 = .ok (.iload_n 1, 1) := dk_27 (dk_at dksX0_needTwo_0 0 rfl rfl)
theorem dX0_needTwo_1 : decode cX0_needTwo 1 = .ok (.invokestatic 181, 3) := dk_184 0 181 (dk_at dksX0_needTwo_0 1 rfl rfl)
theorem dX0_needTwo_4 : decode cX0_needTwo 4 = .ok (.ifCond .eq 10, 3) := dk_153 0 10 (dk_at dksX0_needTwo_0 4 rfl rfl)
theorem dX0_needTwo_7 : decode cX0_needTwo 7 = .ok (.iload_n 2, 1) := dk_28 (dk_at dksX0_needTwo_0 7 rfl rfl)
theorem dX0_needTwo_8 : decode cX0_needTwo 8 = .ok (.invokestatic 181, 3) := dk_184 0 181 (dk_at dksX0_needTwo_0 8 rfl rfl)
theorem dX0_needTwo_11 : decode cX0_needTwo 11 = .ok (.ifCond .ne 7, 3) := dk_154 0 7 (dk_at dksX0_needTwo_0 11 rfl rfl)
theorem dX0_needTwo_14 : decode cX0_needTwo 14 = .ok (.iconst (-1), 1) := dk_2 (dk_at dksX0_needTwo_0 14 rfl rfl)
theorem dX0_needTwo_15 : decode cX0_needTwo 15 = .ok (.goto 30, 3) := dk_167 0 30 (dk_at dksX0_needTwo_0 15 rfl rfl)
theorem dX0_needTwo_18 : decode cX0_needTwo 18 = .ok (.aload_n 0, 1) := dk_42 (dk_at dksX0_needTwo_0 18 rfl rfl)
theorem dX0_needTwo_19 : decode cX0_needTwo 19 = .ok (.getfield 34, 3) := dk_180 0 34 (dk_at dksX0_needTwo_0 19 rfl rfl)
theorem dX0_needTwo_22 : decode cX0_needTwo 22 = .ok (.iload_n 1, 1) := dk_27 (dk_at dksX0_needTwo_0 22 rfl rfl)
theorem dX0_needTwo_23 : decode cX0_needTwo 23 = .ok (.aaload, 1) := dk_50 (dk_at dksX0_needTwo_0 23 rfl rfl)
theorem dX0_needTwo_24 : decode cX0_needTwo 24 = .ok (.ifnull 12, 3) := dk_198 0 12 (dk_at dksX0_needTwo_1 0 rfl rfl)
theorem dX0_needTwo_27 : decode cX0_needTwo 27 = .ok (.aload_n 0, 1) := dk_42 (dk_at dksX0_needTwo_1 3 rfl rfl)
theorem dX0_needTwo_28 : decode cX0_needTwo 28 = .ok (.getfield 34, 3) := dk_180 0 34 (dk_at dksX0_needTwo_1 4 rfl rfl)
theorem dX0_needTwo_31 : decode cX0_needTwo 31 = .ok (.iload_n 2, 1) := dk_28 (dk_at dksX0_needTwo_1 7 rfl rfl)
theorem dX0_needTwo_32 : decode cX0_needTwo 32 = .ok (.aaload, 1) := dk_50 (dk_at dksX0_needTwo_1 8 rfl rfl)
theorem dX0_needTwo_33 : decode cX0_needTwo 33 = .ok (.ifnonnull 11, 3) := dk_199 0 11 (dk_at dksX0_needTwo_1 9 rfl rfl)
theorem dX0_needTwo_36 : decode cX0_needTwo 36 = .ok (.aload_n 0, 1) := dk_42 (dk_at dksX0_needTwo_1 12 rfl rfl)
theorem dX0_needTwo_37 : decode cX0_needTwo 37 = .ok (.iconst 1, 1) := dk_4 (dk_at dksX0_needTwo_1 13 rfl rfl)
theorem dX0_needTwo_38 : decode cX0_needTwo 38 = .ok (.invokevirtual 79, 3) := dk_182 0 79 (dk_at dksX0_needTwo_1 14 rfl rfl)
theorem dX0_needTwo_41 : decode cX0_needTwo 41 = .ok (.goto 4, 3) := dk_167 0 4 (dk_at dksX0_needTwo_1 17 rfl rfl)
theorem dX0_needTwo_44 : decode cX0_needTwo 44 = .ok (.iconst 0, 1) := dk_3 (dk_at dksX0_needTwo_1 20 rfl rfl)
theorem dX0_needTwo_45 : decode cX0_needTwo 45 = .ok (.ireturn, 1) := dk_172 (dk_at dksX0_needTwo_1 21 rfl rfl)
abbrev cX0_meet : ByteArray := prog_1_method_57_code
def yX0_meet : MethodName := ⟨RX0, "meet", "(II)I"⟩
def dkwX0_meet_6 : List UInt8 := [136, 172]
abbrev dktX0_meet_6 : List UInt8 := dkwX0_meet_6 ++ []
def dkwX0_meet_5 : List UInt8 := [167, 0, 5, 22, 8, 55, 12, 22, 10, 184, 1, 37, 55, 14, 22, 12, 22, 14, 97, 10, 101, 22, 14, 109]
abbrev dktX0_meet_5 : List UInt8 := dkwX0_meet_5 ++ dktX0_meet_6
def dkwX0_meet_4 : List UInt8 := [3, 172, 22, 10, 9, 148, 154, 0, 6, 16, 247, 172, 22, 10, 9, 148, 158, 0, 11, 22, 6, 22, 8, 101]
abbrev dktX0_meet_4 : List UInt8 := dkwX0_meet_4 ++ dktX0_meet_5
def dkwX0_meet_3 : List UInt8 := [55, 8, 25, 4, 180, 0, 221, 133, 25, 5, 180, 0, 221, 133, 101, 55, 10, 22, 8, 9, 148, 154, 0, 5]
abbrev dktX0_meet_3 : List UInt8 := dkwX0_meet_3 ++ dktX0_meet_4
def dkwX0_meet_2 : List UInt8 := [16, 252, 172, 20, 1, 28, 55, 6, 25, 4, 182, 1, 30, 25, 5, 182, 1, 30, 101, 22, 6, 184, 1, 34]
abbrev dktX0_meet_2 : List UInt8 := dkwX0_meet_2 ++ dktX0_meet_3
def dkwX0_meet_1 : List UInt8 := [180, 0, 34, 28, 50, 58, 5, 25, 4, 180, 0, 224, 153, 0, 11, 25, 5, 180, 0, 224, 154, 0, 6]
abbrev dktX0_meet_1 : List UInt8 := dkwX0_meet_1 ++ dktX0_meet_2
def dkwX0_meet_0 : List UInt8 := [42, 27, 28, 182, 1, 20, 62, 29, 156, 0, 5, 29, 172, 42, 180, 0, 34, 27, 50, 58, 4, 42]
abbrev dktX0_meet_0 : List UInt8 := dkwX0_meet_0 ++ dktX0_meet_1
theorem dksX0_meet_0 : cX0_meet.data.toList.drop 0 = dktX0_meet_0 := by decide +kernel
theorem dksX0_meet_1 : cX0_meet.data.toList.drop 22 = dktX0_meet_1 := dk_seg dksX0_meet_0 22 rfl rfl
theorem dksX0_meet_2 : cX0_meet.data.toList.drop 45 = dktX0_meet_2 := dk_seg dksX0_meet_1 23 rfl rfl
theorem dksX0_meet_3 : cX0_meet.data.toList.drop 69 = dktX0_meet_3 := dk_seg dksX0_meet_2 24 rfl rfl
theorem dksX0_meet_4 : cX0_meet.data.toList.drop 93 = dktX0_meet_4 := dk_seg dksX0_meet_3 24 rfl rfl
theorem dksX0_meet_5 : cX0_meet.data.toList.drop 117 = dktX0_meet_5 := dk_seg dksX0_meet_4 24 rfl rfl
theorem dksX0_meet_6 : cX0_meet.data.toList.drop 141 = dktX0_meet_6 := dk_seg dksX0_meet_5 24 rfl rfl
theorem dX0_meet_0 : decode cX0_meet 0 = .ok (.aload_n 0, 1) := dk_42 (dk_at dksX0_meet_0 0 rfl rfl)
theorem dX0_meet_1 : decode cX0_meet 1 = .ok (.iload_n 1, 1) := dk_27 (dk_at dksX0_meet_0 1 rfl rfl)
theorem dX0_meet_2 : decode cX0_meet 2 = .ok (.iload_n 2, 1) := dk_28 (dk_at dksX0_meet_0 2 rfl rfl)
theorem dX0_meet_3 : decode cX0_meet 3 = .ok (.invokevirtual 276, 3) := dk_182 1 20 (dk_at dksX0_meet_0 3 rfl rfl)
theorem dX0_meet_6 : decode cX0_meet 6 = .ok (.istore_n 3, 1) := dk_62 (dk_at dksX0_meet_0 6 rfl rfl)
theorem dX0_meet_7 : decode cX0_meet 7 = .ok (.iload_n 3, 1) := dk_29 (dk_at dksX0_meet_0 7 rfl rfl)
theorem dX0_meet_8 : decode cX0_meet 8 = .ok (.ifCond .ge 5, 3) := dk_156 0 5 (dk_at dksX0_meet_0 8 rfl rfl)
theorem dX0_meet_11 : decode cX0_meet 11 = .ok (.iload_n 3, 1) := dk_29 (dk_at dksX0_meet_0 11 rfl rfl)
theorem dX0_meet_12 : decode cX0_meet 12 = .ok (.ireturn, 1) := dk_172 (dk_at dksX0_meet_0 12 rfl rfl)
theorem dX0_meet_13 : decode cX0_meet 13 = .ok (.aload_n 0, 1) := dk_42 (dk_at dksX0_meet_0 13 rfl rfl)
theorem dX0_meet_14 : decode cX0_meet 14 = .ok (.getfield 34, 3) := dk_180 0 34 (dk_at dksX0_meet_0 14 rfl rfl)
theorem dX0_meet_17 : decode cX0_meet 17 = .ok (.iload_n 1, 1) := dk_27 (dk_at dksX0_meet_0 17 rfl rfl)
theorem dX0_meet_18 : decode cX0_meet 18 = .ok (.aaload, 1) := dk_50 (dk_at dksX0_meet_0 18 rfl rfl)
theorem dX0_meet_19 : decode cX0_meet 19 = .ok (.astore 4, 2) := dk_58 4 (dk_at dksX0_meet_0 19 rfl rfl)
theorem dX0_meet_21 : decode cX0_meet 21 = .ok (.aload_n 0, 1) := dk_42 (dk_at dksX0_meet_0 21 rfl rfl)
theorem dX0_meet_22 : decode cX0_meet 22 = .ok (.getfield 34, 3) := dk_180 0 34 (dk_at dksX0_meet_1 0 rfl rfl)
theorem dX0_meet_25 : decode cX0_meet 25 = .ok (.iload_n 2, 1) := dk_28 (dk_at dksX0_meet_1 3 rfl rfl)
theorem dX0_meet_26 : decode cX0_meet 26 = .ok (.aaload, 1) := dk_50 (dk_at dksX0_meet_1 4 rfl rfl)
theorem dX0_meet_27 : decode cX0_meet 27 = .ok (.astore 5, 2) := dk_58 5 (dk_at dksX0_meet_1 5 rfl rfl)
theorem dX0_meet_29 : decode cX0_meet 29 = .ok (.aload 4, 2) := dk_25 4 (dk_at dksX0_meet_1 7 rfl rfl)
theorem dX0_meet_31 : decode cX0_meet 31 = .ok (.getfield 224, 3) := dk_180 0 224 (dk_at dksX0_meet_1 9 rfl rfl)
theorem dX0_meet_34 : decode cX0_meet 34 = .ok (.ifCond .eq 11, 3) := dk_153 0 11 (dk_at dksX0_meet_1 12 rfl rfl)
theorem dX0_meet_37 : decode cX0_meet 37 = .ok (.aload 5, 2) := dk_25 5 (dk_at dksX0_meet_1 15 rfl rfl)
theorem dX0_meet_39 : decode cX0_meet 39 = .ok (.getfield 224, 3) := dk_180 0 224 (dk_at dksX0_meet_1 17 rfl rfl)
theorem dX0_meet_42 : decode cX0_meet 42 = .ok (.ifCond .ne 6, 3) := dk_154 0 6 (dk_at dksX0_meet_1 20 rfl rfl)
theorem dX0_meet_45 : decode cX0_meet 45 = .ok (.bipush (-4), 2) := dk_16 252 (dk_at dksX0_meet_2 0 rfl rfl)
theorem dX0_meet_47 : decode cX0_meet 47 = .ok (.ireturn, 1) := dk_172 (dk_at dksX0_meet_2 2 rfl rfl)
theorem dX0_meet_48 : decode cX0_meet 48 = .ok (.ldc2_w 284, 3) := dk_20 1 28 (dk_at dksX0_meet_2 3 rfl rfl)
theorem dX0_meet_51 : decode cX0_meet 51 = .ok (.lstore 6, 2) := dk_55 6 (dk_at dksX0_meet_2 6 rfl rfl)
theorem dX0_meet_53 : decode cX0_meet 53 = .ok (.aload 4, 2) := dk_25 4 (dk_at dksX0_meet_2 8 rfl rfl)
theorem dX0_meet_55 : decode cX0_meet 55 = .ok (.invokevirtual 286, 3) := dk_182 1 30 (dk_at dksX0_meet_2 10 rfl rfl)
theorem dX0_meet_58 : decode cX0_meet 58 = .ok (.aload 5, 2) := dk_25 5 (dk_at dksX0_meet_2 13 rfl rfl)
theorem dX0_meet_60 : decode cX0_meet 60 = .ok (.invokevirtual 286, 3) := dk_182 1 30 (dk_at dksX0_meet_2 15 rfl rfl)
theorem dX0_meet_63 : decode cX0_meet 63 = .ok (.lsub, 1) := dk_101 (dk_at dksX0_meet_2 18 rfl rfl)
theorem dX0_meet_64 : decode cX0_meet 64 = .ok (.lload 6, 2) := dk_22 6 (dk_at dksX0_meet_2 19 rfl rfl)
theorem dX0_meet_66 : decode cX0_meet 66 = .ok (.invokestatic 290, 3) := dk_184 1 34 (dk_at dksX0_meet_2 21 rfl rfl)
theorem dX0_meet_69 : decode cX0_meet 69 = .ok (.lstore 8, 2) := dk_55 8 (dk_at dksX0_meet_3 0 rfl rfl)
theorem dX0_meet_71 : decode cX0_meet 71 = .ok (.aload 4, 2) := dk_25 4 (dk_at dksX0_meet_3 2 rfl rfl)
theorem dX0_meet_73 : decode cX0_meet 73 = .ok (.getfield 221, 3) := dk_180 0 221 (dk_at dksX0_meet_3 4 rfl rfl)
theorem dX0_meet_76 : decode cX0_meet 76 = .ok (.i2l, 1) := dk_133 (dk_at dksX0_meet_3 7 rfl rfl)
theorem dX0_meet_77 : decode cX0_meet 77 = .ok (.aload 5, 2) := dk_25 5 (dk_at dksX0_meet_3 8 rfl rfl)
theorem dX0_meet_79 : decode cX0_meet 79 = .ok (.getfield 221, 3) := dk_180 0 221 (dk_at dksX0_meet_3 10 rfl rfl)
theorem dX0_meet_82 : decode cX0_meet 82 = .ok (.i2l, 1) := dk_133 (dk_at dksX0_meet_3 13 rfl rfl)
theorem dX0_meet_83 : decode cX0_meet 83 = .ok (.lsub, 1) := dk_101 (dk_at dksX0_meet_3 14 rfl rfl)
theorem dX0_meet_84 : decode cX0_meet 84 = .ok (.lstore 10, 2) := dk_55 10 (dk_at dksX0_meet_3 15 rfl rfl)
theorem dX0_meet_86 : decode cX0_meet 86 = .ok (.lload 8, 2) := dk_22 8 (dk_at dksX0_meet_3 17 rfl rfl)
theorem dX0_meet_88 : decode cX0_meet 88 = .ok (.lconst 0, 1) := dk_9 (dk_at dksX0_meet_3 19 rfl rfl)
theorem dX0_meet_89 : decode cX0_meet 89 = .ok (.lcmp, 1) := dk_148 (dk_at dksX0_meet_3 20 rfl rfl)
theorem dX0_meet_90 : decode cX0_meet 90 = .ok (.ifCond .ne 5, 3) := dk_154 0 5 (dk_at dksX0_meet_3 21 rfl rfl)
theorem dX0_meet_93 : decode cX0_meet 93 = .ok (.iconst 0, 1) := dk_3 (dk_at dksX0_meet_4 0 rfl rfl)
theorem dX0_meet_94 : decode cX0_meet 94 = .ok (.ireturn, 1) := dk_172 (dk_at dksX0_meet_4 1 rfl rfl)
theorem dX0_meet_95 : decode cX0_meet 95 = .ok (.lload 10, 2) := dk_22 10 (dk_at dksX0_meet_4 2 rfl rfl)
theorem dX0_meet_97 : decode cX0_meet 97 = .ok (.lconst 0, 1) := dk_9 (dk_at dksX0_meet_4 4 rfl rfl)
theorem dX0_meet_98 : decode cX0_meet 98 = .ok (.lcmp, 1) := dk_148 (dk_at dksX0_meet_4 5 rfl rfl)
theorem dX0_meet_99 : decode cX0_meet 99 = .ok (.ifCond .ne 6, 3) := dk_154 0 6 (dk_at dksX0_meet_4 6 rfl rfl)
theorem dX0_meet_102 : decode cX0_meet 102 = .ok (.bipush (-9), 2) := dk_16 247 (dk_at dksX0_meet_4 9 rfl rfl)
theorem dX0_meet_104 : decode cX0_meet 104 = .ok (.ireturn, 1) := dk_172 (dk_at dksX0_meet_4 11 rfl rfl)
theorem dX0_meet_105 : decode cX0_meet 105 = .ok (.lload 10, 2) := dk_22 10 (dk_at dksX0_meet_4 12 rfl rfl)
theorem dX0_meet_107 : decode cX0_meet 107 = .ok (.lconst 0, 1) := dk_9 (dk_at dksX0_meet_4 14 rfl rfl)
theorem dX0_meet_108 : decode cX0_meet 108 = .ok (.lcmp, 1) := dk_148 (dk_at dksX0_meet_4 15 rfl rfl)
theorem dX0_meet_109 : decode cX0_meet 109 = .ok (.ifCond .le 11, 3) := dk_158 0 11 (dk_at dksX0_meet_4 16 rfl rfl)
theorem dX0_meet_112 : decode cX0_meet 112 = .ok (.lload 6, 2) := dk_22 6 (dk_at dksX0_meet_4 19 rfl rfl)
theorem dX0_meet_114 : decode cX0_meet 114 = .ok (.lload 8, 2) := dk_22 8 (dk_at dksX0_meet_4 21 rfl rfl)
theorem dX0_meet_116 : decode cX0_meet 116 = .ok (.lsub, 1) := dk_101 (dk_at dksX0_meet_4 23 rfl rfl)
theorem dX0_meet_117 : decode cX0_meet 117 = .ok (.goto 5, 3) := dk_167 0 5 (dk_at dksX0_meet_5 0 rfl rfl)
theorem dX0_meet_120 : decode cX0_meet 120 = .ok (.lload 8, 2) := dk_22 8 (dk_at dksX0_meet_5 3 rfl rfl)
theorem dX0_meet_122 : decode cX0_meet 122 = .ok (.lstore 12, 2) := dk_55 12 (dk_at dksX0_meet_5 5 rfl rfl)
theorem dX0_meet_124 : decode cX0_meet 124 = .ok (.lload 10, 2) := dk_22 10 (dk_at dksX0_meet_5 7 rfl rfl)
theorem dX0_meet_126 : decode cX0_meet 126 = .ok (.invokestatic 293, 3) := dk_184 1 37 (dk_at dksX0_meet_5 9 rfl rfl)
theorem dX0_meet_129 : decode cX0_meet 129 = .ok (.lstore 14, 2) := dk_55 14 (dk_at dksX0_meet_5 12 rfl rfl)
theorem dX0_meet_131 : decode cX0_meet 131 = .ok (.lload 12, 2) := dk_22 12 (dk_at dksX0_meet_5 14 rfl rfl)
theorem dX0_meet_133 : decode cX0_meet 133 = .ok (.lload 14, 2) := dk_22 14 (dk_at dksX0_meet_5 16 rfl rfl)
theorem dX0_meet_135 : decode cX0_meet 135 = .ok (.ladd, 1) := dk_97 (dk_at dksX0_meet_5 18 rfl rfl)
theorem dX0_meet_136 : decode cX0_meet 136 = .ok (.lconst 1, 1) := dk_10 (dk_at dksX0_meet_5 19 rfl rfl)
theorem dX0_meet_137 : decode cX0_meet 137 = .ok (.lsub, 1) := dk_101 (dk_at dksX0_meet_5 20 rfl rfl)
theorem dX0_meet_138 : decode cX0_meet 138 = .ok (.lload 14, 2) := dk_22 14 (dk_at dksX0_meet_5 21 rfl rfl)
theorem dX0_meet_140 : decode cX0_meet 140 = .ok (.ldiv, 1) := dk_109 (dk_at dksX0_meet_5 23 rfl rfl)
theorem dX0_meet_141 : decode cX0_meet 141 = .ok (.l2i, 1) := dk_136 (dk_at dksX0_meet_6 0 rfl rfl)
theorem dX0_meet_142 : decode cX0_meet 142 = .ok (.ireturn, 1) := dk_172 (dk_at dksX0_meet_6 1 rfl rfl)
abbrev cX0_right : ByteArray := prog_1_method_60_code
def yX0_right : MethodName := ⟨RX0, "right", "(IZ)I"⟩
def dkwX0_right_1 : List UInt8 := [184, 0, 191, 182, 1, 50, 154, 0, 7, 4, 167, 0, 4, 3, 172]
abbrev dktX0_right_1 : List UInt8 := dkwX0_right_1 ++ []
def dkwX0_right_0 : List UInt8 := [42, 27, 28, 182, 1, 47, 62, 29, 156, 0, 7, 29, 167, 0, 25, 42, 42, 180, 0, 34, 27, 50, 28]
abbrev dktX0_right_0 : List UInt8 := dkwX0_right_0 ++ dktX0_right_1
theorem dksX0_right_0 : cX0_right.data.toList.drop 0 = dktX0_right_0 := by decide +kernel
theorem dksX0_right_1 : cX0_right.data.toList.drop 23 = dktX0_right_1 := dk_seg dksX0_right_0 23 rfl rfl
theorem dX0_right_0 : decode cX0_right 0 = .ok (.aload_n 0, 1) := dk_42 (dk_at dksX0_right_0 0 rfl rfl)
theorem dX0_right_1 : decode cX0_right 1 = .ok (.iload_n 1, 1) := dk_27 (dk_at dksX0_right_0 1 rfl rfl)
theorem dX0_right_2 : decode cX0_right 2 = .ok (.iload_n 2, 1) := dk_28 (dk_at dksX0_right_0 2 rfl rfl)
theorem dX0_right_3 : decode cX0_right 3 = .ok (.invokevirtual 303, 3) := dk_182 1 47 (dk_at dksX0_right_0 3 rfl rfl)
theorem dX0_right_6 : decode cX0_right 6 = .ok (.istore_n 3, 1) := dk_62 (dk_at dksX0_right_0 6 rfl rfl)
theorem dX0_right_7 : decode cX0_right 7 = .ok (.iload_n 3, 1) := dk_29 (dk_at dksX0_right_0 7 rfl rfl)
theorem dX0_right_8 : decode cX0_right 8 = .ok (.ifCond .ge 7, 3) := dk_156 0 7 (dk_at dksX0_right_0 8 rfl rfl)
theorem dX0_right_11 : decode cX0_right 11 = .ok (.iload_n 3, 1) := dk_29 (dk_at dksX0_right_0 11 rfl rfl)
theorem dX0_right_12 : decode cX0_right 12 = .ok (.goto 25, 3) := dk_167 0 25 (dk_at dksX0_right_0 12 rfl rfl)
theorem dX0_right_15 : decode cX0_right 15 = .ok (.aload_n 0, 1) := dk_42 (dk_at dksX0_right_0 15 rfl rfl)
theorem dX0_right_16 : decode cX0_right 16 = .ok (.aload_n 0, 1) := dk_42 (dk_at dksX0_right_0 16 rfl rfl)
theorem dX0_right_17 : decode cX0_right 17 = .ok (.getfield 34, 3) := dk_180 0 34 (dk_at dksX0_right_0 17 rfl rfl)
theorem dX0_right_20 : decode cX0_right 20 = .ok (.iload_n 1, 1) := dk_27 (dk_at dksX0_right_0 20 rfl rfl)
theorem dX0_right_21 : decode cX0_right 21 = .ok (.aaload, 1) := dk_50 (dk_at dksX0_right_0 21 rfl rfl)
theorem dX0_right_22 : decode cX0_right 22 = .ok (.iload_n 2, 1) := dk_28 (dk_at dksX0_right_0 22 rfl rfl)
theorem dX0_right_23 : decode cX0_right 23 = .ok (.invokestatic 191, 3) := dk_184 0 191 (dk_at dksX0_right_1 0 rfl rfl)
theorem dX0_right_26 : decode cX0_right 26 = .ok (.invokevirtual 306, 3) := dk_182 1 50 (dk_at dksX0_right_1 3 rfl rfl)
theorem dX0_right_29 : decode cX0_right 29 = .ok (.ifCond .ne 7, 3) := dk_154 0 7 (dk_at dksX0_right_1 6 rfl rfl)
theorem dX0_right_32 : decode cX0_right 32 = .ok (.iconst 1, 1) := dk_4 (dk_at dksX0_right_1 9 rfl rfl)
theorem dX0_right_33 : decode cX0_right 33 = .ok (.goto 4, 3) := dk_167 0 4 (dk_at dksX0_right_1 10 rfl rfl)
theorem dX0_right_36 : decode cX0_right 36 = .ok (.iconst 0, 1) := dk_3 (dk_at dksX0_right_1 13 rfl rfl)
theorem dX0_right_37 : decode cX0_right 37 = .ok (.ireturn, 1) := dk_172 (dk_at dksX0_right_1 14 rfl rfl)
abbrev cX0_needPlate : ByteArray := prog_1_method_58_code
def yX0_needPlate : MethodName := ⟨RX0, "needPlate", "(IZ)I"⟩
def dkwX0_needPlate_1 : List UInt8 := [28, 184, 0, 191, 50, 193, 0, 107, 153, 0, 7, 3, 167, 0, 8, 42, 6, 182, 0, 79, 172]
abbrev dktX0_needPlate_1 : List UInt8 := dkwX0_needPlate_1 ++ []
def dkwX0_needPlate_0 : List UInt8 := [42, 27, 28, 182, 0, 208, 62, 29, 156, 0, 7, 29, 167, 0, 32, 42, 180, 0, 34, 27, 50, 180, 0, 188]
abbrev dktX0_needPlate_0 : List UInt8 := dkwX0_needPlate_0 ++ dktX0_needPlate_1
theorem dksX0_needPlate_0 : cX0_needPlate.data.toList.drop 0 = dktX0_needPlate_0 := by decide +kernel
theorem dksX0_needPlate_1 : cX0_needPlate.data.toList.drop 24 = dktX0_needPlate_1 := dk_seg dksX0_needPlate_0 24 rfl rfl
theorem dX0_needPlate_0 : decode cX0_needPlate 0 = .ok (.aload_n 0, 1) := dk_42 (dk_at dksX0_needPlate_0 0 rfl rfl)
theorem dX0_needPlate_1 : decode cX0_needPlate 1 = .ok (.iload_n 1, 1) := dk_27 (dk_at dksX0_needPlate_0 1 rfl rfl)
theorem dX0_needPlate_2 : decode cX0_needPlate 2 = .ok (.iload_n 2, 1) := dk_28 (dk_at dksX0_needPlate_0 2 rfl rfl)
theorem dX0_needPlate_3 : decode cX0_needPlate 3 = .ok (.invokevirtual 208, 3) := dk_182 0 208 (dk_at dksX0_needPlate_0 3 rfl rfl)
theorem dX0_needPlate_6 : decode cX0_needPlate 6 = .ok (.istore_n 3, 1) := dk_62 (dk_at dksX0_needPlate_0 6 rfl rfl)
theorem dX0_needPlate_7 : decode cX0_needPlate 7 = .ok (.iload_n 3, 1) := dk_29 (dk_at dksX0_needPlate_0 7 rfl rfl)
theorem dX0_needPlate_8 : decode cX0_needPlate 8 = .ok (.ifCond .ge 7, 3) := dk_156 0 7 (dk_at dksX0_needPlate_0 8 rfl rfl)
theorem dX0_needPlate_11 : decode cX0_needPlate 11 = .ok (.iload_n 3, 1) := dk_29 (dk_at dksX0_needPlate_0 11 rfl rfl)
theorem dX0_needPlate_12 : decode cX0_needPlate 12 = .ok (.goto 32, 3) := dk_167 0 32 (dk_at dksX0_needPlate_0 12 rfl rfl)
theorem dX0_needPlate_15 : decode cX0_needPlate 15 = .ok (.aload_n 0, 1) := dk_42 (dk_at dksX0_needPlate_0 15 rfl rfl)
theorem dX0_needPlate_16 : decode cX0_needPlate 16 = .ok (.getfield 34, 3) := dk_180 0 34 (dk_at dksX0_needPlate_0 16 rfl rfl)
theorem dX0_needPlate_19 : decode cX0_needPlate 19 = .ok (.iload_n 1, 1) := dk_27 (dk_at dksX0_needPlate_0 19 rfl rfl)
theorem dX0_needPlate_20 : decode cX0_needPlate 20 = .ok (.aaload, 1) := dk_50 (dk_at dksX0_needPlate_0 20 rfl rfl)
theorem dX0_needPlate_21 : decode cX0_needPlate 21 = .ok (.getfield 188, 3) := dk_180 0 188 (dk_at dksX0_needPlate_0 21 rfl rfl)
theorem dX0_needPlate_24 : decode cX0_needPlate 24 = .ok (.iload_n 2, 1) := dk_28 (dk_at dksX0_needPlate_1 0 rfl rfl)
theorem dX0_needPlate_25 : decode cX0_needPlate 25 = .ok (.invokestatic 191, 3) := dk_184 0 191 (dk_at dksX0_needPlate_1 1 rfl rfl)
theorem dX0_needPlate_28 : decode cX0_needPlate 28 = .ok (.aaload, 1) := dk_50 (dk_at dksX0_needPlate_1 4 rfl rfl)
theorem dX0_needPlate_29 : decode cX0_needPlate 29 = .ok (.instanceof 107, 3) := dk_193 0 107 (dk_at dksX0_needPlate_1 5 rfl rfl)
theorem dX0_needPlate_32 : decode cX0_needPlate 32 = .ok (.ifCond .eq 7, 3) := dk_153 0 7 (dk_at dksX0_needPlate_1 8 rfl rfl)
theorem dX0_needPlate_35 : decode cX0_needPlate 35 = .ok (.iconst 0, 1) := dk_3 (dk_at dksX0_needPlate_1 11 rfl rfl)
theorem dX0_needPlate_36 : decode cX0_needPlate 36 = .ok (.goto 8, 3) := dk_167 0 8 (dk_at dksX0_needPlate_1 12 rfl rfl)
theorem dX0_needPlate_39 : decode cX0_needPlate 39 = .ok (.aload_n 0, 1) := dk_42 (dk_at dksX0_needPlate_1 15 rfl rfl)
theorem dX0_needPlate_40 : decode cX0_needPlate 40 = .ok (.iconst 3, 1) := dk_6 (dk_at dksX0_needPlate_1 16 rfl rfl)
theorem dX0_needPlate_41 : decode cX0_needPlate 41 = .ok (.invokevirtual 79, 3) := dk_182 0 79 (dk_at dksX0_needPlate_1 17 rfl rfl)
theorem dX0_needPlate_44 : decode cX0_needPlate 44 = .ok (.ireturn, 1) := dk_172 (dk_at dksX0_needPlate_1 20 rfl rfl)
abbrev cX0_offOf : ByteArray := prog_1_method_59_code
def yX0_offOf : MethodName := ⟨RX0, "offOf", "(LHammerTowers$Tower;I)I"⟩
def dkwX0_offOf_2 : List UInt8 := [184, 1, 23, 172]
abbrev dktX0_offOf_2 : List UInt8 := dkwX0_offOf_2 ++ []
def dkwX0_offOf_1 : List UInt8 := [43, 180, 0, 212, 184, 1, 44, 4, 100, 54, 4, 45, 180, 0, 177, 21, 4, 100, 45, 182, 0, 176]
abbrev dktX0_offOf_1 : List UInt8 := dkwX0_offOf_1 ++ dktX0_offOf_2
def dkwX0_offOf_0 : List UInt8 := [43, 180, 0, 188, 28, 50, 192, 0, 107, 78, 28, 154, 0, 13, 43, 180, 0, 212, 184, 1, 41, 167, 0, 10]
abbrev dktX0_offOf_0 : List UInt8 := dkwX0_offOf_0 ++ dktX0_offOf_1
theorem dksX0_offOf_0 : cX0_offOf.data.toList.drop 0 = dktX0_offOf_0 := by decide +kernel
theorem dksX0_offOf_1 : cX0_offOf.data.toList.drop 24 = dktX0_offOf_1 := dk_seg dksX0_offOf_0 24 rfl rfl
theorem dksX0_offOf_2 : cX0_offOf.data.toList.drop 46 = dktX0_offOf_2 := dk_seg dksX0_offOf_1 22 rfl rfl
theorem dX0_offOf_0 : decode cX0_offOf 0 = .ok (.aload_n 1, 1) := dk_43 (dk_at dksX0_offOf_0 0 rfl rfl)
theorem dX0_offOf_1 : decode cX0_offOf 1 = .ok (.getfield 188, 3) := dk_180 0 188 (dk_at dksX0_offOf_0 1 rfl rfl)
theorem dX0_offOf_4 : decode cX0_offOf 4 = .ok (.iload_n 2, 1) := dk_28 (dk_at dksX0_offOf_0 4 rfl rfl)
theorem dX0_offOf_5 : decode cX0_offOf 5 = .ok (.aaload, 1) := dk_50 (dk_at dksX0_offOf_0 5 rfl rfl)
theorem dX0_offOf_6 : decode cX0_offOf 6 = .ok (.checkcast 107, 3) := dk_192 0 107 (dk_at dksX0_offOf_0 6 rfl rfl)
theorem dX0_offOf_9 : decode cX0_offOf 9 = .ok (.astore_n 3, 1) := dk_78 (dk_at dksX0_offOf_0 9 rfl rfl)
theorem dX0_offOf_10 : decode cX0_offOf 10 = .ok (.iload_n 2, 1) := dk_28 (dk_at dksX0_offOf_0 10 rfl rfl)
theorem dX0_offOf_11 : decode cX0_offOf 11 = .ok (.ifCond .ne 13, 3) := dk_154 0 13 (dk_at dksX0_offOf_0 11 rfl rfl)
theorem dX0_offOf_14 : decode cX0_offOf 14 = .ok (.aload_n 1, 1) := dk_43 (dk_at dksX0_offOf_0 14 rfl rfl)
theorem dX0_offOf_15 : decode cX0_offOf 15 = .ok (.getfield 212, 3) := dk_180 0 212 (dk_at dksX0_offOf_0 15 rfl rfl)
theorem dX0_offOf_18 : decode cX0_offOf 18 = .ok (.invokestatic 297, 3) := dk_184 1 41 (dk_at dksX0_offOf_0 18 rfl rfl)
theorem dX0_offOf_21 : decode cX0_offOf 21 = .ok (.goto 10, 3) := dk_167 0 10 (dk_at dksX0_offOf_0 21 rfl rfl)
theorem dX0_offOf_24 : decode cX0_offOf 24 = .ok (.aload_n 1, 1) := dk_43 (dk_at dksX0_offOf_1 0 rfl rfl)
theorem dX0_offOf_25 : decode cX0_offOf 25 = .ok (.getfield 212, 3) := dk_180 0 212 (dk_at dksX0_offOf_1 1 rfl rfl)
theorem dX0_offOf_28 : decode cX0_offOf 28 = .ok (.invokestatic 300, 3) := dk_184 1 44 (dk_at dksX0_offOf_1 4 rfl rfl)
theorem dX0_offOf_31 : decode cX0_offOf 31 = .ok (.iconst 1, 1) := dk_4 (dk_at dksX0_offOf_1 7 rfl rfl)
theorem dX0_offOf_32 : decode cX0_offOf 32 = .ok (.isub, 1) := dk_100 (dk_at dksX0_offOf_1 8 rfl rfl)
theorem dX0_offOf_33 : decode cX0_offOf 33 = .ok (.istore 4, 2) := dk_54 4 (dk_at dksX0_offOf_1 9 rfl rfl)
theorem dX0_offOf_35 : decode cX0_offOf 35 = .ok (.aload_n 3, 1) := dk_45 (dk_at dksX0_offOf_1 11 rfl rfl)
theorem dX0_offOf_36 : decode cX0_offOf 36 = .ok (.getfield 177, 3) := dk_180 0 177 (dk_at dksX0_offOf_1 12 rfl rfl)
theorem dX0_offOf_39 : decode cX0_offOf 39 = .ok (.iload 4, 2) := dk_21 4 (dk_at dksX0_offOf_1 15 rfl rfl)
theorem dX0_offOf_41 : decode cX0_offOf 41 = .ok (.isub, 1) := dk_100 (dk_at dksX0_offOf_1 17 rfl rfl)
theorem dX0_offOf_42 : decode cX0_offOf 42 = .ok (.aload_n 3, 1) := dk_45 (dk_at dksX0_offOf_1 18 rfl rfl)
theorem dX0_offOf_43 : decode cX0_offOf 43 = .ok (.invokevirtual 176, 3) := dk_182 0 176 (dk_at dksX0_offOf_1 19 rfl rfl)
theorem dX0_offOf_46 : decode cX0_offOf 46 = .ok (.invokestatic 279, 3) := dk_184 1 23 (dk_at dksX0_offOf_2 0 rfl rfl)
theorem dX0_offOf_49 : decode cX0_offOf 49 = .ok (.ireturn, 1) := dk_172 (dk_at dksX0_offOf_2 3 rfl rfl)
abbrev cX0_nextHour : ByteArray := prog_1_method_29_code
def yX0_nextHour : MethodName := ⟨RX0, "nextHour", "(I)I"⟩
def dkwX0_nextHour_0 : List UInt8 := [26, 16, 60, 108, 16, 12, 96, 16, 12, 112, 4, 96, 172]
abbrev dktX0_nextHour_0 : List UInt8 := dkwX0_nextHour_0 ++ []
theorem dksX0_nextHour_0 : cX0_nextHour.data.toList.drop 0 = dktX0_nextHour_0 := by decide +kernel
theorem dX0_nextHour_0 : decode cX0_nextHour 0 = .ok (.iload_n 0, 1) := dk_26 (dk_at dksX0_nextHour_0 0 rfl rfl)
theorem dX0_nextHour_1 : decode cX0_nextHour 1 = .ok (.bipush 60, 2) := dk_16 60 (dk_at dksX0_nextHour_0 1 rfl rfl)
theorem dX0_nextHour_3 : decode cX0_nextHour 3 = .ok (.idiv, 1) := dk_108 (dk_at dksX0_nextHour_0 3 rfl rfl)
theorem dX0_nextHour_4 : decode cX0_nextHour 4 = .ok (.bipush 12, 2) := dk_16 12 (dk_at dksX0_nextHour_0 4 rfl rfl)
theorem dX0_nextHour_6 : decode cX0_nextHour 6 = .ok (.iadd, 1) := dk_96 (dk_at dksX0_nextHour_0 6 rfl rfl)
theorem dX0_nextHour_7 : decode cX0_nextHour 7 = .ok (.bipush 12, 2) := dk_16 12 (dk_at dksX0_nextHour_0 7 rfl rfl)
theorem dX0_nextHour_9 : decode cX0_nextHour 9 = .ok (.irem, 1) := dk_112 (dk_at dksX0_nextHour_0 9 rfl rfl)
theorem dX0_nextHour_10 : decode cX0_nextHour 10 = .ok (.iconst 1, 1) := dk_4 (dk_at dksX0_nextHour_0 10 rfl rfl)
theorem dX0_nextHour_11 : decode cX0_nextHour 11 = .ok (.iadd, 1) := dk_96 (dk_at dksX0_nextHour_0 11 rfl rfl)
theorem dX0_nextHour_12 : decode cX0_nextHour 12 = .ok (.ireturn, 1) := dk_172 (dk_at dksX0_nextHour_0 12 rfl rfl)
abbrev cX0_nextQuarter : ByteArray := prog_1_method_31_code
def yX0_nextQuarter : MethodName := ⟨RX0, "nextQuarter", "(I)I"⟩
def dkwX0_nextQuarter_0 : List UInt8 := [26, 16, 60, 112, 16, 15, 108, 4, 96, 172]
abbrev dktX0_nextQuarter_0 : List UInt8 := dkwX0_nextQuarter_0 ++ []
theorem dksX0_nextQuarter_0 : cX0_nextQuarter.data.toList.drop 0 = dktX0_nextQuarter_0 := by decide +kernel
theorem dX0_nextQuarter_0 : decode cX0_nextQuarter 0 = .ok (.iload_n 0, 1) := dk_26 (dk_at dksX0_nextQuarter_0 0 rfl rfl)
theorem dX0_nextQuarter_1 : decode cX0_nextQuarter 1 = .ok (.bipush 60, 2) := dk_16 60 (dk_at dksX0_nextQuarter_0 1 rfl rfl)
theorem dX0_nextQuarter_3 : decode cX0_nextQuarter 3 = .ok (.irem, 1) := dk_112 (dk_at dksX0_nextQuarter_0 3 rfl rfl)
theorem dX0_nextQuarter_4 : decode cX0_nextQuarter 4 = .ok (.bipush 15, 2) := dk_16 15 (dk_at dksX0_nextQuarter_0 4 rfl rfl)
theorem dX0_nextQuarter_6 : decode cX0_nextQuarter 6 = .ok (.idiv, 1) := dk_108 (dk_at dksX0_nextQuarter_0 6 rfl rfl)
theorem dX0_nextQuarter_7 : decode cX0_nextQuarter 7 = .ok (.iconst 1, 1) := dk_4 (dk_at dksX0_nextQuarter_0 7 rfl rfl)
theorem dX0_nextQuarter_8 : decode cX0_nextQuarter 8 = .ok (.iadd, 1) := dk_96 (dk_at dksX0_nextQuarter_0 8 rfl rfl)
theorem dX0_nextQuarter_9 : decode cX0_nextQuarter 9 = .ok (.ireturn, 1) := dk_172 (dk_at dksX0_nextQuarter_0 9 rfl rfl)
abbrev cX0_off : ByteArray := prog_1_method_61_code
def yX0_off : MethodName := ⟨RX0, "off", "(IZ)I"⟩
def dkwX0_off_1 : List UInt8 := [184, 0, 191, 182, 1, 50, 172]
abbrev dktX0_off_1 : List UInt8 := dkwX0_off_1 ++ []
def dkwX0_off_0 : List UInt8 := [42, 27, 28, 182, 1, 47, 62, 29, 156, 0, 7, 29, 167, 0, 17, 42, 42, 180, 0, 34, 27, 50, 28]
abbrev dktX0_off_0 : List UInt8 := dkwX0_off_0 ++ dktX0_off_1
theorem dksX0_off_0 : cX0_off.data.toList.drop 0 = dktX0_off_0 := by decide +kernel
theorem dksX0_off_1 : cX0_off.data.toList.drop 23 = dktX0_off_1 := dk_seg dksX0_off_0 23 rfl rfl
theorem dX0_off_0 : decode cX0_off 0 = .ok (.aload_n 0, 1) := dk_42 (dk_at dksX0_off_0 0 rfl rfl)
theorem dX0_off_1 : decode cX0_off 1 = .ok (.iload_n 1, 1) := dk_27 (dk_at dksX0_off_0 1 rfl rfl)
theorem dX0_off_2 : decode cX0_off 2 = .ok (.iload_n 2, 1) := dk_28 (dk_at dksX0_off_0 2 rfl rfl)
theorem dX0_off_3 : decode cX0_off 3 = .ok (.invokevirtual 303, 3) := dk_182 1 47 (dk_at dksX0_off_0 3 rfl rfl)
theorem dX0_off_6 : decode cX0_off 6 = .ok (.istore_n 3, 1) := dk_62 (dk_at dksX0_off_0 6 rfl rfl)
theorem dX0_off_7 : decode cX0_off 7 = .ok (.iload_n 3, 1) := dk_29 (dk_at dksX0_off_0 7 rfl rfl)
theorem dX0_off_8 : decode cX0_off 8 = .ok (.ifCond .ge 7, 3) := dk_156 0 7 (dk_at dksX0_off_0 8 rfl rfl)
theorem dX0_off_11 : decode cX0_off 11 = .ok (.iload_n 3, 1) := dk_29 (dk_at dksX0_off_0 11 rfl rfl)
theorem dX0_off_12 : decode cX0_off 12 = .ok (.goto 17, 3) := dk_167 0 17 (dk_at dksX0_off_0 12 rfl rfl)
theorem dX0_off_15 : decode cX0_off 15 = .ok (.aload_n 0, 1) := dk_42 (dk_at dksX0_off_0 15 rfl rfl)
theorem dX0_off_16 : decode cX0_off 16 = .ok (.aload_n 0, 1) := dk_42 (dk_at dksX0_off_0 16 rfl rfl)
theorem dX0_off_17 : decode cX0_off 17 = .ok (.getfield 34, 3) := dk_180 0 34 (dk_at dksX0_off_0 17 rfl rfl)
theorem dX0_off_20 : decode cX0_off 20 = .ok (.iload_n 1, 1) := dk_27 (dk_at dksX0_off_0 20 rfl rfl)
theorem dX0_off_21 : decode cX0_off 21 = .ok (.aaload, 1) := dk_50 (dk_at dksX0_off_0 21 rfl rfl)
theorem dX0_off_22 : decode cX0_off 22 = .ok (.iload_n 2, 1) := dk_28 (dk_at dksX0_off_0 22 rfl rfl)
theorem dX0_off_23 : decode cX0_off 23 = .ok (.invokestatic 191, 3) := dk_184 0 191 (dk_at dksX0_off_1 0 rfl rfl)
theorem dX0_off_26 : decode cX0_off 26 = .ok (.invokevirtual 306, 3) := dk_182 1 50 (dk_at dksX0_off_1 3 rfl rfl)
theorem dX0_off_29 : decode cX0_off 29 = .ok (.ireturn, 1) := dk_172 (dk_at dksX0_off_1 6 rfl rfl)
abbrev cX0_putRight : ByteArray := prog_1_method_66_code
def yX0_putRight : MethodName := ⟨RX0, "putRight", "(II)I"⟩
def dkwX0_putRight_8 : List UInt8 := [17, 3, 232, 112, 21, 6, 17, 3, 232, 108, 182, 1, 71, 172]
abbrev dktX0_putRight_8 : List UInt8 := dkwX0_putRight_8 ++ []
def dkwX0_putRight_7 : List UInt8 := [180, 1, 68, 4, 96, 181, 1, 68, 21, 5, 21, 7, 184, 1, 54, 54, 5, 167, 255, 187, 42, 21, 6]
abbrev dktX0_putRight_7 : List UInt8 := dkwX0_putRight_7 ++ dktX0_putRight_8
def dkwX0_putRight_6 : List UInt8 := [159, 0, 9, 132, 7, 1, 167, 255, 233, 42, 180, 0, 41, 42, 180, 1, 68, 21, 7, 79, 42, 89]
abbrev dktX0_putRight_6 : List UInt8 := dkwX0_putRight_6 ++ dktX0_putRight_7
def dkwX0_putRight_5 : List UInt8 := [46, 158, 0, 65, 3, 54, 7, 42, 25, 4, 21, 5, 21, 7, 182, 1, 61, 42, 180, 0, 38, 21, 5, 46]
abbrev dktX0_putRight_5 : List UInt8 := dkwX0_putRight_5 ++ dktX0_putRight_6
def dkwX0_putRight_4 : List UInt8 := [4, 100, 54, 5, 42, 180, 0, 38, 21, 5, 46, 54, 6, 42, 3, 181, 1, 68, 42, 180, 0, 38, 21, 5]
abbrev dktX0_putRight_4 : List UInt8 := dkwX0_putRight_4 ++ dktX0_putRight_5
def dkwX0_putRight_3 : List UInt8 := [182, 1, 64, 16, 12, 25, 4, 180, 0, 177, 104, 42, 180, 0, 34, 27, 50, 180, 0, 212, 184, 1, 41, 96]
abbrev dktX0_putRight_3 : List UInt8 := dkwX0_putRight_3 ++ dktX0_putRight_4
def dkwX0_putRight_2 : List UInt8 := [58, 4, 25, 4, 182, 0, 176, 16, 12, 159, 0, 9, 42, 6, 182, 0, 79, 172, 42, 25, 4, 28]
abbrev dktX0_putRight_2 : List UInt8 := dkwX0_putRight_2 ++ dktX0_putRight_3
def dkwX0_putRight_1 : List UInt8 := [182, 1, 47, 62, 29, 156, 0, 5, 29, 172, 42, 180, 0, 34, 27, 50, 180, 0, 188, 3, 50, 192, 0, 107]
abbrev dktX0_putRight_1 : List UInt8 := dkwX0_putRight_1 ++ dktX0_putRight_2
def dkwX0_putRight_0 : List UInt8 := [27, 184, 0, 181, 153, 0, 13, 28, 4, 16, 12, 184, 0, 69, 154, 0, 5, 2, 172, 42, 27, 3]
abbrev dktX0_putRight_0 : List UInt8 := dkwX0_putRight_0 ++ dktX0_putRight_1
theorem dksX0_putRight_0 : cX0_putRight.data.toList.drop 0 = dktX0_putRight_0 := by decide +kernel
theorem dksX0_putRight_1 : cX0_putRight.data.toList.drop 22 = dktX0_putRight_1 := dk_seg dksX0_putRight_0 22 rfl rfl
theorem dksX0_putRight_2 : cX0_putRight.data.toList.drop 46 = dktX0_putRight_2 := dk_seg dksX0_putRight_1 24 rfl rfl
theorem dksX0_putRight_3 : cX0_putRight.data.toList.drop 68 = dktX0_putRight_3 := dk_seg dksX0_putRight_2 22 rfl rfl
theorem dksX0_putRight_4 : cX0_putRight.data.toList.drop 92 = dktX0_putRight_4 := dk_seg dksX0_putRight_3 24 rfl rfl
theorem dksX0_putRight_5 : cX0_putRight.data.toList.drop 116 = dktX0_putRight_5 := dk_seg dksX0_putRight_4 24 rfl rfl
theorem dksX0_putRight_6 : cX0_putRight.data.toList.drop 140 = dktX0_putRight_6 := dk_seg dksX0_putRight_5 24 rfl rfl
theorem dksX0_putRight_7 : cX0_putRight.data.toList.drop 162 = dktX0_putRight_7 := dk_seg dksX0_putRight_6 22 rfl rfl
theorem dksX0_putRight_8 : cX0_putRight.data.toList.drop 185 = dktX0_putRight_8 := dk_seg dksX0_putRight_7 23 rfl rfl
theorem dX0_putRight_0 : decode cX0_putRight 0 = .ok (.iload_n 1, 1) := dk_27 (dk_at dksX0_putRight_0 0 rfl rfl)
theorem dX0_putRight_1 : decode cX0_putRight 1 = .ok (.invokestatic 181, 3) := dk_184 0 181 (dk_at dksX0_putRight_0 1 rfl rfl)
theorem dX0_putRight_4 : decode cX0_putRight 4 = .ok (.ifCond .eq 13, 3) := dk_153 0 13 (dk_at dksX0_putRight_0 4 rfl rfl)
theorem dX0_putRight_7 : decode cX0_putRight 7 = .ok (.iload_n 2, 1) := dk_28 (dk_at dksX0_putRight_0 7 rfl rfl)
theorem dX0_putRight_8 : decode cX0_putRight 8 = .ok (.iconst 1, 1) := dk_4 (dk_at dksX0_putRight_0 8 rfl rfl)
theorem dX0_putRight_9 : decode cX0_putRight 9 = .ok (.bipush 12, 2) := dk_16 12 (dk_at dksX0_putRight_0 9 rfl rfl)
theorem dX0_putRight_11 : decode cX0_putRight 11 = .ok (.invokestatic 69, 3) := dk_184 0 69 (dk_at dksX0_putRight_0 11 rfl rfl)
theorem dX0_putRight_14 : decode cX0_putRight 14 = .ok (.ifCond .ne 5, 3) := dk_154 0 5 (dk_at dksX0_putRight_0 14 rfl rfl)
theorem dX0_putRight_17 : decode cX0_putRight 17 = .ok (.iconst (-1), 1) := dk_2 (dk_at dksX0_putRight_0 17 rfl rfl)
theorem dX0_putRight_18 : decode cX0_putRight 18 = .ok (.ireturn, 1) := dk_172 (dk_at dksX0_putRight_0 18 rfl rfl)
theorem dX0_putRight_19 : decode cX0_putRight 19 = .ok (.aload_n 0, 1) := dk_42 (dk_at dksX0_putRight_0 19 rfl rfl)
theorem dX0_putRight_20 : decode cX0_putRight 20 = .ok (.iload_n 1, 1) := dk_27 (dk_at dksX0_putRight_0 20 rfl rfl)
theorem dX0_putRight_21 : decode cX0_putRight 21 = .ok (.iconst 0, 1) := dk_3 (dk_at dksX0_putRight_0 21 rfl rfl)
theorem dX0_putRight_22 : decode cX0_putRight 22 = .ok (.invokevirtual 303, 3) := dk_182 1 47 (dk_at dksX0_putRight_1 0 rfl rfl)
theorem dX0_putRight_25 : decode cX0_putRight 25 = .ok (.istore_n 3, 1) := dk_62 (dk_at dksX0_putRight_1 3 rfl rfl)
theorem dX0_putRight_26 : decode cX0_putRight 26 = .ok (.iload_n 3, 1) := dk_29 (dk_at dksX0_putRight_1 4 rfl rfl)
theorem dX0_putRight_27 : decode cX0_putRight 27 = .ok (.ifCond .ge 5, 3) := dk_156 0 5 (dk_at dksX0_putRight_1 5 rfl rfl)
theorem dX0_putRight_30 : decode cX0_putRight 30 = .ok (.iload_n 3, 1) := dk_29 (dk_at dksX0_putRight_1 8 rfl rfl)
theorem dX0_putRight_31 : decode cX0_putRight 31 = .ok (.ireturn, 1) := dk_172 (dk_at dksX0_putRight_1 9 rfl rfl)
theorem dX0_putRight_32 : decode cX0_putRight 32 = .ok (.aload_n 0, 1) := dk_42 (dk_at dksX0_putRight_1 10 rfl rfl)
theorem dX0_putRight_33 : decode cX0_putRight 33 = .ok (.getfield 34, 3) := dk_180 0 34 (dk_at dksX0_putRight_1 11 rfl rfl)
theorem dX0_putRight_36 : decode cX0_putRight 36 = .ok (.iload_n 1, 1) := dk_27 (dk_at dksX0_putRight_1 14 rfl rfl)
theorem dX0_putRight_37 : decode cX0_putRight 37 = .ok (.aaload, 1) := dk_50 (dk_at dksX0_putRight_1 15 rfl rfl)
theorem dX0_putRight_38 : decode cX0_putRight 38 = .ok (.getfield 188, 3) := dk_180 0 188 (dk_at dksX0_putRight_1 16 rfl rfl)
theorem dX0_putRight_41 : decode cX0_putRight 41 = .ok (.iconst 0, 1) := dk_3 (dk_at dksX0_putRight_1 19 rfl rfl)
theorem dX0_putRight_42 : decode cX0_putRight 42 = .ok (.aaload, 1) := dk_50 (dk_at dksX0_putRight_1 20 rfl rfl)
theorem dX0_putRight_43 : decode cX0_putRight 43 = .ok (.checkcast 107, 3) := dk_192 0 107 (dk_at dksX0_putRight_1 21 rfl rfl)
theorem dX0_putRight_46 : decode cX0_putRight 46 = .ok (.astore 4, 2) := dk_58 4 (dk_at dksX0_putRight_2 0 rfl rfl)
theorem dX0_putRight_48 : decode cX0_putRight 48 = .ok (.aload 4, 2) := dk_25 4 (dk_at dksX0_putRight_2 2 rfl rfl)
theorem dX0_putRight_50 : decode cX0_putRight 50 = .ok (.invokevirtual 176, 3) := dk_182 0 176 (dk_at dksX0_putRight_2 4 rfl rfl)
theorem dX0_putRight_53 : decode cX0_putRight 53 = .ok (.bipush 12, 2) := dk_16 12 (dk_at dksX0_putRight_2 7 rfl rfl)
theorem dX0_putRight_55 : decode cX0_putRight 55 = .ok (.if_icmp .eq 9, 3) := dk_159 0 9 (dk_at dksX0_putRight_2 9 rfl rfl)
theorem dX0_putRight_58 : decode cX0_putRight 58 = .ok (.aload_n 0, 1) := dk_42 (dk_at dksX0_putRight_2 12 rfl rfl)
theorem dX0_putRight_59 : decode cX0_putRight 59 = .ok (.iconst 3, 1) := dk_6 (dk_at dksX0_putRight_2 13 rfl rfl)
theorem dX0_putRight_60 : decode cX0_putRight 60 = .ok (.invokevirtual 79, 3) := dk_182 0 79 (dk_at dksX0_putRight_2 14 rfl rfl)
theorem dX0_putRight_63 : decode cX0_putRight 63 = .ok (.ireturn, 1) := dk_172 (dk_at dksX0_putRight_2 17 rfl rfl)
theorem dX0_putRight_64 : decode cX0_putRight 64 = .ok (.aload_n 0, 1) := dk_42 (dk_at dksX0_putRight_2 18 rfl rfl)
theorem dX0_putRight_65 : decode cX0_putRight 65 = .ok (.aload 4, 2) := dk_25 4 (dk_at dksX0_putRight_2 19 rfl rfl)
theorem dX0_putRight_67 : decode cX0_putRight 67 = .ok (.iload_n 2, 1) := dk_28 (dk_at dksX0_putRight_2 21 rfl rfl)
theorem dX0_putRight_68 : decode cX0_putRight 68 = .ok (.invokevirtual 320, 3) := dk_182 1 64 (dk_at dksX0_putRight_3 0 rfl rfl)
theorem dX0_putRight_71 : decode cX0_putRight 71 = .ok (.bipush 12, 2) := dk_16 12 (dk_at dksX0_putRight_3 3 rfl rfl)
theorem dX0_putRight_73 : decode cX0_putRight 73 = .ok (.aload 4, 2) := dk_25 4 (dk_at dksX0_putRight_3 5 rfl rfl)
theorem dX0_putRight_75 : decode cX0_putRight 75 = .ok (.getfield 177, 3) := dk_180 0 177 (dk_at dksX0_putRight_3 7 rfl rfl)
theorem dX0_putRight_78 : decode cX0_putRight 78 = .ok (.imul, 1) := dk_104 (dk_at dksX0_putRight_3 10 rfl rfl)
theorem dX0_putRight_79 : decode cX0_putRight 79 = .ok (.aload_n 0, 1) := dk_42 (dk_at dksX0_putRight_3 11 rfl rfl)
theorem dX0_putRight_80 : decode cX0_putRight 80 = .ok (.getfield 34, 3) := dk_180 0 34 (dk_at dksX0_putRight_3 12 rfl rfl)
theorem dX0_putRight_83 : decode cX0_putRight 83 = .ok (.iload_n 1, 1) := dk_27 (dk_at dksX0_putRight_3 15 rfl rfl)
theorem dX0_putRight_84 : decode cX0_putRight 84 = .ok (.aaload, 1) := dk_50 (dk_at dksX0_putRight_3 16 rfl rfl)
theorem dX0_putRight_85 : decode cX0_putRight 85 = .ok (.getfield 212, 3) := dk_180 0 212 (dk_at dksX0_putRight_3 17 rfl rfl)
theorem dX0_putRight_88 : decode cX0_putRight 88 = .ok (.invokestatic 297, 3) := dk_184 1 41 (dk_at dksX0_putRight_3 20 rfl rfl)
theorem dX0_putRight_91 : decode cX0_putRight 91 = .ok (.iadd, 1) := dk_96 (dk_at dksX0_putRight_3 23 rfl rfl)
theorem dX0_putRight_92 : decode cX0_putRight 92 = .ok (.iconst 1, 1) := dk_4 (dk_at dksX0_putRight_4 0 rfl rfl)
theorem dX0_putRight_93 : decode cX0_putRight 93 = .ok (.isub, 1) := dk_100 (dk_at dksX0_putRight_4 1 rfl rfl)
theorem dX0_putRight_94 : decode cX0_putRight 94 = .ok (.istore 5, 2) := dk_54 5 (dk_at dksX0_putRight_4 2 rfl rfl)
theorem dX0_putRight_96 : decode cX0_putRight 96 = .ok (.aload_n 0, 1) := dk_42 (dk_at dksX0_putRight_4 4 rfl rfl)
theorem dX0_putRight_97 : decode cX0_putRight 97 = .ok (.getfield 38, 3) := dk_180 0 38 (dk_at dksX0_putRight_4 5 rfl rfl)
theorem dX0_putRight_100 : decode cX0_putRight 100 = .ok (.iload 5, 2) := dk_21 5 (dk_at dksX0_putRight_4 8 rfl rfl)
theorem dX0_putRight_102 : decode cX0_putRight 102 = .ok (.iaload, 1) := dk_46 (dk_at dksX0_putRight_4 10 rfl rfl)
theorem dX0_putRight_103 : decode cX0_putRight 103 = .ok (.istore 6, 2) := dk_54 6 (dk_at dksX0_putRight_4 11 rfl rfl)
theorem dX0_putRight_105 : decode cX0_putRight 105 = .ok (.aload_n 0, 1) := dk_42 (dk_at dksX0_putRight_4 13 rfl rfl)
theorem dX0_putRight_106 : decode cX0_putRight 106 = .ok (.iconst 0, 1) := dk_3 (dk_at dksX0_putRight_4 14 rfl rfl)
theorem dX0_putRight_107 : decode cX0_putRight 107 = .ok (.putfield 324, 3) := dk_181 1 68 (dk_at dksX0_putRight_4 15 rfl rfl)
theorem dX0_putRight_110 : decode cX0_putRight 110 = .ok (.aload_n 0, 1) := dk_42 (dk_at dksX0_putRight_4 18 rfl rfl)
theorem dX0_putRight_111 : decode cX0_putRight 111 = .ok (.getfield 38, 3) := dk_180 0 38 (dk_at dksX0_putRight_4 19 rfl rfl)
theorem dX0_putRight_114 : decode cX0_putRight 114 = .ok (.iload 5, 2) := dk_21 5 (dk_at dksX0_putRight_4 22 rfl rfl)
theorem dX0_putRight_116 : decode cX0_putRight 116 = .ok (.iaload, 1) := dk_46 (dk_at dksX0_putRight_5 0 rfl rfl)
theorem dX0_putRight_117 : decode cX0_putRight 117 = .ok (.ifCond .le 65, 3) := dk_158 0 65 (dk_at dksX0_putRight_5 1 rfl rfl)
theorem dX0_putRight_120 : decode cX0_putRight 120 = .ok (.iconst 0, 1) := dk_3 (dk_at dksX0_putRight_5 4 rfl rfl)
theorem dX0_putRight_121 : decode cX0_putRight 121 = .ok (.istore 7, 2) := dk_54 7 (dk_at dksX0_putRight_5 5 rfl rfl)
theorem dX0_putRight_123 : decode cX0_putRight 123 = .ok (.aload_n 0, 1) := dk_42 (dk_at dksX0_putRight_5 7 rfl rfl)
theorem dX0_putRight_124 : decode cX0_putRight 124 = .ok (.aload 4, 2) := dk_25 4 (dk_at dksX0_putRight_5 8 rfl rfl)
theorem dX0_putRight_126 : decode cX0_putRight 126 = .ok (.iload 5, 2) := dk_21 5 (dk_at dksX0_putRight_5 10 rfl rfl)
theorem dX0_putRight_128 : decode cX0_putRight 128 = .ok (.iload 7, 2) := dk_21 7 (dk_at dksX0_putRight_5 12 rfl rfl)
theorem dX0_putRight_130 : decode cX0_putRight 130 = .ok (.invokevirtual 317, 3) := dk_182 1 61 (dk_at dksX0_putRight_5 14 rfl rfl)
theorem dX0_putRight_133 : decode cX0_putRight 133 = .ok (.aload_n 0, 1) := dk_42 (dk_at dksX0_putRight_5 17 rfl rfl)
theorem dX0_putRight_134 : decode cX0_putRight 134 = .ok (.getfield 38, 3) := dk_180 0 38 (dk_at dksX0_putRight_5 18 rfl rfl)
theorem dX0_putRight_137 : decode cX0_putRight 137 = .ok (.iload 5, 2) := dk_21 5 (dk_at dksX0_putRight_5 21 rfl rfl)
theorem dX0_putRight_139 : decode cX0_putRight 139 = .ok (.iaload, 1) := dk_46 (dk_at dksX0_putRight_5 23 rfl rfl)
theorem dX0_putRight_140 : decode cX0_putRight 140 = .ok (.if_icmp .eq 9, 3) := dk_159 0 9 (dk_at dksX0_putRight_6 0 rfl rfl)
theorem dX0_putRight_143 : decode cX0_putRight 143 = .ok (.iinc 7 1, 3) := dk_132 7 1 (dk_at dksX0_putRight_6 3 rfl rfl)
theorem dX0_putRight_146 : decode cX0_putRight 146 = .ok (.goto (-23), 3) := dk_167 255 233 (dk_at dksX0_putRight_6 6 rfl rfl)
theorem dX0_putRight_149 : decode cX0_putRight 149 = .ok (.aload_n 0, 1) := dk_42 (dk_at dksX0_putRight_6 9 rfl rfl)
theorem dX0_putRight_150 : decode cX0_putRight 150 = .ok (.getfield 41, 3) := dk_180 0 41 (dk_at dksX0_putRight_6 10 rfl rfl)
theorem dX0_putRight_153 : decode cX0_putRight 153 = .ok (.aload_n 0, 1) := dk_42 (dk_at dksX0_putRight_6 13 rfl rfl)
theorem dX0_putRight_154 : decode cX0_putRight 154 = .ok (.getfield 324, 3) := dk_180 1 68 (dk_at dksX0_putRight_6 14 rfl rfl)
theorem dX0_putRight_157 : decode cX0_putRight 157 = .ok (.iload 7, 2) := dk_21 7 (dk_at dksX0_putRight_6 17 rfl rfl)
theorem dX0_putRight_159 : decode cX0_putRight 159 = .ok (.iastore, 1) := dk_79 (dk_at dksX0_putRight_6 19 rfl rfl)
theorem dX0_putRight_160 : decode cX0_putRight 160 = .ok (.aload_n 0, 1) := dk_42 (dk_at dksX0_putRight_6 20 rfl rfl)
theorem dX0_putRight_161 : decode cX0_putRight 161 = .ok (.dup, 1) := dk_89 (dk_at dksX0_putRight_6 21 rfl rfl)
theorem dX0_putRight_162 : decode cX0_putRight 162 = .ok (.getfield 324, 3) := dk_180 1 68 (dk_at dksX0_putRight_7 0 rfl rfl)
theorem dX0_putRight_165 : decode cX0_putRight 165 = .ok (.iconst 1, 1) := dk_4 (dk_at dksX0_putRight_7 3 rfl rfl)
theorem dX0_putRight_166 : decode cX0_putRight 166 = .ok (.iadd, 1) := dk_96 (dk_at dksX0_putRight_7 4 rfl rfl)
theorem dX0_putRight_167 : decode cX0_putRight 167 = .ok (.putfield 324, 3) := dk_181 1 68 (dk_at dksX0_putRight_7 5 rfl rfl)
theorem dX0_putRight_170 : decode cX0_putRight 170 = .ok (.iload 5, 2) := dk_21 5 (dk_at dksX0_putRight_7 8 rfl rfl)
theorem dX0_putRight_172 : decode cX0_putRight 172 = .ok (.iload 7, 2) := dk_21 7 (dk_at dksX0_putRight_7 10 rfl rfl)
theorem dX0_putRight_174 : decode cX0_putRight 174 = .ok (.invokestatic 310, 3) := dk_184 1 54 (dk_at dksX0_putRight_7 12 rfl rfl)
theorem dX0_putRight_177 : decode cX0_putRight 177 = .ok (.istore 5, 2) := dk_54 5 (dk_at dksX0_putRight_7 15 rfl rfl)
theorem dX0_putRight_179 : decode cX0_putRight 179 = .ok (.goto (-69), 3) := dk_167 255 187 (dk_at dksX0_putRight_7 17 rfl rfl)
theorem dX0_putRight_182 : decode cX0_putRight 182 = .ok (.aload_n 0, 1) := dk_42 (dk_at dksX0_putRight_7 20 rfl rfl)
theorem dX0_putRight_183 : decode cX0_putRight 183 = .ok (.iload 6, 2) := dk_21 6 (dk_at dksX0_putRight_7 21 rfl rfl)
theorem dX0_putRight_185 : decode cX0_putRight 185 = .ok (.sipush 1000, 3) := dk_17 3 232 (dk_at dksX0_putRight_8 0 rfl rfl)
theorem dX0_putRight_188 : decode cX0_putRight 188 = .ok (.irem, 1) := dk_112 (dk_at dksX0_putRight_8 3 rfl rfl)
theorem dX0_putRight_189 : decode cX0_putRight 189 = .ok (.iload 6, 2) := dk_21 6 (dk_at dksX0_putRight_8 4 rfl rfl)
theorem dX0_putRight_191 : decode cX0_putRight 191 = .ok (.sipush 1000, 3) := dk_17 3 232 (dk_at dksX0_putRight_8 6 rfl rfl)
theorem dX0_putRight_194 : decode cX0_putRight 194 = .ok (.idiv, 1) := dk_108 (dk_at dksX0_putRight_8 9 rfl rfl)
theorem dX0_putRight_195 : decode cX0_putRight 195 = .ok (.invokevirtual 327, 3) := dk_182 1 71 (dk_at dksX0_putRight_8 10 rfl rfl)
theorem dX0_putRight_198 : decode cX0_putRight 198 = .ok (.ireturn, 1) := dk_172 (dk_at dksX0_putRight_8 13 rfl rfl)
abbrev cX0_layCosts : ByteArray := prog_1_method_65_code
def yX0_layCosts : MethodName := ⟨RX0, "layCosts", "(LHammerTowers$Plate;I)V"⟩
def dkwX0_layCosts_5 : List UInt8 := [167, 255, 198, 132, 4, 1, 167, 255, 181, 167, 255, 169, 177]
abbrev dktX0_layCosts_5 : List UInt8 := dkwX0_layCosts_5 ++ []
def dkwX0_layCosts_4 : List UInt8 := [180, 0, 38, 21, 4, 46, 162, 0, 14, 42, 180, 0, 38, 21, 4, 21, 6, 79, 4, 62, 132, 5, 1]
abbrev dktX0_layCosts_4 : List UInt8 := dkwX0_layCosts_4 ++ dktX0_layCosts_5
def dkwX0_layCosts_3 : List UInt8 := [182, 1, 61, 54, 6, 21, 6, 155, 0, 36, 42, 180, 0, 38, 21, 4, 46, 155, 0, 15, 21, 6, 42]
abbrev dktX0_layCosts_3 : List UInt8 := dkwX0_layCosts_3 ++ dktX0_layCosts_4
def dkwX0_layCosts_2 : List UInt8 := [21, 4, 17, 0, 144, 162, 0, 73, 3, 54, 5, 21, 5, 6, 162, 0, 58, 42, 43, 21, 4, 21, 5]
abbrev dktX0_layCosts_2 : List UInt8 := dkwX0_layCosts_2 ++ dktX0_layCosts_3
def dkwX0_layCosts_1 : List UInt8 := [3, 167, 0, 5, 16, 247, 79, 132, 3, 1, 167, 255, 224, 4, 62, 29, 153, 0, 89, 3, 62, 3, 54, 4]
abbrev dktX0_layCosts_1 : List UInt8 := dkwX0_layCosts_1 ++ dktX0_layCosts_2
def dkwX0_layCosts_0 : List UInt8 := [3, 62, 29, 17, 0, 144, 162, 0, 31, 42, 180, 0, 38, 29, 29, 16, 13, 28, 4, 100, 104, 160, 0, 7]
abbrev dktX0_layCosts_0 : List UInt8 := dkwX0_layCosts_0 ++ dktX0_layCosts_1
theorem dksX0_layCosts_0 : cX0_layCosts.data.toList.drop 0 = dktX0_layCosts_0 := by decide +kernel
theorem dksX0_layCosts_1 : cX0_layCosts.data.toList.drop 24 = dktX0_layCosts_1 := dk_seg dksX0_layCosts_0 24 rfl rfl
theorem dksX0_layCosts_2 : cX0_layCosts.data.toList.drop 48 = dktX0_layCosts_2 := dk_seg dksX0_layCosts_1 24 rfl rfl
theorem dksX0_layCosts_3 : cX0_layCosts.data.toList.drop 71 = dktX0_layCosts_3 := dk_seg dksX0_layCosts_2 23 rfl rfl
theorem dksX0_layCosts_4 : cX0_layCosts.data.toList.drop 94 = dktX0_layCosts_4 := dk_seg dksX0_layCosts_3 23 rfl rfl
theorem dksX0_layCosts_5 : cX0_layCosts.data.toList.drop 117 = dktX0_layCosts_5 := dk_seg dksX0_layCosts_4 23 rfl rfl
theorem dX0_layCosts_0 : decode cX0_layCosts 0 = .ok (.iconst 0, 1) := dk_3 (dk_at dksX0_layCosts_0 0 rfl rfl)
theorem dX0_layCosts_1 : decode cX0_layCosts 1 = .ok (.istore_n 3, 1) := dk_62 (dk_at dksX0_layCosts_0 1 rfl rfl)
theorem dX0_layCosts_2 : decode cX0_layCosts 2 = .ok (.iload_n 3, 1) := dk_29 (dk_at dksX0_layCosts_0 2 rfl rfl)
theorem dX0_layCosts_3 : decode cX0_layCosts 3 = .ok (.sipush 144, 3) := dk_17 0 144 (dk_at dksX0_layCosts_0 3 rfl rfl)
theorem dX0_layCosts_6 : decode cX0_layCosts 6 = .ok (.if_icmp .ge 31, 3) := dk_162 0 31 (dk_at dksX0_layCosts_0 6 rfl rfl)
theorem dX0_layCosts_9 : decode cX0_layCosts 9 = .ok (.aload_n 0, 1) := dk_42 (dk_at dksX0_layCosts_0 9 rfl rfl)
theorem dX0_layCosts_10 : decode cX0_layCosts 10 = .ok (.getfield 38, 3) := dk_180 0 38 (dk_at dksX0_layCosts_0 10 rfl rfl)
theorem dX0_layCosts_13 : decode cX0_layCosts 13 = .ok (.iload_n 3, 1) := dk_29 (dk_at dksX0_layCosts_0 13 rfl rfl)
theorem dX0_layCosts_14 : decode cX0_layCosts 14 = .ok (.iload_n 3, 1) := dk_29 (dk_at dksX0_layCosts_0 14 rfl rfl)
theorem dX0_layCosts_15 : decode cX0_layCosts 15 = .ok (.bipush 13, 2) := dk_16 13 (dk_at dksX0_layCosts_0 15 rfl rfl)
theorem dX0_layCosts_17 : decode cX0_layCosts 17 = .ok (.iload_n 2, 1) := dk_28 (dk_at dksX0_layCosts_0 17 rfl rfl)
theorem dX0_layCosts_18 : decode cX0_layCosts 18 = .ok (.iconst 1, 1) := dk_4 (dk_at dksX0_layCosts_0 18 rfl rfl)
theorem dX0_layCosts_19 : decode cX0_layCosts 19 = .ok (.isub, 1) := dk_100 (dk_at dksX0_layCosts_0 19 rfl rfl)
theorem dX0_layCosts_20 : decode cX0_layCosts 20 = .ok (.imul, 1) := dk_104 (dk_at dksX0_layCosts_0 20 rfl rfl)
theorem dX0_layCosts_21 : decode cX0_layCosts 21 = .ok (.if_icmp .ne 7, 3) := dk_160 0 7 (dk_at dksX0_layCosts_0 21 rfl rfl)
theorem dX0_layCosts_24 : decode cX0_layCosts 24 = .ok (.iconst 0, 1) := dk_3 (dk_at dksX0_layCosts_1 0 rfl rfl)
theorem dX0_layCosts_25 : decode cX0_layCosts 25 = .ok (.goto 5, 3) := dk_167 0 5 (dk_at dksX0_layCosts_1 1 rfl rfl)
theorem dX0_layCosts_28 : decode cX0_layCosts 28 = .ok (.bipush (-9), 2) := dk_16 247 (dk_at dksX0_layCosts_1 4 rfl rfl)
theorem dX0_layCosts_30 : decode cX0_layCosts 30 = .ok (.iastore, 1) := dk_79 (dk_at dksX0_layCosts_1 6 rfl rfl)
theorem dX0_layCosts_31 : decode cX0_layCosts 31 = .ok (.iinc 3 1, 3) := dk_132 3 1 (dk_at dksX0_layCosts_1 7 rfl rfl)
theorem dX0_layCosts_34 : decode cX0_layCosts 34 = .ok (.goto (-32), 3) := dk_167 255 224 (dk_at dksX0_layCosts_1 10 rfl rfl)
theorem dX0_layCosts_37 : decode cX0_layCosts 37 = .ok (.iconst 1, 1) := dk_4 (dk_at dksX0_layCosts_1 13 rfl rfl)
theorem dX0_layCosts_38 : decode cX0_layCosts 38 = .ok (.istore_n 3, 1) := dk_62 (dk_at dksX0_layCosts_1 14 rfl rfl)
theorem dX0_layCosts_39 : decode cX0_layCosts 39 = .ok (.iload_n 3, 1) := dk_29 (dk_at dksX0_layCosts_1 15 rfl rfl)
theorem dX0_layCosts_40 : decode cX0_layCosts 40 = .ok (.ifCond .eq 89, 3) := dk_153 0 89 (dk_at dksX0_layCosts_1 16 rfl rfl)
theorem dX0_layCosts_43 : decode cX0_layCosts 43 = .ok (.iconst 0, 1) := dk_3 (dk_at dksX0_layCosts_1 19 rfl rfl)
theorem dX0_layCosts_44 : decode cX0_layCosts 44 = .ok (.istore_n 3, 1) := dk_62 (dk_at dksX0_layCosts_1 20 rfl rfl)
theorem dX0_layCosts_45 : decode cX0_layCosts 45 = .ok (.iconst 0, 1) := dk_3 (dk_at dksX0_layCosts_1 21 rfl rfl)
theorem dX0_layCosts_46 : decode cX0_layCosts 46 = .ok (.istore 4, 2) := dk_54 4 (dk_at dksX0_layCosts_1 22 rfl rfl)
theorem dX0_layCosts_48 : decode cX0_layCosts 48 = .ok (.iload 4, 2) := dk_21 4 (dk_at dksX0_layCosts_2 0 rfl rfl)
theorem dX0_layCosts_50 : decode cX0_layCosts 50 = .ok (.sipush 144, 3) := dk_17 0 144 (dk_at dksX0_layCosts_2 2 rfl rfl)
theorem dX0_layCosts_53 : decode cX0_layCosts 53 = .ok (.if_icmp .ge 73, 3) := dk_162 0 73 (dk_at dksX0_layCosts_2 5 rfl rfl)
theorem dX0_layCosts_56 : decode cX0_layCosts 56 = .ok (.iconst 0, 1) := dk_3 (dk_at dksX0_layCosts_2 8 rfl rfl)
theorem dX0_layCosts_57 : decode cX0_layCosts 57 = .ok (.istore 5, 2) := dk_54 5 (dk_at dksX0_layCosts_2 9 rfl rfl)
theorem dX0_layCosts_59 : decode cX0_layCosts 59 = .ok (.iload 5, 2) := dk_21 5 (dk_at dksX0_layCosts_2 11 rfl rfl)
theorem dX0_layCosts_61 : decode cX0_layCosts 61 = .ok (.iconst 3, 1) := dk_6 (dk_at dksX0_layCosts_2 13 rfl rfl)
theorem dX0_layCosts_62 : decode cX0_layCosts 62 = .ok (.if_icmp .ge 58, 3) := dk_162 0 58 (dk_at dksX0_layCosts_2 14 rfl rfl)
theorem dX0_layCosts_65 : decode cX0_layCosts 65 = .ok (.aload_n 0, 1) := dk_42 (dk_at dksX0_layCosts_2 17 rfl rfl)
theorem dX0_layCosts_66 : decode cX0_layCosts 66 = .ok (.aload_n 1, 1) := dk_43 (dk_at dksX0_layCosts_2 18 rfl rfl)
theorem dX0_layCosts_67 : decode cX0_layCosts 67 = .ok (.iload 4, 2) := dk_21 4 (dk_at dksX0_layCosts_2 19 rfl rfl)
theorem dX0_layCosts_69 : decode cX0_layCosts 69 = .ok (.iload 5, 2) := dk_21 5 (dk_at dksX0_layCosts_2 21 rfl rfl)
theorem dX0_layCosts_71 : decode cX0_layCosts 71 = .ok (.invokevirtual 317, 3) := dk_182 1 61 (dk_at dksX0_layCosts_3 0 rfl rfl)
theorem dX0_layCosts_74 : decode cX0_layCosts 74 = .ok (.istore 6, 2) := dk_54 6 (dk_at dksX0_layCosts_3 3 rfl rfl)
theorem dX0_layCosts_76 : decode cX0_layCosts 76 = .ok (.iload 6, 2) := dk_21 6 (dk_at dksX0_layCosts_3 5 rfl rfl)
theorem dX0_layCosts_78 : decode cX0_layCosts 78 = .ok (.ifCond .lt 36, 3) := dk_155 0 36 (dk_at dksX0_layCosts_3 7 rfl rfl)
theorem dX0_layCosts_81 : decode cX0_layCosts 81 = .ok (.aload_n 0, 1) := dk_42 (dk_at dksX0_layCosts_3 10 rfl rfl)
theorem dX0_layCosts_82 : decode cX0_layCosts 82 = .ok (.getfield 38, 3) := dk_180 0 38 (dk_at dksX0_layCosts_3 11 rfl rfl)
theorem dX0_layCosts_85 : decode cX0_layCosts 85 = .ok (.iload 4, 2) := dk_21 4 (dk_at dksX0_layCosts_3 14 rfl rfl)
theorem dX0_layCosts_87 : decode cX0_layCosts 87 = .ok (.iaload, 1) := dk_46 (dk_at dksX0_layCosts_3 16 rfl rfl)
theorem dX0_layCosts_88 : decode cX0_layCosts 88 = .ok (.ifCond .lt 15, 3) := dk_155 0 15 (dk_at dksX0_layCosts_3 17 rfl rfl)
theorem dX0_layCosts_91 : decode cX0_layCosts 91 = .ok (.iload 6, 2) := dk_21 6 (dk_at dksX0_layCosts_3 20 rfl rfl)
theorem dX0_layCosts_93 : decode cX0_layCosts 93 = .ok (.aload_n 0, 1) := dk_42 (dk_at dksX0_layCosts_3 22 rfl rfl)
theorem dX0_layCosts_94 : decode cX0_layCosts 94 = .ok (.getfield 38, 3) := dk_180 0 38 (dk_at dksX0_layCosts_4 0 rfl rfl)
theorem dX0_layCosts_97 : decode cX0_layCosts 97 = .ok (.iload 4, 2) := dk_21 4 (dk_at dksX0_layCosts_4 3 rfl rfl)
theorem dX0_layCosts_99 : decode cX0_layCosts 99 = .ok (.iaload, 1) := dk_46 (dk_at dksX0_layCosts_4 5 rfl rfl)
theorem dX0_layCosts_100 : decode cX0_layCosts 100 = .ok (.if_icmp .ge 14, 3) := dk_162 0 14 (dk_at dksX0_layCosts_4 6 rfl rfl)
theorem dX0_layCosts_103 : decode cX0_layCosts 103 = .ok (.aload_n 0, 1) := dk_42 (dk_at dksX0_layCosts_4 9 rfl rfl)
theorem dX0_layCosts_104 : decode cX0_layCosts 104 = .ok (.getfield 38, 3) := dk_180 0 38 (dk_at dksX0_layCosts_4 10 rfl rfl)
theorem dX0_layCosts_107 : decode cX0_layCosts 107 = .ok (.iload 4, 2) := dk_21 4 (dk_at dksX0_layCosts_4 13 rfl rfl)
theorem dX0_layCosts_109 : decode cX0_layCosts 109 = .ok (.iload 6, 2) := dk_21 6 (dk_at dksX0_layCosts_4 15 rfl rfl)
theorem dX0_layCosts_111 : decode cX0_layCosts 111 = .ok (.iastore, 1) := dk_79 (dk_at dksX0_layCosts_4 17 rfl rfl)
theorem dX0_layCosts_112 : decode cX0_layCosts 112 = .ok (.iconst 1, 1) := dk_4 (dk_at dksX0_layCosts_4 18 rfl rfl)
theorem dX0_layCosts_113 : decode cX0_layCosts 113 = .ok (.istore_n 3, 1) := dk_62 (dk_at dksX0_layCosts_4 19 rfl rfl)
theorem dX0_layCosts_114 : decode cX0_layCosts 114 = .ok (.iinc 5 1, 3) := dk_132 5 1 (dk_at dksX0_layCosts_4 20 rfl rfl)
theorem dX0_layCosts_117 : decode cX0_layCosts 117 = .ok (.goto (-58), 3) := dk_167 255 198 (dk_at dksX0_layCosts_5 0 rfl rfl)
theorem dX0_layCosts_120 : decode cX0_layCosts 120 = .ok (.iinc 4 1, 3) := dk_132 4 1 (dk_at dksX0_layCosts_5 3 rfl rfl)
theorem dX0_layCosts_123 : decode cX0_layCosts 123 = .ok (.goto (-75), 3) := dk_167 255 181 (dk_at dksX0_layCosts_5 6 rfl rfl)
theorem dX0_layCosts_126 : decode cX0_layCosts 126 = .ok (.goto (-87), 3) := dk_167 255 169 (dk_at dksX0_layCosts_5 9 rfl rfl)
theorem dX0_layCosts_129 : decode cX0_layCosts 129 = .ok (.return_, 1) := dk_177 (dk_at dksX0_layCosts_5 12 rfl rfl)
abbrev cX0_throughOf : ByteArray := prog_1_method_64_code
def yX0_throughOf : MethodName := ⟨RX0, "throughOf", "(LHammerTowers$Plate;II)I"⟩
def dkwX0_throughOf_1 : List UInt8 := [29, 184, 1, 57, 21, 4, 96, 172]
abbrev dktX0_throughOf_1 : List UInt8 := dkwX0_throughOf_1 ++ []
def dkwX0_throughOf_0 : List UInt8 := [42, 180, 0, 38, 28, 29, 184, 1, 54, 46, 54, 4, 21, 4, 156, 0, 8, 16, 247, 167, 0, 12, 43, 28]
abbrev dktX0_throughOf_0 : List UInt8 := dkwX0_throughOf_0 ++ dktX0_throughOf_1
theorem dksX0_throughOf_0 : cX0_throughOf.data.toList.drop 0 = dktX0_throughOf_0 := by decide +kernel
theorem dksX0_throughOf_1 : cX0_throughOf.data.toList.drop 24 = dktX0_throughOf_1 := dk_seg dksX0_throughOf_0 24 rfl rfl
theorem dX0_throughOf_0 : decode cX0_throughOf 0 = .ok (.aload_n 0, 1) := dk_42 (dk_at dksX0_throughOf_0 0 rfl rfl)
theorem dX0_throughOf_1 : decode cX0_throughOf 1 = .ok (.getfield 38, 3) := dk_180 0 38 (dk_at dksX0_throughOf_0 1 rfl rfl)
theorem dX0_throughOf_4 : decode cX0_throughOf 4 = .ok (.iload_n 2, 1) := dk_28 (dk_at dksX0_throughOf_0 4 rfl rfl)
theorem dX0_throughOf_5 : decode cX0_throughOf 5 = .ok (.iload_n 3, 1) := dk_29 (dk_at dksX0_throughOf_0 5 rfl rfl)
theorem dX0_throughOf_6 : decode cX0_throughOf 6 = .ok (.invokestatic 310, 3) := dk_184 1 54 (dk_at dksX0_throughOf_0 6 rfl rfl)
theorem dX0_throughOf_9 : decode cX0_throughOf 9 = .ok (.iaload, 1) := dk_46 (dk_at dksX0_throughOf_0 9 rfl rfl)
theorem dX0_throughOf_10 : decode cX0_throughOf 10 = .ok (.istore 4, 2) := dk_54 4 (dk_at dksX0_throughOf_0 10 rfl rfl)
theorem dX0_throughOf_12 : decode cX0_throughOf 12 = .ok (.iload 4, 2) := dk_21 4 (dk_at dksX0_throughOf_0 12 rfl rfl)
theorem dX0_throughOf_14 : decode cX0_throughOf 14 = .ok (.ifCond .ge 8, 3) := dk_156 0 8 (dk_at dksX0_throughOf_0 14 rfl rfl)
theorem dX0_throughOf_17 : decode cX0_throughOf 17 = .ok (.bipush (-9), 2) := dk_16 247 (dk_at dksX0_throughOf_0 17 rfl rfl)
theorem dX0_throughOf_19 : decode cX0_throughOf 19 = .ok (.goto 12, 3) := dk_167 0 12 (dk_at dksX0_throughOf_0 19 rfl rfl)
theorem dX0_throughOf_22 : decode cX0_throughOf 22 = .ok (.aload_n 1, 1) := dk_43 (dk_at dksX0_throughOf_0 22 rfl rfl)
theorem dX0_throughOf_23 : decode cX0_throughOf 23 = .ok (.iload_n 2, 1) := dk_28 (dk_at dksX0_throughOf_0 23 rfl rfl)
theorem dX0_throughOf_24 : decode cX0_throughOf 24 = .ok (.iload_n 3, 1) := dk_29 (dk_at dksX0_throughOf_1 0 rfl rfl)
theorem dX0_throughOf_25 : decode cX0_throughOf 25 = .ok (.invokestatic 313, 3) := dk_184 1 57 (dk_at dksX0_throughOf_1 1 rfl rfl)
theorem dX0_throughOf_28 : decode cX0_throughOf 28 = .ok (.iload 4, 2) := dk_21 4 (dk_at dksX0_throughOf_1 4 rfl rfl)
theorem dX0_throughOf_30 : decode cX0_throughOf 30 = .ok (.iadd, 1) := dk_96 (dk_at dksX0_throughOf_1 6 rfl rfl)
theorem dX0_throughOf_31 : decode cX0_throughOf 31 = .ok (.ireturn, 1) := dk_172 (dk_at dksX0_throughOf_1 7 rfl rfl)
abbrev cX0_led : ByteArray := prog_1_method_62_code
def yX0_led : MethodName := ⟨RX0, "led", "(II)I"⟩
def dkwX0_led_2 : List UInt8 := [29, 16, 12, 96, 4, 100, 16, 12, 112, 62, 16, 12, 28, 104, 29, 96, 172]
abbrev dktX0_led_2 : List UInt8 := dkwX0_led_2 ++ []
def dkwX0_led_1 : List UInt8 := [28, 61, 27, 154, 0, 7, 29, 167, 0, 26, 27, 4, 160, 0, 12, 29, 4, 96, 16, 12, 112, 167, 0, 12]
abbrev dktX0_led_1 : List UInt8 := dkwX0_led_1 ++ dktX0_led_2
def dkwX0_led_0 : List UInt8 := [26, 16, 12, 108, 61, 26, 16, 12, 112, 62, 27, 5, 162, 0, 12, 28, 4, 96, 16, 12, 112, 167, 0, 4]
abbrev dktX0_led_0 : List UInt8 := dkwX0_led_0 ++ dktX0_led_1
theorem dksX0_led_0 : cX0_led.data.toList.drop 0 = dktX0_led_0 := by decide +kernel
theorem dksX0_led_1 : cX0_led.data.toList.drop 24 = dktX0_led_1 := dk_seg dksX0_led_0 24 rfl rfl
theorem dksX0_led_2 : cX0_led.data.toList.drop 48 = dktX0_led_2 := dk_seg dksX0_led_1 24 rfl rfl
theorem dX0_led_0 : decode cX0_led 0 = .ok (.iload_n 0, 1) := dk_26 (dk_at dksX0_led_0 0 rfl rfl)
theorem dX0_led_1 : decode cX0_led 1 = .ok (.bipush 12, 2) := dk_16 12 (dk_at dksX0_led_0 1 rfl rfl)
theorem dX0_led_3 : decode cX0_led 3 = .ok (.idiv, 1) := dk_108 (dk_at dksX0_led_0 3 rfl rfl)
theorem dX0_led_4 : decode cX0_led 4 = .ok (.istore_n 2, 1) := dk_61 (dk_at dksX0_led_0 4 rfl rfl)
theorem dX0_led_5 : decode cX0_led 5 = .ok (.iload_n 0, 1) := dk_26 (dk_at dksX0_led_0 5 rfl rfl)
theorem dX0_led_6 : decode cX0_led 6 = .ok (.bipush 12, 2) := dk_16 12 (dk_at dksX0_led_0 6 rfl rfl)
theorem dX0_led_8 : decode cX0_led 8 = .ok (.irem, 1) := dk_112 (dk_at dksX0_led_0 8 rfl rfl)
theorem dX0_led_9 : decode cX0_led 9 = .ok (.istore_n 3, 1) := dk_62 (dk_at dksX0_led_0 9 rfl rfl)
theorem dX0_led_10 : decode cX0_led 10 = .ok (.iload_n 1, 1) := dk_27 (dk_at dksX0_led_0 10 rfl rfl)
theorem dX0_led_11 : decode cX0_led 11 = .ok (.iconst 2, 1) := dk_5 (dk_at dksX0_led_0 11 rfl rfl)
theorem dX0_led_12 : decode cX0_led 12 = .ok (.if_icmp .ge 12, 3) := dk_162 0 12 (dk_at dksX0_led_0 12 rfl rfl)
theorem dX0_led_15 : decode cX0_led 15 = .ok (.iload_n 2, 1) := dk_28 (dk_at dksX0_led_0 15 rfl rfl)
theorem dX0_led_16 : decode cX0_led 16 = .ok (.iconst 1, 1) := dk_4 (dk_at dksX0_led_0 16 rfl rfl)
theorem dX0_led_17 : decode cX0_led 17 = .ok (.iadd, 1) := dk_96 (dk_at dksX0_led_0 17 rfl rfl)
theorem dX0_led_18 : decode cX0_led 18 = .ok (.bipush 12, 2) := dk_16 12 (dk_at dksX0_led_0 18 rfl rfl)
theorem dX0_led_20 : decode cX0_led 20 = .ok (.irem, 1) := dk_112 (dk_at dksX0_led_0 20 rfl rfl)
theorem dX0_led_21 : decode cX0_led 21 = .ok (.goto 4, 3) := dk_167 0 4 (dk_at dksX0_led_0 21 rfl rfl)
theorem dX0_led_24 : decode cX0_led 24 = .ok (.iload_n 2, 1) := dk_28 (dk_at dksX0_led_1 0 rfl rfl)
theorem dX0_led_25 : decode cX0_led 25 = .ok (.istore_n 2, 1) := dk_61 (dk_at dksX0_led_1 1 rfl rfl)
theorem dX0_led_26 : decode cX0_led 26 = .ok (.iload_n 1, 1) := dk_27 (dk_at dksX0_led_1 2 rfl rfl)
theorem dX0_led_27 : decode cX0_led 27 = .ok (.ifCond .ne 7, 3) := dk_154 0 7 (dk_at dksX0_led_1 3 rfl rfl)
theorem dX0_led_30 : decode cX0_led 30 = .ok (.iload_n 3, 1) := dk_29 (dk_at dksX0_led_1 6 rfl rfl)
theorem dX0_led_31 : decode cX0_led 31 = .ok (.goto 26, 3) := dk_167 0 26 (dk_at dksX0_led_1 7 rfl rfl)
theorem dX0_led_34 : decode cX0_led 34 = .ok (.iload_n 1, 1) := dk_27 (dk_at dksX0_led_1 10 rfl rfl)
theorem dX0_led_35 : decode cX0_led 35 = .ok (.iconst 1, 1) := dk_4 (dk_at dksX0_led_1 11 rfl rfl)
theorem dX0_led_36 : decode cX0_led 36 = .ok (.if_icmp .ne 12, 3) := dk_160 0 12 (dk_at dksX0_led_1 12 rfl rfl)
theorem dX0_led_39 : decode cX0_led 39 = .ok (.iload_n 3, 1) := dk_29 (dk_at dksX0_led_1 15 rfl rfl)
theorem dX0_led_40 : decode cX0_led 40 = .ok (.iconst 1, 1) := dk_4 (dk_at dksX0_led_1 16 rfl rfl)
theorem dX0_led_41 : decode cX0_led 41 = .ok (.iadd, 1) := dk_96 (dk_at dksX0_led_1 17 rfl rfl)
theorem dX0_led_42 : decode cX0_led 42 = .ok (.bipush 12, 2) := dk_16 12 (dk_at dksX0_led_1 18 rfl rfl)
theorem dX0_led_44 : decode cX0_led 44 = .ok (.irem, 1) := dk_112 (dk_at dksX0_led_1 20 rfl rfl)
theorem dX0_led_45 : decode cX0_led 45 = .ok (.goto 12, 3) := dk_167 0 12 (dk_at dksX0_led_1 21 rfl rfl)
theorem dX0_led_48 : decode cX0_led 48 = .ok (.iload_n 3, 1) := dk_29 (dk_at dksX0_led_2 0 rfl rfl)
theorem dX0_led_49 : decode cX0_led 49 = .ok (.bipush 12, 2) := dk_16 12 (dk_at dksX0_led_2 1 rfl rfl)
theorem dX0_led_51 : decode cX0_led 51 = .ok (.iadd, 1) := dk_96 (dk_at dksX0_led_2 3 rfl rfl)
theorem dX0_led_52 : decode cX0_led 52 = .ok (.iconst 1, 1) := dk_4 (dk_at dksX0_led_2 4 rfl rfl)
theorem dX0_led_53 : decode cX0_led 53 = .ok (.isub, 1) := dk_100 (dk_at dksX0_led_2 5 rfl rfl)
theorem dX0_led_54 : decode cX0_led 54 = .ok (.bipush 12, 2) := dk_16 12 (dk_at dksX0_led_2 6 rfl rfl)
theorem dX0_led_56 : decode cX0_led 56 = .ok (.irem, 1) := dk_112 (dk_at dksX0_led_2 8 rfl rfl)
theorem dX0_led_57 : decode cX0_led 57 = .ok (.istore_n 3, 1) := dk_62 (dk_at dksX0_led_2 9 rfl rfl)
theorem dX0_led_58 : decode cX0_led 58 = .ok (.bipush 12, 2) := dk_16 12 (dk_at dksX0_led_2 10 rfl rfl)
theorem dX0_led_60 : decode cX0_led 60 = .ok (.iload_n 2, 1) := dk_28 (dk_at dksX0_led_2 12 rfl rfl)
theorem dX0_led_61 : decode cX0_led 61 = .ok (.imul, 1) := dk_104 (dk_at dksX0_led_2 13 rfl rfl)
theorem dX0_led_62 : decode cX0_led 62 = .ok (.iload_n 3, 1) := dk_29 (dk_at dksX0_led_2 14 rfl rfl)
theorem dX0_led_63 : decode cX0_led 63 = .ok (.iadd, 1) := dk_96 (dk_at dksX0_led_2 15 rfl rfl)
theorem dX0_led_64 : decode cX0_led 64 = .ok (.ireturn, 1) := dk_172 (dk_at dksX0_led_2 16 rfl rfl)
abbrev cX0_priceOf : ByteArray := prog_1_method_63_code
def yX0_priceOf : MethodName := ⟨RX0, "priceOf", "(LHammerTowers$Plate;II)I"⟩
def dkwX0_priceOf_0 : List UInt8 := [28, 5, 162, 0, 20, 17, 3, 232, 42, 27, 16, 12, 108, 182, 1, 53, 104, 4, 96, 167, 0, 4, 4, 172]
abbrev dktX0_priceOf_0 : List UInt8 := dkwX0_priceOf_0 ++ []
theorem dksX0_priceOf_0 : cX0_priceOf.data.toList.drop 0 = dktX0_priceOf_0 := by decide +kernel
theorem dX0_priceOf_0 : decode cX0_priceOf 0 = .ok (.iload_n 2, 1) := dk_28 (dk_at dksX0_priceOf_0 0 rfl rfl)
theorem dX0_priceOf_1 : decode cX0_priceOf 1 = .ok (.iconst 2, 1) := dk_5 (dk_at dksX0_priceOf_0 1 rfl rfl)
theorem dX0_priceOf_2 : decode cX0_priceOf 2 = .ok (.if_icmp .ge 20, 3) := dk_162 0 20 (dk_at dksX0_priceOf_0 2 rfl rfl)
theorem dX0_priceOf_5 : decode cX0_priceOf 5 = .ok (.sipush 1000, 3) := dk_17 3 232 (dk_at dksX0_priceOf_0 5 rfl rfl)
theorem dX0_priceOf_8 : decode cX0_priceOf 8 = .ok (.aload_n 0, 1) := dk_42 (dk_at dksX0_priceOf_0 8 rfl rfl)
theorem dX0_priceOf_9 : decode cX0_priceOf 9 = .ok (.iload_n 1, 1) := dk_27 (dk_at dksX0_priceOf_0 9 rfl rfl)
theorem dX0_priceOf_10 : decode cX0_priceOf 10 = .ok (.bipush 12, 2) := dk_16 12 (dk_at dksX0_priceOf_0 10 rfl rfl)
theorem dX0_priceOf_12 : decode cX0_priceOf 12 = .ok (.idiv, 1) := dk_108 (dk_at dksX0_priceOf_0 12 rfl rfl)
theorem dX0_priceOf_13 : decode cX0_priceOf 13 = .ok (.invokevirtual 309, 3) := dk_182 1 53 (dk_at dksX0_priceOf_0 13 rfl rfl)
theorem dX0_priceOf_16 : decode cX0_priceOf 16 = .ok (.imul, 1) := dk_104 (dk_at dksX0_priceOf_0 16 rfl rfl)
theorem dX0_priceOf_17 : decode cX0_priceOf 17 = .ok (.iconst 1, 1) := dk_4 (dk_at dksX0_priceOf_0 17 rfl rfl)
theorem dX0_priceOf_18 : decode cX0_priceOf 18 = .ok (.iadd, 1) := dk_96 (dk_at dksX0_priceOf_0 18 rfl rfl)
theorem dX0_priceOf_19 : decode cX0_priceOf 19 = .ok (.goto 4, 3) := dk_167 0 4 (dk_at dksX0_priceOf_0 19 rfl rfl)
theorem dX0_priceOf_22 : decode cX0_priceOf 22 = .ok (.iconst 1, 1) := dk_4 (dk_at dksX0_priceOf_0 22 rfl rfl)
theorem dX0_priceOf_23 : decode cX0_priceOf 23 = .ok (.ireturn, 1) := dk_172 (dk_at dksX0_priceOf_0 23 rfl rfl)
abbrev cX0_say : ByteArray := prog_1_method_3_code
def yX0_say : MethodName := ⟨RX0, "say", "(II)I"⟩
def dkwX0_say_0 : List UInt8 := [42, 27, 181, 0, 11, 28, 172]
abbrev dktX0_say_0 : List UInt8 := dkwX0_say_0 ++ []
theorem dksX0_say_0 : cX0_say.data.toList.drop 0 = dktX0_say_0 := by decide +kernel
theorem dX0_say_0 : decode cX0_say 0 = .ok (.aload_n 0, 1) := dk_42 (dk_at dksX0_say_0 0 rfl rfl)
theorem dX0_say_1 : decode cX0_say 1 = .ok (.iload_n 1, 1) := dk_27 (dk_at dksX0_say_0 1 rfl rfl)
theorem dX0_say_2 : decode cX0_say 2 = .ok (.putfield 11, 3) := dk_181 0 11 (dk_at dksX0_say_0 2 rfl rfl)
theorem dX0_say_5 : decode cX0_say 5 = .ok (.iload_n 2, 1) := dk_28 (dk_at dksX0_say_0 5 rfl rfl)
theorem dX0_say_6 : decode cX0_say 6 = .ok (.ireturn, 1) := dk_172 (dk_at dksX0_say_0 6 rfl rfl)
abbrev cX0_act : ByteArray := prog_1_method_67_code
def yX0_act : MethodName := ⟨RX0, "act", "(I)I"⟩
def dkwX0_act_1 : List UInt8 := [16, 247, 172]
abbrev dktX0_act_1 : List UInt8 := dkwX0_act_1 ++ []
def dkwX0_act_0 : List UInt8 := [27, 3, 42, 180, 1, 68, 4, 100, 184, 0, 69, 153, 0, 12, 42, 180, 0, 41, 27, 46, 167, 0, 5]
abbrev dktX0_act_0 : List UInt8 := dkwX0_act_0 ++ dktX0_act_1
theorem dksX0_act_0 : cX0_act.data.toList.drop 0 = dktX0_act_0 := by decide +kernel
theorem dksX0_act_1 : cX0_act.data.toList.drop 23 = dktX0_act_1 := dk_seg dksX0_act_0 23 rfl rfl
theorem dX0_act_0 : decode cX0_act 0 = .ok (.iload_n 1, 1) := dk_27 (dk_at dksX0_act_0 0 rfl rfl)
theorem dX0_act_1 : decode cX0_act 1 = .ok (.iconst 0, 1) := dk_3 (dk_at dksX0_act_0 1 rfl rfl)
theorem dX0_act_2 : decode cX0_act 2 = .ok (.aload_n 0, 1) := dk_42 (dk_at dksX0_act_0 2 rfl rfl)
theorem dX0_act_3 : decode cX0_act 3 = .ok (.getfield 324, 3) := dk_180 1 68 (dk_at dksX0_act_0 3 rfl rfl)
theorem dX0_act_6 : decode cX0_act 6 = .ok (.iconst 1, 1) := dk_4 (dk_at dksX0_act_0 6 rfl rfl)
theorem dX0_act_7 : decode cX0_act 7 = .ok (.isub, 1) := dk_100 (dk_at dksX0_act_0 7 rfl rfl)
theorem dX0_act_8 : decode cX0_act 8 = .ok (.invokestatic 69, 3) := dk_184 0 69 (dk_at dksX0_act_0 8 rfl rfl)
theorem dX0_act_11 : decode cX0_act 11 = .ok (.ifCond .eq 12, 3) := dk_153 0 12 (dk_at dksX0_act_0 11 rfl rfl)
theorem dX0_act_14 : decode cX0_act 14 = .ok (.aload_n 0, 1) := dk_42 (dk_at dksX0_act_0 14 rfl rfl)
theorem dX0_act_15 : decode cX0_act 15 = .ok (.getfield 41, 3) := dk_180 0 41 (dk_at dksX0_act_0 15 rfl rfl)
theorem dX0_act_18 : decode cX0_act 18 = .ok (.iload_n 1, 1) := dk_27 (dk_at dksX0_act_0 18 rfl rfl)
theorem dX0_act_19 : decode cX0_act 19 = .ok (.iaload, 1) := dk_46 (dk_at dksX0_act_0 19 rfl rfl)
theorem dX0_act_20 : decode cX0_act 20 = .ok (.goto 5, 3) := dk_167 0 5 (dk_at dksX0_act_0 20 rfl rfl)
theorem dX0_act_23 : decode cX0_act 23 = .ok (.bipush (-9), 2) := dk_16 247 (dk_at dksX0_act_1 0 rfl rfl)
theorem dX0_act_25 : decode cX0_act 25 = .ok (.ireturn, 1) := dk_172 (dk_at dksX0_act_1 2 rfl rfl)
abbrev cX0_due : ByteArray := prog_1_method_70_code
def yX0_due : MethodName := ⟨RX0, "due", "(IIIII)I"⟩
def dkwX0_due_1 : List UInt8 := [21, 5, 184, 1, 77, 153, 0, 16, 27, 28, 29, 21, 4, 21, 5, 184, 1, 80, 167, 0, 4, 2, 172]
abbrev dktX0_due_1 : List UInt8 := dkwX0_due_1 ++ []
def dkwX0_due_0 : List UInt8 := [27, 4, 16, 12, 184, 0, 69, 153, 0, 37, 28, 3, 16, 47, 184, 0, 69, 153, 0, 27, 29, 21, 4]
abbrev dktX0_due_0 : List UInt8 := dkwX0_due_0 ++ dktX0_due_1
theorem dksX0_due_0 : cX0_due.data.toList.drop 0 = dktX0_due_0 := by decide +kernel
theorem dksX0_due_1 : cX0_due.data.toList.drop 23 = dktX0_due_1 := dk_seg dksX0_due_0 23 rfl rfl
theorem dX0_due_0 : decode cX0_due 0 = .ok (.iload_n 1, 1) := dk_27 (dk_at dksX0_due_0 0 rfl rfl)
theorem dX0_due_1 : decode cX0_due 1 = .ok (.iconst 1, 1) := dk_4 (dk_at dksX0_due_0 1 rfl rfl)
theorem dX0_due_2 : decode cX0_due 2 = .ok (.bipush 12, 2) := dk_16 12 (dk_at dksX0_due_0 2 rfl rfl)
theorem dX0_due_4 : decode cX0_due 4 = .ok (.invokestatic 69, 3) := dk_184 0 69 (dk_at dksX0_due_0 4 rfl rfl)
theorem dX0_due_7 : decode cX0_due 7 = .ok (.ifCond .eq 37, 3) := dk_153 0 37 (dk_at dksX0_due_0 7 rfl rfl)
theorem dX0_due_10 : decode cX0_due 10 = .ok (.iload_n 2, 1) := dk_28 (dk_at dksX0_due_0 10 rfl rfl)
theorem dX0_due_11 : decode cX0_due 11 = .ok (.iconst 0, 1) := dk_3 (dk_at dksX0_due_0 11 rfl rfl)
theorem dX0_due_12 : decode cX0_due 12 = .ok (.bipush 47, 2) := dk_16 47 (dk_at dksX0_due_0 12 rfl rfl)
theorem dX0_due_14 : decode cX0_due 14 = .ok (.invokestatic 69, 3) := dk_184 0 69 (dk_at dksX0_due_0 14 rfl rfl)
theorem dX0_due_17 : decode cX0_due 17 = .ok (.ifCond .eq 27, 3) := dk_153 0 27 (dk_at dksX0_due_0 17 rfl rfl)
theorem dX0_due_20 : decode cX0_due 20 = .ok (.iload_n 3, 1) := dk_29 (dk_at dksX0_due_0 20 rfl rfl)
theorem dX0_due_21 : decode cX0_due 21 = .ok (.iload 4, 2) := dk_21 4 (dk_at dksX0_due_0 21 rfl rfl)
theorem dX0_due_23 : decode cX0_due 23 = .ok (.iload 5, 2) := dk_21 5 (dk_at dksX0_due_1 0 rfl rfl)
theorem dX0_due_25 : decode cX0_due 25 = .ok (.invokestatic 333, 3) := dk_184 1 77 (dk_at dksX0_due_1 2 rfl rfl)
theorem dX0_due_28 : decode cX0_due 28 = .ok (.ifCond .eq 16, 3) := dk_153 0 16 (dk_at dksX0_due_1 5 rfl rfl)
theorem dX0_due_31 : decode cX0_due 31 = .ok (.iload_n 1, 1) := dk_27 (dk_at dksX0_due_1 8 rfl rfl)
theorem dX0_due_32 : decode cX0_due 32 = .ok (.iload_n 2, 1) := dk_28 (dk_at dksX0_due_1 9 rfl rfl)
theorem dX0_due_33 : decode cX0_due 33 = .ok (.iload_n 3, 1) := dk_29 (dk_at dksX0_due_1 10 rfl rfl)
theorem dX0_due_34 : decode cX0_due 34 = .ok (.iload 4, 2) := dk_21 4 (dk_at dksX0_due_1 11 rfl rfl)
theorem dX0_due_36 : decode cX0_due 36 = .ok (.iload 5, 2) := dk_21 5 (dk_at dksX0_due_1 13 rfl rfl)
theorem dX0_due_38 : decode cX0_due 38 = .ok (.invokestatic 336, 3) := dk_184 1 80 (dk_at dksX0_due_1 15 rfl rfl)
theorem dX0_due_41 : decode cX0_due 41 = .ok (.goto 4, 3) := dk_167 0 4 (dk_at dksX0_due_1 18 rfl rfl)
theorem dX0_due_44 : decode cX0_due 44 = .ok (.iconst (-1), 1) := dk_2 (dk_at dksX0_due_1 21 rfl rfl)
theorem dX0_due_45 : decode cX0_due 45 = .ok (.ireturn, 1) := dk_172 (dk_at dksX0_due_1 22 rfl rfl)
abbrev cX0_isFault : ByteArray := prog_1_method_68_code
def yX0_isFault : MethodName := ⟨RX0, "isFault", "(III)Z"⟩
def dkwX0_isFault_5 : List UInt8 := [153, 0, 17, 28, 27, 16, 47, 184, 0, 69, 153, 0, 7, 4, 167, 0, 4, 3, 172, 3, 172]
abbrev dktX0_isFault_5 : List UInt8 := dkwX0_isFault_5 ++ []
def dkwX0_isFault_4 : List UInt8 := [153, 0, 7, 4, 167, 0, 4, 3, 172, 27, 4, 16, 11, 184, 0, 69, 172, 27, 3, 16, 47, 184, 0, 69]
abbrev dktX0_isFault_4 : List UInt8 := dkwX0_isFault_4 ++ dktX0_isFault_5
def dkwX0_isFault_3 : List UInt8 := [167, 0, 4, 3, 172, 27, 4, 16, 12, 184, 0, 69, 153, 0, 17, 28, 3, 16, 24, 184, 0, 69]
abbrev dktX0_isFault_3 : List UInt8 := dkwX0_isFault_3 ++ dktX0_isFault_4
def dkwX0_isFault_2 : List UInt8 := [4, 172, 27, 4, 16, 11, 184, 0, 69, 153, 0, 17, 28, 3, 16, 47, 184, 0, 69, 153, 0, 7, 4]
abbrev dktX0_isFault_2 : List UInt8 := dkwX0_isFault_2 ++ dktX0_isFault_3
def dkwX0_isFault_1 : List UInt8 := [170, 0, 0, 0, 0, 0, 123, 0, 0, 0, 0, 0, 0, 0, 4, 0, 0, 0, 35, 0, 0, 0, 37, 0, 0, 0, 63, 0, 0, 0, 89, 0, 0, 0, 97]
abbrev dktX0_isFault_1 : List UInt8 := dkwX0_isFault_1 ++ dktX0_isFault_2
def dkwX0_isFault_0 : List UInt8 := [26]
abbrev dktX0_isFault_0 : List UInt8 := dkwX0_isFault_0 ++ dktX0_isFault_1
theorem dksX0_isFault_0 : cX0_isFault.data.toList.drop 0 = dktX0_isFault_0 := by decide +kernel
theorem dksX0_isFault_1 : cX0_isFault.data.toList.drop 1 = dktX0_isFault_1 := dk_seg dksX0_isFault_0 1 rfl rfl
theorem dksX0_isFault_2 : cX0_isFault.data.toList.drop 36 = dktX0_isFault_2 := dk_seg dksX0_isFault_1 35 rfl rfl
theorem dksX0_isFault_3 : cX0_isFault.data.toList.drop 59 = dktX0_isFault_3 := dk_seg dksX0_isFault_2 23 rfl rfl
theorem dksX0_isFault_4 : cX0_isFault.data.toList.drop 81 = dktX0_isFault_4 := dk_seg dksX0_isFault_3 22 rfl rfl
theorem dksX0_isFault_5 : cX0_isFault.data.toList.drop 105 = dktX0_isFault_5 := dk_seg dksX0_isFault_4 24 rfl rfl
theorem dX0_isFault_0 : decode cX0_isFault 0 = .ok (.iload_n 0, 1) := dk_26 (dk_at dksX0_isFault_0 0 rfl rfl)
theorem dX0_isFault_1 : decode cX0_isFault 1 = .ok (.tableswitch 123 0 4 #[35, 37, 63, 89, 97], 35) := by decide +kernel
theorem dX0_isFault_36 : decode cX0_isFault 36 = .ok (.iconst 1, 1) := dk_4 (dk_at dksX0_isFault_2 0 rfl rfl)
theorem dX0_isFault_37 : decode cX0_isFault 37 = .ok (.ireturn, 1) := dk_172 (dk_at dksX0_isFault_2 1 rfl rfl)
theorem dX0_isFault_38 : decode cX0_isFault 38 = .ok (.iload_n 1, 1) := dk_27 (dk_at dksX0_isFault_2 2 rfl rfl)
theorem dX0_isFault_39 : decode cX0_isFault 39 = .ok (.iconst 1, 1) := dk_4 (dk_at dksX0_isFault_2 3 rfl rfl)
theorem dX0_isFault_40 : decode cX0_isFault 40 = .ok (.bipush 11, 2) := dk_16 11 (dk_at dksX0_isFault_2 4 rfl rfl)
theorem dX0_isFault_42 : decode cX0_isFault 42 = .ok (.invokestatic 69, 3) := dk_184 0 69 (dk_at dksX0_isFault_2 6 rfl rfl)
theorem dX0_isFault_45 : decode cX0_isFault 45 = .ok (.ifCond .eq 17, 3) := dk_153 0 17 (dk_at dksX0_isFault_2 9 rfl rfl)
theorem dX0_isFault_48 : decode cX0_isFault 48 = .ok (.iload_n 2, 1) := dk_28 (dk_at dksX0_isFault_2 12 rfl rfl)
theorem dX0_isFault_49 : decode cX0_isFault 49 = .ok (.iconst 0, 1) := dk_3 (dk_at dksX0_isFault_2 13 rfl rfl)
theorem dX0_isFault_50 : decode cX0_isFault 50 = .ok (.bipush 47, 2) := dk_16 47 (dk_at dksX0_isFault_2 14 rfl rfl)
theorem dX0_isFault_52 : decode cX0_isFault 52 = .ok (.invokestatic 69, 3) := dk_184 0 69 (dk_at dksX0_isFault_2 16 rfl rfl)
theorem dX0_isFault_55 : decode cX0_isFault 55 = .ok (.ifCond .eq 7, 3) := dk_153 0 7 (dk_at dksX0_isFault_2 19 rfl rfl)
theorem dX0_isFault_58 : decode cX0_isFault 58 = .ok (.iconst 1, 1) := dk_4 (dk_at dksX0_isFault_2 22 rfl rfl)
theorem dX0_isFault_59 : decode cX0_isFault 59 = .ok (.goto 4, 3) := dk_167 0 4 (dk_at dksX0_isFault_3 0 rfl rfl)
theorem dX0_isFault_62 : decode cX0_isFault 62 = .ok (.iconst 0, 1) := dk_3 (dk_at dksX0_isFault_3 3 rfl rfl)
theorem dX0_isFault_63 : decode cX0_isFault 63 = .ok (.ireturn, 1) := dk_172 (dk_at dksX0_isFault_3 4 rfl rfl)
theorem dX0_isFault_64 : decode cX0_isFault 64 = .ok (.iload_n 1, 1) := dk_27 (dk_at dksX0_isFault_3 5 rfl rfl)
theorem dX0_isFault_65 : decode cX0_isFault 65 = .ok (.iconst 1, 1) := dk_4 (dk_at dksX0_isFault_3 6 rfl rfl)
theorem dX0_isFault_66 : decode cX0_isFault 66 = .ok (.bipush 12, 2) := dk_16 12 (dk_at dksX0_isFault_3 7 rfl rfl)
theorem dX0_isFault_68 : decode cX0_isFault 68 = .ok (.invokestatic 69, 3) := dk_184 0 69 (dk_at dksX0_isFault_3 9 rfl rfl)
theorem dX0_isFault_71 : decode cX0_isFault 71 = .ok (.ifCond .eq 17, 3) := dk_153 0 17 (dk_at dksX0_isFault_3 12 rfl rfl)
theorem dX0_isFault_74 : decode cX0_isFault 74 = .ok (.iload_n 2, 1) := dk_28 (dk_at dksX0_isFault_3 15 rfl rfl)
theorem dX0_isFault_75 : decode cX0_isFault 75 = .ok (.iconst 0, 1) := dk_3 (dk_at dksX0_isFault_3 16 rfl rfl)
theorem dX0_isFault_76 : decode cX0_isFault 76 = .ok (.bipush 24, 2) := dk_16 24 (dk_at dksX0_isFault_3 17 rfl rfl)
theorem dX0_isFault_78 : decode cX0_isFault 78 = .ok (.invokestatic 69, 3) := dk_184 0 69 (dk_at dksX0_isFault_3 19 rfl rfl)
theorem dX0_isFault_81 : decode cX0_isFault 81 = .ok (.ifCond .eq 7, 3) := dk_153 0 7 (dk_at dksX0_isFault_4 0 rfl rfl)
theorem dX0_isFault_84 : decode cX0_isFault 84 = .ok (.iconst 1, 1) := dk_4 (dk_at dksX0_isFault_4 3 rfl rfl)
theorem dX0_isFault_85 : decode cX0_isFault 85 = .ok (.goto 4, 3) := dk_167 0 4 (dk_at dksX0_isFault_4 4 rfl rfl)
theorem dX0_isFault_88 : decode cX0_isFault 88 = .ok (.iconst 0, 1) := dk_3 (dk_at dksX0_isFault_4 7 rfl rfl)
theorem dX0_isFault_89 : decode cX0_isFault 89 = .ok (.ireturn, 1) := dk_172 (dk_at dksX0_isFault_4 8 rfl rfl)
theorem dX0_isFault_90 : decode cX0_isFault 90 = .ok (.iload_n 1, 1) := dk_27 (dk_at dksX0_isFault_4 9 rfl rfl)
theorem dX0_isFault_91 : decode cX0_isFault 91 = .ok (.iconst 1, 1) := dk_4 (dk_at dksX0_isFault_4 10 rfl rfl)
theorem dX0_isFault_92 : decode cX0_isFault 92 = .ok (.bipush 11, 2) := dk_16 11 (dk_at dksX0_isFault_4 11 rfl rfl)
theorem dX0_isFault_94 : decode cX0_isFault 94 = .ok (.invokestatic 69, 3) := dk_184 0 69 (dk_at dksX0_isFault_4 13 rfl rfl)
theorem dX0_isFault_97 : decode cX0_isFault 97 = .ok (.ireturn, 1) := dk_172 (dk_at dksX0_isFault_4 16 rfl rfl)
theorem dX0_isFault_98 : decode cX0_isFault 98 = .ok (.iload_n 1, 1) := dk_27 (dk_at dksX0_isFault_4 17 rfl rfl)
theorem dX0_isFault_99 : decode cX0_isFault 99 = .ok (.iconst 0, 1) := dk_3 (dk_at dksX0_isFault_4 18 rfl rfl)
theorem dX0_isFault_100 : decode cX0_isFault 100 = .ok (.bipush 47, 2) := dk_16 47 (dk_at dksX0_isFault_4 19 rfl rfl)
theorem dX0_isFault_102 : decode cX0_isFault 102 = .ok (.invokestatic 69, 3) := dk_184 0 69 (dk_at dksX0_isFault_4 21 rfl rfl)
theorem dX0_isFault_105 : decode cX0_isFault 105 = .ok (.ifCond .eq 17, 3) := dk_153 0 17 (dk_at dksX0_isFault_5 0 rfl rfl)
theorem dX0_isFault_108 : decode cX0_isFault 108 = .ok (.iload_n 2, 1) := dk_28 (dk_at dksX0_isFault_5 3 rfl rfl)
theorem dX0_isFault_109 : decode cX0_isFault 109 = .ok (.iload_n 1, 1) := dk_27 (dk_at dksX0_isFault_5 4 rfl rfl)
theorem dX0_isFault_110 : decode cX0_isFault 110 = .ok (.bipush 47, 2) := dk_16 47 (dk_at dksX0_isFault_5 5 rfl rfl)
theorem dX0_isFault_112 : decode cX0_isFault 112 = .ok (.invokestatic 69, 3) := dk_184 0 69 (dk_at dksX0_isFault_5 7 rfl rfl)
theorem dX0_isFault_115 : decode cX0_isFault 115 = .ok (.ifCond .eq 7, 3) := dk_153 0 7 (dk_at dksX0_isFault_5 10 rfl rfl)
theorem dX0_isFault_118 : decode cX0_isFault 118 = .ok (.iconst 1, 1) := dk_4 (dk_at dksX0_isFault_5 13 rfl rfl)
theorem dX0_isFault_119 : decode cX0_isFault 119 = .ok (.goto 4, 3) := dk_167 0 4 (dk_at dksX0_isFault_5 14 rfl rfl)
theorem dX0_isFault_122 : decode cX0_isFault 122 = .ok (.iconst 0, 1) := dk_3 (dk_at dksX0_isFault_5 17 rfl rfl)
theorem dX0_isFault_123 : decode cX0_isFault 123 = .ok (.ireturn, 1) := dk_172 (dk_at dksX0_isFault_5 18 rfl rfl)
theorem dX0_isFault_124 : decode cX0_isFault 124 = .ok (.iconst 0, 1) := dk_3 (dk_at dksX0_isFault_5 19 rfl rfl)
theorem dX0_isFault_125 : decode cX0_isFault 125 = .ok (.ireturn, 1) := dk_172 (dk_at dksX0_isFault_5 20 rfl rfl)
abbrev cX0_dueOf : ByteArray := prog_1_method_69_code
def yX0_dueOf : MethodName := ⟨RX0, "dueOf", "(IIIII)I"⟩
def dkwX0_dueOf_4 : List UInt8 := [29, 21, 4, 184, 0, 69, 153, 0, 7, 3, 167, 0, 5, 21, 5, 172, 21, 5, 172]
abbrev dktX0_dueOf_4 : List UInt8 := dkwX0_dueOf_4 ++ []
def dkwX0_dueOf_3 : List UInt8 := [21, 5, 29, 160, 0, 8, 21, 4, 167, 0, 5, 21, 5, 172, 3, 21, 5, 29, 100, 184, 1, 74, 172, 27]
abbrev dktX0_dueOf_3 : List UInt8 := dkwX0_dueOf_3 ++ dktX0_dueOf_4
def dkwX0_dueOf_2 : List UInt8 := [27, 21, 4, 162, 0, 8, 21, 5, 167, 0, 14, 21, 5, 4, 100, 29, 96, 16, 12, 112, 4, 96, 172]
abbrev dktX0_dueOf_2 : List UInt8 := dkwX0_dueOf_2 ++ dktX0_dueOf_3
def dkwX0_dueOf_1 : List UInt8 := [170, 0, 0, 0, 0, 0, 94, 0, 0, 0, 1, 0, 0, 0, 4, 0, 0, 0, 31, 0, 0, 0, 54, 0, 0, 0, 68, 0, 0, 0, 77]
abbrev dktX0_dueOf_1 : List UInt8 := dkwX0_dueOf_1 ++ dktX0_dueOf_2
def dkwX0_dueOf_0 : List UInt8 := [26, 4, 100, 27, 96, 16, 12, 112, 4, 96, 54, 5, 28]
abbrev dktX0_dueOf_0 : List UInt8 := dkwX0_dueOf_0 ++ dktX0_dueOf_1
theorem dksX0_dueOf_0 : cX0_dueOf.data.toList.drop 0 = dktX0_dueOf_0 := by decide +kernel
theorem dksX0_dueOf_1 : cX0_dueOf.data.toList.drop 13 = dktX0_dueOf_1 := dk_seg dksX0_dueOf_0 13 rfl rfl
theorem dksX0_dueOf_2 : cX0_dueOf.data.toList.drop 44 = dktX0_dueOf_2 := dk_seg dksX0_dueOf_1 31 rfl rfl
theorem dksX0_dueOf_3 : cX0_dueOf.data.toList.drop 67 = dktX0_dueOf_3 := dk_seg dksX0_dueOf_2 23 rfl rfl
theorem dksX0_dueOf_4 : cX0_dueOf.data.toList.drop 91 = dktX0_dueOf_4 := dk_seg dksX0_dueOf_3 24 rfl rfl
theorem dX0_dueOf_0 : decode cX0_dueOf 0 = .ok (.iload_n 0, 1) := dk_26 (dk_at dksX0_dueOf_0 0 rfl rfl)
theorem dX0_dueOf_1 : decode cX0_dueOf 1 = .ok (.iconst 1, 1) := dk_4 (dk_at dksX0_dueOf_0 1 rfl rfl)
theorem dX0_dueOf_2 : decode cX0_dueOf 2 = .ok (.isub, 1) := dk_100 (dk_at dksX0_dueOf_0 2 rfl rfl)
theorem dX0_dueOf_3 : decode cX0_dueOf 3 = .ok (.iload_n 1, 1) := dk_27 (dk_at dksX0_dueOf_0 3 rfl rfl)
theorem dX0_dueOf_4 : decode cX0_dueOf 4 = .ok (.iadd, 1) := dk_96 (dk_at dksX0_dueOf_0 4 rfl rfl)
theorem dX0_dueOf_5 : decode cX0_dueOf 5 = .ok (.bipush 12, 2) := dk_16 12 (dk_at dksX0_dueOf_0 5 rfl rfl)
theorem dX0_dueOf_7 : decode cX0_dueOf 7 = .ok (.irem, 1) := dk_112 (dk_at dksX0_dueOf_0 7 rfl rfl)
theorem dX0_dueOf_8 : decode cX0_dueOf 8 = .ok (.iconst 1, 1) := dk_4 (dk_at dksX0_dueOf_0 8 rfl rfl)
theorem dX0_dueOf_9 : decode cX0_dueOf 9 = .ok (.iadd, 1) := dk_96 (dk_at dksX0_dueOf_0 9 rfl rfl)
theorem dX0_dueOf_10 : decode cX0_dueOf 10 = .ok (.istore 5, 2) := dk_54 5 (dk_at dksX0_dueOf_0 10 rfl rfl)
theorem dX0_dueOf_12 : decode cX0_dueOf 12 = .ok (.iload_n 2, 1) := dk_28 (dk_at dksX0_dueOf_0 12 rfl rfl)
theorem dX0_dueOf_13 : decode cX0_dueOf 13 = .ok (.tableswitch 94 1 4 #[31, 54, 68, 77], 31) := by decide +kernel
theorem dX0_dueOf_44 : decode cX0_dueOf 44 = .ok (.iload_n 1, 1) := dk_27 (dk_at dksX0_dueOf_2 0 rfl rfl)
theorem dX0_dueOf_45 : decode cX0_dueOf 45 = .ok (.iload 4, 2) := dk_21 4 (dk_at dksX0_dueOf_2 1 rfl rfl)
theorem dX0_dueOf_47 : decode cX0_dueOf 47 = .ok (.if_icmp .ge 8, 3) := dk_162 0 8 (dk_at dksX0_dueOf_2 3 rfl rfl)
theorem dX0_dueOf_50 : decode cX0_dueOf 50 = .ok (.iload 5, 2) := dk_21 5 (dk_at dksX0_dueOf_2 6 rfl rfl)
theorem dX0_dueOf_52 : decode cX0_dueOf 52 = .ok (.goto 14, 3) := dk_167 0 14 (dk_at dksX0_dueOf_2 8 rfl rfl)
theorem dX0_dueOf_55 : decode cX0_dueOf 55 = .ok (.iload 5, 2) := dk_21 5 (dk_at dksX0_dueOf_2 11 rfl rfl)
theorem dX0_dueOf_57 : decode cX0_dueOf 57 = .ok (.iconst 1, 1) := dk_4 (dk_at dksX0_dueOf_2 13 rfl rfl)
theorem dX0_dueOf_58 : decode cX0_dueOf 58 = .ok (.isub, 1) := dk_100 (dk_at dksX0_dueOf_2 14 rfl rfl)
theorem dX0_dueOf_59 : decode cX0_dueOf 59 = .ok (.iload_n 3, 1) := dk_29 (dk_at dksX0_dueOf_2 15 rfl rfl)
theorem dX0_dueOf_60 : decode cX0_dueOf 60 = .ok (.iadd, 1) := dk_96 (dk_at dksX0_dueOf_2 16 rfl rfl)
theorem dX0_dueOf_61 : decode cX0_dueOf 61 = .ok (.bipush 12, 2) := dk_16 12 (dk_at dksX0_dueOf_2 17 rfl rfl)
theorem dX0_dueOf_63 : decode cX0_dueOf 63 = .ok (.irem, 1) := dk_112 (dk_at dksX0_dueOf_2 19 rfl rfl)
theorem dX0_dueOf_64 : decode cX0_dueOf 64 = .ok (.iconst 1, 1) := dk_4 (dk_at dksX0_dueOf_2 20 rfl rfl)
theorem dX0_dueOf_65 : decode cX0_dueOf 65 = .ok (.iadd, 1) := dk_96 (dk_at dksX0_dueOf_2 21 rfl rfl)
theorem dX0_dueOf_66 : decode cX0_dueOf 66 = .ok (.ireturn, 1) := dk_172 (dk_at dksX0_dueOf_2 22 rfl rfl)
theorem dX0_dueOf_67 : decode cX0_dueOf 67 = .ok (.iload 5, 2) := dk_21 5 (dk_at dksX0_dueOf_3 0 rfl rfl)
theorem dX0_dueOf_69 : decode cX0_dueOf 69 = .ok (.iload_n 3, 1) := dk_29 (dk_at dksX0_dueOf_3 2 rfl rfl)
theorem dX0_dueOf_70 : decode cX0_dueOf 70 = .ok (.if_icmp .ne 8, 3) := dk_160 0 8 (dk_at dksX0_dueOf_3 3 rfl rfl)
theorem dX0_dueOf_73 : decode cX0_dueOf 73 = .ok (.iload 4, 2) := dk_21 4 (dk_at dksX0_dueOf_3 6 rfl rfl)
theorem dX0_dueOf_75 : decode cX0_dueOf 75 = .ok (.goto 5, 3) := dk_167 0 5 (dk_at dksX0_dueOf_3 8 rfl rfl)
theorem dX0_dueOf_78 : decode cX0_dueOf 78 = .ok (.iload 5, 2) := dk_21 5 (dk_at dksX0_dueOf_3 11 rfl rfl)
theorem dX0_dueOf_80 : decode cX0_dueOf 80 = .ok (.ireturn, 1) := dk_172 (dk_at dksX0_dueOf_3 13 rfl rfl)
theorem dX0_dueOf_81 : decode cX0_dueOf 81 = .ok (.iconst 0, 1) := dk_3 (dk_at dksX0_dueOf_3 14 rfl rfl)
theorem dX0_dueOf_82 : decode cX0_dueOf 82 = .ok (.iload 5, 2) := dk_21 5 (dk_at dksX0_dueOf_3 15 rfl rfl)
theorem dX0_dueOf_84 : decode cX0_dueOf 84 = .ok (.iload_n 3, 1) := dk_29 (dk_at dksX0_dueOf_3 17 rfl rfl)
theorem dX0_dueOf_85 : decode cX0_dueOf 85 = .ok (.isub, 1) := dk_100 (dk_at dksX0_dueOf_3 18 rfl rfl)
theorem dX0_dueOf_86 : decode cX0_dueOf 86 = .ok (.invokestatic 330, 3) := dk_184 1 74 (dk_at dksX0_dueOf_3 19 rfl rfl)
theorem dX0_dueOf_89 : decode cX0_dueOf 89 = .ok (.ireturn, 1) := dk_172 (dk_at dksX0_dueOf_3 22 rfl rfl)
theorem dX0_dueOf_90 : decode cX0_dueOf 90 = .ok (.iload_n 1, 1) := dk_27 (dk_at dksX0_dueOf_3 23 rfl rfl)
theorem dX0_dueOf_91 : decode cX0_dueOf 91 = .ok (.iload_n 3, 1) := dk_29 (dk_at dksX0_dueOf_4 0 rfl rfl)
theorem dX0_dueOf_92 : decode cX0_dueOf 92 = .ok (.iload 4, 2) := dk_21 4 (dk_at dksX0_dueOf_4 1 rfl rfl)
theorem dX0_dueOf_94 : decode cX0_dueOf 94 = .ok (.invokestatic 69, 3) := dk_184 0 69 (dk_at dksX0_dueOf_4 3 rfl rfl)
theorem dX0_dueOf_97 : decode cX0_dueOf 97 = .ok (.ifCond .eq 7, 3) := dk_153 0 7 (dk_at dksX0_dueOf_4 6 rfl rfl)
theorem dX0_dueOf_100 : decode cX0_dueOf 100 = .ok (.iconst 0, 1) := dk_3 (dk_at dksX0_dueOf_4 9 rfl rfl)
theorem dX0_dueOf_101 : decode cX0_dueOf 101 = .ok (.goto 5, 3) := dk_167 0 5 (dk_at dksX0_dueOf_4 10 rfl rfl)
theorem dX0_dueOf_104 : decode cX0_dueOf 104 = .ok (.iload 5, 2) := dk_21 5 (dk_at dksX0_dueOf_4 13 rfl rfl)
theorem dX0_dueOf_106 : decode cX0_dueOf 106 = .ok (.ireturn, 1) := dk_172 (dk_at dksX0_dueOf_4 15 rfl rfl)
theorem dX0_dueOf_107 : decode cX0_dueOf 107 = .ok (.iload 5, 2) := dk_21 5 (dk_at dksX0_dueOf_4 16 rfl rfl)
theorem dX0_dueOf_109 : decode cX0_dueOf 109 = .ok (.ireturn, 1) := dk_172 (dk_at dksX0_dueOf_4 18 rfl rfl)
abbrev cX0_misfits : ByteArray := prog_1_method_73_code
def yX0_misfits : MethodName := ⟨RX0, "misfits", "(IIIII)I"⟩
def dkwX0_misfits_1 : List UInt8 := [167, 0, 18, 42, 180, 0, 22, 27, 50, 28, 29, 21, 4, 21, 5, 184, 1, 88, 172]
abbrev dktX0_misfits_1 : List UInt8 := dkwX0_misfits_1 ++ []
def dkwX0_misfits_0 : List UInt8 := [42, 29, 21, 4, 21, 5, 184, 1, 77, 27, 28, 182, 1, 84, 54, 6, 21, 6, 156, 0, 8, 21, 6]
abbrev dktX0_misfits_0 : List UInt8 := dkwX0_misfits_0 ++ dktX0_misfits_1
theorem dksX0_misfits_0 : cX0_misfits.data.toList.drop 0 = dktX0_misfits_0 := by decide +kernel
theorem dksX0_misfits_1 : cX0_misfits.data.toList.drop 23 = dktX0_misfits_1 := dk_seg dksX0_misfits_0 23 rfl rfl
theorem dX0_misfits_0 : decode cX0_misfits 0 = .ok (.aload_n 0, 1) := dk_42 (dk_at dksX0_misfits_0 0 rfl rfl)
theorem dX0_misfits_1 : decode cX0_misfits 1 = .ok (.iload_n 3, 1) := dk_29 (dk_at dksX0_misfits_0 1 rfl rfl)
theorem dX0_misfits_2 : decode cX0_misfits 2 = .ok (.iload 4, 2) := dk_21 4 (dk_at dksX0_misfits_0 2 rfl rfl)
theorem dX0_misfits_4 : decode cX0_misfits 4 = .ok (.iload 5, 2) := dk_21 5 (dk_at dksX0_misfits_0 4 rfl rfl)
theorem dX0_misfits_6 : decode cX0_misfits 6 = .ok (.invokestatic 333, 3) := dk_184 1 77 (dk_at dksX0_misfits_0 6 rfl rfl)
theorem dX0_misfits_9 : decode cX0_misfits 9 = .ok (.iload_n 1, 1) := dk_27 (dk_at dksX0_misfits_0 9 rfl rfl)
theorem dX0_misfits_10 : decode cX0_misfits 10 = .ok (.iload_n 2, 1) := dk_28 (dk_at dksX0_misfits_0 10 rfl rfl)
theorem dX0_misfits_11 : decode cX0_misfits 11 = .ok (.invokevirtual 340, 3) := dk_182 1 84 (dk_at dksX0_misfits_0 11 rfl rfl)
theorem dX0_misfits_14 : decode cX0_misfits 14 = .ok (.istore 6, 2) := dk_54 6 (dk_at dksX0_misfits_0 14 rfl rfl)
theorem dX0_misfits_16 : decode cX0_misfits 16 = .ok (.iload 6, 2) := dk_21 6 (dk_at dksX0_misfits_0 16 rfl rfl)
theorem dX0_misfits_18 : decode cX0_misfits 18 = .ok (.ifCond .ge 8, 3) := dk_156 0 8 (dk_at dksX0_misfits_0 18 rfl rfl)
theorem dX0_misfits_21 : decode cX0_misfits 21 = .ok (.iload 6, 2) := dk_21 6 (dk_at dksX0_misfits_0 21 rfl rfl)
theorem dX0_misfits_23 : decode cX0_misfits 23 = .ok (.goto 18, 3) := dk_167 0 18 (dk_at dksX0_misfits_1 0 rfl rfl)
theorem dX0_misfits_26 : decode cX0_misfits 26 = .ok (.aload_n 0, 1) := dk_42 (dk_at dksX0_misfits_1 3 rfl rfl)
theorem dX0_misfits_27 : decode cX0_misfits 27 = .ok (.getfield 22, 3) := dk_180 0 22 (dk_at dksX0_misfits_1 4 rfl rfl)
theorem dX0_misfits_30 : decode cX0_misfits 30 = .ok (.iload_n 1, 1) := dk_27 (dk_at dksX0_misfits_1 7 rfl rfl)
theorem dX0_misfits_31 : decode cX0_misfits 31 = .ok (.aaload, 1) := dk_50 (dk_at dksX0_misfits_1 8 rfl rfl)
theorem dX0_misfits_32 : decode cX0_misfits 32 = .ok (.iload_n 2, 1) := dk_28 (dk_at dksX0_misfits_1 9 rfl rfl)
theorem dX0_misfits_33 : decode cX0_misfits 33 = .ok (.iload_n 3, 1) := dk_29 (dk_at dksX0_misfits_1 10 rfl rfl)
theorem dX0_misfits_34 : decode cX0_misfits 34 = .ok (.iload 4, 2) := dk_21 4 (dk_at dksX0_misfits_1 11 rfl rfl)
theorem dX0_misfits_36 : decode cX0_misfits 36 = .ok (.iload 5, 2) := dk_21 5 (dk_at dksX0_misfits_1 13 rfl rfl)
theorem dX0_misfits_38 : decode cX0_misfits 38 = .ok (.invokestatic 344, 3) := dk_184 1 88 (dk_at dksX0_misfits_1 15 rfl rfl)
theorem dX0_misfits_41 : decode cX0_misfits 41 = .ok (.ireturn, 1) := dk_172 (dk_at dksX0_misfits_1 18 rfl rfl)
abbrev cX0_needRow : ByteArray := prog_1_method_72_code
def yX0_needRow : MethodName := ⟨RX0, "needRow", "(ZII)I"⟩
def dkwX0_needRow_1 : List UInt8 := [167, 0, 21, 42, 180, 0, 22, 28, 50, 199, 0, 11, 42, 4, 182, 0, 79, 167, 0, 4, 3, 172]
abbrev dktX0_needRow_1 : List UInt8 := dkwX0_needRow_1 ++ []
def dkwX0_needRow_0 : List UInt8 := [28, 184, 0, 73, 153, 0, 17, 29, 4, 16, 12, 184, 0, 69, 153, 0, 7, 27, 154, 0, 7, 2]
abbrev dktX0_needRow_0 : List UInt8 := dkwX0_needRow_0 ++ dktX0_needRow_1
theorem dksX0_needRow_0 : cX0_needRow.data.toList.drop 0 = dktX0_needRow_0 := by decide +kernel
theorem dksX0_needRow_1 : cX0_needRow.data.toList.drop 22 = dktX0_needRow_1 := dk_seg dksX0_needRow_0 22 rfl rfl
theorem dX0_needRow_0 : decode cX0_needRow 0 = .ok (.iload_n 2, 1) := dk_28 (dk_at dksX0_needRow_0 0 rfl rfl)
theorem dX0_needRow_1 : decode cX0_needRow 1 = .ok (.invokestatic 73, 3) := dk_184 0 73 (dk_at dksX0_needRow_0 1 rfl rfl)
theorem dX0_needRow_4 : decode cX0_needRow 4 = .ok (.ifCond .eq 17, 3) := dk_153 0 17 (dk_at dksX0_needRow_0 4 rfl rfl)
theorem dX0_needRow_7 : decode cX0_needRow 7 = .ok (.iload_n 3, 1) := dk_29 (dk_at dksX0_needRow_0 7 rfl rfl)
theorem dX0_needRow_8 : decode cX0_needRow 8 = .ok (.iconst 1, 1) := dk_4 (dk_at dksX0_needRow_0 8 rfl rfl)
theorem dX0_needRow_9 : decode cX0_needRow 9 = .ok (.bipush 12, 2) := dk_16 12 (dk_at dksX0_needRow_0 9 rfl rfl)
theorem dX0_needRow_11 : decode cX0_needRow 11 = .ok (.invokestatic 69, 3) := dk_184 0 69 (dk_at dksX0_needRow_0 11 rfl rfl)
theorem dX0_needRow_14 : decode cX0_needRow 14 = .ok (.ifCond .eq 7, 3) := dk_153 0 7 (dk_at dksX0_needRow_0 14 rfl rfl)
theorem dX0_needRow_17 : decode cX0_needRow 17 = .ok (.iload_n 1, 1) := dk_27 (dk_at dksX0_needRow_0 17 rfl rfl)
theorem dX0_needRow_18 : decode cX0_needRow 18 = .ok (.ifCond .ne 7, 3) := dk_154 0 7 (dk_at dksX0_needRow_0 18 rfl rfl)
theorem dX0_needRow_21 : decode cX0_needRow 21 = .ok (.iconst (-1), 1) := dk_2 (dk_at dksX0_needRow_0 21 rfl rfl)
theorem dX0_needRow_22 : decode cX0_needRow 22 = .ok (.goto 21, 3) := dk_167 0 21 (dk_at dksX0_needRow_1 0 rfl rfl)
theorem dX0_needRow_25 : decode cX0_needRow 25 = .ok (.aload_n 0, 1) := dk_42 (dk_at dksX0_needRow_1 3 rfl rfl)
theorem dX0_needRow_26 : decode cX0_needRow 26 = .ok (.getfield 22, 3) := dk_180 0 22 (dk_at dksX0_needRow_1 4 rfl rfl)
theorem dX0_needRow_29 : decode cX0_needRow 29 = .ok (.iload_n 2, 1) := dk_28 (dk_at dksX0_needRow_1 7 rfl rfl)
theorem dX0_needRow_30 : decode cX0_needRow 30 = .ok (.aaload, 1) := dk_50 (dk_at dksX0_needRow_1 8 rfl rfl)
theorem dX0_needRow_31 : decode cX0_needRow 31 = .ok (.ifnonnull 11, 3) := dk_199 0 11 (dk_at dksX0_needRow_1 9 rfl rfl)
theorem dX0_needRow_34 : decode cX0_needRow 34 = .ok (.aload_n 0, 1) := dk_42 (dk_at dksX0_needRow_1 12 rfl rfl)
theorem dX0_needRow_35 : decode cX0_needRow 35 = .ok (.iconst 1, 1) := dk_4 (dk_at dksX0_needRow_1 13 rfl rfl)
theorem dX0_needRow_36 : decode cX0_needRow 36 = .ok (.invokevirtual 79, 3) := dk_182 0 79 (dk_at dksX0_needRow_1 14 rfl rfl)
theorem dX0_needRow_39 : decode cX0_needRow 39 = .ok (.goto 4, 3) := dk_167 0 4 (dk_at dksX0_needRow_1 17 rfl rfl)
theorem dX0_needRow_42 : decode cX0_needRow 42 = .ok (.iconst 0, 1) := dk_3 (dk_at dksX0_needRow_1 20 rfl rfl)
theorem dX0_needRow_43 : decode cX0_needRow 43 = .ok (.ireturn, 1) := dk_172 (dk_at dksX0_needRow_1 21 rfl rfl)
abbrev cX0_misfitsOf : ByteArray := prog_1_method_71_code
def yX0_misfitsOf : MethodName := ⟨RX0, "misfitsOf", "([BIIII)I"⟩
def dkwX0_misfitsOf_2 : List UInt8 := [132, 6, 1, 167, 255, 212, 21, 5, 172]
abbrev dktX0_misfitsOf_2 : List UInt8 := dkwX0_misfitsOf_2 ++ []
def dkwX0_misfitsOf_1 : List UInt8 := [21, 6, 51, 27, 21, 6, 28, 29, 21, 4, 184, 1, 80, 159, 0, 7, 4, 167, 0, 4, 3, 96, 54, 5]
abbrev dktX0_misfitsOf_1 : List UInt8 := dkwX0_misfitsOf_1 ++ dktX0_misfitsOf_2
def dkwX0_misfitsOf_0 : List UInt8 := [3, 54, 5, 3, 54, 6, 21, 6, 42, 190, 162, 0, 43, 21, 5, 42, 21, 6, 51, 155, 0, 24, 42]
abbrev dktX0_misfitsOf_0 : List UInt8 := dkwX0_misfitsOf_0 ++ dktX0_misfitsOf_1
theorem dksX0_misfitsOf_0 : cX0_misfitsOf.data.toList.drop 0 = dktX0_misfitsOf_0 := by decide +kernel
theorem dksX0_misfitsOf_1 : cX0_misfitsOf.data.toList.drop 23 = dktX0_misfitsOf_1 := dk_seg dksX0_misfitsOf_0 23 rfl rfl
theorem dksX0_misfitsOf_2 : cX0_misfitsOf.data.toList.drop 47 = dktX0_misfitsOf_2 := dk_seg dksX0_misfitsOf_1 24 rfl rfl
theorem dX0_misfitsOf_0 : decode cX0_misfitsOf 0 = .ok (.iconst 0, 1) := dk_3 (dk_at dksX0_misfitsOf_0 0 rfl rfl)
theorem dX0_misfitsOf_1 : decode cX0_misfitsOf 1 = .ok (.istore 5, 2) := dk_54 5 (dk_at dksX0_misfitsOf_0 1 rfl rfl)
theorem dX0_misfitsOf_3 : decode cX0_misfitsOf 3 = .ok (.iconst 0, 1) := dk_3 (dk_at dksX0_misfitsOf_0 3 rfl rfl)
theorem dX0_misfitsOf_4 : decode cX0_misfitsOf 4 = .ok (.istore 6, 2) := dk_54 6 (dk_at dksX0_misfitsOf_0 4 rfl rfl)
theorem dX0_misfitsOf_6 : decode cX0_misfitsOf 6 = .ok (.iload 6, 2) := dk_21 6 (dk_at dksX0_misfitsOf_0 6 rfl rfl)
theorem dX0_misfitsOf_8 : decode cX0_misfitsOf 8 = .ok (.aload_n 0, 1) := dk_42 (dk_at dksX0_misfitsOf_0 8 rfl rfl)
theorem dX0_misfitsOf_9 : decode cX0_misfitsOf 9 = .ok (.arraylength, 1) := dk_190 (dk_at dksX0_misfitsOf_0 9 rfl rfl)
theorem dX0_misfitsOf_10 : decode cX0_misfitsOf 10 = .ok (.if_icmp .ge 43, 3) := dk_162 0 43 (dk_at dksX0_misfitsOf_0 10 rfl rfl)
theorem dX0_misfitsOf_13 : decode cX0_misfitsOf 13 = .ok (.iload 5, 2) := dk_21 5 (dk_at dksX0_misfitsOf_0 13 rfl rfl)
theorem dX0_misfitsOf_15 : decode cX0_misfitsOf 15 = .ok (.aload_n 0, 1) := dk_42 (dk_at dksX0_misfitsOf_0 15 rfl rfl)
theorem dX0_misfitsOf_16 : decode cX0_misfitsOf 16 = .ok (.iload 6, 2) := dk_21 6 (dk_at dksX0_misfitsOf_0 16 rfl rfl)
theorem dX0_misfitsOf_18 : decode cX0_misfitsOf 18 = .ok (.baload, 1) := dk_51 (dk_at dksX0_misfitsOf_0 18 rfl rfl)
theorem dX0_misfitsOf_19 : decode cX0_misfitsOf 19 = .ok (.ifCond .lt 24, 3) := dk_155 0 24 (dk_at dksX0_misfitsOf_0 19 rfl rfl)
theorem dX0_misfitsOf_22 : decode cX0_misfitsOf 22 = .ok (.aload_n 0, 1) := dk_42 (dk_at dksX0_misfitsOf_0 22 rfl rfl)
theorem dX0_misfitsOf_23 : decode cX0_misfitsOf 23 = .ok (.iload 6, 2) := dk_21 6 (dk_at dksX0_misfitsOf_1 0 rfl rfl)
theorem dX0_misfitsOf_25 : decode cX0_misfitsOf 25 = .ok (.baload, 1) := dk_51 (dk_at dksX0_misfitsOf_1 2 rfl rfl)
theorem dX0_misfitsOf_26 : decode cX0_misfitsOf 26 = .ok (.iload_n 1, 1) := dk_27 (dk_at dksX0_misfitsOf_1 3 rfl rfl)
theorem dX0_misfitsOf_27 : decode cX0_misfitsOf 27 = .ok (.iload 6, 2) := dk_21 6 (dk_at dksX0_misfitsOf_1 4 rfl rfl)
theorem dX0_misfitsOf_29 : decode cX0_misfitsOf 29 = .ok (.iload_n 2, 1) := dk_28 (dk_at dksX0_misfitsOf_1 6 rfl rfl)
theorem dX0_misfitsOf_30 : decode cX0_misfitsOf 30 = .ok (.iload_n 3, 1) := dk_29 (dk_at dksX0_misfitsOf_1 7 rfl rfl)
theorem dX0_misfitsOf_31 : decode cX0_misfitsOf 31 = .ok (.iload 4, 2) := dk_21 4 (dk_at dksX0_misfitsOf_1 8 rfl rfl)
theorem dX0_misfitsOf_33 : decode cX0_misfitsOf 33 = .ok (.invokestatic 336, 3) := dk_184 1 80 (dk_at dksX0_misfitsOf_1 10 rfl rfl)
theorem dX0_misfitsOf_36 : decode cX0_misfitsOf 36 = .ok (.if_icmp .eq 7, 3) := dk_159 0 7 (dk_at dksX0_misfitsOf_1 13 rfl rfl)
theorem dX0_misfitsOf_39 : decode cX0_misfitsOf 39 = .ok (.iconst 1, 1) := dk_4 (dk_at dksX0_misfitsOf_1 16 rfl rfl)
theorem dX0_misfitsOf_40 : decode cX0_misfitsOf 40 = .ok (.goto 4, 3) := dk_167 0 4 (dk_at dksX0_misfitsOf_1 17 rfl rfl)
theorem dX0_misfitsOf_43 : decode cX0_misfitsOf 43 = .ok (.iconst 0, 1) := dk_3 (dk_at dksX0_misfitsOf_1 20 rfl rfl)
theorem dX0_misfitsOf_44 : decode cX0_misfitsOf 44 = .ok (.iadd, 1) := dk_96 (dk_at dksX0_misfitsOf_1 21 rfl rfl)
theorem dX0_misfitsOf_45 : decode cX0_misfitsOf 45 = .ok (.istore 5, 2) := dk_54 5 (dk_at dksX0_misfitsOf_1 22 rfl rfl)
theorem dX0_misfitsOf_47 : decode cX0_misfitsOf 47 = .ok (.iinc 6 1, 3) := dk_132 6 1 (dk_at dksX0_misfitsOf_2 0 rfl rfl)
theorem dX0_misfitsOf_50 : decode cX0_misfitsOf 50 = .ok (.goto (-44), 3) := dk_167 255 212 (dk_at dksX0_misfitsOf_2 3 rfl rfl)
theorem dX0_misfitsOf_53 : decode cX0_misfitsOf 53 = .ok (.iload 5, 2) := dk_21 5 (dk_at dksX0_misfitsOf_2 6 rfl rfl)
theorem dX0_misfitsOf_55 : decode cX0_misfitsOf 55 = .ok (.ireturn, 1) := dk_172 (dk_at dksX0_misfitsOf_2 8 rfl rfl)
abbrev cX0_fault : ByteArray := prog_1_method_76_code
def yX0_fault : MethodName := ⟨RX0, "fault", "(II)I"⟩
def dkwX0_fault_2 : List UInt8 := [42, 180, 1, 98, 182, 1, 71, 172]
abbrev dktX0_fault_2 : List UInt8 := dkwX0_fault_2 ++ []
def dkwX0_fault_1 : List UInt8 := [182, 1, 105, 42, 42, 180, 0, 44, 181, 0, 50, 42, 42, 180, 0, 47, 181, 0, 53, 42, 42, 180, 1, 95]
abbrev dktX0_fault_1 : List UInt8 := dkwX0_fault_1 ++ dktX0_fault_2
def dkwX0_fault_0 : List UInt8 := [42, 4, 27, 28, 182, 1, 84, 62, 29, 156, 0, 5, 29, 172, 42, 42, 180, 0, 22, 27, 50, 28]
abbrev dktX0_fault_0 : List UInt8 := dkwX0_fault_0 ++ dktX0_fault_1
theorem dksX0_fault_0 : cX0_fault.data.toList.drop 0 = dktX0_fault_0 := by decide +kernel
theorem dksX0_fault_1 : cX0_fault.data.toList.drop 22 = dktX0_fault_1 := dk_seg dksX0_fault_0 22 rfl rfl
theorem dksX0_fault_2 : cX0_fault.data.toList.drop 46 = dktX0_fault_2 := dk_seg dksX0_fault_1 24 rfl rfl
theorem dX0_fault_0 : decode cX0_fault 0 = .ok (.aload_n 0, 1) := dk_42 (dk_at dksX0_fault_0 0 rfl rfl)
theorem dX0_fault_1 : decode cX0_fault 1 = .ok (.iconst 1, 1) := dk_4 (dk_at dksX0_fault_0 1 rfl rfl)
theorem dX0_fault_2 : decode cX0_fault 2 = .ok (.iload_n 1, 1) := dk_27 (dk_at dksX0_fault_0 2 rfl rfl)
theorem dX0_fault_3 : decode cX0_fault 3 = .ok (.iload_n 2, 1) := dk_28 (dk_at dksX0_fault_0 3 rfl rfl)
theorem dX0_fault_4 : decode cX0_fault 4 = .ok (.invokevirtual 340, 3) := dk_182 1 84 (dk_at dksX0_fault_0 4 rfl rfl)
theorem dX0_fault_7 : decode cX0_fault 7 = .ok (.istore_n 3, 1) := dk_62 (dk_at dksX0_fault_0 7 rfl rfl)
theorem dX0_fault_8 : decode cX0_fault 8 = .ok (.iload_n 3, 1) := dk_29 (dk_at dksX0_fault_0 8 rfl rfl)
theorem dX0_fault_9 : decode cX0_fault 9 = .ok (.ifCond .ge 5, 3) := dk_156 0 5 (dk_at dksX0_fault_0 9 rfl rfl)
theorem dX0_fault_12 : decode cX0_fault 12 = .ok (.iload_n 3, 1) := dk_29 (dk_at dksX0_fault_0 12 rfl rfl)
theorem dX0_fault_13 : decode cX0_fault 13 = .ok (.ireturn, 1) := dk_172 (dk_at dksX0_fault_0 13 rfl rfl)
theorem dX0_fault_14 : decode cX0_fault 14 = .ok (.aload_n 0, 1) := dk_42 (dk_at dksX0_fault_0 14 rfl rfl)
theorem dX0_fault_15 : decode cX0_fault 15 = .ok (.aload_n 0, 1) := dk_42 (dk_at dksX0_fault_0 15 rfl rfl)
theorem dX0_fault_16 : decode cX0_fault 16 = .ok (.getfield 22, 3) := dk_180 0 22 (dk_at dksX0_fault_0 16 rfl rfl)
theorem dX0_fault_19 : decode cX0_fault 19 = .ok (.iload_n 1, 1) := dk_27 (dk_at dksX0_fault_0 19 rfl rfl)
theorem dX0_fault_20 : decode cX0_fault 20 = .ok (.aaload, 1) := dk_50 (dk_at dksX0_fault_0 20 rfl rfl)
theorem dX0_fault_21 : decode cX0_fault 21 = .ok (.iload_n 2, 1) := dk_28 (dk_at dksX0_fault_0 21 rfl rfl)
theorem dX0_fault_22 : decode cX0_fault 22 = .ok (.invokevirtual 361, 3) := dk_182 1 105 (dk_at dksX0_fault_1 0 rfl rfl)
theorem dX0_fault_25 : decode cX0_fault 25 = .ok (.aload_n 0, 1) := dk_42 (dk_at dksX0_fault_1 3 rfl rfl)
theorem dX0_fault_26 : decode cX0_fault 26 = .ok (.aload_n 0, 1) := dk_42 (dk_at dksX0_fault_1 4 rfl rfl)
theorem dX0_fault_27 : decode cX0_fault 27 = .ok (.getfield 44, 3) := dk_180 0 44 (dk_at dksX0_fault_1 5 rfl rfl)
theorem dX0_fault_30 : decode cX0_fault 30 = .ok (.putfield 50, 3) := dk_181 0 50 (dk_at dksX0_fault_1 8 rfl rfl)
theorem dX0_fault_33 : decode cX0_fault 33 = .ok (.aload_n 0, 1) := dk_42 (dk_at dksX0_fault_1 11 rfl rfl)
theorem dX0_fault_34 : decode cX0_fault 34 = .ok (.aload_n 0, 1) := dk_42 (dk_at dksX0_fault_1 12 rfl rfl)
theorem dX0_fault_35 : decode cX0_fault 35 = .ok (.getfield 47, 3) := dk_180 0 47 (dk_at dksX0_fault_1 13 rfl rfl)
theorem dX0_fault_38 : decode cX0_fault 38 = .ok (.putfield 53, 3) := dk_181 0 53 (dk_at dksX0_fault_1 16 rfl rfl)
theorem dX0_fault_41 : decode cX0_fault 41 = .ok (.aload_n 0, 1) := dk_42 (dk_at dksX0_fault_1 19 rfl rfl)
theorem dX0_fault_42 : decode cX0_fault 42 = .ok (.aload_n 0, 1) := dk_42 (dk_at dksX0_fault_1 20 rfl rfl)
theorem dX0_fault_43 : decode cX0_fault 43 = .ok (.getfield 351, 3) := dk_180 1 95 (dk_at dksX0_fault_1 21 rfl rfl)
theorem dX0_fault_46 : decode cX0_fault 46 = .ok (.aload_n 0, 1) := dk_42 (dk_at dksX0_fault_2 0 rfl rfl)
theorem dX0_fault_47 : decode cX0_fault 47 = .ok (.getfield 354, 3) := dk_180 1 98 (dk_at dksX0_fault_2 1 rfl rfl)
theorem dX0_fault_50 : decode cX0_fault 50 = .ok (.invokevirtual 327, 3) := dk_182 1 71 (dk_at dksX0_fault_2 4 rfl rfl)
theorem dX0_fault_53 : decode cX0_fault 53 = .ok (.ireturn, 1) := dk_172 (dk_at dksX0_fault_2 7 rfl rfl)
abbrev cX0_tryFaults : ByteArray := prog_1_method_75_code
def yX0_tryFaults : MethodName := ⟨RX0, "tryFaults", "([BI)V"⟩
def dkwX0_tryFaults_4 : List UInt8 := [167, 255, 185, 177]
abbrev dktX0_tryFaults_4 : List UInt8 := dkwX0_tryFaults_4 ++ []
def dkwX0_tryFaults_3 : List UInt8 := [21, 4, 21, 5, 182, 1, 101, 132, 5, 1, 167, 255, 215, 132, 4, 1, 167, 255, 199, 132, 3, 1]
abbrev dktX0_tryFaults_3 : List UInt8 := dkwX0_tryFaults_3 ++ dktX0_tryFaults_4
def dkwX0_tryFaults_2 : List UInt8 := [167, 0, 5, 16, 48, 162, 0, 31, 29, 21, 4, 21, 5, 184, 1, 77, 153, 0, 14, 42, 43, 28, 29]
abbrev dktX0_tryFaults_2 : List UInt8 := dkwX0_tryFaults_2 ++ dktX0_tryFaults_3
def dkwX0_tryFaults_1 : List UInt8 := [162, 0, 72, 3, 54, 4, 21, 4, 16, 48, 162, 0, 56, 3, 54, 5, 21, 5, 29, 6, 160, 0, 7, 4]
abbrev dktX0_tryFaults_1 : List UInt8 := dkwX0_tryFaults_1 ++ dktX0_tryFaults_2
def dkwX0_tryFaults_0 : List UInt8 := [42, 16, 247, 181, 1, 95, 42, 3, 181, 1, 92, 42, 43, 28, 3, 3, 3, 182, 1, 101, 4, 62, 29, 8]
abbrev dktX0_tryFaults_0 : List UInt8 := dkwX0_tryFaults_0 ++ dktX0_tryFaults_1
theorem dksX0_tryFaults_0 : cX0_tryFaults.data.toList.drop 0 = dktX0_tryFaults_0 := by decide +kernel
theorem dksX0_tryFaults_1 : cX0_tryFaults.data.toList.drop 24 = dktX0_tryFaults_1 := dk_seg dksX0_tryFaults_0 24 rfl rfl
theorem dksX0_tryFaults_2 : cX0_tryFaults.data.toList.drop 48 = dktX0_tryFaults_2 := dk_seg dksX0_tryFaults_1 24 rfl rfl
theorem dksX0_tryFaults_3 : cX0_tryFaults.data.toList.drop 71 = dktX0_tryFaults_3 := dk_seg dksX0_tryFaults_2 23 rfl rfl
theorem dksX0_tryFaults_4 : cX0_tryFaults.data.toList.drop 93 = dktX0_tryFaults_4 := dk_seg dksX0_tryFaults_3 22 rfl rfl
theorem dX0_tryFaults_0 : decode cX0_tryFaults 0 = .ok (.aload_n 0, 1) := dk_42 (dk_at dksX0_tryFaults_0 0 rfl rfl)
theorem dX0_tryFaults_1 : decode cX0_tryFaults 1 = .ok (.bipush (-9), 2) := dk_16 247 (dk_at dksX0_tryFaults_0 1 rfl rfl)
theorem dX0_tryFaults_3 : decode cX0_tryFaults 3 = .ok (.putfield 351, 3) := dk_181 1 95 (dk_at dksX0_tryFaults_0 3 rfl rfl)
theorem dX0_tryFaults_6 : decode cX0_tryFaults 6 = .ok (.aload_n 0, 1) := dk_42 (dk_at dksX0_tryFaults_0 6 rfl rfl)
theorem dX0_tryFaults_7 : decode cX0_tryFaults 7 = .ok (.iconst 0, 1) := dk_3 (dk_at dksX0_tryFaults_0 7 rfl rfl)
theorem dX0_tryFaults_8 : decode cX0_tryFaults 8 = .ok (.putfield 348, 3) := dk_181 1 92 (dk_at dksX0_tryFaults_0 8 rfl rfl)
theorem dX0_tryFaults_11 : decode cX0_tryFaults 11 = .ok (.aload_n 0, 1) := dk_42 (dk_at dksX0_tryFaults_0 11 rfl rfl)
theorem dX0_tryFaults_12 : decode cX0_tryFaults 12 = .ok (.aload_n 1, 1) := dk_43 (dk_at dksX0_tryFaults_0 12 rfl rfl)
theorem dX0_tryFaults_13 : decode cX0_tryFaults 13 = .ok (.iload_n 2, 1) := dk_28 (dk_at dksX0_tryFaults_0 13 rfl rfl)
theorem dX0_tryFaults_14 : decode cX0_tryFaults 14 = .ok (.iconst 0, 1) := dk_3 (dk_at dksX0_tryFaults_0 14 rfl rfl)
theorem dX0_tryFaults_15 : decode cX0_tryFaults 15 = .ok (.iconst 0, 1) := dk_3 (dk_at dksX0_tryFaults_0 15 rfl rfl)
theorem dX0_tryFaults_16 : decode cX0_tryFaults 16 = .ok (.iconst 0, 1) := dk_3 (dk_at dksX0_tryFaults_0 16 rfl rfl)
theorem dX0_tryFaults_17 : decode cX0_tryFaults 17 = .ok (.invokevirtual 357, 3) := dk_182 1 101 (dk_at dksX0_tryFaults_0 17 rfl rfl)
theorem dX0_tryFaults_20 : decode cX0_tryFaults 20 = .ok (.iconst 1, 1) := dk_4 (dk_at dksX0_tryFaults_0 20 rfl rfl)
theorem dX0_tryFaults_21 : decode cX0_tryFaults 21 = .ok (.istore_n 3, 1) := dk_62 (dk_at dksX0_tryFaults_0 21 rfl rfl)
theorem dX0_tryFaults_22 : decode cX0_tryFaults 22 = .ok (.iload_n 3, 1) := dk_29 (dk_at dksX0_tryFaults_0 22 rfl rfl)
theorem dX0_tryFaults_23 : decode cX0_tryFaults 23 = .ok (.iconst 5, 1) := dk_8 (dk_at dksX0_tryFaults_0 23 rfl rfl)
theorem dX0_tryFaults_24 : decode cX0_tryFaults 24 = .ok (.if_icmp .ge 72, 3) := dk_162 0 72 (dk_at dksX0_tryFaults_1 0 rfl rfl)
theorem dX0_tryFaults_27 : decode cX0_tryFaults 27 = .ok (.iconst 0, 1) := dk_3 (dk_at dksX0_tryFaults_1 3 rfl rfl)
theorem dX0_tryFaults_28 : decode cX0_tryFaults 28 = .ok (.istore 4, 2) := dk_54 4 (dk_at dksX0_tryFaults_1 4 rfl rfl)
theorem dX0_tryFaults_30 : decode cX0_tryFaults 30 = .ok (.iload 4, 2) := dk_21 4 (dk_at dksX0_tryFaults_1 6 rfl rfl)
theorem dX0_tryFaults_32 : decode cX0_tryFaults 32 = .ok (.bipush 48, 2) := dk_16 48 (dk_at dksX0_tryFaults_1 8 rfl rfl)
theorem dX0_tryFaults_34 : decode cX0_tryFaults 34 = .ok (.if_icmp .ge 56, 3) := dk_162 0 56 (dk_at dksX0_tryFaults_1 10 rfl rfl)
theorem dX0_tryFaults_37 : decode cX0_tryFaults 37 = .ok (.iconst 0, 1) := dk_3 (dk_at dksX0_tryFaults_1 13 rfl rfl)
theorem dX0_tryFaults_38 : decode cX0_tryFaults 38 = .ok (.istore 5, 2) := dk_54 5 (dk_at dksX0_tryFaults_1 14 rfl rfl)
theorem dX0_tryFaults_40 : decode cX0_tryFaults 40 = .ok (.iload 5, 2) := dk_21 5 (dk_at dksX0_tryFaults_1 16 rfl rfl)
theorem dX0_tryFaults_42 : decode cX0_tryFaults 42 = .ok (.iload_n 3, 1) := dk_29 (dk_at dksX0_tryFaults_1 18 rfl rfl)
theorem dX0_tryFaults_43 : decode cX0_tryFaults 43 = .ok (.iconst 3, 1) := dk_6 (dk_at dksX0_tryFaults_1 19 rfl rfl)
theorem dX0_tryFaults_44 : decode cX0_tryFaults 44 = .ok (.if_icmp .ne 7, 3) := dk_160 0 7 (dk_at dksX0_tryFaults_1 20 rfl rfl)
theorem dX0_tryFaults_47 : decode cX0_tryFaults 47 = .ok (.iconst 1, 1) := dk_4 (dk_at dksX0_tryFaults_1 23 rfl rfl)
theorem dX0_tryFaults_48 : decode cX0_tryFaults 48 = .ok (.goto 5, 3) := dk_167 0 5 (dk_at dksX0_tryFaults_2 0 rfl rfl)
theorem dX0_tryFaults_51 : decode cX0_tryFaults 51 = .ok (.bipush 48, 2) := dk_16 48 (dk_at dksX0_tryFaults_2 3 rfl rfl)
theorem dX0_tryFaults_53 : decode cX0_tryFaults 53 = .ok (.if_icmp .ge 31, 3) := dk_162 0 31 (dk_at dksX0_tryFaults_2 5 rfl rfl)
theorem dX0_tryFaults_56 : decode cX0_tryFaults 56 = .ok (.iload_n 3, 1) := dk_29 (dk_at dksX0_tryFaults_2 8 rfl rfl)
theorem dX0_tryFaults_57 : decode cX0_tryFaults 57 = .ok (.iload 4, 2) := dk_21 4 (dk_at dksX0_tryFaults_2 9 rfl rfl)
theorem dX0_tryFaults_59 : decode cX0_tryFaults 59 = .ok (.iload 5, 2) := dk_21 5 (dk_at dksX0_tryFaults_2 11 rfl rfl)
theorem dX0_tryFaults_61 : decode cX0_tryFaults 61 = .ok (.invokestatic 333, 3) := dk_184 1 77 (dk_at dksX0_tryFaults_2 13 rfl rfl)
theorem dX0_tryFaults_64 : decode cX0_tryFaults 64 = .ok (.ifCond .eq 14, 3) := dk_153 0 14 (dk_at dksX0_tryFaults_2 16 rfl rfl)
theorem dX0_tryFaults_67 : decode cX0_tryFaults 67 = .ok (.aload_n 0, 1) := dk_42 (dk_at dksX0_tryFaults_2 19 rfl rfl)
theorem dX0_tryFaults_68 : decode cX0_tryFaults 68 = .ok (.aload_n 1, 1) := dk_43 (dk_at dksX0_tryFaults_2 20 rfl rfl)
theorem dX0_tryFaults_69 : decode cX0_tryFaults 69 = .ok (.iload_n 2, 1) := dk_28 (dk_at dksX0_tryFaults_2 21 rfl rfl)
theorem dX0_tryFaults_70 : decode cX0_tryFaults 70 = .ok (.iload_n 3, 1) := dk_29 (dk_at dksX0_tryFaults_2 22 rfl rfl)
theorem dX0_tryFaults_71 : decode cX0_tryFaults 71 = .ok (.iload 4, 2) := dk_21 4 (dk_at dksX0_tryFaults_3 0 rfl rfl)
theorem dX0_tryFaults_73 : decode cX0_tryFaults 73 = .ok (.iload 5, 2) := dk_21 5 (dk_at dksX0_tryFaults_3 2 rfl rfl)
theorem dX0_tryFaults_75 : decode cX0_tryFaults 75 = .ok (.invokevirtual 357, 3) := dk_182 1 101 (dk_at dksX0_tryFaults_3 4 rfl rfl)
theorem dX0_tryFaults_78 : decode cX0_tryFaults 78 = .ok (.iinc 5 1, 3) := dk_132 5 1 (dk_at dksX0_tryFaults_3 7 rfl rfl)
theorem dX0_tryFaults_81 : decode cX0_tryFaults 81 = .ok (.goto (-41), 3) := dk_167 255 215 (dk_at dksX0_tryFaults_3 10 rfl rfl)
theorem dX0_tryFaults_84 : decode cX0_tryFaults 84 = .ok (.iinc 4 1, 3) := dk_132 4 1 (dk_at dksX0_tryFaults_3 13 rfl rfl)
theorem dX0_tryFaults_87 : decode cX0_tryFaults 87 = .ok (.goto (-57), 3) := dk_167 255 199 (dk_at dksX0_tryFaults_3 16 rfl rfl)
theorem dX0_tryFaults_90 : decode cX0_tryFaults 90 = .ok (.iinc 3 1, 3) := dk_132 3 1 (dk_at dksX0_tryFaults_3 19 rfl rfl)
theorem dX0_tryFaults_93 : decode cX0_tryFaults 93 = .ok (.goto (-71), 3) := dk_167 255 185 (dk_at dksX0_tryFaults_4 0 rfl rfl)
theorem dX0_tryFaults_96 : decode cX0_tryFaults 96 = .ok (.return_, 1) := dk_177 (dk_at dksX0_tryFaults_4 3 rfl rfl)
abbrev cX0_tryFault : ByteArray := prog_1_method_74_code
def yX0_tryFault : MethodName := ⟨RX0, "tryFault", "([BIIII)V"⟩
def dkwX0_tryFault_4 : List UInt8 := [181, 0, 47, 177]
abbrev dktX0_tryFault_4 : List UInt8 := dkwX0_tryFault_4 ++ []
def dkwX0_tryFault_3 : List UInt8 := [21, 4, 181, 0, 44, 42, 29, 153, 0, 8, 29, 6, 160, 0, 8, 16, 247, 167, 0, 5, 21, 5]
abbrev dktX0_tryFault_3 : List UInt8 := dkwX0_tryFault_3 ++ dktX0_tryFault_4
def dkwX0_tryFault_2 : List UInt8 := [162, 0, 49, 42, 21, 6, 181, 1, 95, 42, 29, 181, 1, 98, 42, 29, 154, 0, 8, 16, 247, 167, 0, 5]
abbrev dktX0_tryFault_2 : List UInt8 := dkwX0_tryFault_2 ++ dktX0_tryFault_3
def dkwX0_tryFault_1 : List UInt8 := [167, 0, 4, 3, 96, 181, 1, 92, 42, 180, 1, 95, 16, 247, 159, 0, 12, 21, 6, 42, 180, 1, 95]
abbrev dktX0_tryFault_1 : List UInt8 := dkwX0_tryFault_1 ++ dktX0_tryFault_2
def dkwX0_tryFault_0 : List UInt8 := [43, 28, 29, 21, 4, 21, 5, 184, 1, 88, 54, 6, 42, 89, 180, 1, 92, 21, 6, 154, 0, 7, 4]
abbrev dktX0_tryFault_0 : List UInt8 := dkwX0_tryFault_0 ++ dktX0_tryFault_1
theorem dksX0_tryFault_0 : cX0_tryFault.data.toList.drop 0 = dktX0_tryFault_0 := by decide +kernel
theorem dksX0_tryFault_1 : cX0_tryFault.data.toList.drop 23 = dktX0_tryFault_1 := dk_seg dksX0_tryFault_0 23 rfl rfl
theorem dksX0_tryFault_2 : cX0_tryFault.data.toList.drop 46 = dktX0_tryFault_2 := dk_seg dksX0_tryFault_1 23 rfl rfl
theorem dksX0_tryFault_3 : cX0_tryFault.data.toList.drop 70 = dktX0_tryFault_3 := dk_seg dksX0_tryFault_2 24 rfl rfl
theorem dksX0_tryFault_4 : cX0_tryFault.data.toList.drop 92 = dktX0_tryFault_4 := dk_seg dksX0_tryFault_3 22 rfl rfl
theorem dX0_tryFault_0 : decode cX0_tryFault 0 = .ok (.aload_n 1, 1) := dk_43 (dk_at dksX0_tryFault_0 0 rfl rfl)
theorem dX0_tryFault_1 : decode cX0_tryFault 1 = .ok (.iload_n 2, 1) := dk_28 (dk_at dksX0_tryFault_0 1 rfl rfl)
theorem dX0_tryFault_2 : decode cX0_tryFault 2 = .ok (.iload_n 3, 1) := dk_29 (dk_at dksX0_tryFault_0 2 rfl rfl)
theorem dX0_tryFault_3 : decode cX0_tryFault 3 = .ok (.iload 4, 2) := dk_21 4 (dk_at dksX0_tryFault_0 3 rfl rfl)
theorem dX0_tryFault_5 : decode cX0_tryFault 5 = .ok (.iload 5, 2) := dk_21 5 (dk_at dksX0_tryFault_0 5 rfl rfl)
theorem dX0_tryFault_7 : decode cX0_tryFault 7 = .ok (.invokestatic 344, 3) := dk_184 1 88 (dk_at dksX0_tryFault_0 7 rfl rfl)
theorem dX0_tryFault_10 : decode cX0_tryFault 10 = .ok (.istore 6, 2) := dk_54 6 (dk_at dksX0_tryFault_0 10 rfl rfl)
theorem dX0_tryFault_12 : decode cX0_tryFault 12 = .ok (.aload_n 0, 1) := dk_42 (dk_at dksX0_tryFault_0 12 rfl rfl)
theorem dX0_tryFault_13 : decode cX0_tryFault 13 = .ok (.dup, 1) := dk_89 (dk_at dksX0_tryFault_0 13 rfl rfl)
theorem dX0_tryFault_14 : decode cX0_tryFault 14 = .ok (.getfield 348, 3) := dk_180 1 92 (dk_at dksX0_tryFault_0 14 rfl rfl)
theorem dX0_tryFault_17 : decode cX0_tryFault 17 = .ok (.iload 6, 2) := dk_21 6 (dk_at dksX0_tryFault_0 17 rfl rfl)
theorem dX0_tryFault_19 : decode cX0_tryFault 19 = .ok (.ifCond .ne 7, 3) := dk_154 0 7 (dk_at dksX0_tryFault_0 19 rfl rfl)
theorem dX0_tryFault_22 : decode cX0_tryFault 22 = .ok (.iconst 1, 1) := dk_4 (dk_at dksX0_tryFault_0 22 rfl rfl)
theorem dX0_tryFault_23 : decode cX0_tryFault 23 = .ok (.goto 4, 3) := dk_167 0 4 (dk_at dksX0_tryFault_1 0 rfl rfl)
theorem dX0_tryFault_26 : decode cX0_tryFault 26 = .ok (.iconst 0, 1) := dk_3 (dk_at dksX0_tryFault_1 3 rfl rfl)
theorem dX0_tryFault_27 : decode cX0_tryFault 27 = .ok (.iadd, 1) := dk_96 (dk_at dksX0_tryFault_1 4 rfl rfl)
theorem dX0_tryFault_28 : decode cX0_tryFault 28 = .ok (.putfield 348, 3) := dk_181 1 92 (dk_at dksX0_tryFault_1 5 rfl rfl)
theorem dX0_tryFault_31 : decode cX0_tryFault 31 = .ok (.aload_n 0, 1) := dk_42 (dk_at dksX0_tryFault_1 8 rfl rfl)
theorem dX0_tryFault_32 : decode cX0_tryFault 32 = .ok (.getfield 351, 3) := dk_180 1 95 (dk_at dksX0_tryFault_1 9 rfl rfl)
theorem dX0_tryFault_35 : decode cX0_tryFault 35 = .ok (.bipush (-9), 2) := dk_16 247 (dk_at dksX0_tryFault_1 12 rfl rfl)
theorem dX0_tryFault_37 : decode cX0_tryFault 37 = .ok (.if_icmp .eq 12, 3) := dk_159 0 12 (dk_at dksX0_tryFault_1 14 rfl rfl)
theorem dX0_tryFault_40 : decode cX0_tryFault 40 = .ok (.iload 6, 2) := dk_21 6 (dk_at dksX0_tryFault_1 17 rfl rfl)
theorem dX0_tryFault_42 : decode cX0_tryFault 42 = .ok (.aload_n 0, 1) := dk_42 (dk_at dksX0_tryFault_1 19 rfl rfl)
theorem dX0_tryFault_43 : decode cX0_tryFault 43 = .ok (.getfield 351, 3) := dk_180 1 95 (dk_at dksX0_tryFault_1 20 rfl rfl)
theorem dX0_tryFault_46 : decode cX0_tryFault 46 = .ok (.if_icmp .ge 49, 3) := dk_162 0 49 (dk_at dksX0_tryFault_2 0 rfl rfl)
theorem dX0_tryFault_49 : decode cX0_tryFault 49 = .ok (.aload_n 0, 1) := dk_42 (dk_at dksX0_tryFault_2 3 rfl rfl)
theorem dX0_tryFault_50 : decode cX0_tryFault 50 = .ok (.iload 6, 2) := dk_21 6 (dk_at dksX0_tryFault_2 4 rfl rfl)
theorem dX0_tryFault_52 : decode cX0_tryFault 52 = .ok (.putfield 351, 3) := dk_181 1 95 (dk_at dksX0_tryFault_2 6 rfl rfl)
theorem dX0_tryFault_55 : decode cX0_tryFault 55 = .ok (.aload_n 0, 1) := dk_42 (dk_at dksX0_tryFault_2 9 rfl rfl)
theorem dX0_tryFault_56 : decode cX0_tryFault 56 = .ok (.iload_n 3, 1) := dk_29 (dk_at dksX0_tryFault_2 10 rfl rfl)
theorem dX0_tryFault_57 : decode cX0_tryFault 57 = .ok (.putfield 354, 3) := dk_181 1 98 (dk_at dksX0_tryFault_2 11 rfl rfl)
theorem dX0_tryFault_60 : decode cX0_tryFault 60 = .ok (.aload_n 0, 1) := dk_42 (dk_at dksX0_tryFault_2 14 rfl rfl)
theorem dX0_tryFault_61 : decode cX0_tryFault 61 = .ok (.iload_n 3, 1) := dk_29 (dk_at dksX0_tryFault_2 15 rfl rfl)
theorem dX0_tryFault_62 : decode cX0_tryFault 62 = .ok (.ifCond .ne 8, 3) := dk_154 0 8 (dk_at dksX0_tryFault_2 16 rfl rfl)
theorem dX0_tryFault_65 : decode cX0_tryFault 65 = .ok (.bipush (-9), 2) := dk_16 247 (dk_at dksX0_tryFault_2 19 rfl rfl)
theorem dX0_tryFault_67 : decode cX0_tryFault 67 = .ok (.goto 5, 3) := dk_167 0 5 (dk_at dksX0_tryFault_2 21 rfl rfl)
theorem dX0_tryFault_70 : decode cX0_tryFault 70 = .ok (.iload 4, 2) := dk_21 4 (dk_at dksX0_tryFault_3 0 rfl rfl)
theorem dX0_tryFault_72 : decode cX0_tryFault 72 = .ok (.putfield 44, 3) := dk_181 0 44 (dk_at dksX0_tryFault_3 2 rfl rfl)
theorem dX0_tryFault_75 : decode cX0_tryFault 75 = .ok (.aload_n 0, 1) := dk_42 (dk_at dksX0_tryFault_3 5 rfl rfl)
theorem dX0_tryFault_76 : decode cX0_tryFault 76 = .ok (.iload_n 3, 1) := dk_29 (dk_at dksX0_tryFault_3 6 rfl rfl)
theorem dX0_tryFault_77 : decode cX0_tryFault 77 = .ok (.ifCond .eq 8, 3) := dk_153 0 8 (dk_at dksX0_tryFault_3 7 rfl rfl)
theorem dX0_tryFault_80 : decode cX0_tryFault 80 = .ok (.iload_n 3, 1) := dk_29 (dk_at dksX0_tryFault_3 10 rfl rfl)
theorem dX0_tryFault_81 : decode cX0_tryFault 81 = .ok (.iconst 3, 1) := dk_6 (dk_at dksX0_tryFault_3 11 rfl rfl)
theorem dX0_tryFault_82 : decode cX0_tryFault 82 = .ok (.if_icmp .ne 8, 3) := dk_160 0 8 (dk_at dksX0_tryFault_3 12 rfl rfl)
theorem dX0_tryFault_85 : decode cX0_tryFault 85 = .ok (.bipush (-9), 2) := dk_16 247 (dk_at dksX0_tryFault_3 15 rfl rfl)
theorem dX0_tryFault_87 : decode cX0_tryFault 87 = .ok (.goto 5, 3) := dk_167 0 5 (dk_at dksX0_tryFault_3 17 rfl rfl)
theorem dX0_tryFault_90 : decode cX0_tryFault 90 = .ok (.iload 5, 2) := dk_21 5 (dk_at dksX0_tryFault_3 20 rfl rfl)
theorem dX0_tryFault_92 : decode cX0_tryFault 92 = .ok (.putfield 47, 3) := dk_181 0 47 (dk_at dksX0_tryFault_4 0 rfl rfl)
theorem dX0_tryFault_95 : decode cX0_tryFault 95 = .ok (.return_, 1) := dk_177 (dk_at dksX0_tryFault_4 3 rfl rfl)
abbrev cX0_faultTold : ByteArray := prog_1_method_77_code
def yX0_faultTold : MethodName := ⟨RX0, "faultTold", "(Z)I"⟩
def dkwX0_faultTold_0 : List UInt8 := [27, 153, 0, 10, 42, 180, 0, 53, 167, 0, 7, 42, 180, 0, 50, 172]
abbrev dktX0_faultTold_0 : List UInt8 := dkwX0_faultTold_0 ++ []
theorem dksX0_faultTold_0 : cX0_faultTold.data.toList.drop 0 = dktX0_faultTold_0 := by decide +kernel
theorem dX0_faultTold_0 : decode cX0_faultTold 0 = .ok (.iload_n 1, 1) := dk_27 (dk_at dksX0_faultTold_0 0 rfl rfl)
theorem dX0_faultTold_1 : decode cX0_faultTold 1 = .ok (.ifCond .eq 10, 3) := dk_153 0 10 (dk_at dksX0_faultTold_0 1 rfl rfl)
theorem dX0_faultTold_4 : decode cX0_faultTold 4 = .ok (.aload_n 0, 1) := dk_42 (dk_at dksX0_faultTold_0 4 rfl rfl)
theorem dX0_faultTold_5 : decode cX0_faultTold 5 = .ok (.getfield 53, 3) := dk_180 0 53 (dk_at dksX0_faultTold_0 5 rfl rfl)
theorem dX0_faultTold_8 : decode cX0_faultTold 8 = .ok (.goto 7, 3) := dk_167 0 7 (dk_at dksX0_faultTold_0 8 rfl rfl)
theorem dX0_faultTold_11 : decode cX0_faultTold 11 = .ok (.aload_n 0, 1) := dk_42 (dk_at dksX0_faultTold_0 11 rfl rfl)
theorem dX0_faultTold_12 : decode cX0_faultTold 12 = .ok (.getfield 50, 3) := dk_180 0 50 (dk_at dksX0_faultTold_0 12 rfl rfl)
theorem dX0_faultTold_15 : decode cX0_faultTold 15 = .ok (.ireturn, 1) := dk_172 (dk_at dksX0_faultTold_0 15 rfl rfl)
abbrev cX0_explained : ByteArray := prog_1_method_78_code
def yX0_explained : MethodName := ⟨RX0, "explained", "(II)I"⟩
def dkwX0_explained_1 : List UInt8 := [182, 1, 105, 42, 180, 1, 92, 172]
abbrev dktX0_explained_1 : List UInt8 := dkwX0_explained_1 ++ []
def dkwX0_explained_0 : List UInt8 := [42, 4, 27, 28, 182, 1, 84, 62, 29, 156, 0, 5, 29, 172, 42, 42, 180, 0, 22, 27, 50, 28]
abbrev dktX0_explained_0 : List UInt8 := dkwX0_explained_0 ++ dktX0_explained_1
theorem dksX0_explained_0 : cX0_explained.data.toList.drop 0 = dktX0_explained_0 := by decide +kernel
theorem dksX0_explained_1 : cX0_explained.data.toList.drop 22 = dktX0_explained_1 := dk_seg dksX0_explained_0 22 rfl rfl
theorem dX0_explained_0 : decode cX0_explained 0 = .ok (.aload_n 0, 1) := dk_42 (dk_at dksX0_explained_0 0 rfl rfl)
theorem dX0_explained_1 : decode cX0_explained 1 = .ok (.iconst 1, 1) := dk_4 (dk_at dksX0_explained_0 1 rfl rfl)
theorem dX0_explained_2 : decode cX0_explained 2 = .ok (.iload_n 1, 1) := dk_27 (dk_at dksX0_explained_0 2 rfl rfl)
theorem dX0_explained_3 : decode cX0_explained 3 = .ok (.iload_n 2, 1) := dk_28 (dk_at dksX0_explained_0 3 rfl rfl)
theorem dX0_explained_4 : decode cX0_explained 4 = .ok (.invokevirtual 340, 3) := dk_182 1 84 (dk_at dksX0_explained_0 4 rfl rfl)
theorem dX0_explained_7 : decode cX0_explained 7 = .ok (.istore_n 3, 1) := dk_62 (dk_at dksX0_explained_0 7 rfl rfl)
theorem dX0_explained_8 : decode cX0_explained 8 = .ok (.iload_n 3, 1) := dk_29 (dk_at dksX0_explained_0 8 rfl rfl)
theorem dX0_explained_9 : decode cX0_explained 9 = .ok (.ifCond .ge 5, 3) := dk_156 0 5 (dk_at dksX0_explained_0 9 rfl rfl)
theorem dX0_explained_12 : decode cX0_explained 12 = .ok (.iload_n 3, 1) := dk_29 (dk_at dksX0_explained_0 12 rfl rfl)
theorem dX0_explained_13 : decode cX0_explained 13 = .ok (.ireturn, 1) := dk_172 (dk_at dksX0_explained_0 13 rfl rfl)
theorem dX0_explained_14 : decode cX0_explained 14 = .ok (.aload_n 0, 1) := dk_42 (dk_at dksX0_explained_0 14 rfl rfl)
theorem dX0_explained_15 : decode cX0_explained 15 = .ok (.aload_n 0, 1) := dk_42 (dk_at dksX0_explained_0 15 rfl rfl)
theorem dX0_explained_16 : decode cX0_explained 16 = .ok (.getfield 22, 3) := dk_180 0 22 (dk_at dksX0_explained_0 16 rfl rfl)
theorem dX0_explained_19 : decode cX0_explained 19 = .ok (.iload_n 1, 1) := dk_27 (dk_at dksX0_explained_0 19 rfl rfl)
theorem dX0_explained_20 : decode cX0_explained 20 = .ok (.aaload, 1) := dk_50 (dk_at dksX0_explained_0 20 rfl rfl)
theorem dX0_explained_21 : decode cX0_explained 21 = .ok (.iload_n 2, 1) := dk_28 (dk_at dksX0_explained_0 21 rfl rfl)
theorem dX0_explained_22 : decode cX0_explained 22 = .ok (.invokevirtual 361, 3) := dk_182 1 105 (dk_at dksX0_explained_1 0 rfl rfl)
theorem dX0_explained_25 : decode cX0_explained 25 = .ok (.aload_n 0, 1) := dk_42 (dk_at dksX0_explained_1 3 rfl rfl)
theorem dX0_explained_26 : decode cX0_explained 26 = .ok (.getfield 348, 3) := dk_180 1 92 (dk_at dksX0_explained_1 4 rfl rfl)
theorem dX0_explained_29 : decode cX0_explained 29 = .ok (.ireturn, 1) := dk_172 (dk_at dksX0_explained_1 7 rfl rfl)
abbrev cX0_windy : ByteArray := prog_1_method_79_code
def yX0_windy : MethodName := ⟨RX0, "windy", "(IIIII)I"⟩
def dkwX0_windy_3 : List UInt8 := [132, 7, 1, 167, 255, 210, 4, 172]
abbrev dktX0_windy_3 : List UInt8 := dkwX0_windy_3 ++ []
def dkwX0_windy_2 : List UInt8 := [28, 21, 7, 29, 21, 4, 21, 5, 184, 1, 80, 164, 0, 11, 42, 21, 7, 3, 182, 1, 71, 172]
abbrev dktX0_windy_2 : List UInt8 := dkwX0_windy_2 ++ dktX0_windy_3
def dkwX0_windy_1 : List UInt8 := [3, 54, 7, 21, 7, 42, 180, 0, 22, 27, 50, 190, 162, 0, 40, 42, 180, 0, 22, 27, 50, 21, 7, 51]
abbrev dktX0_windy_1 : List UInt8 := dkwX0_windy_1 ++ dktX0_windy_2
def dkwX0_windy_0 : List UInt8 := [42, 29, 21, 4, 21, 5, 184, 1, 77, 27, 28, 182, 1, 84, 54, 6, 21, 6, 156, 0, 6, 21, 6, 172]
abbrev dktX0_windy_0 : List UInt8 := dkwX0_windy_0 ++ dktX0_windy_1
theorem dksX0_windy_0 : cX0_windy.data.toList.drop 0 = dktX0_windy_0 := by decide +kernel
theorem dksX0_windy_1 : cX0_windy.data.toList.drop 24 = dktX0_windy_1 := dk_seg dksX0_windy_0 24 rfl rfl
theorem dksX0_windy_2 : cX0_windy.data.toList.drop 48 = dktX0_windy_2 := dk_seg dksX0_windy_1 24 rfl rfl
theorem dksX0_windy_3 : cX0_windy.data.toList.drop 70 = dktX0_windy_3 := dk_seg dksX0_windy_2 22 rfl rfl
theorem dX0_windy_0 : decode cX0_windy 0 = .ok (.aload_n 0, 1) := dk_42 (dk_at dksX0_windy_0 0 rfl rfl)
theorem dX0_windy_1 : decode cX0_windy 1 = .ok (.iload_n 3, 1) := dk_29 (dk_at dksX0_windy_0 1 rfl rfl)
theorem dX0_windy_2 : decode cX0_windy 2 = .ok (.iload 4, 2) := dk_21 4 (dk_at dksX0_windy_0 2 rfl rfl)
theorem dX0_windy_4 : decode cX0_windy 4 = .ok (.iload 5, 2) := dk_21 5 (dk_at dksX0_windy_0 4 rfl rfl)
theorem dX0_windy_6 : decode cX0_windy 6 = .ok (.invokestatic 333, 3) := dk_184 1 77 (dk_at dksX0_windy_0 6 rfl rfl)
theorem dX0_windy_9 : decode cX0_windy 9 = .ok (.iload_n 1, 1) := dk_27 (dk_at dksX0_windy_0 9 rfl rfl)
theorem dX0_windy_10 : decode cX0_windy 10 = .ok (.iload_n 2, 1) := dk_28 (dk_at dksX0_windy_0 10 rfl rfl)
theorem dX0_windy_11 : decode cX0_windy 11 = .ok (.invokevirtual 340, 3) := dk_182 1 84 (dk_at dksX0_windy_0 11 rfl rfl)
theorem dX0_windy_14 : decode cX0_windy 14 = .ok (.istore 6, 2) := dk_54 6 (dk_at dksX0_windy_0 14 rfl rfl)
theorem dX0_windy_16 : decode cX0_windy 16 = .ok (.iload 6, 2) := dk_21 6 (dk_at dksX0_windy_0 16 rfl rfl)
theorem dX0_windy_18 : decode cX0_windy 18 = .ok (.ifCond .ge 6, 3) := dk_156 0 6 (dk_at dksX0_windy_0 18 rfl rfl)
theorem dX0_windy_21 : decode cX0_windy 21 = .ok (.iload 6, 2) := dk_21 6 (dk_at dksX0_windy_0 21 rfl rfl)
theorem dX0_windy_23 : decode cX0_windy 23 = .ok (.ireturn, 1) := dk_172 (dk_at dksX0_windy_0 23 rfl rfl)
theorem dX0_windy_24 : decode cX0_windy 24 = .ok (.iconst 0, 1) := dk_3 (dk_at dksX0_windy_1 0 rfl rfl)
theorem dX0_windy_25 : decode cX0_windy 25 = .ok (.istore 7, 2) := dk_54 7 (dk_at dksX0_windy_1 1 rfl rfl)
theorem dX0_windy_27 : decode cX0_windy 27 = .ok (.iload 7, 2) := dk_21 7 (dk_at dksX0_windy_1 3 rfl rfl)
theorem dX0_windy_29 : decode cX0_windy 29 = .ok (.aload_n 0, 1) := dk_42 (dk_at dksX0_windy_1 5 rfl rfl)
theorem dX0_windy_30 : decode cX0_windy 30 = .ok (.getfield 22, 3) := dk_180 0 22 (dk_at dksX0_windy_1 6 rfl rfl)
theorem dX0_windy_33 : decode cX0_windy 33 = .ok (.iload_n 1, 1) := dk_27 (dk_at dksX0_windy_1 9 rfl rfl)
theorem dX0_windy_34 : decode cX0_windy 34 = .ok (.aaload, 1) := dk_50 (dk_at dksX0_windy_1 10 rfl rfl)
theorem dX0_windy_35 : decode cX0_windy 35 = .ok (.arraylength, 1) := dk_190 (dk_at dksX0_windy_1 11 rfl rfl)
theorem dX0_windy_36 : decode cX0_windy 36 = .ok (.if_icmp .ge 40, 3) := dk_162 0 40 (dk_at dksX0_windy_1 12 rfl rfl)
theorem dX0_windy_39 : decode cX0_windy 39 = .ok (.aload_n 0, 1) := dk_42 (dk_at dksX0_windy_1 15 rfl rfl)
theorem dX0_windy_40 : decode cX0_windy 40 = .ok (.getfield 22, 3) := dk_180 0 22 (dk_at dksX0_windy_1 16 rfl rfl)
theorem dX0_windy_43 : decode cX0_windy 43 = .ok (.iload_n 1, 1) := dk_27 (dk_at dksX0_windy_1 19 rfl rfl)
theorem dX0_windy_44 : decode cX0_windy 44 = .ok (.aaload, 1) := dk_50 (dk_at dksX0_windy_1 20 rfl rfl)
theorem dX0_windy_45 : decode cX0_windy 45 = .ok (.iload 7, 2) := dk_21 7 (dk_at dksX0_windy_1 21 rfl rfl)
theorem dX0_windy_47 : decode cX0_windy 47 = .ok (.baload, 1) := dk_51 (dk_at dksX0_windy_1 23 rfl rfl)
theorem dX0_windy_48 : decode cX0_windy 48 = .ok (.iload_n 2, 1) := dk_28 (dk_at dksX0_windy_2 0 rfl rfl)
theorem dX0_windy_49 : decode cX0_windy 49 = .ok (.iload 7, 2) := dk_21 7 (dk_at dksX0_windy_2 1 rfl rfl)
theorem dX0_windy_51 : decode cX0_windy 51 = .ok (.iload_n 3, 1) := dk_29 (dk_at dksX0_windy_2 3 rfl rfl)
theorem dX0_windy_52 : decode cX0_windy 52 = .ok (.iload 4, 2) := dk_21 4 (dk_at dksX0_windy_2 4 rfl rfl)
theorem dX0_windy_54 : decode cX0_windy 54 = .ok (.iload 5, 2) := dk_21 5 (dk_at dksX0_windy_2 6 rfl rfl)
theorem dX0_windy_56 : decode cX0_windy 56 = .ok (.invokestatic 336, 3) := dk_184 1 80 (dk_at dksX0_windy_2 8 rfl rfl)
theorem dX0_windy_59 : decode cX0_windy 59 = .ok (.if_icmp .le 11, 3) := dk_164 0 11 (dk_at dksX0_windy_2 11 rfl rfl)
theorem dX0_windy_62 : decode cX0_windy 62 = .ok (.aload_n 0, 1) := dk_42 (dk_at dksX0_windy_2 14 rfl rfl)
theorem dX0_windy_63 : decode cX0_windy 63 = .ok (.iload 7, 2) := dk_21 7 (dk_at dksX0_windy_2 15 rfl rfl)
theorem dX0_windy_65 : decode cX0_windy 65 = .ok (.iconst 0, 1) := dk_3 (dk_at dksX0_windy_2 17 rfl rfl)
theorem dX0_windy_66 : decode cX0_windy 66 = .ok (.invokevirtual 327, 3) := dk_182 1 71 (dk_at dksX0_windy_2 18 rfl rfl)
theorem dX0_windy_69 : decode cX0_windy 69 = .ok (.ireturn, 1) := dk_172 (dk_at dksX0_windy_2 21 rfl rfl)
theorem dX0_windy_70 : decode cX0_windy 70 = .ok (.iinc 7 1, 3) := dk_132 7 1 (dk_at dksX0_windy_3 0 rfl rfl)
theorem dX0_windy_73 : decode cX0_windy 73 = .ok (.goto (-46), 3) := dk_167 255 210 (dk_at dksX0_windy_3 3 rfl rfl)
theorem dX0_windy_76 : decode cX0_windy 76 = .ok (.iconst 1, 1) := dk_4 (dk_at dksX0_windy_3 6 rfl rfl)
theorem dX0_windy_77 : decode cX0_windy 77 = .ok (.ireturn, 1) := dk_172 (dk_at dksX0_windy_3 7 rfl rfl)
abbrev cX0_upper : ByteArray := prog_1_method_82_code
def yX0_upper : MethodName := ⟨RX0, "upper", "()J"⟩
theorem dX0_upper_0 : decode cX0_upper 0 = .ok (.aload_n 0, 1) := by decide +kernel
theorem dX0_upper_1 : decode cX0_upper 1 = .ok (.getfield 368, 3) := by decide +kernel
theorem dX0_upper_4 : decode cX0_upper 4 = .ok (.lreturn, 1) := by decide +kernel
abbrev cX0_lower : ByteArray := prog_1_method_83_code
def yX0_lower : MethodName := ⟨RX0, "lower", "()J"⟩
theorem dX0_lower_0 : decode cX0_lower 0 = .ok (.aload_n 0, 1) := by decide +kernel
theorem dX0_lower_1 : decode cX0_lower 1 = .ok (.getfield 56, 3) := by decide +kernel
theorem dX0_lower_4 : decode cX0_lower 4 = .ok (.lreturn, 1) := by decide +kernel
abbrev cX0_wheel : ByteArray := prog_1_method_84_code
def yX0_wheel : MethodName := ⟨RX0, "wheel", "(I)I"⟩
def dkwX0_wheel_2 : List UInt8 := [180, 1, 115, 4, 100, 172]
abbrev dktX0_wheel_2 : List UInt8 := dkwX0_wheel_2 ++ []
def dkwX0_wheel_1 : List UInt8 := [16, 254, 172, 42, 180, 0, 60, 42, 180, 1, 115, 27, 79, 42, 89, 180, 1, 115, 4, 96, 181, 1, 115, 42]
abbrev dktX0_wheel_1 : List UInt8 := dkwX0_wheel_1 ++ dktX0_wheel_2
def dkwX0_wheel_0 : List UInt8 := [27, 16, 6, 17, 0, 200, 184, 0, 69, 154, 0, 5, 2, 172, 42, 180, 1, 115, 16, 12, 160, 0, 6]
abbrev dktX0_wheel_0 : List UInt8 := dkwX0_wheel_0 ++ dktX0_wheel_1
theorem dksX0_wheel_0 : cX0_wheel.data.toList.drop 0 = dktX0_wheel_0 := by decide +kernel
theorem dksX0_wheel_1 : cX0_wheel.data.toList.drop 23 = dktX0_wheel_1 := dk_seg dksX0_wheel_0 23 rfl rfl
theorem dksX0_wheel_2 : cX0_wheel.data.toList.drop 47 = dktX0_wheel_2 := dk_seg dksX0_wheel_1 24 rfl rfl
theorem dX0_wheel_0 : decode cX0_wheel 0 = .ok (.iload_n 1, 1) := dk_27 (dk_at dksX0_wheel_0 0 rfl rfl)
theorem dX0_wheel_1 : decode cX0_wheel 1 = .ok (.bipush 6, 2) := dk_16 6 (dk_at dksX0_wheel_0 1 rfl rfl)
theorem dX0_wheel_3 : decode cX0_wheel 3 = .ok (.sipush 200, 3) := dk_17 0 200 (dk_at dksX0_wheel_0 3 rfl rfl)
theorem dX0_wheel_6 : decode cX0_wheel 6 = .ok (.invokestatic 69, 3) := dk_184 0 69 (dk_at dksX0_wheel_0 6 rfl rfl)
theorem dX0_wheel_9 : decode cX0_wheel 9 = .ok (.ifCond .ne 5, 3) := dk_154 0 5 (dk_at dksX0_wheel_0 9 rfl rfl)
theorem dX0_wheel_12 : decode cX0_wheel 12 = .ok (.iconst (-1), 1) := dk_2 (dk_at dksX0_wheel_0 12 rfl rfl)
theorem dX0_wheel_13 : decode cX0_wheel 13 = .ok (.ireturn, 1) := dk_172 (dk_at dksX0_wheel_0 13 rfl rfl)
theorem dX0_wheel_14 : decode cX0_wheel 14 = .ok (.aload_n 0, 1) := dk_42 (dk_at dksX0_wheel_0 14 rfl rfl)
theorem dX0_wheel_15 : decode cX0_wheel 15 = .ok (.getfield 371, 3) := dk_180 1 115 (dk_at dksX0_wheel_0 15 rfl rfl)
theorem dX0_wheel_18 : decode cX0_wheel 18 = .ok (.bipush 12, 2) := dk_16 12 (dk_at dksX0_wheel_0 18 rfl rfl)
theorem dX0_wheel_20 : decode cX0_wheel 20 = .ok (.if_icmp .ne 6, 3) := dk_160 0 6 (dk_at dksX0_wheel_0 20 rfl rfl)
theorem dX0_wheel_23 : decode cX0_wheel 23 = .ok (.bipush (-2), 2) := dk_16 254 (dk_at dksX0_wheel_1 0 rfl rfl)
theorem dX0_wheel_25 : decode cX0_wheel 25 = .ok (.ireturn, 1) := dk_172 (dk_at dksX0_wheel_1 2 rfl rfl)
theorem dX0_wheel_26 : decode cX0_wheel 26 = .ok (.aload_n 0, 1) := dk_42 (dk_at dksX0_wheel_1 3 rfl rfl)
theorem dX0_wheel_27 : decode cX0_wheel 27 = .ok (.getfield 60, 3) := dk_180 0 60 (dk_at dksX0_wheel_1 4 rfl rfl)
theorem dX0_wheel_30 : decode cX0_wheel 30 = .ok (.aload_n 0, 1) := dk_42 (dk_at dksX0_wheel_1 7 rfl rfl)
theorem dX0_wheel_31 : decode cX0_wheel 31 = .ok (.getfield 371, 3) := dk_180 1 115 (dk_at dksX0_wheel_1 8 rfl rfl)
theorem dX0_wheel_34 : decode cX0_wheel 34 = .ok (.iload_n 1, 1) := dk_27 (dk_at dksX0_wheel_1 11 rfl rfl)
theorem dX0_wheel_35 : decode cX0_wheel 35 = .ok (.iastore, 1) := dk_79 (dk_at dksX0_wheel_1 12 rfl rfl)
theorem dX0_wheel_36 : decode cX0_wheel 36 = .ok (.aload_n 0, 1) := dk_42 (dk_at dksX0_wheel_1 13 rfl rfl)
theorem dX0_wheel_37 : decode cX0_wheel 37 = .ok (.dup, 1) := dk_89 (dk_at dksX0_wheel_1 14 rfl rfl)
theorem dX0_wheel_38 : decode cX0_wheel 38 = .ok (.getfield 371, 3) := dk_180 1 115 (dk_at dksX0_wheel_1 15 rfl rfl)
theorem dX0_wheel_41 : decode cX0_wheel 41 = .ok (.iconst 1, 1) := dk_4 (dk_at dksX0_wheel_1 18 rfl rfl)
theorem dX0_wheel_42 : decode cX0_wheel 42 = .ok (.iadd, 1) := dk_96 (dk_at dksX0_wheel_1 19 rfl rfl)
theorem dX0_wheel_43 : decode cX0_wheel 43 = .ok (.putfield 371, 3) := dk_181 1 115 (dk_at dksX0_wheel_1 20 rfl rfl)
theorem dX0_wheel_46 : decode cX0_wheel 46 = .ok (.aload_n 0, 1) := dk_42 (dk_at dksX0_wheel_1 23 rfl rfl)
theorem dX0_wheel_47 : decode cX0_wheel 47 = .ok (.getfield 371, 3) := dk_180 1 115 (dk_at dksX0_wheel_2 0 rfl rfl)
theorem dX0_wheel_50 : decode cX0_wheel 50 = .ok (.iconst 1, 1) := dk_4 (dk_at dksX0_wheel_2 3 rfl rfl)
theorem dX0_wheel_51 : decode cX0_wheel 51 = .ok (.isub, 1) := dk_100 (dk_at dksX0_wheel_2 4 rfl rfl)
theorem dX0_wheel_52 : decode cX0_wheel 52 = .ok (.ireturn, 1) := dk_172 (dk_at dksX0_wheel_2 5 rfl rfl)
abbrev cX0_nearest : ByteArray := prog_1_method_86_code
def yX0_nearest : MethodName := ⟨RX0, "nearest", "(III)I"⟩
def dkwX0_nearest_3 : List UInt8 := [180, 1, 127, 42, 180, 1, 118, 182, 1, 137, 172]
abbrev dktX0_nearest_3 : List UInt8 := dkwX0_nearest_3 ++ []
def dkwX0_nearest_2 : List UInt8 := [172, 42, 9, 181, 1, 118, 42, 3, 5, 29, 104, 27, 133, 28, 133, 10, 10, 182, 1, 133, 42, 42]
abbrev dktX0_nearest_2 : List UInt8 := dkwX0_nearest_2 ++ dktX0_nearest_3
def dkwX0_nearest_1 : List UInt8 := [5, 184, 0, 69, 154, 0, 5, 2, 172, 42, 180, 1, 115, 5, 29, 104, 162, 0, 9, 42, 7, 182, 0, 79]
abbrev dktX0_nearest_1 : List UInt8 := dkwX0_nearest_1 ++ dktX0_nearest_2
def dkwX0_nearest_0 : List UInt8 := [27, 4, 17, 39, 16, 184, 0, 69, 153, 0, 23, 28, 4, 17, 39, 16, 184, 0, 69, 153, 0, 12, 29, 4]
abbrev dktX0_nearest_0 : List UInt8 := dkwX0_nearest_0 ++ dktX0_nearest_1
theorem dksX0_nearest_0 : cX0_nearest.data.toList.drop 0 = dktX0_nearest_0 := by decide +kernel
theorem dksX0_nearest_1 : cX0_nearest.data.toList.drop 24 = dktX0_nearest_1 := dk_seg dksX0_nearest_0 24 rfl rfl
theorem dksX0_nearest_2 : cX0_nearest.data.toList.drop 48 = dktX0_nearest_2 := dk_seg dksX0_nearest_1 24 rfl rfl
theorem dksX0_nearest_3 : cX0_nearest.data.toList.drop 70 = dktX0_nearest_3 := dk_seg dksX0_nearest_2 22 rfl rfl
theorem dX0_nearest_0 : decode cX0_nearest 0 = .ok (.iload_n 1, 1) := dk_27 (dk_at dksX0_nearest_0 0 rfl rfl)
theorem dX0_nearest_1 : decode cX0_nearest 1 = .ok (.iconst 1, 1) := dk_4 (dk_at dksX0_nearest_0 1 rfl rfl)
theorem dX0_nearest_2 : decode cX0_nearest 2 = .ok (.sipush 10000, 3) := dk_17 39 16 (dk_at dksX0_nearest_0 2 rfl rfl)
theorem dX0_nearest_5 : decode cX0_nearest 5 = .ok (.invokestatic 69, 3) := dk_184 0 69 (dk_at dksX0_nearest_0 5 rfl rfl)
theorem dX0_nearest_8 : decode cX0_nearest 8 = .ok (.ifCond .eq 23, 3) := dk_153 0 23 (dk_at dksX0_nearest_0 8 rfl rfl)
theorem dX0_nearest_11 : decode cX0_nearest 11 = .ok (.iload_n 2, 1) := dk_28 (dk_at dksX0_nearest_0 11 rfl rfl)
theorem dX0_nearest_12 : decode cX0_nearest 12 = .ok (.iconst 1, 1) := dk_4 (dk_at dksX0_nearest_0 12 rfl rfl)
theorem dX0_nearest_13 : decode cX0_nearest 13 = .ok (.sipush 10000, 3) := dk_17 39 16 (dk_at dksX0_nearest_0 13 rfl rfl)
theorem dX0_nearest_16 : decode cX0_nearest 16 = .ok (.invokestatic 69, 3) := dk_184 0 69 (dk_at dksX0_nearest_0 16 rfl rfl)
theorem dX0_nearest_19 : decode cX0_nearest 19 = .ok (.ifCond .eq 12, 3) := dk_153 0 12 (dk_at dksX0_nearest_0 19 rfl rfl)
theorem dX0_nearest_22 : decode cX0_nearest 22 = .ok (.iload_n 3, 1) := dk_29 (dk_at dksX0_nearest_0 22 rfl rfl)
theorem dX0_nearest_23 : decode cX0_nearest 23 = .ok (.iconst 1, 1) := dk_4 (dk_at dksX0_nearest_0 23 rfl rfl)
theorem dX0_nearest_24 : decode cX0_nearest 24 = .ok (.iconst 2, 1) := dk_5 (dk_at dksX0_nearest_1 0 rfl rfl)
theorem dX0_nearest_25 : decode cX0_nearest 25 = .ok (.invokestatic 69, 3) := dk_184 0 69 (dk_at dksX0_nearest_1 1 rfl rfl)
theorem dX0_nearest_28 : decode cX0_nearest 28 = .ok (.ifCond .ne 5, 3) := dk_154 0 5 (dk_at dksX0_nearest_1 4 rfl rfl)
theorem dX0_nearest_31 : decode cX0_nearest 31 = .ok (.iconst (-1), 1) := dk_2 (dk_at dksX0_nearest_1 7 rfl rfl)
theorem dX0_nearest_32 : decode cX0_nearest 32 = .ok (.ireturn, 1) := dk_172 (dk_at dksX0_nearest_1 8 rfl rfl)
theorem dX0_nearest_33 : decode cX0_nearest 33 = .ok (.aload_n 0, 1) := dk_42 (dk_at dksX0_nearest_1 9 rfl rfl)
theorem dX0_nearest_34 : decode cX0_nearest 34 = .ok (.getfield 371, 3) := dk_180 1 115 (dk_at dksX0_nearest_1 10 rfl rfl)
theorem dX0_nearest_37 : decode cX0_nearest 37 = .ok (.iconst 2, 1) := dk_5 (dk_at dksX0_nearest_1 13 rfl rfl)
theorem dX0_nearest_38 : decode cX0_nearest 38 = .ok (.iload_n 3, 1) := dk_29 (dk_at dksX0_nearest_1 14 rfl rfl)
theorem dX0_nearest_39 : decode cX0_nearest 39 = .ok (.imul, 1) := dk_104 (dk_at dksX0_nearest_1 15 rfl rfl)
theorem dX0_nearest_40 : decode cX0_nearest 40 = .ok (.if_icmp .ge 9, 3) := dk_162 0 9 (dk_at dksX0_nearest_1 16 rfl rfl)
theorem dX0_nearest_43 : decode cX0_nearest 43 = .ok (.aload_n 0, 1) := dk_42 (dk_at dksX0_nearest_1 19 rfl rfl)
theorem dX0_nearest_44 : decode cX0_nearest 44 = .ok (.iconst 4, 1) := dk_7 (dk_at dksX0_nearest_1 20 rfl rfl)
theorem dX0_nearest_45 : decode cX0_nearest 45 = .ok (.invokevirtual 79, 3) := dk_182 0 79 (dk_at dksX0_nearest_1 21 rfl rfl)
theorem dX0_nearest_48 : decode cX0_nearest 48 = .ok (.ireturn, 1) := dk_172 (dk_at dksX0_nearest_2 0 rfl rfl)
theorem dX0_nearest_49 : decode cX0_nearest 49 = .ok (.aload_n 0, 1) := dk_42 (dk_at dksX0_nearest_2 1 rfl rfl)
theorem dX0_nearest_50 : decode cX0_nearest 50 = .ok (.lconst 0, 1) := dk_9 (dk_at dksX0_nearest_2 2 rfl rfl)
theorem dX0_nearest_51 : decode cX0_nearest 51 = .ok (.putfield 374, 3) := dk_181 1 118 (dk_at dksX0_nearest_2 3 rfl rfl)
theorem dX0_nearest_54 : decode cX0_nearest 54 = .ok (.aload_n 0, 1) := dk_42 (dk_at dksX0_nearest_2 6 rfl rfl)
theorem dX0_nearest_55 : decode cX0_nearest 55 = .ok (.iconst 0, 1) := dk_3 (dk_at dksX0_nearest_2 7 rfl rfl)
theorem dX0_nearest_56 : decode cX0_nearest 56 = .ok (.iconst 2, 1) := dk_5 (dk_at dksX0_nearest_2 8 rfl rfl)
theorem dX0_nearest_57 : decode cX0_nearest 57 = .ok (.iload_n 3, 1) := dk_29 (dk_at dksX0_nearest_2 9 rfl rfl)
theorem dX0_nearest_58 : decode cX0_nearest 58 = .ok (.imul, 1) := dk_104 (dk_at dksX0_nearest_2 10 rfl rfl)
theorem dX0_nearest_59 : decode cX0_nearest 59 = .ok (.iload_n 1, 1) := dk_27 (dk_at dksX0_nearest_2 11 rfl rfl)
theorem dX0_nearest_60 : decode cX0_nearest 60 = .ok (.i2l, 1) := dk_133 (dk_at dksX0_nearest_2 12 rfl rfl)
theorem dX0_nearest_61 : decode cX0_nearest 61 = .ok (.iload_n 2, 1) := dk_28 (dk_at dksX0_nearest_2 13 rfl rfl)
theorem dX0_nearest_62 : decode cX0_nearest 62 = .ok (.i2l, 1) := dk_133 (dk_at dksX0_nearest_2 14 rfl rfl)
theorem dX0_nearest_63 : decode cX0_nearest 63 = .ok (.lconst 1, 1) := dk_10 (dk_at dksX0_nearest_2 15 rfl rfl)
theorem dX0_nearest_64 : decode cX0_nearest 64 = .ok (.lconst 1, 1) := dk_10 (dk_at dksX0_nearest_2 16 rfl rfl)
theorem dX0_nearest_65 : decode cX0_nearest 65 = .ok (.invokevirtual 389, 3) := dk_182 1 133 (dk_at dksX0_nearest_2 17 rfl rfl)
theorem dX0_nearest_68 : decode cX0_nearest 68 = .ok (.aload_n 0, 1) := dk_42 (dk_at dksX0_nearest_2 20 rfl rfl)
theorem dX0_nearest_69 : decode cX0_nearest 69 = .ok (.aload_n 0, 1) := dk_42 (dk_at dksX0_nearest_2 21 rfl rfl)
theorem dX0_nearest_70 : decode cX0_nearest 70 = .ok (.getfield 383, 3) := dk_180 1 127 (dk_at dksX0_nearest_3 0 rfl rfl)
theorem dX0_nearest_73 : decode cX0_nearest 73 = .ok (.aload_n 0, 1) := dk_42 (dk_at dksX0_nearest_3 3 rfl rfl)
theorem dX0_nearest_74 : decode cX0_nearest 74 = .ok (.getfield 374, 3) := dk_180 1 118 (dk_at dksX0_nearest_3 4 rfl rfl)
theorem dX0_nearest_77 : decode cX0_nearest 77 = .ok (.invokevirtual 393, 3) := dk_182 1 137 (dk_at dksX0_nearest_3 7 rfl rfl)
theorem dX0_nearest_80 : decode cX0_nearest 80 = .ok (.ireturn, 1) := dk_172 (dk_at dksX0_nearest_3 10 rfl rfl)
abbrev cX0_tryGears : ByteArray := prog_1_method_85_code
def yX0_tryGears : MethodName := ⟨RX0, "tryGears", "(IIJJJJ)V"⟩
def dkwX0_tryGears_9 : List UInt8 := [132, 11, 1, 167, 255, 136, 177]
abbrev dktX0_tryGears_9 : List UInt8 := dkwX0_tryGears_9 ++ []
def dkwX0_tryGears_8 : List UInt8 := [112, 154, 0, 8, 22, 9, 167, 0, 14, 22, 9, 42, 180, 0, 60, 21, 11, 46, 133, 105, 182, 1, 133]
abbrev dktX0_tryGears_8 : List UInt8 := dkwX0_tryGears_8 ++ dktX0_tryGears_9
def dkwX0_tryGears_7 : List UInt8 := [27, 5, 112, 154, 0, 17, 22, 7, 42, 180, 0, 60, 21, 11, 46, 133, 105, 167, 0, 5, 22, 7, 27, 5]
abbrev dktX0_tryGears_7 : List UInt8 := dkwX0_tryGears_7 ++ dktX0_tryGears_8
def dkwX0_tryGears_6 : List UInt8 := [167, 255, 225, 21, 12, 153, 0, 66, 42, 180, 0, 66, 27, 21, 11, 79, 42, 27, 4, 96, 28, 33, 22, 5]
abbrev dktX0_tryGears_6 : List UInt8 := dkwX0_tryGears_6 ++ dktX0_tryGears_7
def dkwX0_tryGears_5 : List UInt8 := [180, 0, 66, 21, 13, 46, 21, 11, 159, 0, 7, 4, 167, 0, 4, 3, 126, 54, 12, 132, 13, 1]
abbrev dktX0_tryGears_5 : List UInt8 := dkwX0_tryGears_5 ++ dktX0_tryGears_6
def dkwX0_tryGears_4 : List UInt8 := [42, 180, 1, 115, 162, 0, 117, 4, 54, 12, 3, 54, 13, 21, 13, 27, 162, 0, 31, 21, 12, 42]
abbrev dktX0_tryGears_4 : List UInt8 := dkwX0_tryGears_4 ++ dktX0_tryGears_5
def dkwX0_tryGears_3 : List UInt8 := [180, 0, 66, 3, 42, 180, 0, 63, 3, 28, 184, 0, 87, 42, 28, 181, 1, 130, 177, 3, 54, 11, 21, 11]
abbrev dktX0_tryGears_3 : List UInt8 := dkwX0_tryGears_3 ++ dktX0_tryGears_4
def dkwX0_tryGears_2 : List UInt8 := [22, 11, 181, 1, 124, 42, 22, 9, 181, 1, 121, 42, 22, 7, 181, 1, 127, 42, 22, 9, 181, 1, 118, 42]
abbrev dktX0_tryGears_2 : List UInt8 := dkwX0_tryGears_2 ++ dktX0_tryGears_3
def dkwX0_tryGears_1 : List UInt8 := [9, 148, 153, 0, 21, 22, 11, 42, 180, 1, 121, 105, 42, 180, 1, 124, 22, 9, 105, 148, 156, 0, 46, 42]
abbrev dktX0_tryGears_1 : List UInt8 := dkwX0_tryGears_1 ++ dktX0_tryGears_2
def dkwX0_tryGears_0 : List UInt8 := [27, 28, 160, 0, 89, 22, 7, 22, 5, 105, 33, 22, 9, 105, 101, 184, 1, 37, 55, 11, 42, 180, 1, 118]
abbrev dktX0_tryGears_0 : List UInt8 := dkwX0_tryGears_0 ++ dktX0_tryGears_1
theorem dksX0_tryGears_0 : cX0_tryGears.data.toList.drop 0 = dktX0_tryGears_0 := by decide +kernel
theorem dksX0_tryGears_1 : cX0_tryGears.data.toList.drop 24 = dktX0_tryGears_1 := dk_seg dksX0_tryGears_0 24 rfl rfl
theorem dksX0_tryGears_2 : cX0_tryGears.data.toList.drop 48 = dktX0_tryGears_2 := dk_seg dksX0_tryGears_1 24 rfl rfl
theorem dksX0_tryGears_3 : cX0_tryGears.data.toList.drop 72 = dktX0_tryGears_3 := dk_seg dksX0_tryGears_2 24 rfl rfl
theorem dksX0_tryGears_4 : cX0_tryGears.data.toList.drop 96 = dktX0_tryGears_4 := dk_seg dksX0_tryGears_3 24 rfl rfl
theorem dksX0_tryGears_5 : cX0_tryGears.data.toList.drop 118 = dktX0_tryGears_5 := dk_seg dksX0_tryGears_4 22 rfl rfl
theorem dksX0_tryGears_6 : cX0_tryGears.data.toList.drop 140 = dktX0_tryGears_6 := dk_seg dksX0_tryGears_5 22 rfl rfl
theorem dksX0_tryGears_7 : cX0_tryGears.data.toList.drop 164 = dktX0_tryGears_7 := dk_seg dksX0_tryGears_6 24 rfl rfl
theorem dksX0_tryGears_8 : cX0_tryGears.data.toList.drop 188 = dktX0_tryGears_8 := dk_seg dksX0_tryGears_7 24 rfl rfl
theorem dksX0_tryGears_9 : cX0_tryGears.data.toList.drop 211 = dktX0_tryGears_9 := dk_seg dksX0_tryGears_8 23 rfl rfl
theorem dX0_tryGears_0 : decode cX0_tryGears 0 = .ok (.iload_n 1, 1) := dk_27 (dk_at dksX0_tryGears_0 0 rfl rfl)
theorem dX0_tryGears_1 : decode cX0_tryGears 1 = .ok (.iload_n 2, 1) := dk_28 (dk_at dksX0_tryGears_0 1 rfl rfl)
theorem dX0_tryGears_2 : decode cX0_tryGears 2 = .ok (.if_icmp .ne 89, 3) := dk_160 0 89 (dk_at dksX0_tryGears_0 2 rfl rfl)
theorem dX0_tryGears_5 : decode cX0_tryGears 5 = .ok (.lload 7, 2) := dk_22 7 (dk_at dksX0_tryGears_0 5 rfl rfl)
theorem dX0_tryGears_7 : decode cX0_tryGears 7 = .ok (.lload 5, 2) := dk_22 5 (dk_at dksX0_tryGears_0 7 rfl rfl)
theorem dX0_tryGears_9 : decode cX0_tryGears 9 = .ok (.lmul, 1) := dk_105 (dk_at dksX0_tryGears_0 9 rfl rfl)
theorem dX0_tryGears_10 : decode cX0_tryGears 10 = .ok (.lload_n 3, 1) := dk_33 (dk_at dksX0_tryGears_0 10 rfl rfl)
theorem dX0_tryGears_11 : decode cX0_tryGears 11 = .ok (.lload 9, 2) := dk_22 9 (dk_at dksX0_tryGears_0 11 rfl rfl)
theorem dX0_tryGears_13 : decode cX0_tryGears 13 = .ok (.lmul, 1) := dk_105 (dk_at dksX0_tryGears_0 13 rfl rfl)
theorem dX0_tryGears_14 : decode cX0_tryGears 14 = .ok (.lsub, 1) := dk_101 (dk_at dksX0_tryGears_0 14 rfl rfl)
theorem dX0_tryGears_15 : decode cX0_tryGears 15 = .ok (.invokestatic 293, 3) := dk_184 1 37 (dk_at dksX0_tryGears_0 15 rfl rfl)
theorem dX0_tryGears_18 : decode cX0_tryGears 18 = .ok (.lstore 11, 2) := dk_55 11 (dk_at dksX0_tryGears_0 18 rfl rfl)
theorem dX0_tryGears_20 : decode cX0_tryGears 20 = .ok (.aload_n 0, 1) := dk_42 (dk_at dksX0_tryGears_0 20 rfl rfl)
theorem dX0_tryGears_21 : decode cX0_tryGears 21 = .ok (.getfield 374, 3) := dk_180 1 118 (dk_at dksX0_tryGears_0 21 rfl rfl)
theorem dX0_tryGears_24 : decode cX0_tryGears 24 = .ok (.lconst 0, 1) := dk_9 (dk_at dksX0_tryGears_1 0 rfl rfl)
theorem dX0_tryGears_25 : decode cX0_tryGears 25 = .ok (.lcmp, 1) := dk_148 (dk_at dksX0_tryGears_1 1 rfl rfl)
theorem dX0_tryGears_26 : decode cX0_tryGears 26 = .ok (.ifCond .eq 21, 3) := dk_153 0 21 (dk_at dksX0_tryGears_1 2 rfl rfl)
theorem dX0_tryGears_29 : decode cX0_tryGears 29 = .ok (.lload 11, 2) := dk_22 11 (dk_at dksX0_tryGears_1 5 rfl rfl)
theorem dX0_tryGears_31 : decode cX0_tryGears 31 = .ok (.aload_n 0, 1) := dk_42 (dk_at dksX0_tryGears_1 7 rfl rfl)
theorem dX0_tryGears_32 : decode cX0_tryGears 32 = .ok (.getfield 377, 3) := dk_180 1 121 (dk_at dksX0_tryGears_1 8 rfl rfl)
theorem dX0_tryGears_35 : decode cX0_tryGears 35 = .ok (.lmul, 1) := dk_105 (dk_at dksX0_tryGears_1 11 rfl rfl)
theorem dX0_tryGears_36 : decode cX0_tryGears 36 = .ok (.aload_n 0, 1) := dk_42 (dk_at dksX0_tryGears_1 12 rfl rfl)
theorem dX0_tryGears_37 : decode cX0_tryGears 37 = .ok (.getfield 380, 3) := dk_180 1 124 (dk_at dksX0_tryGears_1 13 rfl rfl)
theorem dX0_tryGears_40 : decode cX0_tryGears 40 = .ok (.lload 9, 2) := dk_22 9 (dk_at dksX0_tryGears_1 16 rfl rfl)
theorem dX0_tryGears_42 : decode cX0_tryGears 42 = .ok (.lmul, 1) := dk_105 (dk_at dksX0_tryGears_1 18 rfl rfl)
theorem dX0_tryGears_43 : decode cX0_tryGears 43 = .ok (.lcmp, 1) := dk_148 (dk_at dksX0_tryGears_1 19 rfl rfl)
theorem dX0_tryGears_44 : decode cX0_tryGears 44 = .ok (.ifCond .ge 46, 3) := dk_156 0 46 (dk_at dksX0_tryGears_1 20 rfl rfl)
theorem dX0_tryGears_47 : decode cX0_tryGears 47 = .ok (.aload_n 0, 1) := dk_42 (dk_at dksX0_tryGears_1 23 rfl rfl)
theorem dX0_tryGears_48 : decode cX0_tryGears 48 = .ok (.lload 11, 2) := dk_22 11 (dk_at dksX0_tryGears_2 0 rfl rfl)
theorem dX0_tryGears_50 : decode cX0_tryGears 50 = .ok (.putfield 380, 3) := dk_181 1 124 (dk_at dksX0_tryGears_2 2 rfl rfl)
theorem dX0_tryGears_53 : decode cX0_tryGears 53 = .ok (.aload_n 0, 1) := dk_42 (dk_at dksX0_tryGears_2 5 rfl rfl)
theorem dX0_tryGears_54 : decode cX0_tryGears 54 = .ok (.lload 9, 2) := dk_22 9 (dk_at dksX0_tryGears_2 6 rfl rfl)
theorem dX0_tryGears_56 : decode cX0_tryGears 56 = .ok (.putfield 377, 3) := dk_181 1 121 (dk_at dksX0_tryGears_2 8 rfl rfl)
theorem dX0_tryGears_59 : decode cX0_tryGears 59 = .ok (.aload_n 0, 1) := dk_42 (dk_at dksX0_tryGears_2 11 rfl rfl)
theorem dX0_tryGears_60 : decode cX0_tryGears 60 = .ok (.lload 7, 2) := dk_22 7 (dk_at dksX0_tryGears_2 12 rfl rfl)
theorem dX0_tryGears_62 : decode cX0_tryGears 62 = .ok (.putfield 383, 3) := dk_181 1 127 (dk_at dksX0_tryGears_2 14 rfl rfl)
theorem dX0_tryGears_65 : decode cX0_tryGears 65 = .ok (.aload_n 0, 1) := dk_42 (dk_at dksX0_tryGears_2 17 rfl rfl)
theorem dX0_tryGears_66 : decode cX0_tryGears 66 = .ok (.lload 9, 2) := dk_22 9 (dk_at dksX0_tryGears_2 18 rfl rfl)
theorem dX0_tryGears_68 : decode cX0_tryGears 68 = .ok (.putfield 374, 3) := dk_181 1 118 (dk_at dksX0_tryGears_2 20 rfl rfl)
theorem dX0_tryGears_71 : decode cX0_tryGears 71 = .ok (.aload_n 0, 1) := dk_42 (dk_at dksX0_tryGears_2 23 rfl rfl)
theorem dX0_tryGears_72 : decode cX0_tryGears 72 = .ok (.getfield 66, 3) := dk_180 0 66 (dk_at dksX0_tryGears_3 0 rfl rfl)
theorem dX0_tryGears_75 : decode cX0_tryGears 75 = .ok (.iconst 0, 1) := dk_3 (dk_at dksX0_tryGears_3 3 rfl rfl)
theorem dX0_tryGears_76 : decode cX0_tryGears 76 = .ok (.aload_n 0, 1) := dk_42 (dk_at dksX0_tryGears_3 4 rfl rfl)
theorem dX0_tryGears_77 : decode cX0_tryGears 77 = .ok (.getfield 63, 3) := dk_180 0 63 (dk_at dksX0_tryGears_3 5 rfl rfl)
theorem dX0_tryGears_80 : decode cX0_tryGears 80 = .ok (.iconst 0, 1) := dk_3 (dk_at dksX0_tryGears_3 8 rfl rfl)
theorem dX0_tryGears_81 : decode cX0_tryGears 81 = .ok (.iload_n 2, 1) := dk_28 (dk_at dksX0_tryGears_3 9 rfl rfl)
theorem dX0_tryGears_82 : decode cX0_tryGears 82 = .ok (.invokestatic 87, 3) := dk_184 0 87 (dk_at dksX0_tryGears_3 10 rfl rfl)
theorem dX0_tryGears_85 : decode cX0_tryGears 85 = .ok (.aload_n 0, 1) := dk_42 (dk_at dksX0_tryGears_3 13 rfl rfl)
theorem dX0_tryGears_86 : decode cX0_tryGears 86 = .ok (.iload_n 2, 1) := dk_28 (dk_at dksX0_tryGears_3 14 rfl rfl)
theorem dX0_tryGears_87 : decode cX0_tryGears 87 = .ok (.putfield 386, 3) := dk_181 1 130 (dk_at dksX0_tryGears_3 15 rfl rfl)
theorem dX0_tryGears_90 : decode cX0_tryGears 90 = .ok (.return_, 1) := dk_177 (dk_at dksX0_tryGears_3 18 rfl rfl)
theorem dX0_tryGears_91 : decode cX0_tryGears 91 = .ok (.iconst 0, 1) := dk_3 (dk_at dksX0_tryGears_3 19 rfl rfl)
theorem dX0_tryGears_92 : decode cX0_tryGears 92 = .ok (.istore 11, 2) := dk_54 11 (dk_at dksX0_tryGears_3 20 rfl rfl)
theorem dX0_tryGears_94 : decode cX0_tryGears 94 = .ok (.iload 11, 2) := dk_21 11 (dk_at dksX0_tryGears_3 22 rfl rfl)
theorem dX0_tryGears_96 : decode cX0_tryGears 96 = .ok (.aload_n 0, 1) := dk_42 (dk_at dksX0_tryGears_4 0 rfl rfl)
theorem dX0_tryGears_97 : decode cX0_tryGears 97 = .ok (.getfield 371, 3) := dk_180 1 115 (dk_at dksX0_tryGears_4 1 rfl rfl)
theorem dX0_tryGears_100 : decode cX0_tryGears 100 = .ok (.if_icmp .ge 117, 3) := dk_162 0 117 (dk_at dksX0_tryGears_4 4 rfl rfl)
theorem dX0_tryGears_103 : decode cX0_tryGears 103 = .ok (.iconst 1, 1) := dk_4 (dk_at dksX0_tryGears_4 7 rfl rfl)
theorem dX0_tryGears_104 : decode cX0_tryGears 104 = .ok (.istore 12, 2) := dk_54 12 (dk_at dksX0_tryGears_4 8 rfl rfl)
theorem dX0_tryGears_106 : decode cX0_tryGears 106 = .ok (.iconst 0, 1) := dk_3 (dk_at dksX0_tryGears_4 10 rfl rfl)
theorem dX0_tryGears_107 : decode cX0_tryGears 107 = .ok (.istore 13, 2) := dk_54 13 (dk_at dksX0_tryGears_4 11 rfl rfl)
theorem dX0_tryGears_109 : decode cX0_tryGears 109 = .ok (.iload 13, 2) := dk_21 13 (dk_at dksX0_tryGears_4 13 rfl rfl)
theorem dX0_tryGears_111 : decode cX0_tryGears 111 = .ok (.iload_n 1, 1) := dk_27 (dk_at dksX0_tryGears_4 15 rfl rfl)
theorem dX0_tryGears_112 : decode cX0_tryGears 112 = .ok (.if_icmp .ge 31, 3) := dk_162 0 31 (dk_at dksX0_tryGears_4 16 rfl rfl)
theorem dX0_tryGears_115 : decode cX0_tryGears 115 = .ok (.iload 12, 2) := dk_21 12 (dk_at dksX0_tryGears_4 19 rfl rfl)
theorem dX0_tryGears_117 : decode cX0_tryGears 117 = .ok (.aload_n 0, 1) := dk_42 (dk_at dksX0_tryGears_4 21 rfl rfl)
theorem dX0_tryGears_118 : decode cX0_tryGears 118 = .ok (.getfield 66, 3) := dk_180 0 66 (dk_at dksX0_tryGears_5 0 rfl rfl)
theorem dX0_tryGears_121 : decode cX0_tryGears 121 = .ok (.iload 13, 2) := dk_21 13 (dk_at dksX0_tryGears_5 3 rfl rfl)
theorem dX0_tryGears_123 : decode cX0_tryGears 123 = .ok (.iaload, 1) := dk_46 (dk_at dksX0_tryGears_5 5 rfl rfl)
theorem dX0_tryGears_124 : decode cX0_tryGears 124 = .ok (.iload 11, 2) := dk_21 11 (dk_at dksX0_tryGears_5 6 rfl rfl)
theorem dX0_tryGears_126 : decode cX0_tryGears 126 = .ok (.if_icmp .eq 7, 3) := dk_159 0 7 (dk_at dksX0_tryGears_5 8 rfl rfl)
theorem dX0_tryGears_129 : decode cX0_tryGears 129 = .ok (.iconst 1, 1) := dk_4 (dk_at dksX0_tryGears_5 11 rfl rfl)
theorem dX0_tryGears_130 : decode cX0_tryGears 130 = .ok (.goto 4, 3) := dk_167 0 4 (dk_at dksX0_tryGears_5 12 rfl rfl)
theorem dX0_tryGears_133 : decode cX0_tryGears 133 = .ok (.iconst 0, 1) := dk_3 (dk_at dksX0_tryGears_5 15 rfl rfl)
theorem dX0_tryGears_134 : decode cX0_tryGears 134 = .ok (.iand, 1) := dk_126 (dk_at dksX0_tryGears_5 16 rfl rfl)
theorem dX0_tryGears_135 : decode cX0_tryGears 135 = .ok (.istore 12, 2) := dk_54 12 (dk_at dksX0_tryGears_5 17 rfl rfl)
theorem dX0_tryGears_137 : decode cX0_tryGears 137 = .ok (.iinc 13 1, 3) := dk_132 13 1 (dk_at dksX0_tryGears_5 19 rfl rfl)
theorem dX0_tryGears_140 : decode cX0_tryGears 140 = .ok (.goto (-31), 3) := dk_167 255 225 (dk_at dksX0_tryGears_6 0 rfl rfl)
theorem dX0_tryGears_143 : decode cX0_tryGears 143 = .ok (.iload 12, 2) := dk_21 12 (dk_at dksX0_tryGears_6 3 rfl rfl)
theorem dX0_tryGears_145 : decode cX0_tryGears 145 = .ok (.ifCond .eq 66, 3) := dk_153 0 66 (dk_at dksX0_tryGears_6 5 rfl rfl)
theorem dX0_tryGears_148 : decode cX0_tryGears 148 = .ok (.aload_n 0, 1) := dk_42 (dk_at dksX0_tryGears_6 8 rfl rfl)
theorem dX0_tryGears_149 : decode cX0_tryGears 149 = .ok (.getfield 66, 3) := dk_180 0 66 (dk_at dksX0_tryGears_6 9 rfl rfl)
theorem dX0_tryGears_152 : decode cX0_tryGears 152 = .ok (.iload_n 1, 1) := dk_27 (dk_at dksX0_tryGears_6 12 rfl rfl)
theorem dX0_tryGears_153 : decode cX0_tryGears 153 = .ok (.iload 11, 2) := dk_21 11 (dk_at dksX0_tryGears_6 13 rfl rfl)
theorem dX0_tryGears_155 : decode cX0_tryGears 155 = .ok (.iastore, 1) := dk_79 (dk_at dksX0_tryGears_6 15 rfl rfl)
theorem dX0_tryGears_156 : decode cX0_tryGears 156 = .ok (.aload_n 0, 1) := dk_42 (dk_at dksX0_tryGears_6 16 rfl rfl)
theorem dX0_tryGears_157 : decode cX0_tryGears 157 = .ok (.iload_n 1, 1) := dk_27 (dk_at dksX0_tryGears_6 17 rfl rfl)
theorem dX0_tryGears_158 : decode cX0_tryGears 158 = .ok (.iconst 1, 1) := dk_4 (dk_at dksX0_tryGears_6 18 rfl rfl)
theorem dX0_tryGears_159 : decode cX0_tryGears 159 = .ok (.iadd, 1) := dk_96 (dk_at dksX0_tryGears_6 19 rfl rfl)
theorem dX0_tryGears_160 : decode cX0_tryGears 160 = .ok (.iload_n 2, 1) := dk_28 (dk_at dksX0_tryGears_6 20 rfl rfl)
theorem dX0_tryGears_161 : decode cX0_tryGears 161 = .ok (.lload_n 3, 1) := dk_33 (dk_at dksX0_tryGears_6 21 rfl rfl)
theorem dX0_tryGears_162 : decode cX0_tryGears 162 = .ok (.lload 5, 2) := dk_22 5 (dk_at dksX0_tryGears_6 22 rfl rfl)
theorem dX0_tryGears_164 : decode cX0_tryGears 164 = .ok (.iload_n 1, 1) := dk_27 (dk_at dksX0_tryGears_7 0 rfl rfl)
theorem dX0_tryGears_165 : decode cX0_tryGears 165 = .ok (.iconst 2, 1) := dk_5 (dk_at dksX0_tryGears_7 1 rfl rfl)
theorem dX0_tryGears_166 : decode cX0_tryGears 166 = .ok (.irem, 1) := dk_112 (dk_at dksX0_tryGears_7 2 rfl rfl)
theorem dX0_tryGears_167 : decode cX0_tryGears 167 = .ok (.ifCond .ne 17, 3) := dk_154 0 17 (dk_at dksX0_tryGears_7 3 rfl rfl)
theorem dX0_tryGears_170 : decode cX0_tryGears 170 = .ok (.lload 7, 2) := dk_22 7 (dk_at dksX0_tryGears_7 6 rfl rfl)
theorem dX0_tryGears_172 : decode cX0_tryGears 172 = .ok (.aload_n 0, 1) := dk_42 (dk_at dksX0_tryGears_7 8 rfl rfl)
theorem dX0_tryGears_173 : decode cX0_tryGears 173 = .ok (.getfield 60, 3) := dk_180 0 60 (dk_at dksX0_tryGears_7 9 rfl rfl)
theorem dX0_tryGears_176 : decode cX0_tryGears 176 = .ok (.iload 11, 2) := dk_21 11 (dk_at dksX0_tryGears_7 12 rfl rfl)
theorem dX0_tryGears_178 : decode cX0_tryGears 178 = .ok (.iaload, 1) := dk_46 (dk_at dksX0_tryGears_7 14 rfl rfl)
theorem dX0_tryGears_179 : decode cX0_tryGears 179 = .ok (.i2l, 1) := dk_133 (dk_at dksX0_tryGears_7 15 rfl rfl)
theorem dX0_tryGears_180 : decode cX0_tryGears 180 = .ok (.lmul, 1) := dk_105 (dk_at dksX0_tryGears_7 16 rfl rfl)
theorem dX0_tryGears_181 : decode cX0_tryGears 181 = .ok (.goto 5, 3) := dk_167 0 5 (dk_at dksX0_tryGears_7 17 rfl rfl)
theorem dX0_tryGears_184 : decode cX0_tryGears 184 = .ok (.lload 7, 2) := dk_22 7 (dk_at dksX0_tryGears_7 20 rfl rfl)
theorem dX0_tryGears_186 : decode cX0_tryGears 186 = .ok (.iload_n 1, 1) := dk_27 (dk_at dksX0_tryGears_7 22 rfl rfl)
theorem dX0_tryGears_187 : decode cX0_tryGears 187 = .ok (.iconst 2, 1) := dk_5 (dk_at dksX0_tryGears_7 23 rfl rfl)
theorem dX0_tryGears_188 : decode cX0_tryGears 188 = .ok (.irem, 1) := dk_112 (dk_at dksX0_tryGears_8 0 rfl rfl)
theorem dX0_tryGears_189 : decode cX0_tryGears 189 = .ok (.ifCond .ne 8, 3) := dk_154 0 8 (dk_at dksX0_tryGears_8 1 rfl rfl)
theorem dX0_tryGears_192 : decode cX0_tryGears 192 = .ok (.lload 9, 2) := dk_22 9 (dk_at dksX0_tryGears_8 4 rfl rfl)
theorem dX0_tryGears_194 : decode cX0_tryGears 194 = .ok (.goto 14, 3) := dk_167 0 14 (dk_at dksX0_tryGears_8 6 rfl rfl)
theorem dX0_tryGears_197 : decode cX0_tryGears 197 = .ok (.lload 9, 2) := dk_22 9 (dk_at dksX0_tryGears_8 9 rfl rfl)
theorem dX0_tryGears_199 : decode cX0_tryGears 199 = .ok (.aload_n 0, 1) := dk_42 (dk_at dksX0_tryGears_8 11 rfl rfl)
theorem dX0_tryGears_200 : decode cX0_tryGears 200 = .ok (.getfield 60, 3) := dk_180 0 60 (dk_at dksX0_tryGears_8 12 rfl rfl)
theorem dX0_tryGears_203 : decode cX0_tryGears 203 = .ok (.iload 11, 2) := dk_21 11 (dk_at dksX0_tryGears_8 15 rfl rfl)
theorem dX0_tryGears_205 : decode cX0_tryGears 205 = .ok (.iaload, 1) := dk_46 (dk_at dksX0_tryGears_8 17 rfl rfl)
theorem dX0_tryGears_206 : decode cX0_tryGears 206 = .ok (.i2l, 1) := dk_133 (dk_at dksX0_tryGears_8 18 rfl rfl)
theorem dX0_tryGears_207 : decode cX0_tryGears 207 = .ok (.lmul, 1) := dk_105 (dk_at dksX0_tryGears_8 19 rfl rfl)
theorem dX0_tryGears_208 : decode cX0_tryGears 208 = .ok (.invokevirtual 389, 3) := dk_182 1 133 (dk_at dksX0_tryGears_8 20 rfl rfl)
theorem dX0_tryGears_211 : decode cX0_tryGears 211 = .ok (.iinc 11 1, 3) := dk_132 11 1 (dk_at dksX0_tryGears_9 0 rfl rfl)
theorem dX0_tryGears_214 : decode cX0_tryGears 214 = .ok (.goto (-120), 3) := dk_167 255 136 (dk_at dksX0_tryGears_9 3 rfl rfl)
theorem dX0_tryGears_217 : decode cX0_tryGears 217 = .ok (.return_, 1) := dk_177 (dk_at dksX0_tryGears_9 6 rfl rfl)
abbrev cX0_fraction : ByteArray := prog_1_method_81_code
def yX0_fraction : MethodName := ⟨RX0, "fraction", "(JJ)I"⟩
def dkwX0_fraction_1 : List UInt8 := [172]
abbrev dktX0_fraction_1 : List UInt8 := dkwX0_fraction_1 ++ []
def dkwX0_fraction_0 : List UInt8 := [31, 33, 184, 1, 109, 55, 5, 42, 31, 22, 5, 109, 181, 1, 112, 42, 33, 22, 5, 109, 181, 0, 56, 4]
abbrev dktX0_fraction_0 : List UInt8 := dkwX0_fraction_0 ++ dktX0_fraction_1
theorem dksX0_fraction_0 : cX0_fraction.data.toList.drop 0 = dktX0_fraction_0 := by decide +kernel
theorem dksX0_fraction_1 : cX0_fraction.data.toList.drop 24 = dktX0_fraction_1 := dk_seg dksX0_fraction_0 24 rfl rfl
theorem dX0_fraction_0 : decode cX0_fraction 0 = .ok (.lload_n 1, 1) := dk_31 (dk_at dksX0_fraction_0 0 rfl rfl)
theorem dX0_fraction_1 : decode cX0_fraction 1 = .ok (.lload_n 3, 1) := dk_33 (dk_at dksX0_fraction_0 1 rfl rfl)
theorem dX0_fraction_2 : decode cX0_fraction 2 = .ok (.invokestatic 365, 3) := dk_184 1 109 (dk_at dksX0_fraction_0 2 rfl rfl)
theorem dX0_fraction_5 : decode cX0_fraction 5 = .ok (.lstore 5, 2) := dk_55 5 (dk_at dksX0_fraction_0 5 rfl rfl)
theorem dX0_fraction_7 : decode cX0_fraction 7 = .ok (.aload_n 0, 1) := dk_42 (dk_at dksX0_fraction_0 7 rfl rfl)
theorem dX0_fraction_8 : decode cX0_fraction 8 = .ok (.lload_n 1, 1) := dk_31 (dk_at dksX0_fraction_0 8 rfl rfl)
theorem dX0_fraction_9 : decode cX0_fraction 9 = .ok (.lload 5, 2) := dk_22 5 (dk_at dksX0_fraction_0 9 rfl rfl)
theorem dX0_fraction_11 : decode cX0_fraction 11 = .ok (.ldiv, 1) := dk_109 (dk_at dksX0_fraction_0 11 rfl rfl)
theorem dX0_fraction_12 : decode cX0_fraction 12 = .ok (.putfield 368, 3) := dk_181 1 112 (dk_at dksX0_fraction_0 12 rfl rfl)
theorem dX0_fraction_15 : decode cX0_fraction 15 = .ok (.aload_n 0, 1) := dk_42 (dk_at dksX0_fraction_0 15 rfl rfl)
theorem dX0_fraction_16 : decode cX0_fraction 16 = .ok (.lload_n 3, 1) := dk_33 (dk_at dksX0_fraction_0 16 rfl rfl)
theorem dX0_fraction_17 : decode cX0_fraction 17 = .ok (.lload 5, 2) := dk_22 5 (dk_at dksX0_fraction_0 17 rfl rfl)
theorem dX0_fraction_19 : decode cX0_fraction 19 = .ok (.ldiv, 1) := dk_109 (dk_at dksX0_fraction_0 19 rfl rfl)
theorem dX0_fraction_20 : decode cX0_fraction 20 = .ok (.putfield 56, 3) := dk_181 0 56 (dk_at dksX0_fraction_0 20 rfl rfl)
theorem dX0_fraction_23 : decode cX0_fraction 23 = .ok (.iconst 1, 1) := dk_4 (dk_at dksX0_fraction_0 23 rfl rfl)
theorem dX0_fraction_24 : decode cX0_fraction 24 = .ok (.ireturn, 1) := dk_172 (dk_at dksX0_fraction_1 0 rfl rfl)
abbrev cX0_gcd : ByteArray := prog_1_method_80_code
def yX0_gcd : MethodName := ⟨RX0, "gcd", "(JJ)J"⟩
def dkwX0_gcd_1 : List UInt8 := [22, 8, 55, 6, 167, 255, 234, 22, 4, 173]
abbrev dktX0_gcd_1 : List UInt8 := dkwX0_gcd_1 ++ []
def dkwX0_gcd_0 : List UInt8 := [30, 55, 4, 32, 55, 6, 22, 6, 9, 148, 153, 0, 21, 22, 4, 22, 6, 113, 55, 8, 22, 6, 55, 4]
abbrev dktX0_gcd_0 : List UInt8 := dkwX0_gcd_0 ++ dktX0_gcd_1
theorem dksX0_gcd_0 : cX0_gcd.data.toList.drop 0 = dktX0_gcd_0 := by decide +kernel
theorem dksX0_gcd_1 : cX0_gcd.data.toList.drop 24 = dktX0_gcd_1 := dk_seg dksX0_gcd_0 24 rfl rfl
theorem dX0_gcd_0 : decode cX0_gcd 0 = .ok (.lload_n 0, 1) := dk_30 (dk_at dksX0_gcd_0 0 rfl rfl)
theorem dX0_gcd_1 : decode cX0_gcd 1 = .ok (.lstore 4, 2) := dk_55 4 (dk_at dksX0_gcd_0 1 rfl rfl)
theorem dX0_gcd_3 : decode cX0_gcd 3 = .ok (.lload_n 2, 1) := dk_32 (dk_at dksX0_gcd_0 3 rfl rfl)
theorem dX0_gcd_4 : decode cX0_gcd 4 = .ok (.lstore 6, 2) := dk_55 6 (dk_at dksX0_gcd_0 4 rfl rfl)
theorem dX0_gcd_6 : decode cX0_gcd 6 = .ok (.lload 6, 2) := dk_22 6 (dk_at dksX0_gcd_0 6 rfl rfl)
theorem dX0_gcd_8 : decode cX0_gcd 8 = .ok (.lconst 0, 1) := dk_9 (dk_at dksX0_gcd_0 8 rfl rfl)
theorem dX0_gcd_9 : decode cX0_gcd 9 = .ok (.lcmp, 1) := dk_148 (dk_at dksX0_gcd_0 9 rfl rfl)
theorem dX0_gcd_10 : decode cX0_gcd 10 = .ok (.ifCond .eq 21, 3) := dk_153 0 21 (dk_at dksX0_gcd_0 10 rfl rfl)
theorem dX0_gcd_13 : decode cX0_gcd 13 = .ok (.lload 4, 2) := dk_22 4 (dk_at dksX0_gcd_0 13 rfl rfl)
theorem dX0_gcd_15 : decode cX0_gcd 15 = .ok (.lload 6, 2) := dk_22 6 (dk_at dksX0_gcd_0 15 rfl rfl)
theorem dX0_gcd_17 : decode cX0_gcd 17 = .ok (.lrem, 1) := dk_113 (dk_at dksX0_gcd_0 17 rfl rfl)
theorem dX0_gcd_18 : decode cX0_gcd 18 = .ok (.lstore 8, 2) := dk_55 8 (dk_at dksX0_gcd_0 18 rfl rfl)
theorem dX0_gcd_20 : decode cX0_gcd 20 = .ok (.lload 6, 2) := dk_22 6 (dk_at dksX0_gcd_0 20 rfl rfl)
theorem dX0_gcd_22 : decode cX0_gcd 22 = .ok (.lstore 4, 2) := dk_55 4 (dk_at dksX0_gcd_0 22 rfl rfl)
theorem dX0_gcd_24 : decode cX0_gcd 24 = .ok (.lload 8, 2) := dk_22 8 (dk_at dksX0_gcd_1 0 rfl rfl)
theorem dX0_gcd_26 : decode cX0_gcd 26 = .ok (.lstore 6, 2) := dk_55 6 (dk_at dksX0_gcd_1 2 rfl rfl)
theorem dX0_gcd_28 : decode cX0_gcd 28 = .ok (.goto (-22), 3) := dk_167 255 234 (dk_at dksX0_gcd_1 4 rfl rfl)
theorem dX0_gcd_31 : decode cX0_gcd 31 = .ok (.lload 4, 2) := dk_22 4 (dk_at dksX0_gcd_1 7 rfl rfl)
theorem dX0_gcd_33 : decode cX0_gcd 33 = .ok (.lreturn, 1) := dk_173 (dk_at dksX0_gcd_1 9 rfl rfl)
abbrev cX0_chosen : ByteArray := prog_1_method_87_code
def yX0_chosen : MethodName := ⟨RX0, "chosen", "(I)I"⟩
def dkwX0_chosen_1 : List UInt8 := [16, 247, 172]
abbrev dktX0_chosen_1 : List UInt8 := dkwX0_chosen_1 ++ []
def dkwX0_chosen_0 : List UInt8 := [27, 3, 42, 180, 1, 130, 4, 100, 184, 0, 69, 153, 0, 12, 42, 180, 0, 63, 27, 46, 167, 0, 5]
abbrev dktX0_chosen_0 : List UInt8 := dkwX0_chosen_0 ++ dktX0_chosen_1
theorem dksX0_chosen_0 : cX0_chosen.data.toList.drop 0 = dktX0_chosen_0 := by decide +kernel
theorem dksX0_chosen_1 : cX0_chosen.data.toList.drop 23 = dktX0_chosen_1 := dk_seg dksX0_chosen_0 23 rfl rfl
theorem dX0_chosen_0 : decode cX0_chosen 0 = .ok (.iload_n 1, 1) := dk_27 (dk_at dksX0_chosen_0 0 rfl rfl)
theorem dX0_chosen_1 : decode cX0_chosen 1 = .ok (.iconst 0, 1) := dk_3 (dk_at dksX0_chosen_0 1 rfl rfl)
theorem dX0_chosen_2 : decode cX0_chosen 2 = .ok (.aload_n 0, 1) := dk_42 (dk_at dksX0_chosen_0 2 rfl rfl)
theorem dX0_chosen_3 : decode cX0_chosen 3 = .ok (.getfield 386, 3) := dk_180 1 130 (dk_at dksX0_chosen_0 3 rfl rfl)
theorem dX0_chosen_6 : decode cX0_chosen 6 = .ok (.iconst 1, 1) := dk_4 (dk_at dksX0_chosen_0 6 rfl rfl)
theorem dX0_chosen_7 : decode cX0_chosen 7 = .ok (.isub, 1) := dk_100 (dk_at dksX0_chosen_0 7 rfl rfl)
theorem dX0_chosen_8 : decode cX0_chosen 8 = .ok (.invokestatic 69, 3) := dk_184 0 69 (dk_at dksX0_chosen_0 8 rfl rfl)
theorem dX0_chosen_11 : decode cX0_chosen 11 = .ok (.ifCond .eq 12, 3) := dk_153 0 12 (dk_at dksX0_chosen_0 11 rfl rfl)
theorem dX0_chosen_14 : decode cX0_chosen 14 = .ok (.aload_n 0, 1) := dk_42 (dk_at dksX0_chosen_0 14 rfl rfl)
theorem dX0_chosen_15 : decode cX0_chosen 15 = .ok (.getfield 63, 3) := dk_180 0 63 (dk_at dksX0_chosen_0 15 rfl rfl)
theorem dX0_chosen_18 : decode cX0_chosen 18 = .ok (.iload_n 1, 1) := dk_27 (dk_at dksX0_chosen_0 18 rfl rfl)
theorem dX0_chosen_19 : decode cX0_chosen 19 = .ok (.iaload, 1) := dk_46 (dk_at dksX0_chosen_0 19 rfl rfl)
theorem dX0_chosen_20 : decode cX0_chosen 20 = .ok (.goto 5, 3) := dk_167 0 5 (dk_at dksX0_chosen_0 20 rfl rfl)
theorem dX0_chosen_23 : decode cX0_chosen 23 = .ok (.bipush (-9), 2) := dk_16 247 (dk_at dksX0_chosen_1 0 rfl rfl)
theorem dX0_chosen_25 : decode cX0_chosen 25 = .ok (.ireturn, 1) := dk_172 (dk_at dksX0_chosen_1 2 rfl rfl)
abbrev cX0_daily : ByteArray := prog_1_method_89_code
def yX0_daily : MethodName := ⟨RX0, "daily", "(IZ)I"⟩
def dkwX0_daily_1 : List UInt8 := [167, 0, 4, 2, 172]
abbrev dktX0_daily_1 : List UInt8 := dkwX0_daily_1 ++ []
def dkwX0_daily_0 : List UInt8 := [42, 27, 182, 0, 120, 153, 0, 20, 42, 180, 0, 28, 27, 50, 28, 184, 0, 191, 3, 184, 1, 144]
abbrev dktX0_daily_0 : List UInt8 := dkwX0_daily_0 ++ dktX0_daily_1
theorem dksX0_daily_0 : cX0_daily.data.toList.drop 0 = dktX0_daily_0 := by decide +kernel
theorem dksX0_daily_1 : cX0_daily.data.toList.drop 22 = dktX0_daily_1 := dk_seg dksX0_daily_0 22 rfl rfl
theorem dX0_daily_0 : decode cX0_daily 0 = .ok (.aload_n 0, 1) := dk_42 (dk_at dksX0_daily_0 0 rfl rfl)
theorem dX0_daily_1 : decode cX0_daily 1 = .ok (.iload_n 1, 1) := dk_27 (dk_at dksX0_daily_0 1 rfl rfl)
theorem dX0_daily_2 : decode cX0_daily 2 = .ok (.invokevirtual 120, 3) := dk_182 0 120 (dk_at dksX0_daily_0 2 rfl rfl)
theorem dX0_daily_5 : decode cX0_daily 5 = .ok (.ifCond .eq 20, 3) := dk_153 0 20 (dk_at dksX0_daily_0 5 rfl rfl)
theorem dX0_daily_8 : decode cX0_daily 8 = .ok (.aload_n 0, 1) := dk_42 (dk_at dksX0_daily_0 8 rfl rfl)
theorem dX0_daily_9 : decode cX0_daily 9 = .ok (.getfield 28, 3) := dk_180 0 28 (dk_at dksX0_daily_0 9 rfl rfl)
theorem dX0_daily_12 : decode cX0_daily 12 = .ok (.iload_n 1, 1) := dk_27 (dk_at dksX0_daily_0 12 rfl rfl)
theorem dX0_daily_13 : decode cX0_daily 13 = .ok (.aaload, 1) := dk_50 (dk_at dksX0_daily_0 13 rfl rfl)
theorem dX0_daily_14 : decode cX0_daily 14 = .ok (.iload_n 2, 1) := dk_28 (dk_at dksX0_daily_0 14 rfl rfl)
theorem dX0_daily_15 : decode cX0_daily 15 = .ok (.invokestatic 191, 3) := dk_184 0 191 (dk_at dksX0_daily_0 15 rfl rfl)
theorem dX0_daily_18 : decode cX0_daily 18 = .ok (.iconst 0, 1) := dk_3 (dk_at dksX0_daily_0 18 rfl rfl)
theorem dX0_daily_19 : decode cX0_daily 19 = .ok (.invokestatic 400, 3) := dk_184 1 144 (dk_at dksX0_daily_0 19 rfl rfl)
theorem dX0_daily_22 : decode cX0_daily 22 = .ok (.goto 4, 3) := dk_167 0 4 (dk_at dksX0_daily_1 0 rfl rfl)
theorem dX0_daily_25 : decode cX0_daily 25 = .ok (.iconst (-1), 1) := dk_2 (dk_at dksX0_daily_1 3 rfl rfl)
theorem dX0_daily_26 : decode cX0_daily 26 = .ok (.ireturn, 1) := dk_172 (dk_at dksX0_daily_1 4 rfl rfl)
abbrev cX0_dayOf : ByteArray := prog_1_method_88_code
def yX0_dayOf : MethodName := ⟨RX0, "dayOf", "(LHammerTowers$Train;II)I"⟩
def dkwX0_dayOf_2 : List UInt8 := [182, 1, 141, 96, 54, 4, 132, 5, 1, 167, 255, 218, 21, 4, 172]
abbrev dktX0_dayOf_2 : List UInt8 := dkwX0_dayOf_2 ++ []
def dkwX0_dayOf_1 : List UInt8 := [21, 4, 42, 27, 154, 0, 11, 21, 5, 16, 12, 112, 167, 0, 7, 21, 5, 7, 112, 28, 21, 5, 96]
abbrev dktX0_dayOf_1 : List UInt8 := dkwX0_dayOf_1 ++ dktX0_dayOf_2
def dkwX0_dayOf_0 : List UInt8 := [27, 154, 0, 8, 16, 24, 167, 0, 5, 16, 96, 62, 3, 54, 4, 3, 54, 5, 21, 5, 29, 162, 0, 38]
abbrev dktX0_dayOf_0 : List UInt8 := dkwX0_dayOf_0 ++ dktX0_dayOf_1
theorem dksX0_dayOf_0 : cX0_dayOf.data.toList.drop 0 = dktX0_dayOf_0 := by decide +kernel
theorem dksX0_dayOf_1 : cX0_dayOf.data.toList.drop 24 = dktX0_dayOf_1 := dk_seg dksX0_dayOf_0 24 rfl rfl
theorem dksX0_dayOf_2 : cX0_dayOf.data.toList.drop 47 = dktX0_dayOf_2 := dk_seg dksX0_dayOf_1 23 rfl rfl
theorem dX0_dayOf_0 : decode cX0_dayOf 0 = .ok (.iload_n 1, 1) := dk_27 (dk_at dksX0_dayOf_0 0 rfl rfl)
theorem dX0_dayOf_1 : decode cX0_dayOf 1 = .ok (.ifCond .ne 8, 3) := dk_154 0 8 (dk_at dksX0_dayOf_0 1 rfl rfl)
theorem dX0_dayOf_4 : decode cX0_dayOf 4 = .ok (.bipush 24, 2) := dk_16 24 (dk_at dksX0_dayOf_0 4 rfl rfl)
theorem dX0_dayOf_6 : decode cX0_dayOf 6 = .ok (.goto 5, 3) := dk_167 0 5 (dk_at dksX0_dayOf_0 6 rfl rfl)
theorem dX0_dayOf_9 : decode cX0_dayOf 9 = .ok (.bipush 96, 2) := dk_16 96 (dk_at dksX0_dayOf_0 9 rfl rfl)
theorem dX0_dayOf_11 : decode cX0_dayOf 11 = .ok (.istore_n 3, 1) := dk_62 (dk_at dksX0_dayOf_0 11 rfl rfl)
theorem dX0_dayOf_12 : decode cX0_dayOf 12 = .ok (.iconst 0, 1) := dk_3 (dk_at dksX0_dayOf_0 12 rfl rfl)
theorem dX0_dayOf_13 : decode cX0_dayOf 13 = .ok (.istore 4, 2) := dk_54 4 (dk_at dksX0_dayOf_0 13 rfl rfl)
theorem dX0_dayOf_15 : decode cX0_dayOf 15 = .ok (.iconst 0, 1) := dk_3 (dk_at dksX0_dayOf_0 15 rfl rfl)
theorem dX0_dayOf_16 : decode cX0_dayOf 16 = .ok (.istore 5, 2) := dk_54 5 (dk_at dksX0_dayOf_0 16 rfl rfl)
theorem dX0_dayOf_18 : decode cX0_dayOf 18 = .ok (.iload 5, 2) := dk_21 5 (dk_at dksX0_dayOf_0 18 rfl rfl)
theorem dX0_dayOf_20 : decode cX0_dayOf 20 = .ok (.iload_n 3, 1) := dk_29 (dk_at dksX0_dayOf_0 20 rfl rfl)
theorem dX0_dayOf_21 : decode cX0_dayOf 21 = .ok (.if_icmp .ge 38, 3) := dk_162 0 38 (dk_at dksX0_dayOf_0 21 rfl rfl)
theorem dX0_dayOf_24 : decode cX0_dayOf 24 = .ok (.iload 4, 2) := dk_21 4 (dk_at dksX0_dayOf_1 0 rfl rfl)
theorem dX0_dayOf_26 : decode cX0_dayOf 26 = .ok (.aload_n 0, 1) := dk_42 (dk_at dksX0_dayOf_1 2 rfl rfl)
theorem dX0_dayOf_27 : decode cX0_dayOf 27 = .ok (.iload_n 1, 1) := dk_27 (dk_at dksX0_dayOf_1 3 rfl rfl)
theorem dX0_dayOf_28 : decode cX0_dayOf 28 = .ok (.ifCond .ne 11, 3) := dk_154 0 11 (dk_at dksX0_dayOf_1 4 rfl rfl)
theorem dX0_dayOf_31 : decode cX0_dayOf 31 = .ok (.iload 5, 2) := dk_21 5 (dk_at dksX0_dayOf_1 7 rfl rfl)
theorem dX0_dayOf_33 : decode cX0_dayOf 33 = .ok (.bipush 12, 2) := dk_16 12 (dk_at dksX0_dayOf_1 9 rfl rfl)
theorem dX0_dayOf_35 : decode cX0_dayOf 35 = .ok (.irem, 1) := dk_112 (dk_at dksX0_dayOf_1 11 rfl rfl)
theorem dX0_dayOf_36 : decode cX0_dayOf 36 = .ok (.goto 7, 3) := dk_167 0 7 (dk_at dksX0_dayOf_1 12 rfl rfl)
theorem dX0_dayOf_39 : decode cX0_dayOf 39 = .ok (.iload 5, 2) := dk_21 5 (dk_at dksX0_dayOf_1 15 rfl rfl)
theorem dX0_dayOf_41 : decode cX0_dayOf 41 = .ok (.iconst 4, 1) := dk_7 (dk_at dksX0_dayOf_1 17 rfl rfl)
theorem dX0_dayOf_42 : decode cX0_dayOf 42 = .ok (.irem, 1) := dk_112 (dk_at dksX0_dayOf_1 18 rfl rfl)
theorem dX0_dayOf_43 : decode cX0_dayOf 43 = .ok (.iload_n 2, 1) := dk_28 (dk_at dksX0_dayOf_1 19 rfl rfl)
theorem dX0_dayOf_44 : decode cX0_dayOf 44 = .ok (.iload 5, 2) := dk_21 5 (dk_at dksX0_dayOf_1 20 rfl rfl)
theorem dX0_dayOf_46 : decode cX0_dayOf 46 = .ok (.iadd, 1) := dk_96 (dk_at dksX0_dayOf_1 22 rfl rfl)
theorem dX0_dayOf_47 : decode cX0_dayOf 47 = .ok (.invokevirtual 397, 3) := dk_182 1 141 (dk_at dksX0_dayOf_2 0 rfl rfl)
theorem dX0_dayOf_50 : decode cX0_dayOf 50 = .ok (.iadd, 1) := dk_96 (dk_at dksX0_dayOf_2 3 rfl rfl)
theorem dX0_dayOf_51 : decode cX0_dayOf 51 = .ok (.istore 4, 2) := dk_54 4 (dk_at dksX0_dayOf_2 4 rfl rfl)
theorem dX0_dayOf_53 : decode cX0_dayOf 53 = .ok (.iinc 5 1, 3) := dk_132 5 1 (dk_at dksX0_dayOf_2 6 rfl rfl)
theorem dX0_dayOf_56 : decode cX0_dayOf 56 = .ok (.goto (-38), 3) := dk_167 255 218 (dk_at dksX0_dayOf_2 9 rfl rfl)
theorem dX0_dayOf_59 : decode cX0_dayOf 59 = .ok (.iload 4, 2) := dk_21 4 (dk_at dksX0_dayOf_2 12 rfl rfl)
theorem dX0_dayOf_61 : decode cX0_dayOf 61 = .ok (.ireturn, 1) := dk_172 (dk_at dksX0_dayOf_2 14 rfl rfl)
abbrev cX0_lasting : ByteArray := prog_1_method_90_code
def yX0_lasting : MethodName := ⟨RX0, "lasting", "(I)I"⟩
def dkwX0_lasting_4 : List UInt8 := [148, 158, 0, 9, 19, 1, 153, 167, 0, 6, 22, 8, 136, 172]
abbrev dktX0_lasting_4 : List UInt8 := dkwX0_lasting_4 ++ []
def dkwX0_lasting_3 : List UInt8 := [157, 0, 7, 10, 167, 0, 13, 22, 4, 22, 6, 97, 10, 101, 22, 6, 109, 55, 8, 22, 8, 20, 1, 151]
abbrev dktX0_lasting_3 : List UInt8 := dkwX0_lasting_3 ++ dktX0_lasting_4
def dkwX0_lasting_2 : List UInt8 := [45, 180, 0, 254, 133, 101, 55, 4, 19, 1, 150, 45, 180, 0, 221, 96, 133, 55, 6, 22, 4, 9, 148]
abbrev dktX0_lasting_2 : List UInt8 := dkwX0_lasting_2 ++ dktX0_lasting_3
def dkwX0_lasting_1 : List UInt8 := [154, 0, 6, 16, 247, 172, 45, 180, 0, 227, 154, 0, 5, 3, 172, 45, 180, 0, 227, 133, 20, 1, 148, 105]
abbrev dktX0_lasting_1 : List UInt8 := dkwX0_lasting_1 ++ dktX0_lasting_2
def dkwX0_lasting_0 : List UInt8 := [42, 4, 27, 182, 0, 184, 61, 28, 156, 0, 5, 28, 172, 42, 180, 0, 34, 27, 50, 78, 45, 180, 0, 224]
abbrev dktX0_lasting_0 : List UInt8 := dkwX0_lasting_0 ++ dktX0_lasting_1
theorem dksX0_lasting_0 : cX0_lasting.data.toList.drop 0 = dktX0_lasting_0 := by decide +kernel
theorem dksX0_lasting_1 : cX0_lasting.data.toList.drop 24 = dktX0_lasting_1 := dk_seg dksX0_lasting_0 24 rfl rfl
theorem dksX0_lasting_2 : cX0_lasting.data.toList.drop 48 = dktX0_lasting_2 := dk_seg dksX0_lasting_1 24 rfl rfl
theorem dksX0_lasting_3 : cX0_lasting.data.toList.drop 71 = dktX0_lasting_3 := dk_seg dksX0_lasting_2 23 rfl rfl
theorem dksX0_lasting_4 : cX0_lasting.data.toList.drop 95 = dktX0_lasting_4 := dk_seg dksX0_lasting_3 24 rfl rfl
theorem dX0_lasting_0 : decode cX0_lasting 0 = .ok (.aload_n 0, 1) := dk_42 (dk_at dksX0_lasting_0 0 rfl rfl)
theorem dX0_lasting_1 : decode cX0_lasting 1 = .ok (.iconst 1, 1) := dk_4 (dk_at dksX0_lasting_0 1 rfl rfl)
theorem dX0_lasting_2 : decode cX0_lasting 2 = .ok (.iload_n 1, 1) := dk_27 (dk_at dksX0_lasting_0 2 rfl rfl)
theorem dX0_lasting_3 : decode cX0_lasting 3 = .ok (.invokevirtual 184, 3) := dk_182 0 184 (dk_at dksX0_lasting_0 3 rfl rfl)
theorem dX0_lasting_6 : decode cX0_lasting 6 = .ok (.istore_n 2, 1) := dk_61 (dk_at dksX0_lasting_0 6 rfl rfl)
theorem dX0_lasting_7 : decode cX0_lasting 7 = .ok (.iload_n 2, 1) := dk_28 (dk_at dksX0_lasting_0 7 rfl rfl)
theorem dX0_lasting_8 : decode cX0_lasting 8 = .ok (.ifCond .ge 5, 3) := dk_156 0 5 (dk_at dksX0_lasting_0 8 rfl rfl)
theorem dX0_lasting_11 : decode cX0_lasting 11 = .ok (.iload_n 2, 1) := dk_28 (dk_at dksX0_lasting_0 11 rfl rfl)
theorem dX0_lasting_12 : decode cX0_lasting 12 = .ok (.ireturn, 1) := dk_172 (dk_at dksX0_lasting_0 12 rfl rfl)
theorem dX0_lasting_13 : decode cX0_lasting 13 = .ok (.aload_n 0, 1) := dk_42 (dk_at dksX0_lasting_0 13 rfl rfl)
theorem dX0_lasting_14 : decode cX0_lasting 14 = .ok (.getfield 34, 3) := dk_180 0 34 (dk_at dksX0_lasting_0 14 rfl rfl)
theorem dX0_lasting_17 : decode cX0_lasting 17 = .ok (.iload_n 1, 1) := dk_27 (dk_at dksX0_lasting_0 17 rfl rfl)
theorem dX0_lasting_18 : decode cX0_lasting 18 = .ok (.aaload, 1) := dk_50 (dk_at dksX0_lasting_0 18 rfl rfl)
theorem dX0_lasting_19 : decode cX0_lasting 19 = .ok (.astore_n 3, 1) := dk_78 (dk_at dksX0_lasting_0 19 rfl rfl)
theorem dX0_lasting_20 : decode cX0_lasting 20 = .ok (.aload_n 3, 1) := dk_45 (dk_at dksX0_lasting_0 20 rfl rfl)
theorem dX0_lasting_21 : decode cX0_lasting 21 = .ok (.getfield 224, 3) := dk_180 0 224 (dk_at dksX0_lasting_0 21 rfl rfl)
theorem dX0_lasting_24 : decode cX0_lasting 24 = .ok (.ifCond .ne 6, 3) := dk_154 0 6 (dk_at dksX0_lasting_1 0 rfl rfl)
theorem dX0_lasting_27 : decode cX0_lasting 27 = .ok (.bipush (-9), 2) := dk_16 247 (dk_at dksX0_lasting_1 3 rfl rfl)
theorem dX0_lasting_29 : decode cX0_lasting 29 = .ok (.ireturn, 1) := dk_172 (dk_at dksX0_lasting_1 5 rfl rfl)
theorem dX0_lasting_30 : decode cX0_lasting 30 = .ok (.aload_n 3, 1) := dk_45 (dk_at dksX0_lasting_1 6 rfl rfl)
theorem dX0_lasting_31 : decode cX0_lasting 31 = .ok (.getfield 227, 3) := dk_180 0 227 (dk_at dksX0_lasting_1 7 rfl rfl)
theorem dX0_lasting_34 : decode cX0_lasting 34 = .ok (.ifCond .ne 5, 3) := dk_154 0 5 (dk_at dksX0_lasting_1 10 rfl rfl)
theorem dX0_lasting_37 : decode cX0_lasting 37 = .ok (.iconst 0, 1) := dk_3 (dk_at dksX0_lasting_1 13 rfl rfl)
theorem dX0_lasting_38 : decode cX0_lasting 38 = .ok (.ireturn, 1) := dk_172 (dk_at dksX0_lasting_1 14 rfl rfl)
theorem dX0_lasting_39 : decode cX0_lasting 39 = .ok (.aload_n 3, 1) := dk_45 (dk_at dksX0_lasting_1 15 rfl rfl)
theorem dX0_lasting_40 : decode cX0_lasting 40 = .ok (.getfield 227, 3) := dk_180 0 227 (dk_at dksX0_lasting_1 16 rfl rfl)
theorem dX0_lasting_43 : decode cX0_lasting 43 = .ok (.i2l, 1) := dk_133 (dk_at dksX0_lasting_1 19 rfl rfl)
theorem dX0_lasting_44 : decode cX0_lasting 44 = .ok (.ldc2_w 404, 3) := dk_20 1 148 (dk_at dksX0_lasting_1 20 rfl rfl)
theorem dX0_lasting_47 : decode cX0_lasting 47 = .ok (.lmul, 1) := dk_105 (dk_at dksX0_lasting_1 23 rfl rfl)
theorem dX0_lasting_48 : decode cX0_lasting 48 = .ok (.aload_n 3, 1) := dk_45 (dk_at dksX0_lasting_2 0 rfl rfl)
theorem dX0_lasting_49 : decode cX0_lasting 49 = .ok (.getfield 254, 3) := dk_180 0 254 (dk_at dksX0_lasting_2 1 rfl rfl)
theorem dX0_lasting_52 : decode cX0_lasting 52 = .ok (.i2l, 1) := dk_133 (dk_at dksX0_lasting_2 4 rfl rfl)
theorem dX0_lasting_53 : decode cX0_lasting 53 = .ok (.lsub, 1) := dk_101 (dk_at dksX0_lasting_2 5 rfl rfl)
theorem dX0_lasting_54 : decode cX0_lasting 54 = .ok (.lstore 4, 2) := dk_55 4 (dk_at dksX0_lasting_2 6 rfl rfl)
theorem dX0_lasting_56 : decode cX0_lasting 56 = .ok (.ldc_w 406, 3) := dk_19 1 150 (dk_at dksX0_lasting_2 8 rfl rfl)
theorem dX0_lasting_59 : decode cX0_lasting 59 = .ok (.aload_n 3, 1) := dk_45 (dk_at dksX0_lasting_2 11 rfl rfl)
theorem dX0_lasting_60 : decode cX0_lasting 60 = .ok (.getfield 221, 3) := dk_180 0 221 (dk_at dksX0_lasting_2 12 rfl rfl)
theorem dX0_lasting_63 : decode cX0_lasting 63 = .ok (.iadd, 1) := dk_96 (dk_at dksX0_lasting_2 15 rfl rfl)
theorem dX0_lasting_64 : decode cX0_lasting 64 = .ok (.i2l, 1) := dk_133 (dk_at dksX0_lasting_2 16 rfl rfl)
theorem dX0_lasting_65 : decode cX0_lasting 65 = .ok (.lstore 6, 2) := dk_55 6 (dk_at dksX0_lasting_2 17 rfl rfl)
theorem dX0_lasting_67 : decode cX0_lasting 67 = .ok (.lload 4, 2) := dk_22 4 (dk_at dksX0_lasting_2 19 rfl rfl)
theorem dX0_lasting_69 : decode cX0_lasting 69 = .ok (.lconst 0, 1) := dk_9 (dk_at dksX0_lasting_2 21 rfl rfl)
theorem dX0_lasting_70 : decode cX0_lasting 70 = .ok (.lcmp, 1) := dk_148 (dk_at dksX0_lasting_2 22 rfl rfl)
theorem dX0_lasting_71 : decode cX0_lasting 71 = .ok (.ifCond .gt 7, 3) := dk_157 0 7 (dk_at dksX0_lasting_3 0 rfl rfl)
theorem dX0_lasting_74 : decode cX0_lasting 74 = .ok (.lconst 1, 1) := dk_10 (dk_at dksX0_lasting_3 3 rfl rfl)
theorem dX0_lasting_75 : decode cX0_lasting 75 = .ok (.goto 13, 3) := dk_167 0 13 (dk_at dksX0_lasting_3 4 rfl rfl)
theorem dX0_lasting_78 : decode cX0_lasting 78 = .ok (.lload 4, 2) := dk_22 4 (dk_at dksX0_lasting_3 7 rfl rfl)
theorem dX0_lasting_80 : decode cX0_lasting 80 = .ok (.lload 6, 2) := dk_22 6 (dk_at dksX0_lasting_3 9 rfl rfl)
theorem dX0_lasting_82 : decode cX0_lasting 82 = .ok (.ladd, 1) := dk_97 (dk_at dksX0_lasting_3 11 rfl rfl)
theorem dX0_lasting_83 : decode cX0_lasting 83 = .ok (.lconst 1, 1) := dk_10 (dk_at dksX0_lasting_3 12 rfl rfl)
theorem dX0_lasting_84 : decode cX0_lasting 84 = .ok (.lsub, 1) := dk_101 (dk_at dksX0_lasting_3 13 rfl rfl)
theorem dX0_lasting_85 : decode cX0_lasting 85 = .ok (.lload 6, 2) := dk_22 6 (dk_at dksX0_lasting_3 14 rfl rfl)
theorem dX0_lasting_87 : decode cX0_lasting 87 = .ok (.ldiv, 1) := dk_109 (dk_at dksX0_lasting_3 16 rfl rfl)
theorem dX0_lasting_88 : decode cX0_lasting 88 = .ok (.lstore 8, 2) := dk_55 8 (dk_at dksX0_lasting_3 17 rfl rfl)
theorem dX0_lasting_90 : decode cX0_lasting 90 = .ok (.lload 8, 2) := dk_22 8 (dk_at dksX0_lasting_3 19 rfl rfl)
theorem dX0_lasting_92 : decode cX0_lasting 92 = .ok (.ldc2_w 407, 3) := dk_20 1 151 (dk_at dksX0_lasting_3 21 rfl rfl)
theorem dX0_lasting_95 : decode cX0_lasting 95 = .ok (.lcmp, 1) := dk_148 (dk_at dksX0_lasting_4 0 rfl rfl)
theorem dX0_lasting_96 : decode cX0_lasting 96 = .ok (.ifCond .le 9, 3) := dk_158 0 9 (dk_at dksX0_lasting_4 1 rfl rfl)
theorem dX0_lasting_99 : decode cX0_lasting 99 = .ok (.ldc_w 409, 3) := dk_19 1 153 (dk_at dksX0_lasting_4 4 rfl rfl)
theorem dX0_lasting_102 : decode cX0_lasting 102 = .ok (.goto 6, 3) := dk_167 0 6 (dk_at dksX0_lasting_4 7 rfl rfl)
theorem dX0_lasting_105 : decode cX0_lasting 105 = .ok (.lload 8, 2) := dk_22 8 (dk_at dksX0_lasting_4 10 rfl rfl)
theorem dX0_lasting_107 : decode cX0_lasting 107 = .ok (.l2i, 1) := dk_136 (dk_at dksX0_lasting_4 12 rfl rfl)
theorem dX0_lasting_108 : decode cX0_lasting 108 = .ok (.ireturn, 1) := dk_172 (dk_at dksX0_lasting_4 13 rfl rfl)
abbrev cX0_lastingDays : ByteArray := prog_1_method_91_code
def yX0_lastingDays : MethodName := ⟨RX0, "lastingDays", "(IZ)I"⟩
def dkwX0_lastingDays_3 : List UInt8 := [16, 24, 167, 0, 5, 16, 96, 104, 184, 1, 144, 100, 54, 5, 132, 6, 1, 167, 255, 201, 21, 6, 172]
abbrev dktX0_lastingDays_3 : List UInt8 := dkwX0_lastingDays_3 ++ []
def dkwX0_lastingDays_2 : List UInt8 := [16, 96, 104, 184, 1, 144, 21, 5, 163, 0, 35, 21, 5, 45, 21, 4, 21, 6, 21, 4, 154, 0, 8]
abbrev dktX0_lastingDays_2 : List UInt8 := dkwX0_lastingDays_2 ++ dktX0_lastingDays_3
def dkwX0_lastingDays_1 : List UInt8 := [180, 0, 124, 54, 5, 3, 54, 6, 45, 21, 4, 21, 6, 21, 4, 154, 0, 8, 16, 24, 167, 0, 5]
abbrev dktX0_lastingDays_1 : List UInt8 := dkwX0_lastingDays_1 ++ dktX0_lastingDays_2
def dkwX0_lastingDays_0 : List UInt8 := [42, 27, 182, 0, 120, 154, 0, 5, 2, 172, 42, 180, 0, 28, 27, 50, 78, 28, 184, 0, 191, 54, 4, 45]
abbrev dktX0_lastingDays_0 : List UInt8 := dkwX0_lastingDays_0 ++ dktX0_lastingDays_1
theorem dksX0_lastingDays_0 : cX0_lastingDays.data.toList.drop 0 = dktX0_lastingDays_0 := by decide +kernel
theorem dksX0_lastingDays_1 : cX0_lastingDays.data.toList.drop 24 = dktX0_lastingDays_1 := dk_seg dksX0_lastingDays_0 24 rfl rfl
theorem dksX0_lastingDays_2 : cX0_lastingDays.data.toList.drop 47 = dktX0_lastingDays_2 := dk_seg dksX0_lastingDays_1 23 rfl rfl
theorem dksX0_lastingDays_3 : cX0_lastingDays.data.toList.drop 70 = dktX0_lastingDays_3 := dk_seg dksX0_lastingDays_2 23 rfl rfl
theorem dX0_lastingDays_0 : decode cX0_lastingDays 0 = .ok (.aload_n 0, 1) := dk_42 (dk_at dksX0_lastingDays_0 0 rfl rfl)
theorem dX0_lastingDays_1 : decode cX0_lastingDays 1 = .ok (.iload_n 1, 1) := dk_27 (dk_at dksX0_lastingDays_0 1 rfl rfl)
theorem dX0_lastingDays_2 : decode cX0_lastingDays 2 = .ok (.invokevirtual 120, 3) := dk_182 0 120 (dk_at dksX0_lastingDays_0 2 rfl rfl)
theorem dX0_lastingDays_5 : decode cX0_lastingDays 5 = .ok (.ifCond .ne 5, 3) := dk_154 0 5 (dk_at dksX0_lastingDays_0 5 rfl rfl)
theorem dX0_lastingDays_8 : decode cX0_lastingDays 8 = .ok (.iconst (-1), 1) := dk_2 (dk_at dksX0_lastingDays_0 8 rfl rfl)
theorem dX0_lastingDays_9 : decode cX0_lastingDays 9 = .ok (.ireturn, 1) := dk_172 (dk_at dksX0_lastingDays_0 9 rfl rfl)
theorem dX0_lastingDays_10 : decode cX0_lastingDays 10 = .ok (.aload_n 0, 1) := dk_42 (dk_at dksX0_lastingDays_0 10 rfl rfl)
theorem dX0_lastingDays_11 : decode cX0_lastingDays 11 = .ok (.getfield 28, 3) := dk_180 0 28 (dk_at dksX0_lastingDays_0 11 rfl rfl)
theorem dX0_lastingDays_14 : decode cX0_lastingDays 14 = .ok (.iload_n 1, 1) := dk_27 (dk_at dksX0_lastingDays_0 14 rfl rfl)
theorem dX0_lastingDays_15 : decode cX0_lastingDays 15 = .ok (.aaload, 1) := dk_50 (dk_at dksX0_lastingDays_0 15 rfl rfl)
theorem dX0_lastingDays_16 : decode cX0_lastingDays 16 = .ok (.astore_n 3, 1) := dk_78 (dk_at dksX0_lastingDays_0 16 rfl rfl)
theorem dX0_lastingDays_17 : decode cX0_lastingDays 17 = .ok (.iload_n 2, 1) := dk_28 (dk_at dksX0_lastingDays_0 17 rfl rfl)
theorem dX0_lastingDays_18 : decode cX0_lastingDays 18 = .ok (.invokestatic 191, 3) := dk_184 0 191 (dk_at dksX0_lastingDays_0 18 rfl rfl)
theorem dX0_lastingDays_21 : decode cX0_lastingDays 21 = .ok (.istore 4, 2) := dk_54 4 (dk_at dksX0_lastingDays_0 21 rfl rfl)
theorem dX0_lastingDays_23 : decode cX0_lastingDays 23 = .ok (.aload_n 3, 1) := dk_45 (dk_at dksX0_lastingDays_0 23 rfl rfl)
theorem dX0_lastingDays_24 : decode cX0_lastingDays 24 = .ok (.getfield 124, 3) := dk_180 0 124 (dk_at dksX0_lastingDays_1 0 rfl rfl)
theorem dX0_lastingDays_27 : decode cX0_lastingDays 27 = .ok (.istore 5, 2) := dk_54 5 (dk_at dksX0_lastingDays_1 3 rfl rfl)
theorem dX0_lastingDays_29 : decode cX0_lastingDays 29 = .ok (.iconst 0, 1) := dk_3 (dk_at dksX0_lastingDays_1 5 rfl rfl)
theorem dX0_lastingDays_30 : decode cX0_lastingDays 30 = .ok (.istore 6, 2) := dk_54 6 (dk_at dksX0_lastingDays_1 6 rfl rfl)
theorem dX0_lastingDays_32 : decode cX0_lastingDays 32 = .ok (.aload_n 3, 1) := dk_45 (dk_at dksX0_lastingDays_1 8 rfl rfl)
theorem dX0_lastingDays_33 : decode cX0_lastingDays 33 = .ok (.iload 4, 2) := dk_21 4 (dk_at dksX0_lastingDays_1 9 rfl rfl)
theorem dX0_lastingDays_35 : decode cX0_lastingDays 35 = .ok (.iload 6, 2) := dk_21 6 (dk_at dksX0_lastingDays_1 11 rfl rfl)
theorem dX0_lastingDays_37 : decode cX0_lastingDays 37 = .ok (.iload 4, 2) := dk_21 4 (dk_at dksX0_lastingDays_1 13 rfl rfl)
theorem dX0_lastingDays_39 : decode cX0_lastingDays 39 = .ok (.ifCond .ne 8, 3) := dk_154 0 8 (dk_at dksX0_lastingDays_1 15 rfl rfl)
theorem dX0_lastingDays_42 : decode cX0_lastingDays 42 = .ok (.bipush 24, 2) := dk_16 24 (dk_at dksX0_lastingDays_1 18 rfl rfl)
theorem dX0_lastingDays_44 : decode cX0_lastingDays 44 = .ok (.goto 5, 3) := dk_167 0 5 (dk_at dksX0_lastingDays_1 20 rfl rfl)
theorem dX0_lastingDays_47 : decode cX0_lastingDays 47 = .ok (.bipush 96, 2) := dk_16 96 (dk_at dksX0_lastingDays_2 0 rfl rfl)
theorem dX0_lastingDays_49 : decode cX0_lastingDays 49 = .ok (.imul, 1) := dk_104 (dk_at dksX0_lastingDays_2 2 rfl rfl)
theorem dX0_lastingDays_50 : decode cX0_lastingDays 50 = .ok (.invokestatic 400, 3) := dk_184 1 144 (dk_at dksX0_lastingDays_2 3 rfl rfl)
theorem dX0_lastingDays_53 : decode cX0_lastingDays 53 = .ok (.iload 5, 2) := dk_21 5 (dk_at dksX0_lastingDays_2 6 rfl rfl)
theorem dX0_lastingDays_55 : decode cX0_lastingDays 55 = .ok (.if_icmp .gt 35, 3) := dk_163 0 35 (dk_at dksX0_lastingDays_2 8 rfl rfl)
theorem dX0_lastingDays_58 : decode cX0_lastingDays 58 = .ok (.iload 5, 2) := dk_21 5 (dk_at dksX0_lastingDays_2 11 rfl rfl)
theorem dX0_lastingDays_60 : decode cX0_lastingDays 60 = .ok (.aload_n 3, 1) := dk_45 (dk_at dksX0_lastingDays_2 13 rfl rfl)
theorem dX0_lastingDays_61 : decode cX0_lastingDays 61 = .ok (.iload 4, 2) := dk_21 4 (dk_at dksX0_lastingDays_2 14 rfl rfl)
theorem dX0_lastingDays_63 : decode cX0_lastingDays 63 = .ok (.iload 6, 2) := dk_21 6 (dk_at dksX0_lastingDays_2 16 rfl rfl)
theorem dX0_lastingDays_65 : decode cX0_lastingDays 65 = .ok (.iload 4, 2) := dk_21 4 (dk_at dksX0_lastingDays_2 18 rfl rfl)
theorem dX0_lastingDays_67 : decode cX0_lastingDays 67 = .ok (.ifCond .ne 8, 3) := dk_154 0 8 (dk_at dksX0_lastingDays_2 20 rfl rfl)
theorem dX0_lastingDays_70 : decode cX0_lastingDays 70 = .ok (.bipush 24, 2) := dk_16 24 (dk_at dksX0_lastingDays_3 0 rfl rfl)
theorem dX0_lastingDays_72 : decode cX0_lastingDays 72 = .ok (.goto 5, 3) := dk_167 0 5 (dk_at dksX0_lastingDays_3 2 rfl rfl)
theorem dX0_lastingDays_75 : decode cX0_lastingDays 75 = .ok (.bipush 96, 2) := dk_16 96 (dk_at dksX0_lastingDays_3 5 rfl rfl)
theorem dX0_lastingDays_77 : decode cX0_lastingDays 77 = .ok (.imul, 1) := dk_104 (dk_at dksX0_lastingDays_3 7 rfl rfl)
theorem dX0_lastingDays_78 : decode cX0_lastingDays 78 = .ok (.invokestatic 400, 3) := dk_184 1 144 (dk_at dksX0_lastingDays_3 8 rfl rfl)
theorem dX0_lastingDays_81 : decode cX0_lastingDays 81 = .ok (.isub, 1) := dk_100 (dk_at dksX0_lastingDays_3 11 rfl rfl)
theorem dX0_lastingDays_82 : decode cX0_lastingDays 82 = .ok (.istore 5, 2) := dk_54 5 (dk_at dksX0_lastingDays_3 12 rfl rfl)
theorem dX0_lastingDays_84 : decode cX0_lastingDays 84 = .ok (.iinc 6 1, 3) := dk_132 6 1 (dk_at dksX0_lastingDays_3 14 rfl rfl)
theorem dX0_lastingDays_87 : decode cX0_lastingDays 87 = .ok (.goto (-55), 3) := dk_167 255 201 (dk_at dksX0_lastingDays_3 17 rfl rfl)
theorem dX0_lastingDays_90 : decode cX0_lastingDays 90 = .ok (.iload 6, 2) := dk_21 6 (dk_at dksX0_lastingDays_3 20 rfl rfl)
theorem dX0_lastingDays_92 : decode cX0_lastingDays 92 = .ok (.ireturn, 1) := dk_172 (dk_at dksX0_lastingDays_3 22 rfl rfl)
abbrev cX0_count : ByteArray := prog_1_method_92_code
def yX0_count : MethodName := ⟨RX0, "count", "(I)I"⟩
def dkwX0_count_6 : List UInt8 := [42, 180, 0, 247, 172, 42, 180, 0, 93, 172, 28, 172, 42, 180, 1, 115, 172, 29, 172, 21, 4, 172, 2, 172]
abbrev dktX0_count_6 : List UInt8 := dkwX0_count_6 ++ []
def dkwX0_count_5 : List UInt8 := [170, 0, 0, 0, 0, 0, 61, 0, 0, 0, 0, 0, 0, 0, 5, 0, 0, 0, 39, 0, 0, 0, 44, 0, 0, 0, 49, 0, 0, 0, 51, 0, 0, 0, 56, 0, 0, 0, 58]
abbrev dktX0_count_5 : List UInt8 := dkwX0_count_5 ++ dktX0_count_6
def dkwX0_count_4 : List UInt8 := [180, 0, 152, 96, 54, 4, 132, 5, 1, 167, 255, 229, 27]
abbrev dktX0_count_4 : List UInt8 := dkwX0_count_4 ++ dktX0_count_5
def dkwX0_count_3 : List UInt8 := [54, 4, 3, 54, 5, 21, 5, 42, 180, 0, 93, 162, 0, 24, 21, 4, 42, 180, 0, 28, 21, 5, 50]
abbrev dktX0_count_3 : List UInt8 := dkwX0_count_3 ++ dktX0_count_4
def dkwX0_count_2 : List UInt8 := [180, 0, 22, 21, 4, 50, 199, 0, 7, 3, 167, 0, 4, 4, 96, 62, 132, 4, 1, 167, 255, 228, 3]
abbrev dktX0_count_2 : List UInt8 := dkwX0_count_2 ++ dktX0_count_3
def dkwX0_count_1 : List UInt8 := [96, 61, 132, 3, 1, 167, 255, 231, 3, 62, 3, 54, 4, 21, 4, 16, 8, 162, 0, 27, 29, 42]
abbrev dktX0_count_1 : List UInt8 := dkwX0_count_1 ++ dktX0_count_2
def dkwX0_count_0 : List UInt8 := [3, 61, 3, 62, 29, 7, 162, 0, 26, 28, 42, 180, 0, 34, 29, 50, 199, 0, 7, 3, 167, 0, 4, 4]
abbrev dktX0_count_0 : List UInt8 := dkwX0_count_0 ++ dktX0_count_1
theorem dksX0_count_0 : cX0_count.data.toList.drop 0 = dktX0_count_0 := by decide +kernel
theorem dksX0_count_1 : cX0_count.data.toList.drop 24 = dktX0_count_1 := dk_seg dksX0_count_0 24 rfl rfl
theorem dksX0_count_2 : cX0_count.data.toList.drop 46 = dktX0_count_2 := dk_seg dksX0_count_1 22 rfl rfl
theorem dksX0_count_3 : cX0_count.data.toList.drop 69 = dktX0_count_3 := dk_seg dksX0_count_2 23 rfl rfl
theorem dksX0_count_4 : cX0_count.data.toList.drop 92 = dktX0_count_4 := dk_seg dksX0_count_3 23 rfl rfl
theorem dksX0_count_5 : cX0_count.data.toList.drop 105 = dktX0_count_5 := dk_seg dksX0_count_4 13 rfl rfl
theorem dksX0_count_6 : cX0_count.data.toList.drop 144 = dktX0_count_6 := dk_seg dksX0_count_5 39 rfl rfl
theorem dX0_count_0 : decode cX0_count 0 = .ok (.iconst 0, 1) := dk_3 (dk_at dksX0_count_0 0 rfl rfl)
theorem dX0_count_1 : decode cX0_count 1 = .ok (.istore_n 2, 1) := dk_61 (dk_at dksX0_count_0 1 rfl rfl)
theorem dX0_count_2 : decode cX0_count 2 = .ok (.iconst 0, 1) := dk_3 (dk_at dksX0_count_0 2 rfl rfl)
theorem dX0_count_3 : decode cX0_count 3 = .ok (.istore_n 3, 1) := dk_62 (dk_at dksX0_count_0 3 rfl rfl)
theorem dX0_count_4 : decode cX0_count 4 = .ok (.iload_n 3, 1) := dk_29 (dk_at dksX0_count_0 4 rfl rfl)
theorem dX0_count_5 : decode cX0_count 5 = .ok (.iconst 4, 1) := dk_7 (dk_at dksX0_count_0 5 rfl rfl)
theorem dX0_count_6 : decode cX0_count 6 = .ok (.if_icmp .ge 26, 3) := dk_162 0 26 (dk_at dksX0_count_0 6 rfl rfl)
theorem dX0_count_9 : decode cX0_count 9 = .ok (.iload_n 2, 1) := dk_28 (dk_at dksX0_count_0 9 rfl rfl)
theorem dX0_count_10 : decode cX0_count 10 = .ok (.aload_n 0, 1) := dk_42 (dk_at dksX0_count_0 10 rfl rfl)
theorem dX0_count_11 : decode cX0_count 11 = .ok (.getfield 34, 3) := dk_180 0 34 (dk_at dksX0_count_0 11 rfl rfl)
theorem dX0_count_14 : decode cX0_count 14 = .ok (.iload_n 3, 1) := dk_29 (dk_at dksX0_count_0 14 rfl rfl)
theorem dX0_count_15 : decode cX0_count 15 = .ok (.aaload, 1) := dk_50 (dk_at dksX0_count_0 15 rfl rfl)
theorem dX0_count_16 : decode cX0_count 16 = .ok (.ifnonnull 7, 3) := dk_199 0 7 (dk_at dksX0_count_0 16 rfl rfl)
theorem dX0_count_19 : decode cX0_count 19 = .ok (.iconst 0, 1) := dk_3 (dk_at dksX0_count_0 19 rfl rfl)
theorem dX0_count_20 : decode cX0_count 20 = .ok (.goto 4, 3) := dk_167 0 4 (dk_at dksX0_count_0 20 rfl rfl)
theorem dX0_count_23 : decode cX0_count 23 = .ok (.iconst 1, 1) := dk_4 (dk_at dksX0_count_0 23 rfl rfl)
theorem dX0_count_24 : decode cX0_count 24 = .ok (.iadd, 1) := dk_96 (dk_at dksX0_count_1 0 rfl rfl)
theorem dX0_count_25 : decode cX0_count 25 = .ok (.istore_n 2, 1) := dk_61 (dk_at dksX0_count_1 1 rfl rfl)
theorem dX0_count_26 : decode cX0_count 26 = .ok (.iinc 3 1, 3) := dk_132 3 1 (dk_at dksX0_count_1 2 rfl rfl)
theorem dX0_count_29 : decode cX0_count 29 = .ok (.goto (-25), 3) := dk_167 255 231 (dk_at dksX0_count_1 5 rfl rfl)
theorem dX0_count_32 : decode cX0_count 32 = .ok (.iconst 0, 1) := dk_3 (dk_at dksX0_count_1 8 rfl rfl)
theorem dX0_count_33 : decode cX0_count 33 = .ok (.istore_n 3, 1) := dk_62 (dk_at dksX0_count_1 9 rfl rfl)
theorem dX0_count_34 : decode cX0_count 34 = .ok (.iconst 0, 1) := dk_3 (dk_at dksX0_count_1 10 rfl rfl)
theorem dX0_count_35 : decode cX0_count 35 = .ok (.istore 4, 2) := dk_54 4 (dk_at dksX0_count_1 11 rfl rfl)
theorem dX0_count_37 : decode cX0_count 37 = .ok (.iload 4, 2) := dk_21 4 (dk_at dksX0_count_1 13 rfl rfl)
theorem dX0_count_39 : decode cX0_count 39 = .ok (.bipush 8, 2) := dk_16 8 (dk_at dksX0_count_1 15 rfl rfl)
theorem dX0_count_41 : decode cX0_count 41 = .ok (.if_icmp .ge 27, 3) := dk_162 0 27 (dk_at dksX0_count_1 17 rfl rfl)
theorem dX0_count_44 : decode cX0_count 44 = .ok (.iload_n 3, 1) := dk_29 (dk_at dksX0_count_1 20 rfl rfl)
theorem dX0_count_45 : decode cX0_count 45 = .ok (.aload_n 0, 1) := dk_42 (dk_at dksX0_count_1 21 rfl rfl)
theorem dX0_count_46 : decode cX0_count 46 = .ok (.getfield 22, 3) := dk_180 0 22 (dk_at dksX0_count_2 0 rfl rfl)
theorem dX0_count_49 : decode cX0_count 49 = .ok (.iload 4, 2) := dk_21 4 (dk_at dksX0_count_2 3 rfl rfl)
theorem dX0_count_51 : decode cX0_count 51 = .ok (.aaload, 1) := dk_50 (dk_at dksX0_count_2 5 rfl rfl)
theorem dX0_count_52 : decode cX0_count 52 = .ok (.ifnonnull 7, 3) := dk_199 0 7 (dk_at dksX0_count_2 6 rfl rfl)
theorem dX0_count_55 : decode cX0_count 55 = .ok (.iconst 0, 1) := dk_3 (dk_at dksX0_count_2 9 rfl rfl)
theorem dX0_count_56 : decode cX0_count 56 = .ok (.goto 4, 3) := dk_167 0 4 (dk_at dksX0_count_2 10 rfl rfl)
theorem dX0_count_59 : decode cX0_count 59 = .ok (.iconst 1, 1) := dk_4 (dk_at dksX0_count_2 13 rfl rfl)
theorem dX0_count_60 : decode cX0_count 60 = .ok (.iadd, 1) := dk_96 (dk_at dksX0_count_2 14 rfl rfl)
theorem dX0_count_61 : decode cX0_count 61 = .ok (.istore_n 3, 1) := dk_62 (dk_at dksX0_count_2 15 rfl rfl)
theorem dX0_count_62 : decode cX0_count 62 = .ok (.iinc 4 1, 3) := dk_132 4 1 (dk_at dksX0_count_2 16 rfl rfl)
theorem dX0_count_65 : decode cX0_count 65 = .ok (.goto (-28), 3) := dk_167 255 228 (dk_at dksX0_count_2 19 rfl rfl)
theorem dX0_count_68 : decode cX0_count 68 = .ok (.iconst 0, 1) := dk_3 (dk_at dksX0_count_2 22 rfl rfl)
theorem dX0_count_69 : decode cX0_count 69 = .ok (.istore 4, 2) := dk_54 4 (dk_at dksX0_count_3 0 rfl rfl)
theorem dX0_count_71 : decode cX0_count 71 = .ok (.iconst 0, 1) := dk_3 (dk_at dksX0_count_3 2 rfl rfl)
theorem dX0_count_72 : decode cX0_count 72 = .ok (.istore 5, 2) := dk_54 5 (dk_at dksX0_count_3 3 rfl rfl)
theorem dX0_count_74 : decode cX0_count 74 = .ok (.iload 5, 2) := dk_21 5 (dk_at dksX0_count_3 5 rfl rfl)
theorem dX0_count_76 : decode cX0_count 76 = .ok (.aload_n 0, 1) := dk_42 (dk_at dksX0_count_3 7 rfl rfl)
theorem dX0_count_77 : decode cX0_count 77 = .ok (.getfield 93, 3) := dk_180 0 93 (dk_at dksX0_count_3 8 rfl rfl)
theorem dX0_count_80 : decode cX0_count 80 = .ok (.if_icmp .ge 24, 3) := dk_162 0 24 (dk_at dksX0_count_3 11 rfl rfl)
theorem dX0_count_83 : decode cX0_count 83 = .ok (.iload 4, 2) := dk_21 4 (dk_at dksX0_count_3 14 rfl rfl)
theorem dX0_count_85 : decode cX0_count 85 = .ok (.aload_n 0, 1) := dk_42 (dk_at dksX0_count_3 16 rfl rfl)
theorem dX0_count_86 : decode cX0_count 86 = .ok (.getfield 28, 3) := dk_180 0 28 (dk_at dksX0_count_3 17 rfl rfl)
theorem dX0_count_89 : decode cX0_count 89 = .ok (.iload 5, 2) := dk_21 5 (dk_at dksX0_count_3 20 rfl rfl)
theorem dX0_count_91 : decode cX0_count 91 = .ok (.aaload, 1) := dk_50 (dk_at dksX0_count_3 22 rfl rfl)
theorem dX0_count_92 : decode cX0_count 92 = .ok (.getfield 152, 3) := dk_180 0 152 (dk_at dksX0_count_4 0 rfl rfl)
theorem dX0_count_95 : decode cX0_count 95 = .ok (.iadd, 1) := dk_96 (dk_at dksX0_count_4 3 rfl rfl)
theorem dX0_count_96 : decode cX0_count 96 = .ok (.istore 4, 2) := dk_54 4 (dk_at dksX0_count_4 4 rfl rfl)
theorem dX0_count_98 : decode cX0_count 98 = .ok (.iinc 5 1, 3) := dk_132 5 1 (dk_at dksX0_count_4 6 rfl rfl)
theorem dX0_count_101 : decode cX0_count 101 = .ok (.goto (-27), 3) := dk_167 255 229 (dk_at dksX0_count_4 9 rfl rfl)
theorem dX0_count_104 : decode cX0_count 104 = .ok (.iload_n 1, 1) := dk_27 (dk_at dksX0_count_4 12 rfl rfl)
theorem dX0_count_105 : decode cX0_count 105 = .ok (.tableswitch 61 0 5 #[39, 44, 49, 51, 56, 58], 39) := by decide +kernel
theorem dX0_count_144 : decode cX0_count 144 = .ok (.aload_n 0, 1) := dk_42 (dk_at dksX0_count_6 0 rfl rfl)
theorem dX0_count_145 : decode cX0_count 145 = .ok (.getfield 247, 3) := dk_180 0 247 (dk_at dksX0_count_6 1 rfl rfl)
theorem dX0_count_148 : decode cX0_count 148 = .ok (.ireturn, 1) := dk_172 (dk_at dksX0_count_6 4 rfl rfl)
theorem dX0_count_149 : decode cX0_count 149 = .ok (.aload_n 0, 1) := dk_42 (dk_at dksX0_count_6 5 rfl rfl)
theorem dX0_count_150 : decode cX0_count 150 = .ok (.getfield 93, 3) := dk_180 0 93 (dk_at dksX0_count_6 6 rfl rfl)
theorem dX0_count_153 : decode cX0_count 153 = .ok (.ireturn, 1) := dk_172 (dk_at dksX0_count_6 9 rfl rfl)
theorem dX0_count_154 : decode cX0_count 154 = .ok (.iload_n 2, 1) := dk_28 (dk_at dksX0_count_6 10 rfl rfl)
theorem dX0_count_155 : decode cX0_count 155 = .ok (.ireturn, 1) := dk_172 (dk_at dksX0_count_6 11 rfl rfl)
theorem dX0_count_156 : decode cX0_count 156 = .ok (.aload_n 0, 1) := dk_42 (dk_at dksX0_count_6 12 rfl rfl)
theorem dX0_count_157 : decode cX0_count 157 = .ok (.getfield 371, 3) := dk_180 1 115 (dk_at dksX0_count_6 13 rfl rfl)
theorem dX0_count_160 : decode cX0_count 160 = .ok (.ireturn, 1) := dk_172 (dk_at dksX0_count_6 16 rfl rfl)
theorem dX0_count_161 : decode cX0_count 161 = .ok (.iload_n 3, 1) := dk_29 (dk_at dksX0_count_6 17 rfl rfl)
theorem dX0_count_162 : decode cX0_count 162 = .ok (.ireturn, 1) := dk_172 (dk_at dksX0_count_6 18 rfl rfl)
theorem dX0_count_163 : decode cX0_count 163 = .ok (.iload 4, 2) := dk_21 4 (dk_at dksX0_count_6 19 rfl rfl)
theorem dX0_count_165 : decode cX0_count 165 = .ok (.ireturn, 1) := dk_172 (dk_at dksX0_count_6 21 rfl rfl)
theorem dX0_count_166 : decode cX0_count 166 = .ok (.iconst (-1), 1) := dk_2 (dk_at dksX0_count_6 22 rfl rfl)
theorem dX0_count_167 : decode cX0_count 167 = .ok (.ireturn, 1) := dk_172 (dk_at dksX0_count_6 23 rfl rfl)
abbrev cX0_finding : ByteArray := prog_1_method_93_code
def yX0_finding : MethodName := ⟨RX0, "finding", "()I"⟩
theorem dX0_finding_0 : decode cX0_finding 0 = .ok (.aload_n 0, 1) := by decide +kernel
theorem dX0_finding_1 : decode cX0_finding 1 = .ok (.getfield 1, 3) := by decide +kernel
theorem dX0_finding_4 : decode cX0_finding 4 = .ok (.ireturn, 1) := by decide +kernel
abbrev cX0_findings : ByteArray := prog_1_method_94_code
def yX0_findings : MethodName := ⟨RX0, "findings", "(I)I"⟩
def dkwX0_findings_0 : List UInt8 := [27, 4, 8, 184, 0, 69, 153, 0, 12, 42, 180, 0, 7, 27, 46, 167, 0, 4, 2, 172]
abbrev dktX0_findings_0 : List UInt8 := dkwX0_findings_0 ++ []
theorem dksX0_findings_0 : cX0_findings.data.toList.drop 0 = dktX0_findings_0 := by decide +kernel
theorem dX0_findings_0 : decode cX0_findings 0 = .ok (.iload_n 1, 1) := dk_27 (dk_at dksX0_findings_0 0 rfl rfl)
theorem dX0_findings_1 : decode cX0_findings 1 = .ok (.iconst 1, 1) := dk_4 (dk_at dksX0_findings_0 1 rfl rfl)
theorem dX0_findings_2 : decode cX0_findings 2 = .ok (.iconst 5, 1) := dk_8 (dk_at dksX0_findings_0 2 rfl rfl)
theorem dX0_findings_3 : decode cX0_findings 3 = .ok (.invokestatic 69, 3) := dk_184 0 69 (dk_at dksX0_findings_0 3 rfl rfl)
theorem dX0_findings_6 : decode cX0_findings 6 = .ok (.ifCond .eq 12, 3) := dk_153 0 12 (dk_at dksX0_findings_0 6 rfl rfl)
theorem dX0_findings_9 : decode cX0_findings 9 = .ok (.aload_n 0, 1) := dk_42 (dk_at dksX0_findings_0 9 rfl rfl)
theorem dX0_findings_10 : decode cX0_findings 10 = .ok (.getfield 7, 3) := dk_180 0 7 (dk_at dksX0_findings_0 10 rfl rfl)
theorem dX0_findings_13 : decode cX0_findings 13 = .ok (.iload_n 1, 1) := dk_27 (dk_at dksX0_findings_0 13 rfl rfl)
theorem dX0_findings_14 : decode cX0_findings 14 = .ok (.iaload, 1) := dk_46 (dk_at dksX0_findings_0 14 rfl rfl)
theorem dX0_findings_15 : decode cX0_findings 15 = .ok (.goto 4, 3) := dk_167 0 4 (dk_at dksX0_findings_0 15 rfl rfl)
theorem dX0_findings_18 : decode cX0_findings 18 = .ok (.iconst (-1), 1) := dk_2 (dk_at dksX0_findings_0 18 rfl rfl)
theorem dX0_findings_19 : decode cX0_findings 19 = .ok (.ireturn, 1) := dk_172 (dk_at dksX0_findings_0 19 rfl rfl)
abbrev cX0_digest : ByteArray := prog_1_method_97_code
def yX0_digest : MethodName := ⟨RX0, "digest", "()J"⟩
def dkwX0_digest_5 : List UInt8 := [25, 4, 21, 5, 51, 133, 97, 64, 132, 5, 1, 167, 255, 227, 132, 3, 1, 167, 255, 184, 31, 173]
abbrev dktX0_digest_5 : List UInt8 := dkwX0_digest_5 ++ []
def dkwX0_digest_4 : List UInt8 := [133, 97, 64, 3, 54, 5, 25, 4, 198, 0, 30, 21, 5, 25, 4, 190, 162, 0, 22, 20, 1, 154, 31, 105]
abbrev dktX0_digest_4 : List UInt8 := dkwX0_digest_4 ++ dktX0_digest_5
def dkwX0_digest_3 : List UInt8 := [180, 0, 22, 29, 50, 58, 4, 20, 1, 154, 31, 105, 25, 4, 199, 0, 7, 2, 167, 0, 6, 25, 4, 190]
abbrev dktX0_digest_3 : List UInt8 := dkwX0_digest_3 ++ dktX0_digest_4
def dkwX0_digest_2 : List UInt8 := [29, 50, 31, 184, 1, 165, 64, 132, 3, 1, 167, 255, 237, 3, 62, 29, 16, 8, 162, 0, 72, 42]
abbrev dktX0_digest_2 : List UInt8 := dkwX0_digest_2 ++ dktX0_digest_3
def dkwX0_digest_1 : List UInt8 := [29, 50, 31, 184, 1, 161, 64, 132, 3, 1, 167, 255, 234, 3, 62, 29, 7, 162, 0, 20, 42, 180, 0, 34]
abbrev dktX0_digest_1 : List UInt8 := dkwX0_digest_1 ++ dktX0_digest_2
def dkwX0_digest_0 : List UInt8 := [20, 1, 159, 42, 180, 0, 247, 133, 97, 64, 3, 62, 29, 42, 180, 0, 93, 162, 0, 20, 42, 180, 0, 28]
abbrev dktX0_digest_0 : List UInt8 := dkwX0_digest_0 ++ dktX0_digest_1
theorem dksX0_digest_0 : cX0_digest.data.toList.drop 0 = dktX0_digest_0 := by decide +kernel
theorem dksX0_digest_1 : cX0_digest.data.toList.drop 24 = dktX0_digest_1 := dk_seg dksX0_digest_0 24 rfl rfl
theorem dksX0_digest_2 : cX0_digest.data.toList.drop 48 = dktX0_digest_2 := dk_seg dksX0_digest_1 24 rfl rfl
theorem dksX0_digest_3 : cX0_digest.data.toList.drop 70 = dktX0_digest_3 := dk_seg dksX0_digest_2 22 rfl rfl
theorem dksX0_digest_4 : cX0_digest.data.toList.drop 94 = dktX0_digest_4 := dk_seg dksX0_digest_3 24 rfl rfl
theorem dksX0_digest_5 : cX0_digest.data.toList.drop 118 = dktX0_digest_5 := dk_seg dksX0_digest_4 24 rfl rfl
theorem dX0_digest_0 : decode cX0_digest 0 = .ok (.ldc2_w 415, 3) := dk_20 1 159 (dk_at dksX0_digest_0 0 rfl rfl)
theorem dX0_digest_3 : decode cX0_digest 3 = .ok (.aload_n 0, 1) := dk_42 (dk_at dksX0_digest_0 3 rfl rfl)
theorem dX0_digest_4 : decode cX0_digest 4 = .ok (.getfield 247, 3) := dk_180 0 247 (dk_at dksX0_digest_0 4 rfl rfl)
theorem dX0_digest_7 : decode cX0_digest 7 = .ok (.i2l, 1) := dk_133 (dk_at dksX0_digest_0 7 rfl rfl)
theorem dX0_digest_8 : decode cX0_digest 8 = .ok (.ladd, 1) := dk_97 (dk_at dksX0_digest_0 8 rfl rfl)
theorem dX0_digest_9 : decode cX0_digest 9 = .ok (.lstore_n 1, 1) := dk_64 (dk_at dksX0_digest_0 9 rfl rfl)
theorem dX0_digest_10 : decode cX0_digest 10 = .ok (.iconst 0, 1) := dk_3 (dk_at dksX0_digest_0 10 rfl rfl)
theorem dX0_digest_11 : decode cX0_digest 11 = .ok (.istore_n 3, 1) := dk_62 (dk_at dksX0_digest_0 11 rfl rfl)
theorem dX0_digest_12 : decode cX0_digest 12 = .ok (.iload_n 3, 1) := dk_29 (dk_at dksX0_digest_0 12 rfl rfl)
theorem dX0_digest_13 : decode cX0_digest 13 = .ok (.aload_n 0, 1) := dk_42 (dk_at dksX0_digest_0 13 rfl rfl)
theorem dX0_digest_14 : decode cX0_digest 14 = .ok (.getfield 93, 3) := dk_180 0 93 (dk_at dksX0_digest_0 14 rfl rfl)
theorem dX0_digest_17 : decode cX0_digest 17 = .ok (.if_icmp .ge 20, 3) := dk_162 0 20 (dk_at dksX0_digest_0 17 rfl rfl)
theorem dX0_digest_20 : decode cX0_digest 20 = .ok (.aload_n 0, 1) := dk_42 (dk_at dksX0_digest_0 20 rfl rfl)
theorem dX0_digest_21 : decode cX0_digest 21 = .ok (.getfield 28, 3) := dk_180 0 28 (dk_at dksX0_digest_0 21 rfl rfl)
theorem dX0_digest_24 : decode cX0_digest 24 = .ok (.iload_n 3, 1) := dk_29 (dk_at dksX0_digest_1 0 rfl rfl)
theorem dX0_digest_25 : decode cX0_digest 25 = .ok (.aaload, 1) := dk_50 (dk_at dksX0_digest_1 1 rfl rfl)
theorem dX0_digest_26 : decode cX0_digest 26 = .ok (.lload_n 1, 1) := dk_31 (dk_at dksX0_digest_1 2 rfl rfl)
theorem dX0_digest_27 : decode cX0_digest 27 = .ok (.invokestatic 417, 3) := dk_184 1 161 (dk_at dksX0_digest_1 3 rfl rfl)
theorem dX0_digest_30 : decode cX0_digest 30 = .ok (.lstore_n 1, 1) := dk_64 (dk_at dksX0_digest_1 6 rfl rfl)
theorem dX0_digest_31 : decode cX0_digest 31 = .ok (.iinc 3 1, 3) := dk_132 3 1 (dk_at dksX0_digest_1 7 rfl rfl)
theorem dX0_digest_34 : decode cX0_digest 34 = .ok (.goto (-22), 3) := dk_167 255 234 (dk_at dksX0_digest_1 10 rfl rfl)
theorem dX0_digest_37 : decode cX0_digest 37 = .ok (.iconst 0, 1) := dk_3 (dk_at dksX0_digest_1 13 rfl rfl)
theorem dX0_digest_38 : decode cX0_digest 38 = .ok (.istore_n 3, 1) := dk_62 (dk_at dksX0_digest_1 14 rfl rfl)
theorem dX0_digest_39 : decode cX0_digest 39 = .ok (.iload_n 3, 1) := dk_29 (dk_at dksX0_digest_1 15 rfl rfl)
theorem dX0_digest_40 : decode cX0_digest 40 = .ok (.iconst 4, 1) := dk_7 (dk_at dksX0_digest_1 16 rfl rfl)
theorem dX0_digest_41 : decode cX0_digest 41 = .ok (.if_icmp .ge 20, 3) := dk_162 0 20 (dk_at dksX0_digest_1 17 rfl rfl)
theorem dX0_digest_44 : decode cX0_digest 44 = .ok (.aload_n 0, 1) := dk_42 (dk_at dksX0_digest_1 20 rfl rfl)
theorem dX0_digest_45 : decode cX0_digest 45 = .ok (.getfield 34, 3) := dk_180 0 34 (dk_at dksX0_digest_1 21 rfl rfl)
theorem dX0_digest_48 : decode cX0_digest 48 = .ok (.iload_n 3, 1) := dk_29 (dk_at dksX0_digest_2 0 rfl rfl)
theorem dX0_digest_49 : decode cX0_digest 49 = .ok (.aaload, 1) := dk_50 (dk_at dksX0_digest_2 1 rfl rfl)
theorem dX0_digest_50 : decode cX0_digest 50 = .ok (.lload_n 1, 1) := dk_31 (dk_at dksX0_digest_2 2 rfl rfl)
theorem dX0_digest_51 : decode cX0_digest 51 = .ok (.invokestatic 421, 3) := dk_184 1 165 (dk_at dksX0_digest_2 3 rfl rfl)
theorem dX0_digest_54 : decode cX0_digest 54 = .ok (.lstore_n 1, 1) := dk_64 (dk_at dksX0_digest_2 6 rfl rfl)
theorem dX0_digest_55 : decode cX0_digest 55 = .ok (.iinc 3 1, 3) := dk_132 3 1 (dk_at dksX0_digest_2 7 rfl rfl)
theorem dX0_digest_58 : decode cX0_digest 58 = .ok (.goto (-19), 3) := dk_167 255 237 (dk_at dksX0_digest_2 10 rfl rfl)
theorem dX0_digest_61 : decode cX0_digest 61 = .ok (.iconst 0, 1) := dk_3 (dk_at dksX0_digest_2 13 rfl rfl)
theorem dX0_digest_62 : decode cX0_digest 62 = .ok (.istore_n 3, 1) := dk_62 (dk_at dksX0_digest_2 14 rfl rfl)
theorem dX0_digest_63 : decode cX0_digest 63 = .ok (.iload_n 3, 1) := dk_29 (dk_at dksX0_digest_2 15 rfl rfl)
theorem dX0_digest_64 : decode cX0_digest 64 = .ok (.bipush 8, 2) := dk_16 8 (dk_at dksX0_digest_2 16 rfl rfl)
theorem dX0_digest_66 : decode cX0_digest 66 = .ok (.if_icmp .ge 72, 3) := dk_162 0 72 (dk_at dksX0_digest_2 18 rfl rfl)
theorem dX0_digest_69 : decode cX0_digest 69 = .ok (.aload_n 0, 1) := dk_42 (dk_at dksX0_digest_2 21 rfl rfl)
theorem dX0_digest_70 : decode cX0_digest 70 = .ok (.getfield 22, 3) := dk_180 0 22 (dk_at dksX0_digest_3 0 rfl rfl)
theorem dX0_digest_73 : decode cX0_digest 73 = .ok (.iload_n 3, 1) := dk_29 (dk_at dksX0_digest_3 3 rfl rfl)
theorem dX0_digest_74 : decode cX0_digest 74 = .ok (.aaload, 1) := dk_50 (dk_at dksX0_digest_3 4 rfl rfl)
theorem dX0_digest_75 : decode cX0_digest 75 = .ok (.astore 4, 2) := dk_58 4 (dk_at dksX0_digest_3 5 rfl rfl)
theorem dX0_digest_77 : decode cX0_digest 77 = .ok (.ldc2_w 410, 3) := dk_20 1 154 (dk_at dksX0_digest_3 7 rfl rfl)
theorem dX0_digest_80 : decode cX0_digest 80 = .ok (.lload_n 1, 1) := dk_31 (dk_at dksX0_digest_3 10 rfl rfl)
theorem dX0_digest_81 : decode cX0_digest 81 = .ok (.lmul, 1) := dk_105 (dk_at dksX0_digest_3 11 rfl rfl)
theorem dX0_digest_82 : decode cX0_digest 82 = .ok (.aload 4, 2) := dk_25 4 (dk_at dksX0_digest_3 12 rfl rfl)
theorem dX0_digest_84 : decode cX0_digest 84 = .ok (.ifnonnull 7, 3) := dk_199 0 7 (dk_at dksX0_digest_3 14 rfl rfl)
theorem dX0_digest_87 : decode cX0_digest 87 = .ok (.iconst (-1), 1) := dk_2 (dk_at dksX0_digest_3 17 rfl rfl)
theorem dX0_digest_88 : decode cX0_digest 88 = .ok (.goto 6, 3) := dk_167 0 6 (dk_at dksX0_digest_3 18 rfl rfl)
theorem dX0_digest_91 : decode cX0_digest 91 = .ok (.aload 4, 2) := dk_25 4 (dk_at dksX0_digest_3 21 rfl rfl)
theorem dX0_digest_93 : decode cX0_digest 93 = .ok (.arraylength, 1) := dk_190 (dk_at dksX0_digest_3 23 rfl rfl)
theorem dX0_digest_94 : decode cX0_digest 94 = .ok (.i2l, 1) := dk_133 (dk_at dksX0_digest_4 0 rfl rfl)
theorem dX0_digest_95 : decode cX0_digest 95 = .ok (.ladd, 1) := dk_97 (dk_at dksX0_digest_4 1 rfl rfl)
theorem dX0_digest_96 : decode cX0_digest 96 = .ok (.lstore_n 1, 1) := dk_64 (dk_at dksX0_digest_4 2 rfl rfl)
theorem dX0_digest_97 : decode cX0_digest 97 = .ok (.iconst 0, 1) := dk_3 (dk_at dksX0_digest_4 3 rfl rfl)
theorem dX0_digest_98 : decode cX0_digest 98 = .ok (.istore 5, 2) := dk_54 5 (dk_at dksX0_digest_4 4 rfl rfl)
theorem dX0_digest_100 : decode cX0_digest 100 = .ok (.aload 4, 2) := dk_25 4 (dk_at dksX0_digest_4 6 rfl rfl)
theorem dX0_digest_102 : decode cX0_digest 102 = .ok (.ifnull 30, 3) := dk_198 0 30 (dk_at dksX0_digest_4 8 rfl rfl)
theorem dX0_digest_105 : decode cX0_digest 105 = .ok (.iload 5, 2) := dk_21 5 (dk_at dksX0_digest_4 11 rfl rfl)
theorem dX0_digest_107 : decode cX0_digest 107 = .ok (.aload 4, 2) := dk_25 4 (dk_at dksX0_digest_4 13 rfl rfl)
theorem dX0_digest_109 : decode cX0_digest 109 = .ok (.arraylength, 1) := dk_190 (dk_at dksX0_digest_4 15 rfl rfl)
theorem dX0_digest_110 : decode cX0_digest 110 = .ok (.if_icmp .ge 22, 3) := dk_162 0 22 (dk_at dksX0_digest_4 16 rfl rfl)
theorem dX0_digest_113 : decode cX0_digest 113 = .ok (.ldc2_w 410, 3) := dk_20 1 154 (dk_at dksX0_digest_4 19 rfl rfl)
theorem dX0_digest_116 : decode cX0_digest 116 = .ok (.lload_n 1, 1) := dk_31 (dk_at dksX0_digest_4 22 rfl rfl)
theorem dX0_digest_117 : decode cX0_digest 117 = .ok (.lmul, 1) := dk_105 (dk_at dksX0_digest_4 23 rfl rfl)
theorem dX0_digest_118 : decode cX0_digest 118 = .ok (.aload 4, 2) := dk_25 4 (dk_at dksX0_digest_5 0 rfl rfl)
theorem dX0_digest_120 : decode cX0_digest 120 = .ok (.iload 5, 2) := dk_21 5 (dk_at dksX0_digest_5 2 rfl rfl)
theorem dX0_digest_122 : decode cX0_digest 122 = .ok (.baload, 1) := dk_51 (dk_at dksX0_digest_5 4 rfl rfl)
theorem dX0_digest_123 : decode cX0_digest 123 = .ok (.i2l, 1) := dk_133 (dk_at dksX0_digest_5 5 rfl rfl)
theorem dX0_digest_124 : decode cX0_digest 124 = .ok (.ladd, 1) := dk_97 (dk_at dksX0_digest_5 6 rfl rfl)
theorem dX0_digest_125 : decode cX0_digest 125 = .ok (.lstore_n 1, 1) := dk_64 (dk_at dksX0_digest_5 7 rfl rfl)
theorem dX0_digest_126 : decode cX0_digest 126 = .ok (.iinc 5 1, 3) := dk_132 5 1 (dk_at dksX0_digest_5 8 rfl rfl)
theorem dX0_digest_129 : decode cX0_digest 129 = .ok (.goto (-29), 3) := dk_167 255 227 (dk_at dksX0_digest_5 11 rfl rfl)
theorem dX0_digest_132 : decode cX0_digest 132 = .ok (.iinc 3 1, 3) := dk_132 3 1 (dk_at dksX0_digest_5 14 rfl rfl)
theorem dX0_digest_135 : decode cX0_digest 135 = .ok (.goto (-72), 3) := dk_167 255 184 (dk_at dksX0_digest_5 17 rfl rfl)
theorem dX0_digest_138 : decode cX0_digest 138 = .ok (.lload_n 1, 1) := dk_31 (dk_at dksX0_digest_5 20 rfl rfl)
theorem dX0_digest_139 : decode cX0_digest 139 = .ok (.lreturn, 1) := dk_173 (dk_at dksX0_digest_5 21 rfl rfl)
abbrev cX0_digestOf : ByteArray := prog_1_method_95_code
def yX0_digestOf : MethodName := ⟨RX0, "digestOf", "(LHammerTowers$Train;J)J"⟩
def dkwX0_digestOf_5 : List UInt8 := [182, 0, 166, 133, 97, 66, 33, 173]
abbrev dktX0_digestOf_5 : List UInt8 := dkwX0_digestOf_5 ++ []
def dkwX0_digestOf_4 : List UInt8 := [25, 5, 180, 1, 156, 21, 6, 46, 133, 97, 66, 132, 6, 1, 167, 255, 226, 20, 1, 154, 33, 105, 25, 5]
abbrev dktX0_digestOf_4 : List UInt8 := dkwX0_digestOf_4 ++ dktX0_digestOf_5
def dkwX0_digestOf_3 : List UInt8 := [192, 0, 115, 58, 5, 3, 54, 6, 21, 6, 25, 5, 180, 1, 156, 190, 162, 0, 25, 20, 1, 154, 33, 105]
abbrev dktX0_digestOf_3 : List UInt8 := dkwX0_digestOf_3 ++ dktX0_digestOf_4
def dkwX0_digestOf_2 : List UInt8 := [105, 42, 21, 5, 182, 0, 169, 133, 97, 66, 132, 5, 1, 167, 255, 230, 42, 193, 0, 115, 153, 0, 58, 42]
abbrev dktX0_digestOf_2 : List UInt8 := dkwX0_digestOf_2 ++ dktX0_digestOf_3
def dkwX0_digestOf_1 : List UInt8 := [97, 66, 132, 5, 1, 167, 255, 232, 3, 54, 5, 21, 5, 42, 182, 0, 140, 162, 0, 23, 20, 1, 154, 33]
abbrev dktX0_digestOf_1 : List UInt8 := dkwX0_digestOf_1 ++ dktX0_digestOf_2
def dkwX0_digestOf_0 : List UInt8 := [31, 66, 3, 54, 5, 21, 5, 16, 8, 162, 0, 23, 20, 1, 154, 33, 105, 42, 21, 5, 184, 0, 155, 133]
abbrev dktX0_digestOf_0 : List UInt8 := dkwX0_digestOf_0 ++ dktX0_digestOf_1
theorem dksX0_digestOf_0 : cX0_digestOf.data.toList.drop 0 = dktX0_digestOf_0 := by decide +kernel
theorem dksX0_digestOf_1 : cX0_digestOf.data.toList.drop 24 = dktX0_digestOf_1 := dk_seg dksX0_digestOf_0 24 rfl rfl
theorem dksX0_digestOf_2 : cX0_digestOf.data.toList.drop 48 = dktX0_digestOf_2 := dk_seg dksX0_digestOf_1 24 rfl rfl
theorem dksX0_digestOf_3 : cX0_digestOf.data.toList.drop 72 = dktX0_digestOf_3 := dk_seg dksX0_digestOf_2 24 rfl rfl
theorem dksX0_digestOf_4 : cX0_digestOf.data.toList.drop 96 = dktX0_digestOf_4 := dk_seg dksX0_digestOf_3 24 rfl rfl
theorem dksX0_digestOf_5 : cX0_digestOf.data.toList.drop 120 = dktX0_digestOf_5 := dk_seg dksX0_digestOf_4 24 rfl rfl
theorem dX0_digestOf_0 : decode cX0_digestOf 0 = .ok (.lload_n 1, 1) := dk_31 (dk_at dksX0_digestOf_0 0 rfl rfl)
theorem dX0_digestOf_1 : decode cX0_digestOf 1 = .ok (.lstore_n 3, 1) := dk_66 (dk_at dksX0_digestOf_0 1 rfl rfl)
theorem dX0_digestOf_2 : decode cX0_digestOf 2 = .ok (.iconst 0, 1) := dk_3 (dk_at dksX0_digestOf_0 2 rfl rfl)
theorem dX0_digestOf_3 : decode cX0_digestOf 3 = .ok (.istore 5, 2) := dk_54 5 (dk_at dksX0_digestOf_0 3 rfl rfl)
theorem dX0_digestOf_5 : decode cX0_digestOf 5 = .ok (.iload 5, 2) := dk_21 5 (dk_at dksX0_digestOf_0 5 rfl rfl)
theorem dX0_digestOf_7 : decode cX0_digestOf 7 = .ok (.bipush 8, 2) := dk_16 8 (dk_at dksX0_digestOf_0 7 rfl rfl)
theorem dX0_digestOf_9 : decode cX0_digestOf 9 = .ok (.if_icmp .ge 23, 3) := dk_162 0 23 (dk_at dksX0_digestOf_0 9 rfl rfl)
theorem dX0_digestOf_12 : decode cX0_digestOf 12 = .ok (.ldc2_w 410, 3) := dk_20 1 154 (dk_at dksX0_digestOf_0 12 rfl rfl)
theorem dX0_digestOf_15 : decode cX0_digestOf 15 = .ok (.lload_n 3, 1) := dk_33 (dk_at dksX0_digestOf_0 15 rfl rfl)
theorem dX0_digestOf_16 : decode cX0_digestOf 16 = .ok (.lmul, 1) := dk_105 (dk_at dksX0_digestOf_0 16 rfl rfl)
theorem dX0_digestOf_17 : decode cX0_digestOf 17 = .ok (.aload_n 0, 1) := dk_42 (dk_at dksX0_digestOf_0 17 rfl rfl)
theorem dX0_digestOf_18 : decode cX0_digestOf 18 = .ok (.iload 5, 2) := dk_21 5 (dk_at dksX0_digestOf_0 18 rfl rfl)
theorem dX0_digestOf_20 : decode cX0_digestOf 20 = .ok (.invokestatic 155, 3) := dk_184 0 155 (dk_at dksX0_digestOf_0 20 rfl rfl)
theorem dX0_digestOf_23 : decode cX0_digestOf 23 = .ok (.i2l, 1) := dk_133 (dk_at dksX0_digestOf_0 23 rfl rfl)
theorem dX0_digestOf_24 : decode cX0_digestOf 24 = .ok (.ladd, 1) := dk_97 (dk_at dksX0_digestOf_1 0 rfl rfl)
theorem dX0_digestOf_25 : decode cX0_digestOf 25 = .ok (.lstore_n 3, 1) := dk_66 (dk_at dksX0_digestOf_1 1 rfl rfl)
theorem dX0_digestOf_26 : decode cX0_digestOf 26 = .ok (.iinc 5 1, 3) := dk_132 5 1 (dk_at dksX0_digestOf_1 2 rfl rfl)
theorem dX0_digestOf_29 : decode cX0_digestOf 29 = .ok (.goto (-24), 3) := dk_167 255 232 (dk_at dksX0_digestOf_1 5 rfl rfl)
theorem dX0_digestOf_32 : decode cX0_digestOf 32 = .ok (.iconst 0, 1) := dk_3 (dk_at dksX0_digestOf_1 8 rfl rfl)
theorem dX0_digestOf_33 : decode cX0_digestOf 33 = .ok (.istore 5, 2) := dk_54 5 (dk_at dksX0_digestOf_1 9 rfl rfl)
theorem dX0_digestOf_35 : decode cX0_digestOf 35 = .ok (.iload 5, 2) := dk_21 5 (dk_at dksX0_digestOf_1 11 rfl rfl)
theorem dX0_digestOf_37 : decode cX0_digestOf 37 = .ok (.aload_n 0, 1) := dk_42 (dk_at dksX0_digestOf_1 13 rfl rfl)
theorem dX0_digestOf_38 : decode cX0_digestOf 38 = .ok (.invokevirtual 140, 3) := dk_182 0 140 (dk_at dksX0_digestOf_1 14 rfl rfl)
theorem dX0_digestOf_41 : decode cX0_digestOf 41 = .ok (.if_icmp .ge 23, 3) := dk_162 0 23 (dk_at dksX0_digestOf_1 17 rfl rfl)
theorem dX0_digestOf_44 : decode cX0_digestOf 44 = .ok (.ldc2_w 410, 3) := dk_20 1 154 (dk_at dksX0_digestOf_1 20 rfl rfl)
theorem dX0_digestOf_47 : decode cX0_digestOf 47 = .ok (.lload_n 3, 1) := dk_33 (dk_at dksX0_digestOf_1 23 rfl rfl)
theorem dX0_digestOf_48 : decode cX0_digestOf 48 = .ok (.lmul, 1) := dk_105 (dk_at dksX0_digestOf_2 0 rfl rfl)
theorem dX0_digestOf_49 : decode cX0_digestOf 49 = .ok (.aload_n 0, 1) := dk_42 (dk_at dksX0_digestOf_2 1 rfl rfl)
theorem dX0_digestOf_50 : decode cX0_digestOf 50 = .ok (.iload 5, 2) := dk_21 5 (dk_at dksX0_digestOf_2 2 rfl rfl)
theorem dX0_digestOf_52 : decode cX0_digestOf 52 = .ok (.invokevirtual 169, 3) := dk_182 0 169 (dk_at dksX0_digestOf_2 4 rfl rfl)
theorem dX0_digestOf_55 : decode cX0_digestOf 55 = .ok (.i2l, 1) := dk_133 (dk_at dksX0_digestOf_2 7 rfl rfl)
theorem dX0_digestOf_56 : decode cX0_digestOf 56 = .ok (.ladd, 1) := dk_97 (dk_at dksX0_digestOf_2 8 rfl rfl)
theorem dX0_digestOf_57 : decode cX0_digestOf 57 = .ok (.lstore_n 3, 1) := dk_66 (dk_at dksX0_digestOf_2 9 rfl rfl)
theorem dX0_digestOf_58 : decode cX0_digestOf 58 = .ok (.iinc 5 1, 3) := dk_132 5 1 (dk_at dksX0_digestOf_2 10 rfl rfl)
theorem dX0_digestOf_61 : decode cX0_digestOf 61 = .ok (.goto (-26), 3) := dk_167 255 230 (dk_at dksX0_digestOf_2 13 rfl rfl)
theorem dX0_digestOf_64 : decode cX0_digestOf 64 = .ok (.aload_n 0, 1) := dk_42 (dk_at dksX0_digestOf_2 16 rfl rfl)
theorem dX0_digestOf_65 : decode cX0_digestOf 65 = .ok (.instanceof 115, 3) := dk_193 0 115 (dk_at dksX0_digestOf_2 17 rfl rfl)
theorem dX0_digestOf_68 : decode cX0_digestOf 68 = .ok (.ifCond .eq 58, 3) := dk_153 0 58 (dk_at dksX0_digestOf_2 20 rfl rfl)
theorem dX0_digestOf_71 : decode cX0_digestOf 71 = .ok (.aload_n 0, 1) := dk_42 (dk_at dksX0_digestOf_2 23 rfl rfl)
theorem dX0_digestOf_72 : decode cX0_digestOf 72 = .ok (.checkcast 115, 3) := dk_192 0 115 (dk_at dksX0_digestOf_3 0 rfl rfl)
theorem dX0_digestOf_75 : decode cX0_digestOf 75 = .ok (.astore 5, 2) := dk_58 5 (dk_at dksX0_digestOf_3 3 rfl rfl)
theorem dX0_digestOf_77 : decode cX0_digestOf 77 = .ok (.iconst 0, 1) := dk_3 (dk_at dksX0_digestOf_3 5 rfl rfl)
theorem dX0_digestOf_78 : decode cX0_digestOf 78 = .ok (.istore 6, 2) := dk_54 6 (dk_at dksX0_digestOf_3 6 rfl rfl)
theorem dX0_digestOf_80 : decode cX0_digestOf 80 = .ok (.iload 6, 2) := dk_21 6 (dk_at dksX0_digestOf_3 8 rfl rfl)
theorem dX0_digestOf_82 : decode cX0_digestOf 82 = .ok (.aload 5, 2) := dk_25 5 (dk_at dksX0_digestOf_3 10 rfl rfl)
theorem dX0_digestOf_84 : decode cX0_digestOf 84 = .ok (.getfield 412, 3) := dk_180 1 156 (dk_at dksX0_digestOf_3 12 rfl rfl)
theorem dX0_digestOf_87 : decode cX0_digestOf 87 = .ok (.arraylength, 1) := dk_190 (dk_at dksX0_digestOf_3 15 rfl rfl)
theorem dX0_digestOf_88 : decode cX0_digestOf 88 = .ok (.if_icmp .ge 25, 3) := dk_162 0 25 (dk_at dksX0_digestOf_3 16 rfl rfl)
theorem dX0_digestOf_91 : decode cX0_digestOf 91 = .ok (.ldc2_w 410, 3) := dk_20 1 154 (dk_at dksX0_digestOf_3 19 rfl rfl)
theorem dX0_digestOf_94 : decode cX0_digestOf 94 = .ok (.lload_n 3, 1) := dk_33 (dk_at dksX0_digestOf_3 22 rfl rfl)
theorem dX0_digestOf_95 : decode cX0_digestOf 95 = .ok (.lmul, 1) := dk_105 (dk_at dksX0_digestOf_3 23 rfl rfl)
theorem dX0_digestOf_96 : decode cX0_digestOf 96 = .ok (.aload 5, 2) := dk_25 5 (dk_at dksX0_digestOf_4 0 rfl rfl)
theorem dX0_digestOf_98 : decode cX0_digestOf 98 = .ok (.getfield 412, 3) := dk_180 1 156 (dk_at dksX0_digestOf_4 2 rfl rfl)
theorem dX0_digestOf_101 : decode cX0_digestOf 101 = .ok (.iload 6, 2) := dk_21 6 (dk_at dksX0_digestOf_4 5 rfl rfl)
theorem dX0_digestOf_103 : decode cX0_digestOf 103 = .ok (.iaload, 1) := dk_46 (dk_at dksX0_digestOf_4 7 rfl rfl)
theorem dX0_digestOf_104 : decode cX0_digestOf 104 = .ok (.i2l, 1) := dk_133 (dk_at dksX0_digestOf_4 8 rfl rfl)
theorem dX0_digestOf_105 : decode cX0_digestOf 105 = .ok (.ladd, 1) := dk_97 (dk_at dksX0_digestOf_4 9 rfl rfl)
theorem dX0_digestOf_106 : decode cX0_digestOf 106 = .ok (.lstore_n 3, 1) := dk_66 (dk_at dksX0_digestOf_4 10 rfl rfl)
theorem dX0_digestOf_107 : decode cX0_digestOf 107 = .ok (.iinc 6 1, 3) := dk_132 6 1 (dk_at dksX0_digestOf_4 11 rfl rfl)
theorem dX0_digestOf_110 : decode cX0_digestOf 110 = .ok (.goto (-30), 3) := dk_167 255 226 (dk_at dksX0_digestOf_4 14 rfl rfl)
theorem dX0_digestOf_113 : decode cX0_digestOf 113 = .ok (.ldc2_w 410, 3) := dk_20 1 154 (dk_at dksX0_digestOf_4 17 rfl rfl)
theorem dX0_digestOf_116 : decode cX0_digestOf 116 = .ok (.lload_n 3, 1) := dk_33 (dk_at dksX0_digestOf_4 20 rfl rfl)
theorem dX0_digestOf_117 : decode cX0_digestOf 117 = .ok (.lmul, 1) := dk_105 (dk_at dksX0_digestOf_4 21 rfl rfl)
theorem dX0_digestOf_118 : decode cX0_digestOf 118 = .ok (.aload 5, 2) := dk_25 5 (dk_at dksX0_digestOf_4 22 rfl rfl)
theorem dX0_digestOf_120 : decode cX0_digestOf 120 = .ok (.invokevirtual 166, 3) := dk_182 0 166 (dk_at dksX0_digestOf_5 0 rfl rfl)
theorem dX0_digestOf_123 : decode cX0_digestOf 123 = .ok (.i2l, 1) := dk_133 (dk_at dksX0_digestOf_5 3 rfl rfl)
theorem dX0_digestOf_124 : decode cX0_digestOf 124 = .ok (.ladd, 1) := dk_97 (dk_at dksX0_digestOf_5 4 rfl rfl)
theorem dX0_digestOf_125 : decode cX0_digestOf 125 = .ok (.lstore_n 3, 1) := dk_66 (dk_at dksX0_digestOf_5 5 rfl rfl)
theorem dX0_digestOf_126 : decode cX0_digestOf 126 = .ok (.lload_n 3, 1) := dk_33 (dk_at dksX0_digestOf_5 6 rfl rfl)
theorem dX0_digestOf_127 : decode cX0_digestOf 127 = .ok (.lreturn, 1) := dk_173 (dk_at dksX0_digestOf_5 7 rfl rfl)
abbrev cX0_digestOf_2 : ByteArray := prog_1_method_96_code
def yX0_digestOf_2 : MethodName := ⟨RX0, "digestOf", "(LHammerTowers$Tower;J)J"⟩
def dkwX0_digestOf_2_4 : List UInt8 := [96, 46, 133, 97, 66, 132, 5, 1, 167, 255, 212, 33, 173]
abbrev dktX0_digestOf_2_4 : List UInt8 := dkwX0_digestOf_2_4 ++ []
def dkwX0_digestOf_2_3 : List UInt8 := [180, 1, 14, 154, 0, 7, 3, 167, 0, 19, 42, 180, 1, 17, 7, 42, 180, 1, 14, 104, 7, 100, 21, 5]
abbrev dktX0_digestOf_2_3 : List UInt8 := dkwX0_digestOf_2_3 ++ dktX0_digestOf_2_4
def dkwX0_digestOf_2_2 : List UInt8 := [105, 42, 180, 1, 14, 133, 97, 66, 3, 54, 5, 21, 5, 7, 162, 0, 44, 20, 1, 154, 33, 105, 42]
abbrev dktX0_digestOf_2_2 : List UInt8 := dkwX0_digestOf_2_2 ++ dktX0_digestOf_2_3
def dkwX0_digestOf_2_1 : List UInt8 := [20, 1, 154, 33, 105, 42, 21, 5, 184, 1, 10, 133, 97, 66, 132, 5, 1, 167, 255, 232, 20, 1, 154, 33]
abbrev dktX0_digestOf_2_1 : List UInt8 := dkwX0_digestOf_2_1 ++ dktX0_digestOf_2_2
def dkwX0_digestOf_2_0 : List UInt8 := [31, 66, 42, 199, 0, 11, 20, 1, 154, 33, 105, 10, 101, 173, 3, 54, 5, 21, 5, 16, 9, 162, 0, 23]
abbrev dktX0_digestOf_2_0 : List UInt8 := dkwX0_digestOf_2_0 ++ dktX0_digestOf_2_1
theorem dksX0_digestOf_2_0 : cX0_digestOf_2.data.toList.drop 0 = dktX0_digestOf_2_0 := by decide +kernel
theorem dksX0_digestOf_2_1 : cX0_digestOf_2.data.toList.drop 24 = dktX0_digestOf_2_1 := dk_seg dksX0_digestOf_2_0 24 rfl rfl
theorem dksX0_digestOf_2_2 : cX0_digestOf_2.data.toList.drop 48 = dktX0_digestOf_2_2 := dk_seg dksX0_digestOf_2_1 24 rfl rfl
theorem dksX0_digestOf_2_3 : cX0_digestOf_2.data.toList.drop 71 = dktX0_digestOf_2_3 := dk_seg dksX0_digestOf_2_2 23 rfl rfl
theorem dksX0_digestOf_2_4 : cX0_digestOf_2.data.toList.drop 95 = dktX0_digestOf_2_4 := dk_seg dksX0_digestOf_2_3 24 rfl rfl
theorem dX0_digestOf_2_0 : decode cX0_digestOf_2 0 = .ok (.lload_n 1, 1) := dk_31 (dk_at dksX0_digestOf_2_0 0 rfl rfl)
theorem dX0_digestOf_2_1 : decode cX0_digestOf_2 1 = .ok (.lstore_n 3, 1) := dk_66 (dk_at dksX0_digestOf_2_0 1 rfl rfl)
theorem dX0_digestOf_2_2 : decode cX0_digestOf_2 2 = .ok (.aload_n 0, 1) := dk_42 (dk_at dksX0_digestOf_2_0 2 rfl rfl)
theorem dX0_digestOf_2_3 : decode cX0_digestOf_2 3 = .ok (.ifnonnull 11, 3) := dk_199 0 11 (dk_at dksX0_digestOf_2_0 3 rfl rfl)
theorem dX0_digestOf_2_6 : decode cX0_digestOf_2 6 = .ok (.ldc2_w 410, 3) := dk_20 1 154 (dk_at dksX0_digestOf_2_0 6 rfl rfl)
theorem dX0_digestOf_2_9 : decode cX0_digestOf_2 9 = .ok (.lload_n 3, 1) := dk_33 (dk_at dksX0_digestOf_2_0 9 rfl rfl)
theorem dX0_digestOf_2_10 : decode cX0_digestOf_2 10 = .ok (.lmul, 1) := dk_105 (dk_at dksX0_digestOf_2_0 10 rfl rfl)
theorem dX0_digestOf_2_11 : decode cX0_digestOf_2 11 = .ok (.lconst 1, 1) := dk_10 (dk_at dksX0_digestOf_2_0 11 rfl rfl)
theorem dX0_digestOf_2_12 : decode cX0_digestOf_2 12 = .ok (.lsub, 1) := dk_101 (dk_at dksX0_digestOf_2_0 12 rfl rfl)
theorem dX0_digestOf_2_13 : decode cX0_digestOf_2 13 = .ok (.lreturn, 1) := dk_173 (dk_at dksX0_digestOf_2_0 13 rfl rfl)
theorem dX0_digestOf_2_14 : decode cX0_digestOf_2 14 = .ok (.iconst 0, 1) := dk_3 (dk_at dksX0_digestOf_2_0 14 rfl rfl)
theorem dX0_digestOf_2_15 : decode cX0_digestOf_2 15 = .ok (.istore 5, 2) := dk_54 5 (dk_at dksX0_digestOf_2_0 15 rfl rfl)
theorem dX0_digestOf_2_17 : decode cX0_digestOf_2 17 = .ok (.iload 5, 2) := dk_21 5 (dk_at dksX0_digestOf_2_0 17 rfl rfl)
theorem dX0_digestOf_2_19 : decode cX0_digestOf_2 19 = .ok (.bipush 9, 2) := dk_16 9 (dk_at dksX0_digestOf_2_0 19 rfl rfl)
theorem dX0_digestOf_2_21 : decode cX0_digestOf_2 21 = .ok (.if_icmp .ge 23, 3) := dk_162 0 23 (dk_at dksX0_digestOf_2_0 21 rfl rfl)
theorem dX0_digestOf_2_24 : decode cX0_digestOf_2 24 = .ok (.ldc2_w 410, 3) := dk_20 1 154 (dk_at dksX0_digestOf_2_1 0 rfl rfl)
theorem dX0_digestOf_2_27 : decode cX0_digestOf_2 27 = .ok (.lload_n 3, 1) := dk_33 (dk_at dksX0_digestOf_2_1 3 rfl rfl)
theorem dX0_digestOf_2_28 : decode cX0_digestOf_2 28 = .ok (.lmul, 1) := dk_105 (dk_at dksX0_digestOf_2_1 4 rfl rfl)
theorem dX0_digestOf_2_29 : decode cX0_digestOf_2 29 = .ok (.aload_n 0, 1) := dk_42 (dk_at dksX0_digestOf_2_1 5 rfl rfl)
theorem dX0_digestOf_2_30 : decode cX0_digestOf_2 30 = .ok (.iload 5, 2) := dk_21 5 (dk_at dksX0_digestOf_2_1 6 rfl rfl)
theorem dX0_digestOf_2_32 : decode cX0_digestOf_2 32 = .ok (.invokestatic 266, 3) := dk_184 1 10 (dk_at dksX0_digestOf_2_1 8 rfl rfl)
theorem dX0_digestOf_2_35 : decode cX0_digestOf_2 35 = .ok (.i2l, 1) := dk_133 (dk_at dksX0_digestOf_2_1 11 rfl rfl)
theorem dX0_digestOf_2_36 : decode cX0_digestOf_2 36 = .ok (.ladd, 1) := dk_97 (dk_at dksX0_digestOf_2_1 12 rfl rfl)
theorem dX0_digestOf_2_37 : decode cX0_digestOf_2 37 = .ok (.lstore_n 3, 1) := dk_66 (dk_at dksX0_digestOf_2_1 13 rfl rfl)
theorem dX0_digestOf_2_38 : decode cX0_digestOf_2 38 = .ok (.iinc 5 1, 3) := dk_132 5 1 (dk_at dksX0_digestOf_2_1 14 rfl rfl)
theorem dX0_digestOf_2_41 : decode cX0_digestOf_2 41 = .ok (.goto (-24), 3) := dk_167 255 232 (dk_at dksX0_digestOf_2_1 17 rfl rfl)
theorem dX0_digestOf_2_44 : decode cX0_digestOf_2 44 = .ok (.ldc2_w 410, 3) := dk_20 1 154 (dk_at dksX0_digestOf_2_1 20 rfl rfl)
theorem dX0_digestOf_2_47 : decode cX0_digestOf_2 47 = .ok (.lload_n 3, 1) := dk_33 (dk_at dksX0_digestOf_2_1 23 rfl rfl)
theorem dX0_digestOf_2_48 : decode cX0_digestOf_2 48 = .ok (.lmul, 1) := dk_105 (dk_at dksX0_digestOf_2_2 0 rfl rfl)
theorem dX0_digestOf_2_49 : decode cX0_digestOf_2 49 = .ok (.aload_n 0, 1) := dk_42 (dk_at dksX0_digestOf_2_2 1 rfl rfl)
theorem dX0_digestOf_2_50 : decode cX0_digestOf_2 50 = .ok (.getfield 270, 3) := dk_180 1 14 (dk_at dksX0_digestOf_2_2 2 rfl rfl)
theorem dX0_digestOf_2_53 : decode cX0_digestOf_2 53 = .ok (.i2l, 1) := dk_133 (dk_at dksX0_digestOf_2_2 5 rfl rfl)
theorem dX0_digestOf_2_54 : decode cX0_digestOf_2 54 = .ok (.ladd, 1) := dk_97 (dk_at dksX0_digestOf_2_2 6 rfl rfl)
theorem dX0_digestOf_2_55 : decode cX0_digestOf_2 55 = .ok (.lstore_n 3, 1) := dk_66 (dk_at dksX0_digestOf_2_2 7 rfl rfl)
theorem dX0_digestOf_2_56 : decode cX0_digestOf_2 56 = .ok (.iconst 0, 1) := dk_3 (dk_at dksX0_digestOf_2_2 8 rfl rfl)
theorem dX0_digestOf_2_57 : decode cX0_digestOf_2 57 = .ok (.istore 5, 2) := dk_54 5 (dk_at dksX0_digestOf_2_2 9 rfl rfl)
theorem dX0_digestOf_2_59 : decode cX0_digestOf_2 59 = .ok (.iload 5, 2) := dk_21 5 (dk_at dksX0_digestOf_2_2 11 rfl rfl)
theorem dX0_digestOf_2_61 : decode cX0_digestOf_2 61 = .ok (.iconst 4, 1) := dk_7 (dk_at dksX0_digestOf_2_2 13 rfl rfl)
theorem dX0_digestOf_2_62 : decode cX0_digestOf_2 62 = .ok (.if_icmp .ge 44, 3) := dk_162 0 44 (dk_at dksX0_digestOf_2_2 14 rfl rfl)
theorem dX0_digestOf_2_65 : decode cX0_digestOf_2 65 = .ok (.ldc2_w 410, 3) := dk_20 1 154 (dk_at dksX0_digestOf_2_2 17 rfl rfl)
theorem dX0_digestOf_2_68 : decode cX0_digestOf_2 68 = .ok (.lload_n 3, 1) := dk_33 (dk_at dksX0_digestOf_2_2 20 rfl rfl)
theorem dX0_digestOf_2_69 : decode cX0_digestOf_2 69 = .ok (.lmul, 1) := dk_105 (dk_at dksX0_digestOf_2_2 21 rfl rfl)
theorem dX0_digestOf_2_70 : decode cX0_digestOf_2 70 = .ok (.aload_n 0, 1) := dk_42 (dk_at dksX0_digestOf_2_2 22 rfl rfl)
theorem dX0_digestOf_2_71 : decode cX0_digestOf_2 71 = .ok (.getfield 270, 3) := dk_180 1 14 (dk_at dksX0_digestOf_2_3 0 rfl rfl)
theorem dX0_digestOf_2_74 : decode cX0_digestOf_2 74 = .ok (.ifCond .ne 7, 3) := dk_154 0 7 (dk_at dksX0_digestOf_2_3 3 rfl rfl)
theorem dX0_digestOf_2_77 : decode cX0_digestOf_2 77 = .ok (.iconst 0, 1) := dk_3 (dk_at dksX0_digestOf_2_3 6 rfl rfl)
theorem dX0_digestOf_2_78 : decode cX0_digestOf_2 78 = .ok (.goto 19, 3) := dk_167 0 19 (dk_at dksX0_digestOf_2_3 7 rfl rfl)
theorem dX0_digestOf_2_81 : decode cX0_digestOf_2 81 = .ok (.aload_n 0, 1) := dk_42 (dk_at dksX0_digestOf_2_3 10 rfl rfl)
theorem dX0_digestOf_2_82 : decode cX0_digestOf_2 82 = .ok (.getfield 273, 3) := dk_180 1 17 (dk_at dksX0_digestOf_2_3 11 rfl rfl)
theorem dX0_digestOf_2_85 : decode cX0_digestOf_2 85 = .ok (.iconst 4, 1) := dk_7 (dk_at dksX0_digestOf_2_3 14 rfl rfl)
theorem dX0_digestOf_2_86 : decode cX0_digestOf_2 86 = .ok (.aload_n 0, 1) := dk_42 (dk_at dksX0_digestOf_2_3 15 rfl rfl)
theorem dX0_digestOf_2_87 : decode cX0_digestOf_2 87 = .ok (.getfield 270, 3) := dk_180 1 14 (dk_at dksX0_digestOf_2_3 16 rfl rfl)
theorem dX0_digestOf_2_90 : decode cX0_digestOf_2 90 = .ok (.imul, 1) := dk_104 (dk_at dksX0_digestOf_2_3 19 rfl rfl)
theorem dX0_digestOf_2_91 : decode cX0_digestOf_2 91 = .ok (.iconst 4, 1) := dk_7 (dk_at dksX0_digestOf_2_3 20 rfl rfl)
theorem dX0_digestOf_2_92 : decode cX0_digestOf_2 92 = .ok (.isub, 1) := dk_100 (dk_at dksX0_digestOf_2_3 21 rfl rfl)
theorem dX0_digestOf_2_93 : decode cX0_digestOf_2 93 = .ok (.iload 5, 2) := dk_21 5 (dk_at dksX0_digestOf_2_3 22 rfl rfl)
theorem dX0_digestOf_2_95 : decode cX0_digestOf_2 95 = .ok (.iadd, 1) := dk_96 (dk_at dksX0_digestOf_2_4 0 rfl rfl)
theorem dX0_digestOf_2_96 : decode cX0_digestOf_2 96 = .ok (.iaload, 1) := dk_46 (dk_at dksX0_digestOf_2_4 1 rfl rfl)
theorem dX0_digestOf_2_97 : decode cX0_digestOf_2 97 = .ok (.i2l, 1) := dk_133 (dk_at dksX0_digestOf_2_4 2 rfl rfl)
theorem dX0_digestOf_2_98 : decode cX0_digestOf_2 98 = .ok (.ladd, 1) := dk_97 (dk_at dksX0_digestOf_2_4 3 rfl rfl)
theorem dX0_digestOf_2_99 : decode cX0_digestOf_2 99 = .ok (.lstore_n 3, 1) := dk_66 (dk_at dksX0_digestOf_2_4 4 rfl rfl)
theorem dX0_digestOf_2_100 : decode cX0_digestOf_2 100 = .ok (.iinc 5 1, 3) := dk_132 5 1 (dk_at dksX0_digestOf_2_4 5 rfl rfl)
theorem dX0_digestOf_2_103 : decode cX0_digestOf_2 103 = .ok (.goto (-44), 3) := dk_167 255 212 (dk_at dksX0_digestOf_2_4 8 rfl rfl)
theorem dX0_digestOf_2_106 : decode cX0_digestOf_2 106 = .ok (.lload_n 3, 1) := dk_33 (dk_at dksX0_digestOf_2_4 11 rfl rfl)
theorem dX0_digestOf_2_107 : decode cX0_digestOf_2 107 = .ok (.lreturn, 1) := dk_173 (dk_at dksX0_digestOf_2_4 12 rfl rfl)
