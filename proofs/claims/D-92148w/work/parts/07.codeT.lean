set_option maxRecDepth 100000
abbrev cX2_init : ByteArray := prog_7_method_1_code
def yX2_init : MethodName := ⟨RX2, "<init>", "(LHammerTowers;I)V"⟩
def dkwX2_init_1 : List UInt8 := [17, 3, 232, 181, 0, 22, 42, 16, 247, 181, 0, 25, 42, 28, 181, 0, 28, 177]
abbrev dktX2_init_1 : List UInt8 := dkwX2_init_1 ++ []
def dkwX2_init_0 : List UInt8 := [42, 43, 181, 0, 3, 42, 183, 0, 9, 42, 16, 30, 181, 0, 15, 42, 17, 3, 232, 181, 0, 19, 42]
abbrev dktX2_init_0 : List UInt8 := dkwX2_init_0 ++ dktX2_init_1
theorem dksX2_init_0 : cX2_init.data.toList.drop 0 = dktX2_init_0 := by decide +kernel
theorem dksX2_init_1 : cX2_init.data.toList.drop 23 = dktX2_init_1 := dk_seg dksX2_init_0 23 rfl rfl
theorem dX2_init_0 : decode cX2_init 0 = .ok (.aload_n 0, 1) := dk_42 (dk_at dksX2_init_0 0 rfl rfl)
theorem dX2_init_1 : decode cX2_init 1 = .ok (.aload_n 1, 1) := dk_43 (dk_at dksX2_init_0 1 rfl rfl)
theorem dX2_init_2 : decode cX2_init 2 = .ok (.putfield 3, 3) := dk_181 0 3 (dk_at dksX2_init_0 2 rfl rfl)
theorem dX2_init_5 : decode cX2_init 5 = .ok (.aload_n 0, 1) := dk_42 (dk_at dksX2_init_0 5 rfl rfl)
theorem dX2_init_6 : decode cX2_init 6 = .ok (.invokespecial 9, 3) := dk_183 0 9 (dk_at dksX2_init_0 6 rfl rfl)
theorem dX2_init_9 : decode cX2_init 9 = .ok (.aload_n 0, 1) := dk_42 (dk_at dksX2_init_0 9 rfl rfl)
theorem dX2_init_10 : decode cX2_init 10 = .ok (.bipush 30, 2) := dk_16 30 (dk_at dksX2_init_0 10 rfl rfl)
theorem dX2_init_12 : decode cX2_init 12 = .ok (.putfield 15, 3) := dk_181 0 15 (dk_at dksX2_init_0 12 rfl rfl)
theorem dX2_init_15 : decode cX2_init 15 = .ok (.aload_n 0, 1) := dk_42 (dk_at dksX2_init_0 15 rfl rfl)
theorem dX2_init_16 : decode cX2_init 16 = .ok (.sipush 1000, 3) := dk_17 3 232 (dk_at dksX2_init_0 16 rfl rfl)
theorem dX2_init_19 : decode cX2_init 19 = .ok (.putfield 19, 3) := dk_181 0 19 (dk_at dksX2_init_0 19 rfl rfl)
theorem dX2_init_22 : decode cX2_init 22 = .ok (.aload_n 0, 1) := dk_42 (dk_at dksX2_init_0 22 rfl rfl)
theorem dX2_init_23 : decode cX2_init 23 = .ok (.sipush 1000, 3) := dk_17 3 232 (dk_at dksX2_init_1 0 rfl rfl)
theorem dX2_init_26 : decode cX2_init 26 = .ok (.putfield 22, 3) := dk_181 0 22 (dk_at dksX2_init_1 3 rfl rfl)
theorem dX2_init_29 : decode cX2_init 29 = .ok (.aload_n 0, 1) := dk_42 (dk_at dksX2_init_1 6 rfl rfl)
theorem dX2_init_30 : decode cX2_init 30 = .ok (.bipush (-9), 2) := dk_16 247 (dk_at dksX2_init_1 7 rfl rfl)
theorem dX2_init_32 : decode cX2_init 32 = .ok (.putfield 25, 3) := dk_181 0 25 (dk_at dksX2_init_1 9 rfl rfl)
theorem dX2_init_35 : decode cX2_init 35 = .ok (.aload_n 0, 1) := dk_42 (dk_at dksX2_init_1 12 rfl rfl)
theorem dX2_init_36 : decode cX2_init 36 = .ok (.iload_n 2, 1) := dk_28 (dk_at dksX2_init_1 13 rfl rfl)
theorem dX2_init_37 : decode cX2_init 37 = .ok (.putfield 28, 3) := dk_181 0 28 (dk_at dksX2_init_1 14 rfl rfl)
theorem dX2_init_40 : decode cX2_init 40 = .ok (.return_, 1) := dk_177 (dk_at dksX2_init_1 17 rfl rfl)
abbrev cX2_kind : ByteArray := prog_7_method_2_code
def yX2_kind : MethodName := ⟨RX2, "kind", "()I"⟩
theorem dX2_kind_0 : decode cX2_kind 0 = .ok (.iconst 0, 1) := by decide +kernel
theorem dX2_kind_1 : decode cX2_kind 1 = .ok (.ireturn, 1) := by decide +kernel
abbrev cX2_many : ByteArray := prog_7_method_4_code
def yX2_many : MethodName := ⟨RX2, "many", "()I"⟩
theorem dX2_many_0 : decode cX2_many 0 = .ok (.iconst 0, 1) := by decide +kernel
theorem dX2_many_1 : decode cX2_many 1 = .ok (.ireturn, 1) := by decide +kernel
abbrev cX2_at : ByteArray := prog_7_method_7_code
def yX2_at : MethodName := ⟨RX2, "at", "()I"⟩
theorem dX2_at_0 : decode cX2_at 0 = .ok (.bipush (-9), 2) := by decide +kernel
theorem dX2_at_2 : decode cX2_at 2 = .ok (.ireturn, 1) := by decide +kernel
abbrev cX2_notch : ByteArray := prog_7_method_5_code
def yX2_notch : MethodName := ⟨RX2, "notch", "(I)I"⟩
theorem dX2_notch_0 : decode cX2_notch 0 = .ok (.iconst 1, 1) := by decide +kernel
theorem dX2_notch_1 : decode cX2_notch 1 = .ok (.ireturn, 1) := by decide +kernel
abbrev cX2_cut : ByteArray := prog_7_method_6_code
def yX2_cut : MethodName := ⟨RX2, "cut", "(II)V"⟩
def dkwX2_cut_0 : List UInt8 := [187, 0, 31, 89, 183, 0, 33, 191]
abbrev dktX2_cut_0 : List UInt8 := dkwX2_cut_0 ++ []
theorem dksX2_cut_0 : cX2_cut.data.toList.drop 0 = dktX2_cut_0 := by decide +kernel
theorem dX2_cut_0 : decode cX2_cut 0 = .ok (.new 31, 3) := dk_187 0 31 (dk_at dksX2_cut_0 0 rfl rfl)
theorem dX2_cut_3 : decode cX2_cut 3 = .ok (.dup, 1) := dk_89 (dk_at dksX2_cut_0 3 rfl rfl)
theorem dX2_cut_4 : decode cX2_cut 4 = .ok (.invokespecial 33, 3) := dk_183 0 33 (dk_at dksX2_cut_0 4 rfl rfl)
theorem dX2_cut_7 : decode cX2_cut 7 = .ok (.athrow, 1) := dk_191 (dk_at dksX2_cut_0 7 rfl rfl)
abbrev cX2_letOff : ByteArray := prog_7_method_9_code
def yX2_letOff : MethodName := ⟨RX2, "letOff", "(IZ)V"⟩
def dkwX2_letOff_0 : List UInt8 := [42, 89, 180, 0, 34, 4, 96, 181, 0, 34, 42, 28, 181, 0, 37, 177]
abbrev dktX2_letOff_0 : List UInt8 := dkwX2_letOff_0 ++ []
theorem dksX2_letOff_0 : cX2_letOff.data.toList.drop 0 = dktX2_letOff_0 := by decide +kernel
theorem dX2_letOff_0 : decode cX2_letOff 0 = .ok (.aload_n 0, 1) := dk_42 (dk_at dksX2_letOff_0 0 rfl rfl)
theorem dX2_letOff_1 : decode cX2_letOff 1 = .ok (.dup, 1) := dk_89 (dk_at dksX2_letOff_0 1 rfl rfl)
theorem dX2_letOff_2 : decode cX2_letOff 2 = .ok (.getfield 34, 3) := dk_180 0 34 (dk_at dksX2_letOff_0 2 rfl rfl)
theorem dX2_letOff_5 : decode cX2_letOff 5 = .ok (.iconst 1, 1) := dk_4 (dk_at dksX2_letOff_0 5 rfl rfl)
theorem dX2_letOff_6 : decode cX2_letOff 6 = .ok (.iadd, 1) := dk_96 (dk_at dksX2_letOff_0 6 rfl rfl)
theorem dX2_letOff_7 : decode cX2_letOff 7 = .ok (.putfield 34, 3) := dk_181 0 34 (dk_at dksX2_letOff_0 7 rfl rfl)
theorem dX2_letOff_10 : decode cX2_letOff 10 = .ok (.aload_n 0, 1) := dk_42 (dk_at dksX2_letOff_0 10 rfl rfl)
theorem dX2_letOff_11 : decode cX2_letOff 11 = .ok (.iload_n 2, 1) := dk_28 (dk_at dksX2_letOff_0 11 rfl rfl)
theorem dX2_letOff_12 : decode cX2_letOff 12 = .ok (.putfield 37, 3) := dk_181 0 37 (dk_at dksX2_letOff_0 12 rfl rfl)
theorem dX2_letOff_15 : decode cX2_letOff 15 = .ok (.return_, 1) := dk_177 (dk_at dksX2_letOff_0 15 rfl rfl)
abbrev cX2_lets : ByteArray := prog_7_method_8_code
def yX2_lets : MethodName := ⟨RX2, "lets", "(II)I"⟩
theorem dX2_lets_0 : decode cX2_lets 0 = .ok (.iconst 1, 1) := by decide +kernel
theorem dX2_lets_1 : decode cX2_lets 1 = .ok (.ireturn, 1) := by decide +kernel
abbrev cX3_init : ByteArray := prog_3_method_1_code
def yX3_init : MethodName := ⟨RX3, "<init>", "(LHammerTowers;I[I)V"⟩
def dkwX3_init_0 : List UInt8 := [42, 43, 181, 0, 1, 42, 43, 28, 183, 0, 7, 42, 45, 181, 0, 13, 177]
abbrev dktX3_init_0 : List UInt8 := dkwX3_init_0 ++ []
theorem dksX3_init_0 : cX3_init.data.toList.drop 0 = dktX3_init_0 := by decide +kernel
theorem dX3_init_0 : decode cX3_init 0 = .ok (.aload_n 0, 1) := dk_42 (dk_at dksX3_init_0 0 rfl rfl)
theorem dX3_init_1 : decode cX3_init 1 = .ok (.aload_n 1, 1) := dk_43 (dk_at dksX3_init_0 1 rfl rfl)
theorem dX3_init_2 : decode cX3_init 2 = .ok (.putfield 1, 3) := dk_181 0 1 (dk_at dksX3_init_0 2 rfl rfl)
theorem dX3_init_5 : decode cX3_init 5 = .ok (.aload_n 0, 1) := dk_42 (dk_at dksX3_init_0 5 rfl rfl)
theorem dX3_init_6 : decode cX3_init 6 = .ok (.aload_n 1, 1) := dk_43 (dk_at dksX3_init_0 6 rfl rfl)
theorem dX3_init_7 : decode cX3_init 7 = .ok (.iload_n 2, 1) := dk_28 (dk_at dksX3_init_0 7 rfl rfl)
theorem dX3_init_8 : decode cX3_init 8 = .ok (.invokespecial 7, 3) := dk_183 0 7 (dk_at dksX3_init_0 8 rfl rfl)
theorem dX3_init_11 : decode cX3_init 11 = .ok (.aload_n 0, 1) := dk_42 (dk_at dksX3_init_0 11 rfl rfl)
theorem dX3_init_12 : decode cX3_init 12 = .ok (.aload_n 3, 1) := dk_45 (dk_at dksX3_init_0 12 rfl rfl)
theorem dX3_init_13 : decode cX3_init 13 = .ok (.putfield 13, 3) := dk_181 0 13 (dk_at dksX3_init_0 13 rfl rfl)
theorem dX3_init_16 : decode cX3_init 16 = .ok (.return_, 1) := dk_177 (dk_at dksX3_init_0 16 rfl rfl)
abbrev cX3_kind : ByteArray := prog_3_method_2_code
def yX3_kind : MethodName := ⟨RX3, "kind", "()I"⟩
def dkwX3_kind_0 : List UInt8 := [42, 183, 0, 17, 4, 96, 172]
abbrev dktX3_kind_0 : List UInt8 := dkwX3_kind_0 ++ []
theorem dksX3_kind_0 : cX3_kind.data.toList.drop 0 = dktX3_kind_0 := by decide +kernel
theorem dX3_kind_0 : decode cX3_kind 0 = .ok (.aload_n 0, 1) := dk_42 (dk_at dksX3_kind_0 0 rfl rfl)
theorem dX3_kind_1 : decode cX3_kind 1 = .ok (.invokespecial 17, 3) := dk_183 0 17 (dk_at dksX3_kind_0 1 rfl rfl)
theorem dX3_kind_4 : decode cX3_kind 4 = .ok (.iconst 1, 1) := dk_4 (dk_at dksX3_kind_0 4 rfl rfl)
theorem dX3_kind_5 : decode cX3_kind 5 = .ok (.iadd, 1) := dk_96 (dk_at dksX3_kind_0 5 rfl rfl)
theorem dX3_kind_6 : decode cX3_kind 6 = .ok (.ireturn, 1) := dk_172 (dk_at dksX3_kind_0 6 rfl rfl)
abbrev cX3_many : ByteArray := prog_3_method_4_code
def yX3_many : MethodName := ⟨RX3, "many", "()I"⟩
def dkwX3_many_0 : List UInt8 := [42, 180, 0, 13, 190, 172]
abbrev dktX3_many_0 : List UInt8 := dkwX3_many_0 ++ []
theorem dksX3_many_0 : cX3_many.data.toList.drop 0 = dktX3_many_0 := by decide +kernel
theorem dX3_many_0 : decode cX3_many 0 = .ok (.aload_n 0, 1) := dk_42 (dk_at dksX3_many_0 0 rfl rfl)
theorem dX3_many_1 : decode cX3_many 1 = .ok (.getfield 13, 3) := dk_180 0 13 (dk_at dksX3_many_0 1 rfl rfl)
theorem dX3_many_4 : decode cX3_many 4 = .ok (.arraylength, 1) := dk_190 (dk_at dksX3_many_0 4 rfl rfl)
theorem dX3_many_5 : decode cX3_many 5 = .ok (.ireturn, 1) := dk_172 (dk_at dksX3_many_0 5 rfl rfl)
abbrev cX3_at : ByteArray := prog_3_method_7_code
def yX3_at : MethodName := ⟨RX3, "at", "()I"⟩
theorem dX3_at_0 : decode cX3_at 0 = .ok (.aload_n 0, 1) := by decide +kernel
theorem dX3_at_1 : decode cX3_at 1 = .ok (.getfield 21, 3) := by decide +kernel
theorem dX3_at_4 : decode cX3_at 4 = .ok (.ireturn, 1) := by decide +kernel
abbrev cX3_mark : ByteArray := prog_3_method_3_code
def yX3_mark : MethodName := ⟨RX3, "mark", "()I"⟩
def dkwX3_mark_1 : List UInt8 := [132, 2, 1, 167, 255, 235, 27, 172]
abbrev dktX3_mark_1 : List UInt8 := dkwX3_mark_1 ++ []
def dkwX3_mark_0 : List UInt8 := [3, 60, 3, 61, 28, 42, 180, 0, 13, 190, 162, 0, 18, 27, 42, 180, 0, 13, 28, 46, 96, 60]
abbrev dktX3_mark_0 : List UInt8 := dkwX3_mark_0 ++ dktX3_mark_1
theorem dksX3_mark_0 : cX3_mark.data.toList.drop 0 = dktX3_mark_0 := by decide +kernel
theorem dksX3_mark_1 : cX3_mark.data.toList.drop 22 = dktX3_mark_1 := dk_seg dksX3_mark_0 22 rfl rfl
theorem dX3_mark_0 : decode cX3_mark 0 = .ok (.iconst 0, 1) := dk_3 (dk_at dksX3_mark_0 0 rfl rfl)
theorem dX3_mark_1 : decode cX3_mark 1 = .ok (.istore_n 1, 1) := dk_60 (dk_at dksX3_mark_0 1 rfl rfl)
theorem dX3_mark_2 : decode cX3_mark 2 = .ok (.iconst 0, 1) := dk_3 (dk_at dksX3_mark_0 2 rfl rfl)
theorem dX3_mark_3 : decode cX3_mark 3 = .ok (.istore_n 2, 1) := dk_61 (dk_at dksX3_mark_0 3 rfl rfl)
theorem dX3_mark_4 : decode cX3_mark 4 = .ok (.iload_n 2, 1) := dk_28 (dk_at dksX3_mark_0 4 rfl rfl)
theorem dX3_mark_5 : decode cX3_mark 5 = .ok (.aload_n 0, 1) := dk_42 (dk_at dksX3_mark_0 5 rfl rfl)
theorem dX3_mark_6 : decode cX3_mark 6 = .ok (.getfield 13, 3) := dk_180 0 13 (dk_at dksX3_mark_0 6 rfl rfl)
theorem dX3_mark_9 : decode cX3_mark 9 = .ok (.arraylength, 1) := dk_190 (dk_at dksX3_mark_0 9 rfl rfl)
theorem dX3_mark_10 : decode cX3_mark 10 = .ok (.if_icmp .ge 18, 3) := dk_162 0 18 (dk_at dksX3_mark_0 10 rfl rfl)
theorem dX3_mark_13 : decode cX3_mark 13 = .ok (.iload_n 1, 1) := dk_27 (dk_at dksX3_mark_0 13 rfl rfl)
theorem dX3_mark_14 : decode cX3_mark 14 = .ok (.aload_n 0, 1) := dk_42 (dk_at dksX3_mark_0 14 rfl rfl)
theorem dX3_mark_15 : decode cX3_mark 15 = .ok (.getfield 13, 3) := dk_180 0 13 (dk_at dksX3_mark_0 15 rfl rfl)
theorem dX3_mark_18 : decode cX3_mark 18 = .ok (.iload_n 2, 1) := dk_28 (dk_at dksX3_mark_0 18 rfl rfl)
theorem dX3_mark_19 : decode cX3_mark 19 = .ok (.iaload, 1) := dk_46 (dk_at dksX3_mark_0 19 rfl rfl)
theorem dX3_mark_20 : decode cX3_mark 20 = .ok (.iadd, 1) := dk_96 (dk_at dksX3_mark_0 20 rfl rfl)
theorem dX3_mark_21 : decode cX3_mark 21 = .ok (.istore_n 1, 1) := dk_60 (dk_at dksX3_mark_0 21 rfl rfl)
theorem dX3_mark_22 : decode cX3_mark 22 = .ok (.iinc 2 1, 3) := dk_132 2 1 (dk_at dksX3_mark_1 0 rfl rfl)
theorem dX3_mark_25 : decode cX3_mark 25 = .ok (.goto (-21), 3) := dk_167 255 235 (dk_at dksX3_mark_1 3 rfl rfl)
theorem dX3_mark_28 : decode cX3_mark 28 = .ok (.iload_n 1, 1) := dk_27 (dk_at dksX3_mark_1 6 rfl rfl)
theorem dX3_mark_29 : decode cX3_mark 29 = .ok (.ireturn, 1) := dk_172 (dk_at dksX3_mark_1 7 rfl rfl)
abbrev cX3_notch : ByteArray := prog_3_method_5_code
def yX3_notch : MethodName := ⟨RX3, "notch", "(I)I"⟩
def dkwX3_notch_0 : List UInt8 := [42, 180, 0, 13, 27, 46, 172]
abbrev dktX3_notch_0 : List UInt8 := dkwX3_notch_0 ++ []
theorem dksX3_notch_0 : cX3_notch.data.toList.drop 0 = dktX3_notch_0 := by decide +kernel
theorem dX3_notch_0 : decode cX3_notch 0 = .ok (.aload_n 0, 1) := dk_42 (dk_at dksX3_notch_0 0 rfl rfl)
theorem dX3_notch_1 : decode cX3_notch 1 = .ok (.getfield 13, 3) := dk_180 0 13 (dk_at dksX3_notch_0 1 rfl rfl)
theorem dX3_notch_4 : decode cX3_notch 4 = .ok (.iload_n 1, 1) := dk_27 (dk_at dksX3_notch_0 4 rfl rfl)
theorem dX3_notch_5 : decode cX3_notch 5 = .ok (.iaload, 1) := dk_46 (dk_at dksX3_notch_0 5 rfl rfl)
theorem dX3_notch_6 : decode cX3_notch 6 = .ok (.ireturn, 1) := dk_172 (dk_at dksX3_notch_0 6 rfl rfl)
abbrev cX3_cut : ByteArray := prog_3_method_6_code
def yX3_cut : MethodName := ⟨RX3, "cut", "(II)V"⟩
def dkwX3_cut_0 : List UInt8 := [42, 180, 0, 13, 27, 28, 79, 177]
abbrev dktX3_cut_0 : List UInt8 := dkwX3_cut_0 ++ []
theorem dksX3_cut_0 : cX3_cut.data.toList.drop 0 = dktX3_cut_0 := by decide +kernel
theorem dX3_cut_0 : decode cX3_cut 0 = .ok (.aload_n 0, 1) := dk_42 (dk_at dksX3_cut_0 0 rfl rfl)
theorem dX3_cut_1 : decode cX3_cut 1 = .ok (.getfield 13, 3) := dk_180 0 13 (dk_at dksX3_cut_0 1 rfl rfl)
theorem dX3_cut_4 : decode cX3_cut 4 = .ok (.iload_n 1, 1) := dk_27 (dk_at dksX3_cut_0 4 rfl rfl)
theorem dX3_cut_5 : decode cX3_cut 5 = .ok (.iload_n 2, 1) := dk_28 (dk_at dksX3_cut_0 5 rfl rfl)
theorem dX3_cut_6 : decode cX3_cut 6 = .ok (.iastore, 1) := dk_79 (dk_at dksX3_cut_0 6 rfl rfl)
theorem dX3_cut_7 : decode cX3_cut 7 = .ok (.return_, 1) := dk_177 (dk_at dksX3_cut_0 7 rfl rfl)
abbrev cX3_letOff : ByteArray := prog_3_method_9_code
def yX3_letOff : MethodName := ⟨RX3, "letOff", "(IZ)V"⟩
def dkwX3_letOff_2 : List UInt8 := [181, 0, 28, 177]
abbrev dktX3_letOff_2 : List UInt8 := dkwX3_letOff_2 ++ []
def dkwX3_letOff_1 : List UInt8 := [96, 42, 180, 0, 13, 190, 112, 181, 0, 21, 42, 42, 180, 0, 21, 154, 0, 7, 4, 167, 0, 4, 3]
abbrev dktX3_letOff_1 : List UInt8 := dkwX3_letOff_1 ++ dktX3_letOff_2
def dkwX3_letOff_0 : List UInt8 := [42, 89, 180, 0, 25, 42, 180, 0, 13, 42, 180, 0, 21, 46, 96, 181, 0, 25, 42, 42, 180, 0, 21, 4]
abbrev dktX3_letOff_0 : List UInt8 := dkwX3_letOff_0 ++ dktX3_letOff_1
theorem dksX3_letOff_0 : cX3_letOff.data.toList.drop 0 = dktX3_letOff_0 := by decide +kernel
theorem dksX3_letOff_1 : cX3_letOff.data.toList.drop 24 = dktX3_letOff_1 := dk_seg dksX3_letOff_0 24 rfl rfl
theorem dksX3_letOff_2 : cX3_letOff.data.toList.drop 47 = dktX3_letOff_2 := dk_seg dksX3_letOff_1 23 rfl rfl
theorem dX3_letOff_0 : decode cX3_letOff 0 = .ok (.aload_n 0, 1) := dk_42 (dk_at dksX3_letOff_0 0 rfl rfl)
theorem dX3_letOff_1 : decode cX3_letOff 1 = .ok (.dup, 1) := dk_89 (dk_at dksX3_letOff_0 1 rfl rfl)
theorem dX3_letOff_2 : decode cX3_letOff 2 = .ok (.getfield 25, 3) := dk_180 0 25 (dk_at dksX3_letOff_0 2 rfl rfl)
theorem dX3_letOff_5 : decode cX3_letOff 5 = .ok (.aload_n 0, 1) := dk_42 (dk_at dksX3_letOff_0 5 rfl rfl)
theorem dX3_letOff_6 : decode cX3_letOff 6 = .ok (.getfield 13, 3) := dk_180 0 13 (dk_at dksX3_letOff_0 6 rfl rfl)
theorem dX3_letOff_9 : decode cX3_letOff 9 = .ok (.aload_n 0, 1) := dk_42 (dk_at dksX3_letOff_0 9 rfl rfl)
theorem dX3_letOff_10 : decode cX3_letOff 10 = .ok (.getfield 21, 3) := dk_180 0 21 (dk_at dksX3_letOff_0 10 rfl rfl)
theorem dX3_letOff_13 : decode cX3_letOff 13 = .ok (.iaload, 1) := dk_46 (dk_at dksX3_letOff_0 13 rfl rfl)
theorem dX3_letOff_14 : decode cX3_letOff 14 = .ok (.iadd, 1) := dk_96 (dk_at dksX3_letOff_0 14 rfl rfl)
theorem dX3_letOff_15 : decode cX3_letOff 15 = .ok (.putfield 25, 3) := dk_181 0 25 (dk_at dksX3_letOff_0 15 rfl rfl)
theorem dX3_letOff_18 : decode cX3_letOff 18 = .ok (.aload_n 0, 1) := dk_42 (dk_at dksX3_letOff_0 18 rfl rfl)
theorem dX3_letOff_19 : decode cX3_letOff 19 = .ok (.aload_n 0, 1) := dk_42 (dk_at dksX3_letOff_0 19 rfl rfl)
theorem dX3_letOff_20 : decode cX3_letOff 20 = .ok (.getfield 21, 3) := dk_180 0 21 (dk_at dksX3_letOff_0 20 rfl rfl)
theorem dX3_letOff_23 : decode cX3_letOff 23 = .ok (.iconst 1, 1) := dk_4 (dk_at dksX3_letOff_0 23 rfl rfl)
theorem dX3_letOff_24 : decode cX3_letOff 24 = .ok (.iadd, 1) := dk_96 (dk_at dksX3_letOff_1 0 rfl rfl)
theorem dX3_letOff_25 : decode cX3_letOff 25 = .ok (.aload_n 0, 1) := dk_42 (dk_at dksX3_letOff_1 1 rfl rfl)
theorem dX3_letOff_26 : decode cX3_letOff 26 = .ok (.getfield 13, 3) := dk_180 0 13 (dk_at dksX3_letOff_1 2 rfl rfl)
theorem dX3_letOff_29 : decode cX3_letOff 29 = .ok (.arraylength, 1) := dk_190 (dk_at dksX3_letOff_1 5 rfl rfl)
theorem dX3_letOff_30 : decode cX3_letOff 30 = .ok (.irem, 1) := dk_112 (dk_at dksX3_letOff_1 6 rfl rfl)
theorem dX3_letOff_31 : decode cX3_letOff 31 = .ok (.putfield 21, 3) := dk_181 0 21 (dk_at dksX3_letOff_1 7 rfl rfl)
theorem dX3_letOff_34 : decode cX3_letOff 34 = .ok (.aload_n 0, 1) := dk_42 (dk_at dksX3_letOff_1 10 rfl rfl)
theorem dX3_letOff_35 : decode cX3_letOff 35 = .ok (.aload_n 0, 1) := dk_42 (dk_at dksX3_letOff_1 11 rfl rfl)
theorem dX3_letOff_36 : decode cX3_letOff 36 = .ok (.getfield 21, 3) := dk_180 0 21 (dk_at dksX3_letOff_1 12 rfl rfl)
theorem dX3_letOff_39 : decode cX3_letOff 39 = .ok (.ifCond .ne 7, 3) := dk_154 0 7 (dk_at dksX3_letOff_1 15 rfl rfl)
theorem dX3_letOff_42 : decode cX3_letOff 42 = .ok (.iconst 1, 1) := dk_4 (dk_at dksX3_letOff_1 18 rfl rfl)
theorem dX3_letOff_43 : decode cX3_letOff 43 = .ok (.goto 4, 3) := dk_167 0 4 (dk_at dksX3_letOff_1 19 rfl rfl)
theorem dX3_letOff_46 : decode cX3_letOff 46 = .ok (.iconst 0, 1) := dk_3 (dk_at dksX3_letOff_1 22 rfl rfl)
theorem dX3_letOff_47 : decode cX3_letOff 47 = .ok (.putfield 28, 3) := dk_181 0 28 (dk_at dksX3_letOff_2 0 rfl rfl)
theorem dX3_letOff_50 : decode cX3_letOff 50 = .ok (.return_, 1) := dk_177 (dk_at dksX3_letOff_2 3 rfl rfl)
abbrev cX3_lets : ByteArray := prog_3_method_8_code
def yX3_lets : MethodName := ⟨RX3, "lets", "(II)I"⟩
def dkwX3_lets_0 : List UInt8 := [42, 180, 0, 13, 42, 180, 0, 21, 28, 96, 42, 180, 0, 13, 190, 112, 46, 172]
abbrev dktX3_lets_0 : List UInt8 := dkwX3_lets_0 ++ []
theorem dksX3_lets_0 : cX3_lets.data.toList.drop 0 = dktX3_lets_0 := by decide +kernel
theorem dX3_lets_0 : decode cX3_lets 0 = .ok (.aload_n 0, 1) := dk_42 (dk_at dksX3_lets_0 0 rfl rfl)
theorem dX3_lets_1 : decode cX3_lets 1 = .ok (.getfield 13, 3) := dk_180 0 13 (dk_at dksX3_lets_0 1 rfl rfl)
theorem dX3_lets_4 : decode cX3_lets 4 = .ok (.aload_n 0, 1) := dk_42 (dk_at dksX3_lets_0 4 rfl rfl)
theorem dX3_lets_5 : decode cX3_lets 5 = .ok (.getfield 21, 3) := dk_180 0 21 (dk_at dksX3_lets_0 5 rfl rfl)
theorem dX3_lets_8 : decode cX3_lets 8 = .ok (.iload_n 2, 1) := dk_28 (dk_at dksX3_lets_0 8 rfl rfl)
theorem dX3_lets_9 : decode cX3_lets 9 = .ok (.iadd, 1) := dk_96 (dk_at dksX3_lets_0 9 rfl rfl)
theorem dX3_lets_10 : decode cX3_lets 10 = .ok (.aload_n 0, 1) := dk_42 (dk_at dksX3_lets_0 10 rfl rfl)
theorem dX3_lets_11 : decode cX3_lets 11 = .ok (.getfield 13, 3) := dk_180 0 13 (dk_at dksX3_lets_0 11 rfl rfl)
theorem dX3_lets_14 : decode cX3_lets 14 = .ok (.arraylength, 1) := dk_190 (dk_at dksX3_lets_0 14 rfl rfl)
theorem dX3_lets_15 : decode cX3_lets 15 = .ok (.irem, 1) := dk_112 (dk_at dksX3_lets_0 15 rfl rfl)
theorem dX3_lets_16 : decode cX3_lets 16 = .ok (.iaload, 1) := dk_46 (dk_at dksX3_lets_0 16 rfl rfl)
theorem dX3_lets_17 : decode cX3_lets 17 = .ok (.ireturn, 1) := dk_172 (dk_at dksX3_lets_0 17 rfl rfl)
abbrev cX4_init : ByteArray := prog_4_method_1_code
def yX4_init : MethodName := ⟨RX4, "<init>", "(LHammerTowers;I[I)V"⟩
def dkwX4_init_0 : List UInt8 := [42, 43, 181, 0, 1, 42, 43, 28, 183, 0, 7, 42, 45, 181, 0, 13, 177]
abbrev dktX4_init_0 : List UInt8 := dkwX4_init_0 ++ []
theorem dksX4_init_0 : cX4_init.data.toList.drop 0 = dktX4_init_0 := by decide +kernel
theorem dX4_init_0 : decode cX4_init 0 = .ok (.aload_n 0, 1) := dk_42 (dk_at dksX4_init_0 0 rfl rfl)
theorem dX4_init_1 : decode cX4_init 1 = .ok (.aload_n 1, 1) := dk_43 (dk_at dksX4_init_0 1 rfl rfl)
theorem dX4_init_2 : decode cX4_init 2 = .ok (.putfield 1, 3) := dk_181 0 1 (dk_at dksX4_init_0 2 rfl rfl)
theorem dX4_init_5 : decode cX4_init 5 = .ok (.aload_n 0, 1) := dk_42 (dk_at dksX4_init_0 5 rfl rfl)
theorem dX4_init_6 : decode cX4_init 6 = .ok (.aload_n 1, 1) := dk_43 (dk_at dksX4_init_0 6 rfl rfl)
theorem dX4_init_7 : decode cX4_init 7 = .ok (.iload_n 2, 1) := dk_28 (dk_at dksX4_init_0 7 rfl rfl)
theorem dX4_init_8 : decode cX4_init 8 = .ok (.invokespecial 7, 3) := dk_183 0 7 (dk_at dksX4_init_0 8 rfl rfl)
theorem dX4_init_11 : decode cX4_init 11 = .ok (.aload_n 0, 1) := dk_42 (dk_at dksX4_init_0 11 rfl rfl)
theorem dX4_init_12 : decode cX4_init 12 = .ok (.aload_n 3, 1) := dk_45 (dk_at dksX4_init_0 12 rfl rfl)
theorem dX4_init_13 : decode cX4_init 13 = .ok (.putfield 13, 3) := dk_181 0 13 (dk_at dksX4_init_0 13 rfl rfl)
theorem dX4_init_16 : decode cX4_init 16 = .ok (.return_, 1) := dk_177 (dk_at dksX4_init_0 16 rfl rfl)
abbrev cX4_kind : ByteArray := prog_4_method_2_code
def yX4_kind : MethodName := ⟨RX4, "kind", "()I"⟩
theorem dX4_kind_0 : decode cX4_kind 0 = .ok (.iconst 2, 1) := by decide +kernel
theorem dX4_kind_1 : decode cX4_kind 1 = .ok (.ireturn, 1) := by decide +kernel
abbrev cX4_many : ByteArray := prog_4_method_4_code
def yX4_many : MethodName := ⟨RX4, "many", "()I"⟩
def dkwX4_many_0 : List UInt8 := [42, 180, 0, 13, 190, 172]
abbrev dktX4_many_0 : List UInt8 := dkwX4_many_0 ++ []
theorem dksX4_many_0 : cX4_many.data.toList.drop 0 = dktX4_many_0 := by decide +kernel
theorem dX4_many_0 : decode cX4_many 0 = .ok (.aload_n 0, 1) := dk_42 (dk_at dksX4_many_0 0 rfl rfl)
theorem dX4_many_1 : decode cX4_many 1 = .ok (.getfield 13, 3) := dk_180 0 13 (dk_at dksX4_many_0 1 rfl rfl)
theorem dX4_many_4 : decode cX4_many 4 = .ok (.arraylength, 1) := dk_190 (dk_at dksX4_many_0 4 rfl rfl)
theorem dX4_many_5 : decode cX4_many 5 = .ok (.ireturn, 1) := dk_172 (dk_at dksX4_many_0 5 rfl rfl)
abbrev cX4_mark : ByteArray := prog_4_method_3_code
def yX4_mark : MethodName := ⟨RX4, "mark", "()I"⟩
def dkwX4_mark_1 : List UInt8 := [132, 2, 1, 167, 255, 233, 27, 172]
abbrev dktX4_mark_1 : List UInt8 := dkwX4_mark_1 ++ []
def dkwX4_mark_0 : List UInt8 := [3, 60, 3, 61, 28, 42, 180, 0, 13, 190, 162, 0, 20, 27, 42, 180, 0, 13, 28, 46, 184, 0, 17, 60]
abbrev dktX4_mark_0 : List UInt8 := dkwX4_mark_0 ++ dktX4_mark_1
theorem dksX4_mark_0 : cX4_mark.data.toList.drop 0 = dktX4_mark_0 := by decide +kernel
theorem dksX4_mark_1 : cX4_mark.data.toList.drop 24 = dktX4_mark_1 := dk_seg dksX4_mark_0 24 rfl rfl
theorem dX4_mark_0 : decode cX4_mark 0 = .ok (.iconst 0, 1) := dk_3 (dk_at dksX4_mark_0 0 rfl rfl)
theorem dX4_mark_1 : decode cX4_mark 1 = .ok (.istore_n 1, 1) := dk_60 (dk_at dksX4_mark_0 1 rfl rfl)
theorem dX4_mark_2 : decode cX4_mark 2 = .ok (.iconst 0, 1) := dk_3 (dk_at dksX4_mark_0 2 rfl rfl)
theorem dX4_mark_3 : decode cX4_mark 3 = .ok (.istore_n 2, 1) := dk_61 (dk_at dksX4_mark_0 3 rfl rfl)
theorem dX4_mark_4 : decode cX4_mark 4 = .ok (.iload_n 2, 1) := dk_28 (dk_at dksX4_mark_0 4 rfl rfl)
theorem dX4_mark_5 : decode cX4_mark 5 = .ok (.aload_n 0, 1) := dk_42 (dk_at dksX4_mark_0 5 rfl rfl)
theorem dX4_mark_6 : decode cX4_mark 6 = .ok (.getfield 13, 3) := dk_180 0 13 (dk_at dksX4_mark_0 6 rfl rfl)
theorem dX4_mark_9 : decode cX4_mark 9 = .ok (.arraylength, 1) := dk_190 (dk_at dksX4_mark_0 9 rfl rfl)
theorem dX4_mark_10 : decode cX4_mark 10 = .ok (.if_icmp .ge 20, 3) := dk_162 0 20 (dk_at dksX4_mark_0 10 rfl rfl)
theorem dX4_mark_13 : decode cX4_mark 13 = .ok (.iload_n 1, 1) := dk_27 (dk_at dksX4_mark_0 13 rfl rfl)
theorem dX4_mark_14 : decode cX4_mark 14 = .ok (.aload_n 0, 1) := dk_42 (dk_at dksX4_mark_0 14 rfl rfl)
theorem dX4_mark_15 : decode cX4_mark 15 = .ok (.getfield 13, 3) := dk_180 0 13 (dk_at dksX4_mark_0 15 rfl rfl)
theorem dX4_mark_18 : decode cX4_mark 18 = .ok (.iload_n 2, 1) := dk_28 (dk_at dksX4_mark_0 18 rfl rfl)
theorem dX4_mark_19 : decode cX4_mark 19 = .ok (.iaload, 1) := dk_46 (dk_at dksX4_mark_0 19 rfl rfl)
theorem dX4_mark_20 : decode cX4_mark 20 = .ok (.invokestatic 17, 3) := dk_184 0 17 (dk_at dksX4_mark_0 20 rfl rfl)
theorem dX4_mark_23 : decode cX4_mark 23 = .ok (.istore_n 1, 1) := dk_60 (dk_at dksX4_mark_0 23 rfl rfl)
theorem dX4_mark_24 : decode cX4_mark 24 = .ok (.iinc 2 1, 3) := dk_132 2 1 (dk_at dksX4_mark_1 0 rfl rfl)
theorem dX4_mark_27 : decode cX4_mark 27 = .ok (.goto (-23), 3) := dk_167 255 233 (dk_at dksX4_mark_1 3 rfl rfl)
theorem dX4_mark_30 : decode cX4_mark 30 = .ok (.iload_n 1, 1) := dk_27 (dk_at dksX4_mark_1 6 rfl rfl)
theorem dX4_mark_31 : decode cX4_mark 31 = .ok (.ireturn, 1) := dk_172 (dk_at dksX4_mark_1 7 rfl rfl)
abbrev cX4_notch : ByteArray := prog_4_method_5_code
def yX4_notch : MethodName := ⟨RX4, "notch", "(I)I"⟩
def dkwX4_notch_0 : List UInt8 := [42, 180, 0, 13, 27, 46, 172]
abbrev dktX4_notch_0 : List UInt8 := dkwX4_notch_0 ++ []
theorem dksX4_notch_0 : cX4_notch.data.toList.drop 0 = dktX4_notch_0 := by decide +kernel
theorem dX4_notch_0 : decode cX4_notch 0 = .ok (.aload_n 0, 1) := dk_42 (dk_at dksX4_notch_0 0 rfl rfl)
theorem dX4_notch_1 : decode cX4_notch 1 = .ok (.getfield 13, 3) := dk_180 0 13 (dk_at dksX4_notch_0 1 rfl rfl)
theorem dX4_notch_4 : decode cX4_notch 4 = .ok (.iload_n 1, 1) := dk_27 (dk_at dksX4_notch_0 4 rfl rfl)
theorem dX4_notch_5 : decode cX4_notch 5 = .ok (.iaload, 1) := dk_46 (dk_at dksX4_notch_0 5 rfl rfl)
theorem dX4_notch_6 : decode cX4_notch 6 = .ok (.ireturn, 1) := dk_172 (dk_at dksX4_notch_0 6 rfl rfl)
abbrev cX4_cut : ByteArray := prog_4_method_6_code
def yX4_cut : MethodName := ⟨RX4, "cut", "(II)V"⟩
def dkwX4_cut_0 : List UInt8 := [42, 180, 0, 13, 27, 28, 79, 177]
abbrev dktX4_cut_0 : List UInt8 := dkwX4_cut_0 ++ []
theorem dksX4_cut_0 : cX4_cut.data.toList.drop 0 = dktX4_cut_0 := by decide +kernel
theorem dX4_cut_0 : decode cX4_cut 0 = .ok (.aload_n 0, 1) := dk_42 (dk_at dksX4_cut_0 0 rfl rfl)
theorem dX4_cut_1 : decode cX4_cut 1 = .ok (.getfield 13, 3) := dk_180 0 13 (dk_at dksX4_cut_0 1 rfl rfl)
theorem dX4_cut_4 : decode cX4_cut 4 = .ok (.iload_n 1, 1) := dk_27 (dk_at dksX4_cut_0 4 rfl rfl)
theorem dX4_cut_5 : decode cX4_cut 5 = .ok (.iload_n 2, 1) := dk_28 (dk_at dksX4_cut_0 5 rfl rfl)
theorem dX4_cut_6 : decode cX4_cut 6 = .ok (.iastore, 1) := dk_79 (dk_at dksX4_cut_0 6 rfl rfl)
theorem dX4_cut_7 : decode cX4_cut 7 = .ok (.return_, 1) := dk_177 (dk_at dksX4_cut_0 7 rfl rfl)
abbrev cX4_letOff : ByteArray := prog_4_method_8_code
def yX4_letOff : MethodName := ⟨RX4, "letOff", "(IZ)V"⟩
def dkwX4_letOff_0 : List UInt8 := [42, 42, 180, 0, 13, 27, 42, 180, 0, 13, 190, 112, 46, 181, 0, 23, 42, 28, 181, 0, 27, 177]
abbrev dktX4_letOff_0 : List UInt8 := dkwX4_letOff_0 ++ []
theorem dksX4_letOff_0 : cX4_letOff.data.toList.drop 0 = dktX4_letOff_0 := by decide +kernel
theorem dX4_letOff_0 : decode cX4_letOff 0 = .ok (.aload_n 0, 1) := dk_42 (dk_at dksX4_letOff_0 0 rfl rfl)
theorem dX4_letOff_1 : decode cX4_letOff 1 = .ok (.aload_n 0, 1) := dk_42 (dk_at dksX4_letOff_0 1 rfl rfl)
theorem dX4_letOff_2 : decode cX4_letOff 2 = .ok (.getfield 13, 3) := dk_180 0 13 (dk_at dksX4_letOff_0 2 rfl rfl)
theorem dX4_letOff_5 : decode cX4_letOff 5 = .ok (.iload_n 1, 1) := dk_27 (dk_at dksX4_letOff_0 5 rfl rfl)
theorem dX4_letOff_6 : decode cX4_letOff 6 = .ok (.aload_n 0, 1) := dk_42 (dk_at dksX4_letOff_0 6 rfl rfl)
theorem dX4_letOff_7 : decode cX4_letOff 7 = .ok (.getfield 13, 3) := dk_180 0 13 (dk_at dksX4_letOff_0 7 rfl rfl)
theorem dX4_letOff_10 : decode cX4_letOff 10 = .ok (.arraylength, 1) := dk_190 (dk_at dksX4_letOff_0 10 rfl rfl)
theorem dX4_letOff_11 : decode cX4_letOff 11 = .ok (.irem, 1) := dk_112 (dk_at dksX4_letOff_0 11 rfl rfl)
theorem dX4_letOff_12 : decode cX4_letOff 12 = .ok (.iaload, 1) := dk_46 (dk_at dksX4_letOff_0 12 rfl rfl)
theorem dX4_letOff_13 : decode cX4_letOff 13 = .ok (.putfield 23, 3) := dk_181 0 23 (dk_at dksX4_letOff_0 13 rfl rfl)
theorem dX4_letOff_16 : decode cX4_letOff 16 = .ok (.aload_n 0, 1) := dk_42 (dk_at dksX4_letOff_0 16 rfl rfl)
theorem dX4_letOff_17 : decode cX4_letOff 17 = .ok (.iload_n 2, 1) := dk_28 (dk_at dksX4_letOff_0 17 rfl rfl)
theorem dX4_letOff_18 : decode cX4_letOff 18 = .ok (.putfield 27, 3) := dk_181 0 27 (dk_at dksX4_letOff_0 18 rfl rfl)
theorem dX4_letOff_21 : decode cX4_letOff 21 = .ok (.return_, 1) := dk_177 (dk_at dksX4_letOff_0 21 rfl rfl)
abbrev cX4_lets : ByteArray := prog_4_method_7_code
def yX4_lets : MethodName := ⟨RX4, "lets", "(II)I"⟩
def dkwX4_lets_0 : List UInt8 := [42, 180, 0, 13, 27, 42, 180, 0, 13, 190, 112, 46, 172]
abbrev dktX4_lets_0 : List UInt8 := dkwX4_lets_0 ++ []
theorem dksX4_lets_0 : cX4_lets.data.toList.drop 0 = dktX4_lets_0 := by decide +kernel
theorem dX4_lets_0 : decode cX4_lets 0 = .ok (.aload_n 0, 1) := dk_42 (dk_at dksX4_lets_0 0 rfl rfl)
theorem dX4_lets_1 : decode cX4_lets 1 = .ok (.getfield 13, 3) := dk_180 0 13 (dk_at dksX4_lets_0 1 rfl rfl)
theorem dX4_lets_4 : decode cX4_lets 4 = .ok (.iload_n 1, 1) := dk_27 (dk_at dksX4_lets_0 4 rfl rfl)
theorem dX4_lets_5 : decode cX4_lets 5 = .ok (.aload_n 0, 1) := dk_42 (dk_at dksX4_lets_0 5 rfl rfl)
theorem dX4_lets_6 : decode cX4_lets 6 = .ok (.getfield 13, 3) := dk_180 0 13 (dk_at dksX4_lets_0 6 rfl rfl)
theorem dX4_lets_9 : decode cX4_lets 9 = .ok (.arraylength, 1) := dk_190 (dk_at dksX4_lets_0 9 rfl rfl)
theorem dX4_lets_10 : decode cX4_lets 10 = .ok (.irem, 1) := dk_112 (dk_at dksX4_lets_0 10 rfl rfl)
theorem dX4_lets_11 : decode cX4_lets 11 = .ok (.iaload, 1) := dk_46 (dk_at dksX4_lets_0 11 rfl rfl)
theorem dX4_lets_12 : decode cX4_lets 12 = .ok (.ireturn, 1) := dk_172 (dk_at dksX4_lets_0 12 rfl rfl)
abbrev cX5_init : ByteArray := prog_2_method_1_code
def yX5_init : MethodName := ⟨RX5, "<init>", "(LHammerTowers;I[I[I)V"⟩
def dkwX5_init_0 : List UInt8 := [42, 43, 181, 0, 1, 42, 43, 28, 45, 183, 0, 7, 42, 25, 4, 181, 0, 13, 177]
abbrev dktX5_init_0 : List UInt8 := dkwX5_init_0 ++ []
theorem dksX5_init_0 : cX5_init.data.toList.drop 0 = dktX5_init_0 := by decide +kernel
theorem dX5_init_0 : decode cX5_init 0 = .ok (.aload_n 0, 1) := dk_42 (dk_at dksX5_init_0 0 rfl rfl)
theorem dX5_init_1 : decode cX5_init 1 = .ok (.aload_n 1, 1) := dk_43 (dk_at dksX5_init_0 1 rfl rfl)
theorem dX5_init_2 : decode cX5_init 2 = .ok (.putfield 1, 3) := dk_181 0 1 (dk_at dksX5_init_0 2 rfl rfl)
theorem dX5_init_5 : decode cX5_init 5 = .ok (.aload_n 0, 1) := dk_42 (dk_at dksX5_init_0 5 rfl rfl)
theorem dX5_init_6 : decode cX5_init 6 = .ok (.aload_n 1, 1) := dk_43 (dk_at dksX5_init_0 6 rfl rfl)
theorem dX5_init_7 : decode cX5_init 7 = .ok (.iload_n 2, 1) := dk_28 (dk_at dksX5_init_0 7 rfl rfl)
theorem dX5_init_8 : decode cX5_init 8 = .ok (.aload_n 3, 1) := dk_45 (dk_at dksX5_init_0 8 rfl rfl)
theorem dX5_init_9 : decode cX5_init 9 = .ok (.invokespecial 7, 3) := dk_183 0 7 (dk_at dksX5_init_0 9 rfl rfl)
theorem dX5_init_12 : decode cX5_init 12 = .ok (.aload_n 0, 1) := dk_42 (dk_at dksX5_init_0 12 rfl rfl)
theorem dX5_init_13 : decode cX5_init 13 = .ok (.aload 4, 2) := dk_25 4 (dk_at dksX5_init_0 13 rfl rfl)
theorem dX5_init_15 : decode cX5_init 15 = .ok (.putfield 13, 3) := dk_181 0 13 (dk_at dksX5_init_0 15 rfl rfl)
theorem dX5_init_18 : decode cX5_init 18 = .ok (.return_, 1) := dk_177 (dk_at dksX5_init_0 18 rfl rfl)
abbrev cX5_kind : ByteArray := prog_2_method_2_code
def yX5_kind : MethodName := ⟨RX5, "kind", "()I"⟩
def dkwX5_kind_0 : List UInt8 := [42, 183, 0, 17, 5, 96, 172]
abbrev dktX5_kind_0 : List UInt8 := dkwX5_kind_0 ++ []
theorem dksX5_kind_0 : cX5_kind.data.toList.drop 0 = dktX5_kind_0 := by decide +kernel
theorem dX5_kind_0 : decode cX5_kind 0 = .ok (.aload_n 0, 1) := dk_42 (dk_at dksX5_kind_0 0 rfl rfl)
theorem dX5_kind_1 : decode cX5_kind 1 = .ok (.invokespecial 17, 3) := dk_183 0 17 (dk_at dksX5_kind_0 1 rfl rfl)
theorem dX5_kind_4 : decode cX5_kind 4 = .ok (.iconst 2, 1) := dk_5 (dk_at dksX5_kind_0 4 rfl rfl)
theorem dX5_kind_5 : decode cX5_kind 5 = .ok (.iadd, 1) := dk_96 (dk_at dksX5_kind_0 5 rfl rfl)
theorem dX5_kind_6 : decode cX5_kind 6 = .ok (.ireturn, 1) := dk_172 (dk_at dksX5_kind_0 6 rfl rfl)
abbrev cX5_asPlate : ByteArray := prog_2_method_4_code
def yX5_asPlate : MethodName := ⟨RX5, "asPlate", "()I"⟩
theorem dX5_asPlate_0 : decode cX5_asPlate 0 = .ok (.aload_n 0, 1) := by decide +kernel
theorem dX5_asPlate_1 : decode cX5_asPlate 1 = .ok (.invokespecial 25, 3) := by decide +kernel
theorem dX5_asPlate_4 : decode cX5_asPlate 4 = .ok (.ireturn, 1) := by decide +kernel
abbrev cX5_mark : ByteArray := prog_2_method_3_code
def yX5_mark : MethodName := ⟨RX5, "mark", "()I"⟩
theorem dX5_mark_0 : decode cX5_mark 0 = .ok (.aload_n 0, 1) := by decide +kernel
theorem dX5_mark_1 : decode cX5_mark 1 = .ok (.getfield 21, 3) := by decide +kernel
theorem dX5_mark_4 : decode cX5_mark 4 = .ok (.ireturn, 1) := by decide +kernel
abbrev cX5_hammers : ByteArray := prog_2_method_5_code
def yX5_hammers : MethodName := ⟨RX5, "hammers", "()I"⟩
def dkwX5_hammers_0 : List UInt8 := [42, 180, 0, 13, 42, 180, 0, 21, 46, 172]
abbrev dktX5_hammers_0 : List UInt8 := dkwX5_hammers_0 ++ []
theorem dksX5_hammers_0 : cX5_hammers.data.toList.drop 0 = dktX5_hammers_0 := by decide +kernel
theorem dX5_hammers_0 : decode cX5_hammers 0 = .ok (.aload_n 0, 1) := dk_42 (dk_at dksX5_hammers_0 0 rfl rfl)
theorem dX5_hammers_1 : decode cX5_hammers 1 = .ok (.getfield 13, 3) := dk_180 0 13 (dk_at dksX5_hammers_0 1 rfl rfl)
theorem dX5_hammers_4 : decode cX5_hammers 4 = .ok (.aload_n 0, 1) := dk_42 (dk_at dksX5_hammers_0 4 rfl rfl)
theorem dX5_hammers_5 : decode cX5_hammers 5 = .ok (.getfield 21, 3) := dk_180 0 21 (dk_at dksX5_hammers_0 5 rfl rfl)
theorem dX5_hammers_8 : decode cX5_hammers 8 = .ok (.iaload, 1) := dk_46 (dk_at dksX5_hammers_0 8 rfl rfl)
theorem dX5_hammers_9 : decode cX5_hammers 9 = .ok (.ireturn, 1) := dk_172 (dk_at dksX5_hammers_0 9 rfl rfl)
abbrev cX5_struck : ByteArray := prog_2_method_6_code
def yX5_struck : MethodName := ⟨RX5, "struck", "()V"⟩
def dkwX5_struck_0 : List UInt8 := [42, 42, 180, 0, 21, 4, 96, 42, 180, 0, 13, 190, 112, 181, 0, 21, 177]
abbrev dktX5_struck_0 : List UInt8 := dkwX5_struck_0 ++ []
theorem dksX5_struck_0 : cX5_struck.data.toList.drop 0 = dktX5_struck_0 := by decide +kernel
theorem dX5_struck_0 : decode cX5_struck 0 = .ok (.aload_n 0, 1) := dk_42 (dk_at dksX5_struck_0 0 rfl rfl)
theorem dX5_struck_1 : decode cX5_struck 1 = .ok (.aload_n 0, 1) := dk_42 (dk_at dksX5_struck_0 1 rfl rfl)
theorem dX5_struck_2 : decode cX5_struck 2 = .ok (.getfield 21, 3) := dk_180 0 21 (dk_at dksX5_struck_0 2 rfl rfl)
theorem dX5_struck_5 : decode cX5_struck 5 = .ok (.iconst 1, 1) := dk_4 (dk_at dksX5_struck_0 5 rfl rfl)
theorem dX5_struck_6 : decode cX5_struck 6 = .ok (.iadd, 1) := dk_96 (dk_at dksX5_struck_0 6 rfl rfl)
theorem dX5_struck_7 : decode cX5_struck 7 = .ok (.aload_n 0, 1) := dk_42 (dk_at dksX5_struck_0 7 rfl rfl)
theorem dX5_struck_8 : decode cX5_struck 8 = .ok (.getfield 13, 3) := dk_180 0 13 (dk_at dksX5_struck_0 8 rfl rfl)
theorem dX5_struck_11 : decode cX5_struck 11 = .ok (.arraylength, 1) := dk_190 (dk_at dksX5_struck_0 11 rfl rfl)
theorem dX5_struck_12 : decode cX5_struck 12 = .ok (.irem, 1) := dk_112 (dk_at dksX5_struck_0 12 rfl rfl)
theorem dX5_struck_13 : decode cX5_struck 13 = .ok (.putfield 21, 3) := dk_181 0 21 (dk_at dksX5_struck_0 13 rfl rfl)
theorem dX5_struck_16 : decode cX5_struck 16 = .ok (.return_, 1) := dk_177 (dk_at dksX5_struck_0 16 rfl rfl)
abbrev cX6_init : ByteArray := prog_6_method_1_code
def yX6_init : MethodName := ⟨RX6, "<init>", "(LHammerTowers;)V"⟩
def dkwX6_init_1 : List UInt8 := [189, 0, 23, 181, 0, 25, 42, 17, 0, 240, 188, 10, 181, 0, 29, 177]
abbrev dktX6_init_1 : List UInt8 := dkwX6_init_1 ++ []
def dkwX6_init_0 : List UInt8 := [42, 43, 181, 0, 3, 42, 183, 0, 9, 42, 17, 78, 32, 181, 0, 15, 42, 4, 181, 0, 19, 42, 5]
abbrev dktX6_init_0 : List UInt8 := dkwX6_init_0 ++ dktX6_init_1
theorem dksX6_init_0 : cX6_init.data.toList.drop 0 = dktX6_init_0 := by decide +kernel
theorem dksX6_init_1 : cX6_init.data.toList.drop 23 = dktX6_init_1 := dk_seg dksX6_init_0 23 rfl rfl
theorem dX6_init_0 : decode cX6_init 0 = .ok (.aload_n 0, 1) := dk_42 (dk_at dksX6_init_0 0 rfl rfl)
theorem dX6_init_1 : decode cX6_init 1 = .ok (.aload_n 1, 1) := dk_43 (dk_at dksX6_init_0 1 rfl rfl)
theorem dX6_init_2 : decode cX6_init 2 = .ok (.putfield 3, 3) := dk_181 0 3 (dk_at dksX6_init_0 2 rfl rfl)
theorem dX6_init_5 : decode cX6_init 5 = .ok (.aload_n 0, 1) := dk_42 (dk_at dksX6_init_0 5 rfl rfl)
theorem dX6_init_6 : decode cX6_init 6 = .ok (.invokespecial 9, 3) := dk_183 0 9 (dk_at dksX6_init_0 6 rfl rfl)
theorem dX6_init_9 : decode cX6_init 9 = .ok (.aload_n 0, 1) := dk_42 (dk_at dksX6_init_0 9 rfl rfl)
theorem dX6_init_10 : decode cX6_init 10 = .ok (.sipush 20000, 3) := dk_17 78 32 (dk_at dksX6_init_0 10 rfl rfl)
theorem dX6_init_13 : decode cX6_init 13 = .ok (.putfield 15, 3) := dk_181 0 15 (dk_at dksX6_init_0 13 rfl rfl)
theorem dX6_init_16 : decode cX6_init 16 = .ok (.aload_n 0, 1) := dk_42 (dk_at dksX6_init_0 16 rfl rfl)
theorem dX6_init_17 : decode cX6_init 17 = .ok (.iconst 1, 1) := dk_4 (dk_at dksX6_init_0 17 rfl rfl)
theorem dX6_init_18 : decode cX6_init 18 = .ok (.putfield 19, 3) := dk_181 0 19 (dk_at dksX6_init_0 18 rfl rfl)
theorem dX6_init_21 : decode cX6_init 21 = .ok (.aload_n 0, 1) := dk_42 (dk_at dksX6_init_0 21 rfl rfl)
theorem dX6_init_22 : decode cX6_init 22 = .ok (.iconst 2, 1) := dk_5 (dk_at dksX6_init_0 22 rfl rfl)
theorem dX6_init_23 : decode cX6_init 23 = .ok (.anewarray 23, 3) := dk_189 0 23 (dk_at dksX6_init_1 0 rfl rfl)
theorem dX6_init_26 : decode cX6_init 26 = .ok (.putfield 25, 3) := dk_181 0 25 (dk_at dksX6_init_1 3 rfl rfl)
theorem dX6_init_29 : decode cX6_init 29 = .ok (.aload_n 0, 1) := dk_42 (dk_at dksX6_init_1 6 rfl rfl)
theorem dX6_init_30 : decode cX6_init 30 = .ok (.sipush 240, 3) := dk_17 0 240 (dk_at dksX6_init_1 7 rfl rfl)
theorem dX6_init_33 : decode cX6_init 33 = .ok (.newarray .int, 2) := dk_188_10 (dk_at dksX6_init_1 10 rfl rfl)
theorem dX6_init_35 : decode cX6_init 35 = .ok (.putfield 29, 3) := dk_181 0 29 (dk_at dksX6_init_1 12 rfl rfl)
theorem dX6_init_38 : decode cX6_init 38 = .ok (.return_, 1) := dk_177 (dk_at dksX6_init_1 15 rfl rfl)
abbrev cX6_forward : ByteArray := prog_6_method_7_code
def yX6_forward : MethodName := ⟨RX6, "forward", "()V"⟩
def dkwX6_forward_3 : List UInt8 := [160, 0, 15, 27, 16, 15, 112, 154, 0, 8, 42, 28, 182, 0, 76, 177]
abbrev dktX6_forward_3 : List UInt8 := dkwX6_forward_3 ++ []
def dkwX6_forward_2 : List UInt8 := [160, 0, 17, 27, 16, 15, 112, 16, 10, 160, 0, 8, 42, 28, 182, 0, 73, 27, 153, 0, 15, 28, 4]
abbrev dktX6_forward_2 : List UInt8 := dkwX6_forward_2 ++ dktX6_forward_3
def dkwX6_forward_1 : List UInt8 := [180, 0, 25, 4, 50, 198, 0, 7, 4, 167, 0, 4, 3, 61, 27, 16, 55, 159, 0, 17, 28, 4]
abbrev dktX6_forward_1 : List UInt8 := dkwX6_forward_1 ++ dktX6_forward_2
def dkwX6_forward_0 : List UInt8 := [42, 42, 180, 0, 33, 4, 96, 17, 5, 160, 112, 181, 0, 33, 42, 180, 0, 33, 16, 60, 112, 60, 42]
abbrev dktX6_forward_0 : List UInt8 := dkwX6_forward_0 ++ dktX6_forward_1
theorem dksX6_forward_0 : cX6_forward.data.toList.drop 0 = dktX6_forward_0 := by decide +kernel
theorem dksX6_forward_1 : cX6_forward.data.toList.drop 23 = dktX6_forward_1 := dk_seg dksX6_forward_0 23 rfl rfl
theorem dksX6_forward_2 : cX6_forward.data.toList.drop 45 = dktX6_forward_2 := dk_seg dksX6_forward_1 22 rfl rfl
theorem dksX6_forward_3 : cX6_forward.data.toList.drop 68 = dktX6_forward_3 := dk_seg dksX6_forward_2 23 rfl rfl
theorem dX6_forward_0 : decode cX6_forward 0 = .ok (.aload_n 0, 1) := dk_42 (dk_at dksX6_forward_0 0 rfl rfl)
theorem dX6_forward_1 : decode cX6_forward 1 = .ok (.aload_n 0, 1) := dk_42 (dk_at dksX6_forward_0 1 rfl rfl)
theorem dX6_forward_2 : decode cX6_forward 2 = .ok (.getfield 33, 3) := dk_180 0 33 (dk_at dksX6_forward_0 2 rfl rfl)
theorem dX6_forward_5 : decode cX6_forward 5 = .ok (.iconst 1, 1) := dk_4 (dk_at dksX6_forward_0 5 rfl rfl)
theorem dX6_forward_6 : decode cX6_forward 6 = .ok (.iadd, 1) := dk_96 (dk_at dksX6_forward_0 6 rfl rfl)
theorem dX6_forward_7 : decode cX6_forward 7 = .ok (.sipush 1440, 3) := dk_17 5 160 (dk_at dksX6_forward_0 7 rfl rfl)
theorem dX6_forward_10 : decode cX6_forward 10 = .ok (.irem, 1) := dk_112 (dk_at dksX6_forward_0 10 rfl rfl)
theorem dX6_forward_11 : decode cX6_forward 11 = .ok (.putfield 33, 3) := dk_181 0 33 (dk_at dksX6_forward_0 11 rfl rfl)
theorem dX6_forward_14 : decode cX6_forward 14 = .ok (.aload_n 0, 1) := dk_42 (dk_at dksX6_forward_0 14 rfl rfl)
theorem dX6_forward_15 : decode cX6_forward 15 = .ok (.getfield 33, 3) := dk_180 0 33 (dk_at dksX6_forward_0 15 rfl rfl)
theorem dX6_forward_18 : decode cX6_forward 18 = .ok (.bipush 60, 2) := dk_16 60 (dk_at dksX6_forward_0 18 rfl rfl)
theorem dX6_forward_20 : decode cX6_forward 20 = .ok (.irem, 1) := dk_112 (dk_at dksX6_forward_0 20 rfl rfl)
theorem dX6_forward_21 : decode cX6_forward 21 = .ok (.istore_n 1, 1) := dk_60 (dk_at dksX6_forward_0 21 rfl rfl)
theorem dX6_forward_22 : decode cX6_forward 22 = .ok (.aload_n 0, 1) := dk_42 (dk_at dksX6_forward_0 22 rfl rfl)
theorem dX6_forward_23 : decode cX6_forward 23 = .ok (.getfield 25, 3) := dk_180 0 25 (dk_at dksX6_forward_1 0 rfl rfl)
theorem dX6_forward_26 : decode cX6_forward 26 = .ok (.iconst 1, 1) := dk_4 (dk_at dksX6_forward_1 3 rfl rfl)
theorem dX6_forward_27 : decode cX6_forward 27 = .ok (.aaload, 1) := dk_50 (dk_at dksX6_forward_1 4 rfl rfl)
theorem dX6_forward_28 : decode cX6_forward 28 = .ok (.ifnull 7, 3) := dk_198 0 7 (dk_at dksX6_forward_1 5 rfl rfl)
theorem dX6_forward_31 : decode cX6_forward 31 = .ok (.iconst 1, 1) := dk_4 (dk_at dksX6_forward_1 8 rfl rfl)
theorem dX6_forward_32 : decode cX6_forward 32 = .ok (.goto 4, 3) := dk_167 0 4 (dk_at dksX6_forward_1 9 rfl rfl)
theorem dX6_forward_35 : decode cX6_forward 35 = .ok (.iconst 0, 1) := dk_3 (dk_at dksX6_forward_1 12 rfl rfl)
theorem dX6_forward_36 : decode cX6_forward 36 = .ok (.istore_n 2, 1) := dk_61 (dk_at dksX6_forward_1 13 rfl rfl)
theorem dX6_forward_37 : decode cX6_forward 37 = .ok (.iload_n 1, 1) := dk_27 (dk_at dksX6_forward_1 14 rfl rfl)
theorem dX6_forward_38 : decode cX6_forward 38 = .ok (.bipush 55, 2) := dk_16 55 (dk_at dksX6_forward_1 15 rfl rfl)
theorem dX6_forward_40 : decode cX6_forward 40 = .ok (.if_icmp .eq 17, 3) := dk_159 0 17 (dk_at dksX6_forward_1 17 rfl rfl)
theorem dX6_forward_43 : decode cX6_forward 43 = .ok (.iload_n 2, 1) := dk_28 (dk_at dksX6_forward_1 20 rfl rfl)
theorem dX6_forward_44 : decode cX6_forward 44 = .ok (.iconst 1, 1) := dk_4 (dk_at dksX6_forward_1 21 rfl rfl)
theorem dX6_forward_45 : decode cX6_forward 45 = .ok (.if_icmp .ne 17, 3) := dk_160 0 17 (dk_at dksX6_forward_2 0 rfl rfl)
theorem dX6_forward_48 : decode cX6_forward 48 = .ok (.iload_n 1, 1) := dk_27 (dk_at dksX6_forward_2 3 rfl rfl)
theorem dX6_forward_49 : decode cX6_forward 49 = .ok (.bipush 15, 2) := dk_16 15 (dk_at dksX6_forward_2 4 rfl rfl)
theorem dX6_forward_51 : decode cX6_forward 51 = .ok (.irem, 1) := dk_112 (dk_at dksX6_forward_2 6 rfl rfl)
theorem dX6_forward_52 : decode cX6_forward 52 = .ok (.bipush 10, 2) := dk_16 10 (dk_at dksX6_forward_2 7 rfl rfl)
theorem dX6_forward_54 : decode cX6_forward 54 = .ok (.if_icmp .ne 8, 3) := dk_160 0 8 (dk_at dksX6_forward_2 9 rfl rfl)
theorem dX6_forward_57 : decode cX6_forward 57 = .ok (.aload_n 0, 1) := dk_42 (dk_at dksX6_forward_2 12 rfl rfl)
theorem dX6_forward_58 : decode cX6_forward 58 = .ok (.iload_n 2, 1) := dk_28 (dk_at dksX6_forward_2 13 rfl rfl)
theorem dX6_forward_59 : decode cX6_forward 59 = .ok (.invokevirtual 73, 3) := dk_182 0 73 (dk_at dksX6_forward_2 14 rfl rfl)
theorem dX6_forward_62 : decode cX6_forward 62 = .ok (.iload_n 1, 1) := dk_27 (dk_at dksX6_forward_2 17 rfl rfl)
theorem dX6_forward_63 : decode cX6_forward 63 = .ok (.ifCond .eq 15, 3) := dk_153 0 15 (dk_at dksX6_forward_2 18 rfl rfl)
theorem dX6_forward_66 : decode cX6_forward 66 = .ok (.iload_n 2, 1) := dk_28 (dk_at dksX6_forward_2 21 rfl rfl)
theorem dX6_forward_67 : decode cX6_forward 67 = .ok (.iconst 1, 1) := dk_4 (dk_at dksX6_forward_2 22 rfl rfl)
theorem dX6_forward_68 : decode cX6_forward 68 = .ok (.if_icmp .ne 15, 3) := dk_160 0 15 (dk_at dksX6_forward_3 0 rfl rfl)
theorem dX6_forward_71 : decode cX6_forward 71 = .ok (.iload_n 1, 1) := dk_27 (dk_at dksX6_forward_3 3 rfl rfl)
theorem dX6_forward_72 : decode cX6_forward 72 = .ok (.bipush 15, 2) := dk_16 15 (dk_at dksX6_forward_3 4 rfl rfl)
theorem dX6_forward_74 : decode cX6_forward 74 = .ok (.irem, 1) := dk_112 (dk_at dksX6_forward_3 6 rfl rfl)
theorem dX6_forward_75 : decode cX6_forward 75 = .ok (.ifCond .ne 8, 3) := dk_154 0 8 (dk_at dksX6_forward_3 7 rfl rfl)
theorem dX6_forward_78 : decode cX6_forward 78 = .ok (.aload_n 0, 1) := dk_42 (dk_at dksX6_forward_3 10 rfl rfl)
theorem dX6_forward_79 : decode cX6_forward 79 = .ok (.iload_n 2, 1) := dk_28 (dk_at dksX6_forward_3 11 rfl rfl)
theorem dX6_forward_80 : decode cX6_forward 80 = .ok (.invokevirtual 76, 3) := dk_182 0 76 (dk_at dksX6_forward_3 12 rfl rfl)
theorem dX6_forward_83 : decode cX6_forward 83 = .ok (.return_, 1) := dk_177 (dk_at dksX6_forward_3 15 rfl rfl)
abbrev cX6_warn : ByteArray := prog_6_method_3_code
def yX6_warn : MethodName := ⟨RX6, "warn", "(I)V"⟩
def dkwX6_warn_0 : List UInt8 := [42, 180, 0, 25, 27, 50, 198, 0, 13, 42, 180, 0, 25, 27, 50, 4, 181, 0, 49, 177]
abbrev dktX6_warn_0 : List UInt8 := dkwX6_warn_0 ++ []
theorem dksX6_warn_0 : cX6_warn.data.toList.drop 0 = dktX6_warn_0 := by decide +kernel
theorem dX6_warn_0 : decode cX6_warn 0 = .ok (.aload_n 0, 1) := dk_42 (dk_at dksX6_warn_0 0 rfl rfl)
theorem dX6_warn_1 : decode cX6_warn 1 = .ok (.getfield 25, 3) := dk_180 0 25 (dk_at dksX6_warn_0 1 rfl rfl)
theorem dX6_warn_4 : decode cX6_warn 4 = .ok (.iload_n 1, 1) := dk_27 (dk_at dksX6_warn_0 4 rfl rfl)
theorem dX6_warn_5 : decode cX6_warn 5 = .ok (.aaload, 1) := dk_50 (dk_at dksX6_warn_0 5 rfl rfl)
theorem dX6_warn_6 : decode cX6_warn 6 = .ok (.ifnull 13, 3) := dk_198 0 13 (dk_at dksX6_warn_0 6 rfl rfl)
theorem dX6_warn_9 : decode cX6_warn 9 = .ok (.aload_n 0, 1) := dk_42 (dk_at dksX6_warn_0 9 rfl rfl)
theorem dX6_warn_10 : decode cX6_warn 10 = .ok (.getfield 25, 3) := dk_180 0 25 (dk_at dksX6_warn_0 10 rfl rfl)
theorem dX6_warn_13 : decode cX6_warn 13 = .ok (.iload_n 1, 1) := dk_27 (dk_at dksX6_warn_0 13 rfl rfl)
theorem dX6_warn_14 : decode cX6_warn 14 = .ok (.aaload, 1) := dk_50 (dk_at dksX6_warn_0 14 rfl rfl)
theorem dX6_warn_15 : decode cX6_warn 15 = .ok (.iconst 1, 1) := dk_4 (dk_at dksX6_warn_0 15 rfl rfl)
theorem dX6_warn_16 : decode cX6_warn 16 = .ok (.putfield 49, 3) := dk_181 0 49 (dk_at dksX6_warn_0 16 rfl rfl)
theorem dX6_warn_19 : decode cX6_warn 19 = .ok (.return_, 1) := dk_177 (dk_at dksX6_warn_0 19 rfl rfl)
abbrev cX6_letOffWarned : ByteArray := prog_6_method_6_code
def yX6_letOffWarned : MethodName := ⟨RX6, "letOffWarned", "(I)V"⟩
def dkwX6_letOffWarned_1 : List UInt8 := [182, 0, 66, 5, 159, 0, 18, 42, 180, 0, 25, 27, 50, 3, 181, 0, 49, 42, 27, 182, 0, 70, 177]
abbrev dktX6_letOffWarned_1 : List UInt8 := dkwX6_letOffWarned_1 ++ []
def dkwX6_letOffWarned_0 : List UInt8 := [42, 180, 0, 25, 27, 50, 198, 0, 38, 42, 180, 0, 25, 27, 50, 180, 0, 49, 153, 0, 26, 42]
abbrev dktX6_letOffWarned_0 : List UInt8 := dkwX6_letOffWarned_0 ++ dktX6_letOffWarned_1
theorem dksX6_letOffWarned_0 : cX6_letOffWarned.data.toList.drop 0 = dktX6_letOffWarned_0 := by decide +kernel
theorem dksX6_letOffWarned_1 : cX6_letOffWarned.data.toList.drop 22 = dktX6_letOffWarned_1 := dk_seg dksX6_letOffWarned_0 22 rfl rfl
theorem dX6_letOffWarned_0 : decode cX6_letOffWarned 0 = .ok (.aload_n 0, 1) := dk_42 (dk_at dksX6_letOffWarned_0 0 rfl rfl)
theorem dX6_letOffWarned_1 : decode cX6_letOffWarned 1 = .ok (.getfield 25, 3) := dk_180 0 25 (dk_at dksX6_letOffWarned_0 1 rfl rfl)
theorem dX6_letOffWarned_4 : decode cX6_letOffWarned 4 = .ok (.iload_n 1, 1) := dk_27 (dk_at dksX6_letOffWarned_0 4 rfl rfl)
theorem dX6_letOffWarned_5 : decode cX6_letOffWarned 5 = .ok (.aaload, 1) := dk_50 (dk_at dksX6_letOffWarned_0 5 rfl rfl)
theorem dX6_letOffWarned_6 : decode cX6_letOffWarned 6 = .ok (.ifnull 38, 3) := dk_198 0 38 (dk_at dksX6_letOffWarned_0 6 rfl rfl)
theorem dX6_letOffWarned_9 : decode cX6_letOffWarned 9 = .ok (.aload_n 0, 1) := dk_42 (dk_at dksX6_letOffWarned_0 9 rfl rfl)
theorem dX6_letOffWarned_10 : decode cX6_letOffWarned 10 = .ok (.getfield 25, 3) := dk_180 0 25 (dk_at dksX6_letOffWarned_0 10 rfl rfl)
theorem dX6_letOffWarned_13 : decode cX6_letOffWarned 13 = .ok (.iload_n 1, 1) := dk_27 (dk_at dksX6_letOffWarned_0 13 rfl rfl)
theorem dX6_letOffWarned_14 : decode cX6_letOffWarned 14 = .ok (.aaload, 1) := dk_50 (dk_at dksX6_letOffWarned_0 14 rfl rfl)
theorem dX6_letOffWarned_15 : decode cX6_letOffWarned 15 = .ok (.getfield 49, 3) := dk_180 0 49 (dk_at dksX6_letOffWarned_0 15 rfl rfl)
theorem dX6_letOffWarned_18 : decode cX6_letOffWarned 18 = .ok (.ifCond .eq 26, 3) := dk_153 0 26 (dk_at dksX6_letOffWarned_0 18 rfl rfl)
theorem dX6_letOffWarned_21 : decode cX6_letOffWarned 21 = .ok (.aload_n 0, 1) := dk_42 (dk_at dksX6_letOffWarned_0 21 rfl rfl)
theorem dX6_letOffWarned_22 : decode cX6_letOffWarned 22 = .ok (.invokevirtual 66, 3) := dk_182 0 66 (dk_at dksX6_letOffWarned_1 0 rfl rfl)
theorem dX6_letOffWarned_25 : decode cX6_letOffWarned 25 = .ok (.iconst 2, 1) := dk_5 (dk_at dksX6_letOffWarned_1 3 rfl rfl)
theorem dX6_letOffWarned_26 : decode cX6_letOffWarned 26 = .ok (.if_icmp .eq 18, 3) := dk_159 0 18 (dk_at dksX6_letOffWarned_1 4 rfl rfl)
theorem dX6_letOffWarned_29 : decode cX6_letOffWarned 29 = .ok (.aload_n 0, 1) := dk_42 (dk_at dksX6_letOffWarned_1 7 rfl rfl)
theorem dX6_letOffWarned_30 : decode cX6_letOffWarned 30 = .ok (.getfield 25, 3) := dk_180 0 25 (dk_at dksX6_letOffWarned_1 8 rfl rfl)
theorem dX6_letOffWarned_33 : decode cX6_letOffWarned 33 = .ok (.iload_n 1, 1) := dk_27 (dk_at dksX6_letOffWarned_1 11 rfl rfl)
theorem dX6_letOffWarned_34 : decode cX6_letOffWarned 34 = .ok (.aaload, 1) := dk_50 (dk_at dksX6_letOffWarned_1 12 rfl rfl)
theorem dX6_letOffWarned_35 : decode cX6_letOffWarned 35 = .ok (.iconst 0, 1) := dk_3 (dk_at dksX6_letOffWarned_1 13 rfl rfl)
theorem dX6_letOffWarned_36 : decode cX6_letOffWarned 36 = .ok (.putfield 49, 3) := dk_181 0 49 (dk_at dksX6_letOffWarned_1 14 rfl rfl)
theorem dX6_letOffWarned_39 : decode cX6_letOffWarned 39 = .ok (.aload_n 0, 1) := dk_42 (dk_at dksX6_letOffWarned_1 17 rfl rfl)
theorem dX6_letOffWarned_40 : decode cX6_letOffWarned 40 = .ok (.iload_n 1, 1) := dk_27 (dk_at dksX6_letOffWarned_1 18 rfl rfl)
theorem dX6_letOffWarned_41 : decode cX6_letOffWarned 41 = .ok (.invokevirtual 70, 3) := dk_182 0 70 (dk_at dksX6_letOffWarned_1 19 rfl rfl)
theorem dX6_letOffWarned_44 : decode cX6_letOffWarned 44 = .ok (.return_, 1) := dk_177 (dk_at dksX6_letOffWarned_1 22 rfl rfl)
abbrev cX6_silence : ByteArray := prog_6_method_2_code
def yX6_silence : MethodName := ⟨RX6, "silence", "()I"⟩
def dkwX6_silence_3 : List UInt8 := [154, 0, 7, 3, 167, 0, 15, 42, 180, 0, 46, 154, 0, 7, 4, 167, 0, 4, 5, 172]
abbrev dktX6_silence_3 : List UInt8 := dkwX6_silence_3 ++ []
def dkwX6_silence_2 : List UInt8 := [42, 180, 0, 36, 162, 0, 11, 27, 42, 180, 0, 39, 162, 0, 7, 4, 167, 0, 4, 3, 61, 28]
abbrev dktX6_silence_2 : List UInt8 := dkwX6_silence_2 ++ dktX6_silence_3
def dkwX6_silence_1 : List UInt8 := [42, 180, 0, 39, 4, 100, 184, 0, 42, 167, 0, 35, 42, 180, 0, 36, 42, 180, 0, 39, 164, 0, 23, 27]
abbrev dktX6_silence_1 : List UInt8 := dkwX6_silence_1 ++ dktX6_silence_2
def dkwX6_silence_0 : List UInt8 := [42, 180, 0, 33, 16, 60, 108, 60, 42, 180, 0, 36, 42, 180, 0, 39, 162, 0, 20, 27, 42, 180, 0, 36]
abbrev dktX6_silence_0 : List UInt8 := dkwX6_silence_0 ++ dktX6_silence_1
theorem dksX6_silence_0 : cX6_silence.data.toList.drop 0 = dktX6_silence_0 := by decide +kernel
theorem dksX6_silence_1 : cX6_silence.data.toList.drop 24 = dktX6_silence_1 := dk_seg dksX6_silence_0 24 rfl rfl
theorem dksX6_silence_2 : cX6_silence.data.toList.drop 48 = dktX6_silence_2 := dk_seg dksX6_silence_1 24 rfl rfl
theorem dksX6_silence_3 : cX6_silence.data.toList.drop 70 = dktX6_silence_3 := dk_seg dksX6_silence_2 22 rfl rfl
theorem dX6_silence_0 : decode cX6_silence 0 = .ok (.aload_n 0, 1) := dk_42 (dk_at dksX6_silence_0 0 rfl rfl)
theorem dX6_silence_1 : decode cX6_silence 1 = .ok (.getfield 33, 3) := dk_180 0 33 (dk_at dksX6_silence_0 1 rfl rfl)
theorem dX6_silence_4 : decode cX6_silence 4 = .ok (.bipush 60, 2) := dk_16 60 (dk_at dksX6_silence_0 4 rfl rfl)
theorem dX6_silence_6 : decode cX6_silence 6 = .ok (.idiv, 1) := dk_108 (dk_at dksX6_silence_0 6 rfl rfl)
theorem dX6_silence_7 : decode cX6_silence 7 = .ok (.istore_n 1, 1) := dk_60 (dk_at dksX6_silence_0 7 rfl rfl)
theorem dX6_silence_8 : decode cX6_silence 8 = .ok (.aload_n 0, 1) := dk_42 (dk_at dksX6_silence_0 8 rfl rfl)
theorem dX6_silence_9 : decode cX6_silence 9 = .ok (.getfield 36, 3) := dk_180 0 36 (dk_at dksX6_silence_0 9 rfl rfl)
theorem dX6_silence_12 : decode cX6_silence 12 = .ok (.aload_n 0, 1) := dk_42 (dk_at dksX6_silence_0 12 rfl rfl)
theorem dX6_silence_13 : decode cX6_silence 13 = .ok (.getfield 39, 3) := dk_180 0 39 (dk_at dksX6_silence_0 13 rfl rfl)
theorem dX6_silence_16 : decode cX6_silence 16 = .ok (.if_icmp .ge 20, 3) := dk_162 0 20 (dk_at dksX6_silence_0 16 rfl rfl)
theorem dX6_silence_19 : decode cX6_silence 19 = .ok (.iload_n 1, 1) := dk_27 (dk_at dksX6_silence_0 19 rfl rfl)
theorem dX6_silence_20 : decode cX6_silence 20 = .ok (.aload_n 0, 1) := dk_42 (dk_at dksX6_silence_0 20 rfl rfl)
theorem dX6_silence_21 : decode cX6_silence 21 = .ok (.getfield 36, 3) := dk_180 0 36 (dk_at dksX6_silence_0 21 rfl rfl)
theorem dX6_silence_24 : decode cX6_silence 24 = .ok (.aload_n 0, 1) := dk_42 (dk_at dksX6_silence_1 0 rfl rfl)
theorem dX6_silence_25 : decode cX6_silence 25 = .ok (.getfield 39, 3) := dk_180 0 39 (dk_at dksX6_silence_1 1 rfl rfl)
theorem dX6_silence_28 : decode cX6_silence 28 = .ok (.iconst 1, 1) := dk_4 (dk_at dksX6_silence_1 4 rfl rfl)
theorem dX6_silence_29 : decode cX6_silence 29 = .ok (.isub, 1) := dk_100 (dk_at dksX6_silence_1 5 rfl rfl)
theorem dX6_silence_30 : decode cX6_silence 30 = .ok (.invokestatic 42, 3) := dk_184 0 42 (dk_at dksX6_silence_1 6 rfl rfl)
theorem dX6_silence_33 : decode cX6_silence 33 = .ok (.goto 35, 3) := dk_167 0 35 (dk_at dksX6_silence_1 9 rfl rfl)
theorem dX6_silence_36 : decode cX6_silence 36 = .ok (.aload_n 0, 1) := dk_42 (dk_at dksX6_silence_1 12 rfl rfl)
theorem dX6_silence_37 : decode cX6_silence 37 = .ok (.getfield 36, 3) := dk_180 0 36 (dk_at dksX6_silence_1 13 rfl rfl)
theorem dX6_silence_40 : decode cX6_silence 40 = .ok (.aload_n 0, 1) := dk_42 (dk_at dksX6_silence_1 16 rfl rfl)
theorem dX6_silence_41 : decode cX6_silence 41 = .ok (.getfield 39, 3) := dk_180 0 39 (dk_at dksX6_silence_1 17 rfl rfl)
theorem dX6_silence_44 : decode cX6_silence 44 = .ok (.if_icmp .le 23, 3) := dk_164 0 23 (dk_at dksX6_silence_1 20 rfl rfl)
theorem dX6_silence_47 : decode cX6_silence 47 = .ok (.iload_n 1, 1) := dk_27 (dk_at dksX6_silence_1 23 rfl rfl)
theorem dX6_silence_48 : decode cX6_silence 48 = .ok (.aload_n 0, 1) := dk_42 (dk_at dksX6_silence_2 0 rfl rfl)
theorem dX6_silence_49 : decode cX6_silence 49 = .ok (.getfield 36, 3) := dk_180 0 36 (dk_at dksX6_silence_2 1 rfl rfl)
theorem dX6_silence_52 : decode cX6_silence 52 = .ok (.if_icmp .ge 11, 3) := dk_162 0 11 (dk_at dksX6_silence_2 4 rfl rfl)
theorem dX6_silence_55 : decode cX6_silence 55 = .ok (.iload_n 1, 1) := dk_27 (dk_at dksX6_silence_2 7 rfl rfl)
theorem dX6_silence_56 : decode cX6_silence 56 = .ok (.aload_n 0, 1) := dk_42 (dk_at dksX6_silence_2 8 rfl rfl)
theorem dX6_silence_57 : decode cX6_silence 57 = .ok (.getfield 39, 3) := dk_180 0 39 (dk_at dksX6_silence_2 9 rfl rfl)
theorem dX6_silence_60 : decode cX6_silence 60 = .ok (.if_icmp .ge 7, 3) := dk_162 0 7 (dk_at dksX6_silence_2 12 rfl rfl)
theorem dX6_silence_63 : decode cX6_silence 63 = .ok (.iconst 1, 1) := dk_4 (dk_at dksX6_silence_2 15 rfl rfl)
theorem dX6_silence_64 : decode cX6_silence 64 = .ok (.goto 4, 3) := dk_167 0 4 (dk_at dksX6_silence_2 16 rfl rfl)
theorem dX6_silence_67 : decode cX6_silence 67 = .ok (.iconst 0, 1) := dk_3 (dk_at dksX6_silence_2 19 rfl rfl)
theorem dX6_silence_68 : decode cX6_silence 68 = .ok (.istore_n 2, 1) := dk_61 (dk_at dksX6_silence_2 20 rfl rfl)
theorem dX6_silence_69 : decode cX6_silence 69 = .ok (.iload_n 2, 1) := dk_28 (dk_at dksX6_silence_2 21 rfl rfl)
theorem dX6_silence_70 : decode cX6_silence 70 = .ok (.ifCond .ne 7, 3) := dk_154 0 7 (dk_at dksX6_silence_3 0 rfl rfl)
theorem dX6_silence_73 : decode cX6_silence 73 = .ok (.iconst 0, 1) := dk_3 (dk_at dksX6_silence_3 3 rfl rfl)
theorem dX6_silence_74 : decode cX6_silence 74 = .ok (.goto 15, 3) := dk_167 0 15 (dk_at dksX6_silence_3 4 rfl rfl)
theorem dX6_silence_77 : decode cX6_silence 77 = .ok (.aload_n 0, 1) := dk_42 (dk_at dksX6_silence_3 7 rfl rfl)
theorem dX6_silence_78 : decode cX6_silence 78 = .ok (.getfield 46, 3) := dk_180 0 46 (dk_at dksX6_silence_3 8 rfl rfl)
theorem dX6_silence_81 : decode cX6_silence 81 = .ok (.ifCond .ne 7, 3) := dk_154 0 7 (dk_at dksX6_silence_3 11 rfl rfl)
theorem dX6_silence_84 : decode cX6_silence 84 = .ok (.iconst 1, 1) := dk_4 (dk_at dksX6_silence_3 14 rfl rfl)
theorem dX6_silence_85 : decode cX6_silence 85 = .ok (.goto 4, 3) := dk_167 0 4 (dk_at dksX6_silence_3 15 rfl rfl)
theorem dX6_silence_88 : decode cX6_silence 88 = .ok (.iconst 2, 1) := dk_5 (dk_at dksX6_silence_3 18 rfl rfl)
theorem dX6_silence_89 : decode cX6_silence 89 = .ok (.ireturn, 1) := dk_172 (dk_at dksX6_silence_3 19 rfl rfl)
abbrev cX6_letOff : ByteArray := prog_6_method_5_code
def yX6_letOff : MethodName := ⟨RX6, "letOff", "(I)V"⟩
def dkwX6_letOff_1 : List UInt8 := [160, 0, 7, 4, 167, 0, 4, 3, 182, 0, 62, 177]
abbrev dktX6_letOff_1 : List UInt8 := dkwX6_letOff_1 ++ []
def dkwX6_letOff_0 : List UInt8 := [42, 180, 0, 25, 27, 50, 42, 27, 182, 0, 59, 27, 4, 160, 0, 18, 42, 180, 0, 33, 184, 0, 56, 7]
abbrev dktX6_letOff_0 : List UInt8 := dkwX6_letOff_0 ++ dktX6_letOff_1
theorem dksX6_letOff_0 : cX6_letOff.data.toList.drop 0 = dktX6_letOff_0 := by decide +kernel
theorem dksX6_letOff_1 : cX6_letOff.data.toList.drop 24 = dktX6_letOff_1 := dk_seg dksX6_letOff_0 24 rfl rfl
theorem dX6_letOff_0 : decode cX6_letOff 0 = .ok (.aload_n 0, 1) := dk_42 (dk_at dksX6_letOff_0 0 rfl rfl)
theorem dX6_letOff_1 : decode cX6_letOff 1 = .ok (.getfield 25, 3) := dk_180 0 25 (dk_at dksX6_letOff_0 1 rfl rfl)
theorem dX6_letOff_4 : decode cX6_letOff 4 = .ok (.iload_n 1, 1) := dk_27 (dk_at dksX6_letOff_0 4 rfl rfl)
theorem dX6_letOff_5 : decode cX6_letOff 5 = .ok (.aaload, 1) := dk_50 (dk_at dksX6_letOff_0 5 rfl rfl)
theorem dX6_letOff_6 : decode cX6_letOff 6 = .ok (.aload_n 0, 1) := dk_42 (dk_at dksX6_letOff_0 6 rfl rfl)
theorem dX6_letOff_7 : decode cX6_letOff 7 = .ok (.iload_n 1, 1) := dk_27 (dk_at dksX6_letOff_0 7 rfl rfl)
theorem dX6_letOff_8 : decode cX6_letOff 8 = .ok (.invokevirtual 59, 3) := dk_182 0 59 (dk_at dksX6_letOff_0 8 rfl rfl)
theorem dX6_letOff_11 : decode cX6_letOff 11 = .ok (.iload_n 1, 1) := dk_27 (dk_at dksX6_letOff_0 11 rfl rfl)
theorem dX6_letOff_12 : decode cX6_letOff 12 = .ok (.iconst 1, 1) := dk_4 (dk_at dksX6_letOff_0 12 rfl rfl)
theorem dX6_letOff_13 : decode cX6_letOff 13 = .ok (.if_icmp .ne 18, 3) := dk_160 0 18 (dk_at dksX6_letOff_0 13 rfl rfl)
theorem dX6_letOff_16 : decode cX6_letOff 16 = .ok (.aload_n 0, 1) := dk_42 (dk_at dksX6_letOff_0 16 rfl rfl)
theorem dX6_letOff_17 : decode cX6_letOff 17 = .ok (.getfield 33, 3) := dk_180 0 33 (dk_at dksX6_letOff_0 17 rfl rfl)
theorem dX6_letOff_20 : decode cX6_letOff 20 = .ok (.invokestatic 56, 3) := dk_184 0 56 (dk_at dksX6_letOff_0 20 rfl rfl)
theorem dX6_letOff_23 : decode cX6_letOff 23 = .ok (.iconst 4, 1) := dk_7 (dk_at dksX6_letOff_0 23 rfl rfl)
theorem dX6_letOff_24 : decode cX6_letOff 24 = .ok (.if_icmp .ne 7, 3) := dk_160 0 7 (dk_at dksX6_letOff_1 0 rfl rfl)
theorem dX6_letOff_27 : decode cX6_letOff 27 = .ok (.iconst 1, 1) := dk_4 (dk_at dksX6_letOff_1 3 rfl rfl)
theorem dX6_letOff_28 : decode cX6_letOff 28 = .ok (.goto 4, 3) := dk_167 0 4 (dk_at dksX6_letOff_1 4 rfl rfl)
theorem dX6_letOff_31 : decode cX6_letOff 31 = .ok (.iconst 0, 1) := dk_3 (dk_at dksX6_letOff_1 7 rfl rfl)
theorem dX6_letOff_32 : decode cX6_letOff 32 = .ok (.invokevirtual 62, 3) := dk_182 0 62 (dk_at dksX6_letOff_1 8 rfl rfl)
theorem dX6_letOff_35 : decode cX6_letOff 35 = .ok (.return_, 1) := dk_177 (dk_at dksX6_letOff_1 11 rfl rfl)
abbrev cX6_stepOf : ByteArray := prog_6_method_4_code
def yX6_stepOf : MethodName := ⟨RX6, "stepOf", "(I)I"⟩
def dkwX6_stepOf_0 : List UInt8 := [27, 154, 0, 13, 42, 180, 0, 33, 184, 0, 52, 167, 0, 10, 42, 180, 0, 33, 184, 0, 56, 4, 100, 172]
abbrev dktX6_stepOf_0 : List UInt8 := dkwX6_stepOf_0 ++ []
theorem dksX6_stepOf_0 : cX6_stepOf.data.toList.drop 0 = dktX6_stepOf_0 := by decide +kernel
theorem dX6_stepOf_0 : decode cX6_stepOf 0 = .ok (.iload_n 1, 1) := dk_27 (dk_at dksX6_stepOf_0 0 rfl rfl)
theorem dX6_stepOf_1 : decode cX6_stepOf 1 = .ok (.ifCond .ne 13, 3) := dk_154 0 13 (dk_at dksX6_stepOf_0 1 rfl rfl)
theorem dX6_stepOf_4 : decode cX6_stepOf 4 = .ok (.aload_n 0, 1) := dk_42 (dk_at dksX6_stepOf_0 4 rfl rfl)
theorem dX6_stepOf_5 : decode cX6_stepOf 5 = .ok (.getfield 33, 3) := dk_180 0 33 (dk_at dksX6_stepOf_0 5 rfl rfl)
theorem dX6_stepOf_8 : decode cX6_stepOf 8 = .ok (.invokestatic 52, 3) := dk_184 0 52 (dk_at dksX6_stepOf_0 8 rfl rfl)
theorem dX6_stepOf_11 : decode cX6_stepOf 11 = .ok (.goto 10, 3) := dk_167 0 10 (dk_at dksX6_stepOf_0 11 rfl rfl)
theorem dX6_stepOf_14 : decode cX6_stepOf 14 = .ok (.aload_n 0, 1) := dk_42 (dk_at dksX6_stepOf_0 14 rfl rfl)
theorem dX6_stepOf_15 : decode cX6_stepOf 15 = .ok (.getfield 33, 3) := dk_180 0 33 (dk_at dksX6_stepOf_0 15 rfl rfl)
theorem dX6_stepOf_18 : decode cX6_stepOf 18 = .ok (.invokestatic 56, 3) := dk_184 0 56 (dk_at dksX6_stepOf_0 18 rfl rfl)
theorem dX6_stepOf_21 : decode cX6_stepOf 21 = .ok (.iconst 1, 1) := dk_4 (dk_at dksX6_stepOf_0 21 rfl rfl)
theorem dX6_stepOf_22 : decode cX6_stepOf 22 = .ok (.isub, 1) := dk_100 (dk_at dksX6_stepOf_0 22 rfl rfl)
theorem dX6_stepOf_23 : decode cX6_stepOf 23 = .ok (.ireturn, 1) := dk_172 (dk_at dksX6_stepOf_0 23 rfl rfl)
abbrev cX6_back : ByteArray := prog_6_method_8_code
def yX6_back : MethodName := ⟨RX6, "back", "()V"⟩
def dkwX6_back_0 : List UInt8 := [42, 42, 180, 0, 33, 17, 5, 160, 96, 4, 100, 17, 5, 160, 112, 181, 0, 33, 177]
abbrev dktX6_back_0 : List UInt8 := dkwX6_back_0 ++ []
theorem dksX6_back_0 : cX6_back.data.toList.drop 0 = dktX6_back_0 := by decide +kernel
theorem dX6_back_0 : decode cX6_back 0 = .ok (.aload_n 0, 1) := dk_42 (dk_at dksX6_back_0 0 rfl rfl)
theorem dX6_back_1 : decode cX6_back 1 = .ok (.aload_n 0, 1) := dk_42 (dk_at dksX6_back_0 1 rfl rfl)
theorem dX6_back_2 : decode cX6_back 2 = .ok (.getfield 33, 3) := dk_180 0 33 (dk_at dksX6_back_0 2 rfl rfl)
theorem dX6_back_5 : decode cX6_back 5 = .ok (.sipush 1440, 3) := dk_17 5 160 (dk_at dksX6_back_0 5 rfl rfl)
theorem dX6_back_8 : decode cX6_back 8 = .ok (.iadd, 1) := dk_96 (dk_at dksX6_back_0 8 rfl rfl)
theorem dX6_back_9 : decode cX6_back 9 = .ok (.iconst 1, 1) := dk_4 (dk_at dksX6_back_0 9 rfl rfl)
theorem dX6_back_10 : decode cX6_back 10 = .ok (.isub, 1) := dk_100 (dk_at dksX6_back_0 10 rfl rfl)
theorem dX6_back_11 : decode cX6_back 11 = .ok (.sipush 1440, 3) := dk_17 5 160 (dk_at dksX6_back_0 11 rfl rfl)
theorem dX6_back_14 : decode cX6_back 14 = .ok (.irem, 1) := dk_112 (dk_at dksX6_back_0 14 rfl rfl)
theorem dX6_back_15 : decode cX6_back 15 = .ok (.putfield 33, 3) := dk_181 0 33 (dk_at dksX6_back_0 15 rfl rfl)
theorem dX6_back_18 : decode cX6_back 18 = .ok (.return_, 1) := dk_177 (dk_at dksX6_back_0 18 rfl rfl)
abbrev cX6_run : ByteArray := prog_6_method_10_code
def yX6_run : MethodName := ⟨RX6, "run", "(II)I"⟩
def dkwX6_run_8 : List UInt8 := [198, 0, 16, 42, 182, 0, 66, 5, 159, 0, 8, 42, 3, 182, 0, 70, 21, 4, 172]
abbrev dktX6_run_8 : List UInt8 := dkwX6_run_8 ++ []
def dkwX6_run_7 : List UInt8 := [180, 0, 91, 154, 0, 37, 27, 4, 160, 0, 32, 45, 180, 0, 118, 153, 0, 25, 42, 180, 0, 25, 3, 50]
abbrev dktX6_run_7 : List UInt8 := dkwX6_run_7 ++ dktX6_run_8
def dkwX6_run_6 : List UInt8 := [21, 5, 158, 0, 15, 42, 45, 180, 0, 111, 21, 5, 21, 6, 182, 0, 114, 21, 4, 158, 0, 44, 45]
abbrev dktX6_run_6 : List UInt8 := dkwX6_run_6 ++ dktX6_run_7
def dkwX6_run_5 : List UInt8 := [54, 5, 21, 6, 42, 182, 0, 66, 4, 159, 0, 8, 21, 8, 167, 0, 4, 3, 128, 54, 6, 167, 255, 135]
abbrev dktX6_run_5 : List UInt8 := dkwX6_run_5 ++ dktX6_run_6
def dkwX6_run_4 : List UInt8 := [132, 4, 1, 21, 5, 21, 8, 153, 0, 15, 42, 182, 0, 66, 4, 159, 0, 7, 4, 167, 0, 4, 3, 96]
abbrev dktX6_run_4 : List UInt8 := dkwX6_run_4 ++ dktX6_run_5
def dkwX6_run_3 : List UInt8 := [181, 0, 94, 45, 89, 180, 0, 91, 4, 100, 181, 0, 91, 45, 89, 180, 0, 108, 4, 96, 181, 0, 108]
abbrev dktX6_run_3 : List UInt8 := dkwX6_run_3 ++ dktX6_run_4
def dkwX6_run_2 : List UInt8 := [180, 0, 102, 2, 130, 126, 54, 8, 25, 7, 185, 0, 105, 1, 0, 45, 89, 180, 0, 94, 4, 100]
abbrev dktX6_run_2 : List UInt8 := dkwX6_run_2 ++ dktX6_run_3
def dkwX6_run_1 : List UInt8 := [180, 0, 91, 158, 0, 114, 45, 180, 0, 94, 158, 0, 107, 45, 58, 7, 25, 7, 185, 0, 97, 1, 0, 45]
abbrev dktX6_run_1 : List UInt8 := dkwX6_run_1 ++ dktX6_run_2
def dkwX6_run_0 : List UInt8 := [42, 180, 0, 25, 27, 50, 78, 3, 54, 4, 3, 54, 5, 3, 54, 6, 21, 4, 28, 162, 0, 121, 45]
abbrev dktX6_run_0 : List UInt8 := dkwX6_run_0 ++ dktX6_run_1
theorem dksX6_run_0 : cX6_run.data.toList.drop 0 = dktX6_run_0 := by decide +kernel
theorem dksX6_run_1 : cX6_run.data.toList.drop 23 = dktX6_run_1 := dk_seg dksX6_run_0 23 rfl rfl
theorem dksX6_run_2 : cX6_run.data.toList.drop 47 = dktX6_run_2 := dk_seg dksX6_run_1 24 rfl rfl
theorem dksX6_run_3 : cX6_run.data.toList.drop 69 = dktX6_run_3 := dk_seg dksX6_run_2 22 rfl rfl
theorem dksX6_run_4 : cX6_run.data.toList.drop 92 = dktX6_run_4 := dk_seg dksX6_run_3 23 rfl rfl
theorem dksX6_run_5 : cX6_run.data.toList.drop 116 = dktX6_run_5 := dk_seg dksX6_run_4 24 rfl rfl
theorem dksX6_run_6 : cX6_run.data.toList.drop 140 = dktX6_run_6 := dk_seg dksX6_run_5 24 rfl rfl
theorem dksX6_run_7 : cX6_run.data.toList.drop 163 = dktX6_run_7 := dk_seg dksX6_run_6 23 rfl rfl
theorem dksX6_run_8 : cX6_run.data.toList.drop 187 = dktX6_run_8 := dk_seg dksX6_run_7 24 rfl rfl
theorem dX6_run_0 : decode cX6_run 0 = .ok (.aload_n 0, 1) := dk_42 (dk_at dksX6_run_0 0 rfl rfl)
theorem dX6_run_1 : decode cX6_run 1 = .ok (.getfield 25, 3) := dk_180 0 25 (dk_at dksX6_run_0 1 rfl rfl)
theorem dX6_run_4 : decode cX6_run 4 = .ok (.iload_n 1, 1) := dk_27 (dk_at dksX6_run_0 4 rfl rfl)
theorem dX6_run_5 : decode cX6_run 5 = .ok (.aaload, 1) := dk_50 (dk_at dksX6_run_0 5 rfl rfl)
theorem dX6_run_6 : decode cX6_run 6 = .ok (.astore_n 3, 1) := dk_78 (dk_at dksX6_run_0 6 rfl rfl)
theorem dX6_run_7 : decode cX6_run 7 = .ok (.iconst 0, 1) := dk_3 (dk_at dksX6_run_0 7 rfl rfl)
theorem dX6_run_8 : decode cX6_run 8 = .ok (.istore 4, 2) := dk_54 4 (dk_at dksX6_run_0 8 rfl rfl)
theorem dX6_run_10 : decode cX6_run 10 = .ok (.iconst 0, 1) := dk_3 (dk_at dksX6_run_0 10 rfl rfl)
theorem dX6_run_11 : decode cX6_run 11 = .ok (.istore 5, 2) := dk_54 5 (dk_at dksX6_run_0 11 rfl rfl)
theorem dX6_run_13 : decode cX6_run 13 = .ok (.iconst 0, 1) := dk_3 (dk_at dksX6_run_0 13 rfl rfl)
theorem dX6_run_14 : decode cX6_run 14 = .ok (.istore 6, 2) := dk_54 6 (dk_at dksX6_run_0 14 rfl rfl)
theorem dX6_run_16 : decode cX6_run 16 = .ok (.iload 4, 2) := dk_21 4 (dk_at dksX6_run_0 16 rfl rfl)
theorem dX6_run_18 : decode cX6_run 18 = .ok (.iload_n 2, 1) := dk_28 (dk_at dksX6_run_0 18 rfl rfl)
theorem dX6_run_19 : decode cX6_run 19 = .ok (.if_icmp .ge 121, 3) := dk_162 0 121 (dk_at dksX6_run_0 19 rfl rfl)
theorem dX6_run_22 : decode cX6_run 22 = .ok (.aload_n 3, 1) := dk_45 (dk_at dksX6_run_0 22 rfl rfl)
theorem dX6_run_23 : decode cX6_run 23 = .ok (.getfield 91, 3) := dk_180 0 91 (dk_at dksX6_run_1 0 rfl rfl)
theorem dX6_run_26 : decode cX6_run 26 = .ok (.ifCond .le 114, 3) := dk_158 0 114 (dk_at dksX6_run_1 3 rfl rfl)
theorem dX6_run_29 : decode cX6_run 29 = .ok (.aload_n 3, 1) := dk_45 (dk_at dksX6_run_1 6 rfl rfl)
theorem dX6_run_30 : decode cX6_run 30 = .ok (.getfield 94, 3) := dk_180 0 94 (dk_at dksX6_run_1 7 rfl rfl)
theorem dX6_run_33 : decode cX6_run 33 = .ok (.ifCond .le 107, 3) := dk_158 0 107 (dk_at dksX6_run_1 10 rfl rfl)
theorem dX6_run_36 : decode cX6_run 36 = .ok (.aload_n 3, 1) := dk_45 (dk_at dksX6_run_1 13 rfl rfl)
theorem dX6_run_37 : decode cX6_run 37 = .ok (.astore 7, 2) := dk_58 7 (dk_at dksX6_run_1 14 rfl rfl)
theorem dX6_run_39 : decode cX6_run 39 = .ok (.aload 7, 2) := dk_25 7 (dk_at dksX6_run_1 16 rfl rfl)
theorem dX6_run_41 : decode cX6_run 41 = .ok (.invokeinterface 97 1, 5) := by decide +kernel
theorem dX6_run_46 : decode cX6_run 46 = .ok (.aload_n 3, 1) := dk_45 (dk_at dksX6_run_1 23 rfl rfl)
theorem dX6_run_47 : decode cX6_run 47 = .ok (.getfield 102, 3) := dk_180 0 102 (dk_at dksX6_run_2 0 rfl rfl)
theorem dX6_run_50 : decode cX6_run 50 = .ok (.iconst (-1), 1) := dk_2 (dk_at dksX6_run_2 3 rfl rfl)
theorem dX6_run_51 : decode cX6_run 51 = .ok (.ixor, 1) := dk_130 (dk_at dksX6_run_2 4 rfl rfl)
theorem dX6_run_52 : decode cX6_run 52 = .ok (.iand, 1) := dk_126 (dk_at dksX6_run_2 5 rfl rfl)
theorem dX6_run_53 : decode cX6_run 53 = .ok (.istore 8, 2) := dk_54 8 (dk_at dksX6_run_2 6 rfl rfl)
theorem dX6_run_55 : decode cX6_run 55 = .ok (.aload 7, 2) := dk_25 7 (dk_at dksX6_run_2 8 rfl rfl)
theorem dX6_run_57 : decode cX6_run 57 = .ok (.invokeinterface 105 1, 5) := by decide +kernel
theorem dX6_run_62 : decode cX6_run 62 = .ok (.aload_n 3, 1) := dk_45 (dk_at dksX6_run_2 15 rfl rfl)
theorem dX6_run_63 : decode cX6_run 63 = .ok (.dup, 1) := dk_89 (dk_at dksX6_run_2 16 rfl rfl)
theorem dX6_run_64 : decode cX6_run 64 = .ok (.getfield 94, 3) := dk_180 0 94 (dk_at dksX6_run_2 17 rfl rfl)
theorem dX6_run_67 : decode cX6_run 67 = .ok (.iconst 1, 1) := dk_4 (dk_at dksX6_run_2 20 rfl rfl)
theorem dX6_run_68 : decode cX6_run 68 = .ok (.isub, 1) := dk_100 (dk_at dksX6_run_2 21 rfl rfl)
theorem dX6_run_69 : decode cX6_run 69 = .ok (.putfield 94, 3) := dk_181 0 94 (dk_at dksX6_run_3 0 rfl rfl)
theorem dX6_run_72 : decode cX6_run 72 = .ok (.aload_n 3, 1) := dk_45 (dk_at dksX6_run_3 3 rfl rfl)
theorem dX6_run_73 : decode cX6_run 73 = .ok (.dup, 1) := dk_89 (dk_at dksX6_run_3 4 rfl rfl)
theorem dX6_run_74 : decode cX6_run 74 = .ok (.getfield 91, 3) := dk_180 0 91 (dk_at dksX6_run_3 5 rfl rfl)
theorem dX6_run_77 : decode cX6_run 77 = .ok (.iconst 1, 1) := dk_4 (dk_at dksX6_run_3 8 rfl rfl)
theorem dX6_run_78 : decode cX6_run 78 = .ok (.isub, 1) := dk_100 (dk_at dksX6_run_3 9 rfl rfl)
theorem dX6_run_79 : decode cX6_run 79 = .ok (.putfield 91, 3) := dk_181 0 91 (dk_at dksX6_run_3 10 rfl rfl)
theorem dX6_run_82 : decode cX6_run 82 = .ok (.aload_n 3, 1) := dk_45 (dk_at dksX6_run_3 13 rfl rfl)
theorem dX6_run_83 : decode cX6_run 83 = .ok (.dup, 1) := dk_89 (dk_at dksX6_run_3 14 rfl rfl)
theorem dX6_run_84 : decode cX6_run 84 = .ok (.getfield 108, 3) := dk_180 0 108 (dk_at dksX6_run_3 15 rfl rfl)
theorem dX6_run_87 : decode cX6_run 87 = .ok (.iconst 1, 1) := dk_4 (dk_at dksX6_run_3 18 rfl rfl)
theorem dX6_run_88 : decode cX6_run 88 = .ok (.iadd, 1) := dk_96 (dk_at dksX6_run_3 19 rfl rfl)
theorem dX6_run_89 : decode cX6_run 89 = .ok (.putfield 108, 3) := dk_181 0 108 (dk_at dksX6_run_3 20 rfl rfl)
theorem dX6_run_92 : decode cX6_run 92 = .ok (.iinc 4 1, 3) := dk_132 4 1 (dk_at dksX6_run_4 0 rfl rfl)
theorem dX6_run_95 : decode cX6_run 95 = .ok (.iload 5, 2) := dk_21 5 (dk_at dksX6_run_4 3 rfl rfl)
theorem dX6_run_97 : decode cX6_run 97 = .ok (.iload 8, 2) := dk_21 8 (dk_at dksX6_run_4 5 rfl rfl)
theorem dX6_run_99 : decode cX6_run 99 = .ok (.ifCond .eq 15, 3) := dk_153 0 15 (dk_at dksX6_run_4 7 rfl rfl)
theorem dX6_run_102 : decode cX6_run 102 = .ok (.aload_n 0, 1) := dk_42 (dk_at dksX6_run_4 10 rfl rfl)
theorem dX6_run_103 : decode cX6_run 103 = .ok (.invokevirtual 66, 3) := dk_182 0 66 (dk_at dksX6_run_4 11 rfl rfl)
theorem dX6_run_106 : decode cX6_run 106 = .ok (.iconst 1, 1) := dk_4 (dk_at dksX6_run_4 14 rfl rfl)
theorem dX6_run_107 : decode cX6_run 107 = .ok (.if_icmp .eq 7, 3) := dk_159 0 7 (dk_at dksX6_run_4 15 rfl rfl)
theorem dX6_run_110 : decode cX6_run 110 = .ok (.iconst 1, 1) := dk_4 (dk_at dksX6_run_4 18 rfl rfl)
theorem dX6_run_111 : decode cX6_run 111 = .ok (.goto 4, 3) := dk_167 0 4 (dk_at dksX6_run_4 19 rfl rfl)
theorem dX6_run_114 : decode cX6_run 114 = .ok (.iconst 0, 1) := dk_3 (dk_at dksX6_run_4 22 rfl rfl)
theorem dX6_run_115 : decode cX6_run 115 = .ok (.iadd, 1) := dk_96 (dk_at dksX6_run_4 23 rfl rfl)
theorem dX6_run_116 : decode cX6_run 116 = .ok (.istore 5, 2) := dk_54 5 (dk_at dksX6_run_5 0 rfl rfl)
theorem dX6_run_118 : decode cX6_run 118 = .ok (.iload 6, 2) := dk_21 6 (dk_at dksX6_run_5 2 rfl rfl)
theorem dX6_run_120 : decode cX6_run 120 = .ok (.aload_n 0, 1) := dk_42 (dk_at dksX6_run_5 4 rfl rfl)
theorem dX6_run_121 : decode cX6_run 121 = .ok (.invokevirtual 66, 3) := dk_182 0 66 (dk_at dksX6_run_5 5 rfl rfl)
theorem dX6_run_124 : decode cX6_run 124 = .ok (.iconst 1, 1) := dk_4 (dk_at dksX6_run_5 8 rfl rfl)
theorem dX6_run_125 : decode cX6_run 125 = .ok (.if_icmp .eq 8, 3) := dk_159 0 8 (dk_at dksX6_run_5 9 rfl rfl)
theorem dX6_run_128 : decode cX6_run 128 = .ok (.iload 8, 2) := dk_21 8 (dk_at dksX6_run_5 12 rfl rfl)
theorem dX6_run_130 : decode cX6_run 130 = .ok (.goto 4, 3) := dk_167 0 4 (dk_at dksX6_run_5 14 rfl rfl)
theorem dX6_run_133 : decode cX6_run 133 = .ok (.iconst 0, 1) := dk_3 (dk_at dksX6_run_5 17 rfl rfl)
theorem dX6_run_134 : decode cX6_run 134 = .ok (.ior, 1) := dk_128 (dk_at dksX6_run_5 18 rfl rfl)
theorem dX6_run_135 : decode cX6_run 135 = .ok (.istore 6, 2) := dk_54 6 (dk_at dksX6_run_5 19 rfl rfl)
theorem dX6_run_137 : decode cX6_run 137 = .ok (.goto (-121), 3) := dk_167 255 135 (dk_at dksX6_run_5 21 rfl rfl)
theorem dX6_run_140 : decode cX6_run 140 = .ok (.iload 5, 2) := dk_21 5 (dk_at dksX6_run_6 0 rfl rfl)
theorem dX6_run_142 : decode cX6_run 142 = .ok (.ifCond .le 15, 3) := dk_158 0 15 (dk_at dksX6_run_6 2 rfl rfl)
theorem dX6_run_145 : decode cX6_run 145 = .ok (.aload_n 0, 1) := dk_42 (dk_at dksX6_run_6 5 rfl rfl)
theorem dX6_run_146 : decode cX6_run 146 = .ok (.aload_n 3, 1) := dk_45 (dk_at dksX6_run_6 6 rfl rfl)
theorem dX6_run_147 : decode cX6_run 147 = .ok (.getfield 111, 3) := dk_180 0 111 (dk_at dksX6_run_6 7 rfl rfl)
theorem dX6_run_150 : decode cX6_run 150 = .ok (.iload 5, 2) := dk_21 5 (dk_at dksX6_run_6 10 rfl rfl)
theorem dX6_run_152 : decode cX6_run 152 = .ok (.iload 6, 2) := dk_21 6 (dk_at dksX6_run_6 12 rfl rfl)
theorem dX6_run_154 : decode cX6_run 154 = .ok (.invokevirtual 114, 3) := dk_182 0 114 (dk_at dksX6_run_6 14 rfl rfl)
theorem dX6_run_157 : decode cX6_run 157 = .ok (.iload 4, 2) := dk_21 4 (dk_at dksX6_run_6 17 rfl rfl)
theorem dX6_run_159 : decode cX6_run 159 = .ok (.ifCond .le 44, 3) := dk_158 0 44 (dk_at dksX6_run_6 19 rfl rfl)
theorem dX6_run_162 : decode cX6_run 162 = .ok (.aload_n 3, 1) := dk_45 (dk_at dksX6_run_6 22 rfl rfl)
theorem dX6_run_163 : decode cX6_run 163 = .ok (.getfield 91, 3) := dk_180 0 91 (dk_at dksX6_run_7 0 rfl rfl)
theorem dX6_run_166 : decode cX6_run 166 = .ok (.ifCond .ne 37, 3) := dk_154 0 37 (dk_at dksX6_run_7 3 rfl rfl)
theorem dX6_run_169 : decode cX6_run 169 = .ok (.iload_n 1, 1) := dk_27 (dk_at dksX6_run_7 6 rfl rfl)
theorem dX6_run_170 : decode cX6_run 170 = .ok (.iconst 1, 1) := dk_4 (dk_at dksX6_run_7 7 rfl rfl)
theorem dX6_run_171 : decode cX6_run 171 = .ok (.if_icmp .ne 32, 3) := dk_160 0 32 (dk_at dksX6_run_7 8 rfl rfl)
theorem dX6_run_174 : decode cX6_run 174 = .ok (.aload_n 3, 1) := dk_45 (dk_at dksX6_run_7 11 rfl rfl)
theorem dX6_run_175 : decode cX6_run 175 = .ok (.getfield 118, 3) := dk_180 0 118 (dk_at dksX6_run_7 12 rfl rfl)
theorem dX6_run_178 : decode cX6_run 178 = .ok (.ifCond .eq 25, 3) := dk_153 0 25 (dk_at dksX6_run_7 15 rfl rfl)
theorem dX6_run_181 : decode cX6_run 181 = .ok (.aload_n 0, 1) := dk_42 (dk_at dksX6_run_7 18 rfl rfl)
theorem dX6_run_182 : decode cX6_run 182 = .ok (.getfield 25, 3) := dk_180 0 25 (dk_at dksX6_run_7 19 rfl rfl)
theorem dX6_run_185 : decode cX6_run 185 = .ok (.iconst 0, 1) := dk_3 (dk_at dksX6_run_7 22 rfl rfl)
theorem dX6_run_186 : decode cX6_run 186 = .ok (.aaload, 1) := dk_50 (dk_at dksX6_run_7 23 rfl rfl)
theorem dX6_run_187 : decode cX6_run 187 = .ok (.ifnull 16, 3) := dk_198 0 16 (dk_at dksX6_run_8 0 rfl rfl)
theorem dX6_run_190 : decode cX6_run 190 = .ok (.aload_n 0, 1) := dk_42 (dk_at dksX6_run_8 3 rfl rfl)
theorem dX6_run_191 : decode cX6_run 191 = .ok (.invokevirtual 66, 3) := dk_182 0 66 (dk_at dksX6_run_8 4 rfl rfl)
theorem dX6_run_194 : decode cX6_run 194 = .ok (.iconst 2, 1) := dk_5 (dk_at dksX6_run_8 7 rfl rfl)
theorem dX6_run_195 : decode cX6_run 195 = .ok (.if_icmp .eq 8, 3) := dk_159 0 8 (dk_at dksX6_run_8 8 rfl rfl)
theorem dX6_run_198 : decode cX6_run 198 = .ok (.aload_n 0, 1) := dk_42 (dk_at dksX6_run_8 11 rfl rfl)
theorem dX6_run_199 : decode cX6_run 199 = .ok (.iconst 0, 1) := dk_3 (dk_at dksX6_run_8 12 rfl rfl)
theorem dX6_run_200 : decode cX6_run 200 = .ok (.invokevirtual 70, 3) := dk_182 0 70 (dk_at dksX6_run_8 13 rfl rfl)
theorem dX6_run_203 : decode cX6_run 203 = .ok (.iload 4, 2) := dk_21 4 (dk_at dksX6_run_8 16 rfl rfl)
theorem dX6_run_205 : decode cX6_run 205 = .ok (.ireturn, 1) := dk_172 (dk_at dksX6_run_8 18 rfl rfl)
abbrev cX6_enter : ByteArray := prog_6_method_9_code
def yX6_enter : MethodName := ⟨RX6, "enter", "(III)V"⟩
def dkwX6_enter_4 : List UInt8 := [96, 29, 79, 42, 89, 180, 0, 79, 4, 96, 181, 0, 79, 177]
abbrev dktX6_enter_4 : List UInt8 := dkwX6_enter_4 ++ []
def dkwX6_enter_3 : List UInt8 := [180, 0, 29, 7, 42, 180, 0, 79, 104, 5, 96, 28, 79, 42, 180, 0, 29, 7, 42, 180, 0, 79, 104, 6]
abbrev dktX6_enter_3 : List UInt8 := dkwX6_enter_3 ++ dktX6_enter_4
def dkwX6_enter_2 : List UInt8 := [180, 0, 3, 180, 0, 88, 79, 42, 180, 0, 29, 7, 42, 180, 0, 79, 104, 4, 96, 27, 79, 42]
abbrev dktX6_enter_2 : List UInt8 := dkwX6_enter_2 ++ dktX6_enter_3
def dkwX6_enter_1 : List UInt8 := [184, 0, 82, 42, 89, 180, 0, 79, 4, 100, 181, 0, 79, 42, 180, 0, 29, 7, 42, 180, 0, 79, 104, 42]
abbrev dktX6_enter_1 : List UInt8 := dkwX6_enter_1 ++ dktX6_enter_2
def dkwX6_enter_0 : List UInt8 := [42, 180, 0, 79, 16, 60, 160, 0, 29, 42, 180, 0, 29, 7, 42, 180, 0, 29, 3, 17, 0, 236]
abbrev dktX6_enter_0 : List UInt8 := dkwX6_enter_0 ++ dktX6_enter_1
theorem dksX6_enter_0 : cX6_enter.data.toList.drop 0 = dktX6_enter_0 := by decide +kernel
theorem dksX6_enter_1 : cX6_enter.data.toList.drop 22 = dktX6_enter_1 := dk_seg dksX6_enter_0 22 rfl rfl
theorem dksX6_enter_2 : cX6_enter.data.toList.drop 46 = dktX6_enter_2 := dk_seg dksX6_enter_1 24 rfl rfl
theorem dksX6_enter_3 : cX6_enter.data.toList.drop 68 = dktX6_enter_3 := dk_seg dksX6_enter_2 22 rfl rfl
theorem dksX6_enter_4 : cX6_enter.data.toList.drop 92 = dktX6_enter_4 := dk_seg dksX6_enter_3 24 rfl rfl
theorem dX6_enter_0 : decode cX6_enter 0 = .ok (.aload_n 0, 1) := dk_42 (dk_at dksX6_enter_0 0 rfl rfl)
theorem dX6_enter_1 : decode cX6_enter 1 = .ok (.getfield 79, 3) := dk_180 0 79 (dk_at dksX6_enter_0 1 rfl rfl)
theorem dX6_enter_4 : decode cX6_enter 4 = .ok (.bipush 60, 2) := dk_16 60 (dk_at dksX6_enter_0 4 rfl rfl)
theorem dX6_enter_6 : decode cX6_enter 6 = .ok (.if_icmp .ne 29, 3) := dk_160 0 29 (dk_at dksX6_enter_0 6 rfl rfl)
theorem dX6_enter_9 : decode cX6_enter 9 = .ok (.aload_n 0, 1) := dk_42 (dk_at dksX6_enter_0 9 rfl rfl)
theorem dX6_enter_10 : decode cX6_enter 10 = .ok (.getfield 29, 3) := dk_180 0 29 (dk_at dksX6_enter_0 10 rfl rfl)
theorem dX6_enter_13 : decode cX6_enter 13 = .ok (.iconst 4, 1) := dk_7 (dk_at dksX6_enter_0 13 rfl rfl)
theorem dX6_enter_14 : decode cX6_enter 14 = .ok (.aload_n 0, 1) := dk_42 (dk_at dksX6_enter_0 14 rfl rfl)
theorem dX6_enter_15 : decode cX6_enter 15 = .ok (.getfield 29, 3) := dk_180 0 29 (dk_at dksX6_enter_0 15 rfl rfl)
theorem dX6_enter_18 : decode cX6_enter 18 = .ok (.iconst 0, 1) := dk_3 (dk_at dksX6_enter_0 18 rfl rfl)
theorem dX6_enter_19 : decode cX6_enter 19 = .ok (.sipush 236, 3) := dk_17 0 236 (dk_at dksX6_enter_0 19 rfl rfl)
theorem dX6_enter_22 : decode cX6_enter 22 = .ok (.invokestatic 82, 3) := dk_184 0 82 (dk_at dksX6_enter_1 0 rfl rfl)
theorem dX6_enter_25 : decode cX6_enter 25 = .ok (.aload_n 0, 1) := dk_42 (dk_at dksX6_enter_1 3 rfl rfl)
theorem dX6_enter_26 : decode cX6_enter 26 = .ok (.dup, 1) := dk_89 (dk_at dksX6_enter_1 4 rfl rfl)
theorem dX6_enter_27 : decode cX6_enter 27 = .ok (.getfield 79, 3) := dk_180 0 79 (dk_at dksX6_enter_1 5 rfl rfl)
theorem dX6_enter_30 : decode cX6_enter 30 = .ok (.iconst 1, 1) := dk_4 (dk_at dksX6_enter_1 8 rfl rfl)
theorem dX6_enter_31 : decode cX6_enter 31 = .ok (.isub, 1) := dk_100 (dk_at dksX6_enter_1 9 rfl rfl)
theorem dX6_enter_32 : decode cX6_enter 32 = .ok (.putfield 79, 3) := dk_181 0 79 (dk_at dksX6_enter_1 10 rfl rfl)
theorem dX6_enter_35 : decode cX6_enter 35 = .ok (.aload_n 0, 1) := dk_42 (dk_at dksX6_enter_1 13 rfl rfl)
theorem dX6_enter_36 : decode cX6_enter 36 = .ok (.getfield 29, 3) := dk_180 0 29 (dk_at dksX6_enter_1 14 rfl rfl)
theorem dX6_enter_39 : decode cX6_enter 39 = .ok (.iconst 4, 1) := dk_7 (dk_at dksX6_enter_1 17 rfl rfl)
theorem dX6_enter_40 : decode cX6_enter 40 = .ok (.aload_n 0, 1) := dk_42 (dk_at dksX6_enter_1 18 rfl rfl)
theorem dX6_enter_41 : decode cX6_enter 41 = .ok (.getfield 79, 3) := dk_180 0 79 (dk_at dksX6_enter_1 19 rfl rfl)
theorem dX6_enter_44 : decode cX6_enter 44 = .ok (.imul, 1) := dk_104 (dk_at dksX6_enter_1 22 rfl rfl)
theorem dX6_enter_45 : decode cX6_enter 45 = .ok (.aload_n 0, 1) := dk_42 (dk_at dksX6_enter_1 23 rfl rfl)
theorem dX6_enter_46 : decode cX6_enter 46 = .ok (.getfield 3, 3) := dk_180 0 3 (dk_at dksX6_enter_2 0 rfl rfl)
theorem dX6_enter_49 : decode cX6_enter 49 = .ok (.getfield 88, 3) := dk_180 0 88 (dk_at dksX6_enter_2 3 rfl rfl)
theorem dX6_enter_52 : decode cX6_enter 52 = .ok (.iastore, 1) := dk_79 (dk_at dksX6_enter_2 6 rfl rfl)
theorem dX6_enter_53 : decode cX6_enter 53 = .ok (.aload_n 0, 1) := dk_42 (dk_at dksX6_enter_2 7 rfl rfl)
theorem dX6_enter_54 : decode cX6_enter 54 = .ok (.getfield 29, 3) := dk_180 0 29 (dk_at dksX6_enter_2 8 rfl rfl)
theorem dX6_enter_57 : decode cX6_enter 57 = .ok (.iconst 4, 1) := dk_7 (dk_at dksX6_enter_2 11 rfl rfl)
theorem dX6_enter_58 : decode cX6_enter 58 = .ok (.aload_n 0, 1) := dk_42 (dk_at dksX6_enter_2 12 rfl rfl)
theorem dX6_enter_59 : decode cX6_enter 59 = .ok (.getfield 79, 3) := dk_180 0 79 (dk_at dksX6_enter_2 13 rfl rfl)
theorem dX6_enter_62 : decode cX6_enter 62 = .ok (.imul, 1) := dk_104 (dk_at dksX6_enter_2 16 rfl rfl)
theorem dX6_enter_63 : decode cX6_enter 63 = .ok (.iconst 1, 1) := dk_4 (dk_at dksX6_enter_2 17 rfl rfl)
theorem dX6_enter_64 : decode cX6_enter 64 = .ok (.iadd, 1) := dk_96 (dk_at dksX6_enter_2 18 rfl rfl)
theorem dX6_enter_65 : decode cX6_enter 65 = .ok (.iload_n 1, 1) := dk_27 (dk_at dksX6_enter_2 19 rfl rfl)
theorem dX6_enter_66 : decode cX6_enter 66 = .ok (.iastore, 1) := dk_79 (dk_at dksX6_enter_2 20 rfl rfl)
theorem dX6_enter_67 : decode cX6_enter 67 = .ok (.aload_n 0, 1) := dk_42 (dk_at dksX6_enter_2 21 rfl rfl)
theorem dX6_enter_68 : decode cX6_enter 68 = .ok (.getfield 29, 3) := dk_180 0 29 (dk_at dksX6_enter_3 0 rfl rfl)
theorem dX6_enter_71 : decode cX6_enter 71 = .ok (.iconst 4, 1) := dk_7 (dk_at dksX6_enter_3 3 rfl rfl)
theorem dX6_enter_72 : decode cX6_enter 72 = .ok (.aload_n 0, 1) := dk_42 (dk_at dksX6_enter_3 4 rfl rfl)
theorem dX6_enter_73 : decode cX6_enter 73 = .ok (.getfield 79, 3) := dk_180 0 79 (dk_at dksX6_enter_3 5 rfl rfl)
theorem dX6_enter_76 : decode cX6_enter 76 = .ok (.imul, 1) := dk_104 (dk_at dksX6_enter_3 8 rfl rfl)
theorem dX6_enter_77 : decode cX6_enter 77 = .ok (.iconst 2, 1) := dk_5 (dk_at dksX6_enter_3 9 rfl rfl)
theorem dX6_enter_78 : decode cX6_enter 78 = .ok (.iadd, 1) := dk_96 (dk_at dksX6_enter_3 10 rfl rfl)
theorem dX6_enter_79 : decode cX6_enter 79 = .ok (.iload_n 2, 1) := dk_28 (dk_at dksX6_enter_3 11 rfl rfl)
theorem dX6_enter_80 : decode cX6_enter 80 = .ok (.iastore, 1) := dk_79 (dk_at dksX6_enter_3 12 rfl rfl)
theorem dX6_enter_81 : decode cX6_enter 81 = .ok (.aload_n 0, 1) := dk_42 (dk_at dksX6_enter_3 13 rfl rfl)
theorem dX6_enter_82 : decode cX6_enter 82 = .ok (.getfield 29, 3) := dk_180 0 29 (dk_at dksX6_enter_3 14 rfl rfl)
theorem dX6_enter_85 : decode cX6_enter 85 = .ok (.iconst 4, 1) := dk_7 (dk_at dksX6_enter_3 17 rfl rfl)
theorem dX6_enter_86 : decode cX6_enter 86 = .ok (.aload_n 0, 1) := dk_42 (dk_at dksX6_enter_3 18 rfl rfl)
theorem dX6_enter_87 : decode cX6_enter 87 = .ok (.getfield 79, 3) := dk_180 0 79 (dk_at dksX6_enter_3 19 rfl rfl)
theorem dX6_enter_90 : decode cX6_enter 90 = .ok (.imul, 1) := dk_104 (dk_at dksX6_enter_3 22 rfl rfl)
theorem dX6_enter_91 : decode cX6_enter 91 = .ok (.iconst 3, 1) := dk_6 (dk_at dksX6_enter_3 23 rfl rfl)
theorem dX6_enter_92 : decode cX6_enter 92 = .ok (.iadd, 1) := dk_96 (dk_at dksX6_enter_4 0 rfl rfl)
theorem dX6_enter_93 : decode cX6_enter 93 = .ok (.iload_n 3, 1) := dk_29 (dk_at dksX6_enter_4 1 rfl rfl)
theorem dX6_enter_94 : decode cX6_enter 94 = .ok (.iastore, 1) := dk_79 (dk_at dksX6_enter_4 2 rfl rfl)
theorem dX6_enter_95 : decode cX6_enter 95 = .ok (.aload_n 0, 1) := dk_42 (dk_at dksX6_enter_4 3 rfl rfl)
theorem dX6_enter_96 : decode cX6_enter 96 = .ok (.dup, 1) := dk_89 (dk_at dksX6_enter_4 4 rfl rfl)
theorem dX6_enter_97 : decode cX6_enter 97 = .ok (.getfield 79, 3) := dk_180 0 79 (dk_at dksX6_enter_4 5 rfl rfl)
theorem dX6_enter_100 : decode cX6_enter 100 = .ok (.iconst 1, 1) := dk_4 (dk_at dksX6_enter_4 8 rfl rfl)
theorem dX6_enter_101 : decode cX6_enter 101 = .ok (.iadd, 1) := dk_96 (dk_at dksX6_enter_4 9 rfl rfl)
theorem dX6_enter_102 : decode cX6_enter 102 = .ok (.putfield 79, 3) := dk_181 0 79 (dk_at dksX6_enter_4 10 rfl rfl)
theorem dX6_enter_105 : decode cX6_enter 105 = .ok (.return_, 1) := dk_177 (dk_at dksX6_enter_4 13 rfl rfl)
abbrev cX6_minute : ByteArray := prog_6_method_11_code
def yX6_minute : MethodName := ⟨RX6, "minute", "()V"⟩
def dkwX6_minute_5 : List UInt8 := [180, 0, 131, 182, 0, 134, 87, 177]
abbrev dktX6_minute_5 : List UInt8 := dkwX6_minute_5 ++ []
def dkwX6_minute_4 : List UInt8 := [180, 0, 131, 182, 0, 134, 87, 42, 180, 0, 25, 3, 50, 198, 0, 18, 42, 3, 42, 180, 0, 25, 3, 50]
abbrev dktX6_minute_4 : List UInt8 := dkwX6_minute_4 ++ dktX6_minute_5
def dkwX6_minute_3 : List UInt8 := [182, 0, 128, 167, 255, 215, 42, 180, 0, 25, 4, 50, 198, 0, 18, 42, 4, 42, 180, 0, 25, 4, 50]
abbrev dktX6_minute_3 : List UInt8 := dkwX6_minute_3 ++ dktX6_minute_4
def dkwX6_minute_2 : List UInt8 := [42, 89, 180, 0, 121, 18, 124, 100, 181, 0, 121, 42, 89, 180, 0, 15, 4, 100, 181, 0, 15, 42]
abbrev dktX6_minute_2 : List UInt8 := dkwX6_minute_2 ++ dktX6_minute_3
def dkwX6_minute_1 : List UInt8 := [180, 0, 125, 96, 96, 181, 0, 121, 42, 180, 0, 121, 18, 124, 161, 0, 38, 42, 180, 0, 15, 158, 0, 31]
abbrev dktX6_minute_1 : List UInt8 := dkwX6_minute_1 ++ dktX6_minute_2
def dkwX6_minute_0 : List UInt8 := [42, 180, 0, 19, 153, 0, 70, 42, 180, 0, 15, 158, 0, 63, 42, 89, 180, 0, 121, 18, 124, 42]
abbrev dktX6_minute_0 : List UInt8 := dkwX6_minute_0 ++ dktX6_minute_1
theorem dksX6_minute_0 : cX6_minute.data.toList.drop 0 = dktX6_minute_0 := by decide +kernel
theorem dksX6_minute_1 : cX6_minute.data.toList.drop 22 = dktX6_minute_1 := dk_seg dksX6_minute_0 22 rfl rfl
theorem dksX6_minute_2 : cX6_minute.data.toList.drop 46 = dktX6_minute_2 := dk_seg dksX6_minute_1 24 rfl rfl
theorem dksX6_minute_3 : cX6_minute.data.toList.drop 68 = dktX6_minute_3 := dk_seg dksX6_minute_2 22 rfl rfl
theorem dksX6_minute_4 : cX6_minute.data.toList.drop 91 = dktX6_minute_4 := dk_seg dksX6_minute_3 23 rfl rfl
theorem dksX6_minute_5 : cX6_minute.data.toList.drop 115 = dktX6_minute_5 := dk_seg dksX6_minute_4 24 rfl rfl
theorem dX6_minute_0 : decode cX6_minute 0 = .ok (.aload_n 0, 1) := dk_42 (dk_at dksX6_minute_0 0 rfl rfl)
theorem dX6_minute_1 : decode cX6_minute 1 = .ok (.getfield 19, 3) := dk_180 0 19 (dk_at dksX6_minute_0 1 rfl rfl)
theorem dX6_minute_4 : decode cX6_minute 4 = .ok (.ifCond .eq 70, 3) := dk_153 0 70 (dk_at dksX6_minute_0 4 rfl rfl)
theorem dX6_minute_7 : decode cX6_minute 7 = .ok (.aload_n 0, 1) := dk_42 (dk_at dksX6_minute_0 7 rfl rfl)
theorem dX6_minute_8 : decode cX6_minute 8 = .ok (.getfield 15, 3) := dk_180 0 15 (dk_at dksX6_minute_0 8 rfl rfl)
theorem dX6_minute_11 : decode cX6_minute 11 = .ok (.ifCond .le 63, 3) := dk_158 0 63 (dk_at dksX6_minute_0 11 rfl rfl)
theorem dX6_minute_14 : decode cX6_minute 14 = .ok (.aload_n 0, 1) := dk_42 (dk_at dksX6_minute_0 14 rfl rfl)
theorem dX6_minute_15 : decode cX6_minute 15 = .ok (.dup, 1) := dk_89 (dk_at dksX6_minute_0 15 rfl rfl)
theorem dX6_minute_16 : decode cX6_minute 16 = .ok (.getfield 121, 3) := dk_180 0 121 (dk_at dksX6_minute_0 16 rfl rfl)
theorem dX6_minute_19 : decode cX6_minute 19 = .ok (.ldc 124, 2) := dk_18 124 (dk_at dksX6_minute_0 19 rfl rfl)
theorem dX6_minute_21 : decode cX6_minute 21 = .ok (.aload_n 0, 1) := dk_42 (dk_at dksX6_minute_0 21 rfl rfl)
theorem dX6_minute_22 : decode cX6_minute 22 = .ok (.getfield 125, 3) := dk_180 0 125 (dk_at dksX6_minute_1 0 rfl rfl)
theorem dX6_minute_25 : decode cX6_minute 25 = .ok (.iadd, 1) := dk_96 (dk_at dksX6_minute_1 3 rfl rfl)
theorem dX6_minute_26 : decode cX6_minute 26 = .ok (.iadd, 1) := dk_96 (dk_at dksX6_minute_1 4 rfl rfl)
theorem dX6_minute_27 : decode cX6_minute 27 = .ok (.putfield 121, 3) := dk_181 0 121 (dk_at dksX6_minute_1 5 rfl rfl)
theorem dX6_minute_30 : decode cX6_minute 30 = .ok (.aload_n 0, 1) := dk_42 (dk_at dksX6_minute_1 8 rfl rfl)
theorem dX6_minute_31 : decode cX6_minute 31 = .ok (.getfield 121, 3) := dk_180 0 121 (dk_at dksX6_minute_1 9 rfl rfl)
theorem dX6_minute_34 : decode cX6_minute 34 = .ok (.ldc 124, 2) := dk_18 124 (dk_at dksX6_minute_1 12 rfl rfl)
theorem dX6_minute_36 : decode cX6_minute 36 = .ok (.if_icmp .lt 38, 3) := dk_161 0 38 (dk_at dksX6_minute_1 14 rfl rfl)
theorem dX6_minute_39 : decode cX6_minute 39 = .ok (.aload_n 0, 1) := dk_42 (dk_at dksX6_minute_1 17 rfl rfl)
theorem dX6_minute_40 : decode cX6_minute 40 = .ok (.getfield 15, 3) := dk_180 0 15 (dk_at dksX6_minute_1 18 rfl rfl)
theorem dX6_minute_43 : decode cX6_minute 43 = .ok (.ifCond .le 31, 3) := dk_158 0 31 (dk_at dksX6_minute_1 21 rfl rfl)
theorem dX6_minute_46 : decode cX6_minute 46 = .ok (.aload_n 0, 1) := dk_42 (dk_at dksX6_minute_2 0 rfl rfl)
theorem dX6_minute_47 : decode cX6_minute 47 = .ok (.dup, 1) := dk_89 (dk_at dksX6_minute_2 1 rfl rfl)
theorem dX6_minute_48 : decode cX6_minute 48 = .ok (.getfield 121, 3) := dk_180 0 121 (dk_at dksX6_minute_2 2 rfl rfl)
theorem dX6_minute_51 : decode cX6_minute 51 = .ok (.ldc 124, 2) := dk_18 124 (dk_at dksX6_minute_2 5 rfl rfl)
theorem dX6_minute_53 : decode cX6_minute 53 = .ok (.isub, 1) := dk_100 (dk_at dksX6_minute_2 7 rfl rfl)
theorem dX6_minute_54 : decode cX6_minute 54 = .ok (.putfield 121, 3) := dk_181 0 121 (dk_at dksX6_minute_2 8 rfl rfl)
theorem dX6_minute_57 : decode cX6_minute 57 = .ok (.aload_n 0, 1) := dk_42 (dk_at dksX6_minute_2 11 rfl rfl)
theorem dX6_minute_58 : decode cX6_minute 58 = .ok (.dup, 1) := dk_89 (dk_at dksX6_minute_2 12 rfl rfl)
theorem dX6_minute_59 : decode cX6_minute 59 = .ok (.getfield 15, 3) := dk_180 0 15 (dk_at dksX6_minute_2 13 rfl rfl)
theorem dX6_minute_62 : decode cX6_minute 62 = .ok (.iconst 1, 1) := dk_4 (dk_at dksX6_minute_2 16 rfl rfl)
theorem dX6_minute_63 : decode cX6_minute 63 = .ok (.isub, 1) := dk_100 (dk_at dksX6_minute_2 17 rfl rfl)
theorem dX6_minute_64 : decode cX6_minute 64 = .ok (.putfield 15, 3) := dk_181 0 15 (dk_at dksX6_minute_2 18 rfl rfl)
theorem dX6_minute_67 : decode cX6_minute 67 = .ok (.aload_n 0, 1) := dk_42 (dk_at dksX6_minute_2 21 rfl rfl)
theorem dX6_minute_68 : decode cX6_minute 68 = .ok (.invokevirtual 128, 3) := dk_182 0 128 (dk_at dksX6_minute_3 0 rfl rfl)
theorem dX6_minute_71 : decode cX6_minute 71 = .ok (.goto (-41), 3) := dk_167 255 215 (dk_at dksX6_minute_3 3 rfl rfl)
theorem dX6_minute_74 : decode cX6_minute 74 = .ok (.aload_n 0, 1) := dk_42 (dk_at dksX6_minute_3 6 rfl rfl)
theorem dX6_minute_75 : decode cX6_minute 75 = .ok (.getfield 25, 3) := dk_180 0 25 (dk_at dksX6_minute_3 7 rfl rfl)
theorem dX6_minute_78 : decode cX6_minute 78 = .ok (.iconst 1, 1) := dk_4 (dk_at dksX6_minute_3 10 rfl rfl)
theorem dX6_minute_79 : decode cX6_minute 79 = .ok (.aaload, 1) := dk_50 (dk_at dksX6_minute_3 11 rfl rfl)
theorem dX6_minute_80 : decode cX6_minute 80 = .ok (.ifnull 18, 3) := dk_198 0 18 (dk_at dksX6_minute_3 12 rfl rfl)
theorem dX6_minute_83 : decode cX6_minute 83 = .ok (.aload_n 0, 1) := dk_42 (dk_at dksX6_minute_3 15 rfl rfl)
theorem dX6_minute_84 : decode cX6_minute 84 = .ok (.iconst 1, 1) := dk_4 (dk_at dksX6_minute_3 16 rfl rfl)
theorem dX6_minute_85 : decode cX6_minute 85 = .ok (.aload_n 0, 1) := dk_42 (dk_at dksX6_minute_3 17 rfl rfl)
theorem dX6_minute_86 : decode cX6_minute 86 = .ok (.getfield 25, 3) := dk_180 0 25 (dk_at dksX6_minute_3 18 rfl rfl)
theorem dX6_minute_89 : decode cX6_minute 89 = .ok (.iconst 1, 1) := dk_4 (dk_at dksX6_minute_3 21 rfl rfl)
theorem dX6_minute_90 : decode cX6_minute 90 = .ok (.aaload, 1) := dk_50 (dk_at dksX6_minute_3 22 rfl rfl)
theorem dX6_minute_91 : decode cX6_minute 91 = .ok (.getfield 131, 3) := dk_180 0 131 (dk_at dksX6_minute_4 0 rfl rfl)
theorem dX6_minute_94 : decode cX6_minute 94 = .ok (.invokevirtual 134, 3) := dk_182 0 134 (dk_at dksX6_minute_4 3 rfl rfl)
theorem dX6_minute_97 : decode cX6_minute 97 = .ok (.pop, 1) := dk_87 (dk_at dksX6_minute_4 6 rfl rfl)
theorem dX6_minute_98 : decode cX6_minute 98 = .ok (.aload_n 0, 1) := dk_42 (dk_at dksX6_minute_4 7 rfl rfl)
theorem dX6_minute_99 : decode cX6_minute 99 = .ok (.getfield 25, 3) := dk_180 0 25 (dk_at dksX6_minute_4 8 rfl rfl)
theorem dX6_minute_102 : decode cX6_minute 102 = .ok (.iconst 0, 1) := dk_3 (dk_at dksX6_minute_4 11 rfl rfl)
theorem dX6_minute_103 : decode cX6_minute 103 = .ok (.aaload, 1) := dk_50 (dk_at dksX6_minute_4 12 rfl rfl)
theorem dX6_minute_104 : decode cX6_minute 104 = .ok (.ifnull 18, 3) := dk_198 0 18 (dk_at dksX6_minute_4 13 rfl rfl)
theorem dX6_minute_107 : decode cX6_minute 107 = .ok (.aload_n 0, 1) := dk_42 (dk_at dksX6_minute_4 16 rfl rfl)
theorem dX6_minute_108 : decode cX6_minute 108 = .ok (.iconst 0, 1) := dk_3 (dk_at dksX6_minute_4 17 rfl rfl)
theorem dX6_minute_109 : decode cX6_minute 109 = .ok (.aload_n 0, 1) := dk_42 (dk_at dksX6_minute_4 18 rfl rfl)
theorem dX6_minute_110 : decode cX6_minute 110 = .ok (.getfield 25, 3) := dk_180 0 25 (dk_at dksX6_minute_4 19 rfl rfl)
theorem dX6_minute_113 : decode cX6_minute 113 = .ok (.iconst 0, 1) := dk_3 (dk_at dksX6_minute_4 22 rfl rfl)
theorem dX6_minute_114 : decode cX6_minute 114 = .ok (.aaload, 1) := dk_50 (dk_at dksX6_minute_4 23 rfl rfl)
theorem dX6_minute_115 : decode cX6_minute 115 = .ok (.getfield 131, 3) := dk_180 0 131 (dk_at dksX6_minute_5 0 rfl rfl)
theorem dX6_minute_118 : decode cX6_minute 118 = .ok (.invokevirtual 134, 3) := dk_182 0 134 (dk_at dksX6_minute_5 3 rfl rfl)
theorem dX6_minute_121 : decode cX6_minute 121 = .ok (.pop, 1) := dk_87 (dk_at dksX6_minute_5 6 rfl rfl)
theorem dX6_minute_122 : decode cX6_minute 122 = .ok (.return_, 1) := dk_177 (dk_at dksX6_minute_5 7 rfl rfl)
abbrev cX6_exact : ByteArray := prog_6_method_12_code
def yX6_exact : MethodName := ⟨RX6, "exact", "()J"⟩
def dkwX6_exact_0 : List UInt8 := [42, 180, 0, 33, 133, 20, 0, 138, 105, 42, 180, 0, 121, 133, 97, 173]
abbrev dktX6_exact_0 : List UInt8 := dkwX6_exact_0 ++ []
theorem dksX6_exact_0 : cX6_exact.data.toList.drop 0 = dktX6_exact_0 := by decide +kernel
theorem dX6_exact_0 : decode cX6_exact 0 = .ok (.aload_n 0, 1) := dk_42 (dk_at dksX6_exact_0 0 rfl rfl)
theorem dX6_exact_1 : decode cX6_exact 1 = .ok (.getfield 33, 3) := dk_180 0 33 (dk_at dksX6_exact_0 1 rfl rfl)
theorem dX6_exact_4 : decode cX6_exact 4 = .ok (.i2l, 1) := dk_133 (dk_at dksX6_exact_0 4 rfl rfl)
theorem dX6_exact_5 : decode cX6_exact 5 = .ok (.ldc2_w 138, 3) := dk_20 0 138 (dk_at dksX6_exact_0 5 rfl rfl)
theorem dX6_exact_8 : decode cX6_exact 8 = .ok (.lmul, 1) := dk_105 (dk_at dksX6_exact_0 8 rfl rfl)
theorem dX6_exact_9 : decode cX6_exact 9 = .ok (.aload_n 0, 1) := dk_42 (dk_at dksX6_exact_0 9 rfl rfl)
theorem dX6_exact_10 : decode cX6_exact 10 = .ok (.getfield 121, 3) := dk_180 0 121 (dk_at dksX6_exact_0 10 rfl rfl)
theorem dX6_exact_13 : decode cX6_exact 13 = .ok (.i2l, 1) := dk_133 (dk_at dksX6_exact_0 13 rfl rfl)
theorem dX6_exact_14 : decode cX6_exact 14 = .ok (.ladd, 1) := dk_97 (dk_at dksX6_exact_0 14 rfl rfl)
theorem dX6_exact_15 : decode cX6_exact 15 = .ok (.lreturn, 1) := dk_173 (dk_at dksX6_exact_0 15 rfl rfl)
abbrev cX7_hammers : ByteArray := prog_5_method_1_code
def yX7_hammers : MethodName := ⟨RX7, "hammers", "()I"⟩
theorem dX7_hammers_0 : decode cX7_hammers 0 = .ok (.iconst 1, 1) := by decide +kernel
theorem dX7_hammers_1 : decode cX7_hammers 1 = .ok (.ireturn, 1) := by decide +kernel
abbrev cX7_struck : ByteArray := prog_5_method_2_code
def yX7_struck : MethodName := ⟨RX7, "struck", "()V"⟩
theorem dX7_struck_0 : decode cX7_struck 0 = .ok (.return_, 1) := by decide +kernel
abbrev cJ9_max : ByteArray := prog_16_method_65_code
def yJ9_max : MethodName := ⟨RJ9, "max", "(II)I"⟩
def dkwJ9_max_0 : List UInt8 := [26, 27, 161, 0, 7, 26, 167, 0, 4, 27, 172]
abbrev dktJ9_max_0 : List UInt8 := dkwJ9_max_0 ++ []
theorem dksJ9_max_0 : cJ9_max.data.toList.drop 0 = dktJ9_max_0 := by decide +kernel
theorem dJ9_max_0 : decode cJ9_max 0 = .ok (.iload_n 0, 1) := dk_26 (dk_at dksJ9_max_0 0 rfl rfl)
theorem dJ9_max_1 : decode cJ9_max 1 = .ok (.iload_n 1, 1) := dk_27 (dk_at dksJ9_max_0 1 rfl rfl)
theorem dJ9_max_2 : decode cJ9_max 2 = .ok (.if_icmp .lt 7, 3) := dk_161 0 7 (dk_at dksJ9_max_0 2 rfl rfl)
theorem dJ9_max_5 : decode cJ9_max 5 = .ok (.iload_n 0, 1) := dk_26 (dk_at dksJ9_max_0 5 rfl rfl)
theorem dJ9_max_6 : decode cJ9_max 6 = .ok (.goto 4, 3) := dk_167 0 4 (dk_at dksJ9_max_0 6 rfl rfl)
theorem dJ9_max_9 : decode cJ9_max 9 = .ok (.iload_n 1, 1) := dk_27 (dk_at dksJ9_max_0 9 rfl rfl)
theorem dJ9_max_10 : decode cJ9_max 10 = .ok (.ireturn, 1) := dk_172 (dk_at dksJ9_max_0 10 rfl rfl)
abbrev cJ9_floorMod : ByteArray := prog_16_method_50_code
def yJ9_floorMod : MethodName := ⟨RJ9, "floorMod", "(II)I"⟩
def dkwJ9_floorMod_0 : List UInt8 := [26, 27, 112, 61, 26, 27, 130, 156, 0, 11, 28, 153, 0, 7, 28, 27, 96, 172, 28, 172]
abbrev dktJ9_floorMod_0 : List UInt8 := dkwJ9_floorMod_0 ++ []
theorem dksJ9_floorMod_0 : cJ9_floorMod.data.toList.drop 0 = dktJ9_floorMod_0 := by decide +kernel
theorem dJ9_floorMod_0 : decode cJ9_floorMod 0 = .ok (.iload_n 0, 1) := dk_26 (dk_at dksJ9_floorMod_0 0 rfl rfl)
theorem dJ9_floorMod_1 : decode cJ9_floorMod 1 = .ok (.iload_n 1, 1) := dk_27 (dk_at dksJ9_floorMod_0 1 rfl rfl)
theorem dJ9_floorMod_2 : decode cJ9_floorMod 2 = .ok (.irem, 1) := dk_112 (dk_at dksJ9_floorMod_0 2 rfl rfl)
theorem dJ9_floorMod_3 : decode cJ9_floorMod 3 = .ok (.istore_n 2, 1) := dk_61 (dk_at dksJ9_floorMod_0 3 rfl rfl)
theorem dJ9_floorMod_4 : decode cJ9_floorMod 4 = .ok (.iload_n 0, 1) := dk_26 (dk_at dksJ9_floorMod_0 4 rfl rfl)
theorem dJ9_floorMod_5 : decode cJ9_floorMod 5 = .ok (.iload_n 1, 1) := dk_27 (dk_at dksJ9_floorMod_0 5 rfl rfl)
theorem dJ9_floorMod_6 : decode cJ9_floorMod 6 = .ok (.ixor, 1) := dk_130 (dk_at dksJ9_floorMod_0 6 rfl rfl)
theorem dJ9_floorMod_7 : decode cJ9_floorMod 7 = .ok (.ifCond .ge 11, 3) := dk_156 0 11 (dk_at dksJ9_floorMod_0 7 rfl rfl)
theorem dJ9_floorMod_10 : decode cJ9_floorMod 10 = .ok (.iload_n 2, 1) := dk_28 (dk_at dksJ9_floorMod_0 10 rfl rfl)
theorem dJ9_floorMod_11 : decode cJ9_floorMod 11 = .ok (.ifCond .eq 7, 3) := dk_153 0 7 (dk_at dksJ9_floorMod_0 11 rfl rfl)
theorem dJ9_floorMod_14 : decode cJ9_floorMod 14 = .ok (.iload_n 2, 1) := dk_28 (dk_at dksJ9_floorMod_0 14 rfl rfl)
theorem dJ9_floorMod_15 : decode cJ9_floorMod 15 = .ok (.iload_n 1, 1) := dk_27 (dk_at dksJ9_floorMod_0 15 rfl rfl)
theorem dJ9_floorMod_16 : decode cJ9_floorMod 16 = .ok (.iadd, 1) := dk_96 (dk_at dksJ9_floorMod_0 16 rfl rfl)
theorem dJ9_floorMod_17 : decode cJ9_floorMod 17 = .ok (.ireturn, 1) := dk_172 (dk_at dksJ9_floorMod_0 17 rfl rfl)
theorem dJ9_floorMod_18 : decode cJ9_floorMod 18 = .ok (.iload_n 2, 1) := dk_28 (dk_at dksJ9_floorMod_0 18 rfl rfl)
theorem dJ9_floorMod_19 : decode cJ9_floorMod 19 = .ok (.ireturn, 1) := dk_172 (dk_at dksJ9_floorMod_0 19 rfl rfl)
abbrev cJ9_floorMod_2 : ByteArray := prog_16_method_52_code
def yJ9_floorMod_2 : MethodName := ⟨RJ9, "floorMod", "(JJ)J"⟩
def dkwJ9_floorMod_2_1 : List UInt8 := [173, 22, 4, 173]
abbrev dktJ9_floorMod_2_1 : List UInt8 := dkwJ9_floorMod_2_1 ++ []
def dkwJ9_floorMod_2_0 : List UInt8 := [30, 32, 113, 55, 4, 30, 32, 131, 9, 148, 156, 0, 15, 22, 4, 9, 148, 153, 0, 8, 22, 4, 32, 97]
abbrev dktJ9_floorMod_2_0 : List UInt8 := dkwJ9_floorMod_2_0 ++ dktJ9_floorMod_2_1
theorem dksJ9_floorMod_2_0 : cJ9_floorMod_2.data.toList.drop 0 = dktJ9_floorMod_2_0 := by decide +kernel
theorem dksJ9_floorMod_2_1 : cJ9_floorMod_2.data.toList.drop 24 = dktJ9_floorMod_2_1 := dk_seg dksJ9_floorMod_2_0 24 rfl rfl
theorem dJ9_floorMod_2_0 : decode cJ9_floorMod_2 0 = .ok (.lload_n 0, 1) := dk_30 (dk_at dksJ9_floorMod_2_0 0 rfl rfl)
theorem dJ9_floorMod_2_1 : decode cJ9_floorMod_2 1 = .ok (.lload_n 2, 1) := dk_32 (dk_at dksJ9_floorMod_2_0 1 rfl rfl)
theorem dJ9_floorMod_2_2 : decode cJ9_floorMod_2 2 = .ok (.lrem, 1) := dk_113 (dk_at dksJ9_floorMod_2_0 2 rfl rfl)
theorem dJ9_floorMod_2_3 : decode cJ9_floorMod_2 3 = .ok (.lstore 4, 2) := dk_55 4 (dk_at dksJ9_floorMod_2_0 3 rfl rfl)
theorem dJ9_floorMod_2_5 : decode cJ9_floorMod_2 5 = .ok (.lload_n 0, 1) := dk_30 (dk_at dksJ9_floorMod_2_0 5 rfl rfl)
theorem dJ9_floorMod_2_6 : decode cJ9_floorMod_2 6 = .ok (.lload_n 2, 1) := dk_32 (dk_at dksJ9_floorMod_2_0 6 rfl rfl)
theorem dJ9_floorMod_2_7 : decode cJ9_floorMod_2 7 = .ok (.lxor, 1) := dk_131 (dk_at dksJ9_floorMod_2_0 7 rfl rfl)
theorem dJ9_floorMod_2_8 : decode cJ9_floorMod_2 8 = .ok (.lconst 0, 1) := dk_9 (dk_at dksJ9_floorMod_2_0 8 rfl rfl)
theorem dJ9_floorMod_2_9 : decode cJ9_floorMod_2 9 = .ok (.lcmp, 1) := dk_148 (dk_at dksJ9_floorMod_2_0 9 rfl rfl)
theorem dJ9_floorMod_2_10 : decode cJ9_floorMod_2 10 = .ok (.ifCond .ge 15, 3) := dk_156 0 15 (dk_at dksJ9_floorMod_2_0 10 rfl rfl)
theorem dJ9_floorMod_2_13 : decode cJ9_floorMod_2 13 = .ok (.lload 4, 2) := dk_22 4 (dk_at dksJ9_floorMod_2_0 13 rfl rfl)
theorem dJ9_floorMod_2_15 : decode cJ9_floorMod_2 15 = .ok (.lconst 0, 1) := dk_9 (dk_at dksJ9_floorMod_2_0 15 rfl rfl)
theorem dJ9_floorMod_2_16 : decode cJ9_floorMod_2 16 = .ok (.lcmp, 1) := dk_148 (dk_at dksJ9_floorMod_2_0 16 rfl rfl)
theorem dJ9_floorMod_2_17 : decode cJ9_floorMod_2 17 = .ok (.ifCond .eq 8, 3) := dk_153 0 8 (dk_at dksJ9_floorMod_2_0 17 rfl rfl)
theorem dJ9_floorMod_2_20 : decode cJ9_floorMod_2 20 = .ok (.lload 4, 2) := dk_22 4 (dk_at dksJ9_floorMod_2_0 20 rfl rfl)
theorem dJ9_floorMod_2_22 : decode cJ9_floorMod_2 22 = .ok (.lload_n 2, 1) := dk_32 (dk_at dksJ9_floorMod_2_0 22 rfl rfl)
theorem dJ9_floorMod_2_23 : decode cJ9_floorMod_2 23 = .ok (.ladd, 1) := dk_97 (dk_at dksJ9_floorMod_2_0 23 rfl rfl)
theorem dJ9_floorMod_2_24 : decode cJ9_floorMod_2 24 = .ok (.lreturn, 1) := dk_173 (dk_at dksJ9_floorMod_2_1 0 rfl rfl)
theorem dJ9_floorMod_2_25 : decode cJ9_floorMod_2 25 = .ok (.lload 4, 2) := dk_22 4 (dk_at dksJ9_floorMod_2_1 1 rfl rfl)
theorem dJ9_floorMod_2_27 : decode cJ9_floorMod_2 27 = .ok (.lreturn, 1) := dk_173 (dk_at dksJ9_floorMod_2_1 3 rfl rfl)
abbrev cJ9_abs : ByteArray := prog_16_method_61_code
def yJ9_abs : MethodName := ⟨RJ9, "abs", "(J)J"⟩
def dkwJ9_abs_0 : List UInt8 := [30, 9, 148, 156, 0, 8, 30, 117, 167, 0, 4, 30, 173]
abbrev dktJ9_abs_0 : List UInt8 := dkwJ9_abs_0 ++ []
theorem dksJ9_abs_0 : cJ9_abs.data.toList.drop 0 = dktJ9_abs_0 := by decide +kernel
theorem dJ9_abs_0 : decode cJ9_abs 0 = .ok (.lload_n 0, 1) := dk_30 (dk_at dksJ9_abs_0 0 rfl rfl)
theorem dJ9_abs_1 : decode cJ9_abs 1 = .ok (.lconst 0, 1) := dk_9 (dk_at dksJ9_abs_0 1 rfl rfl)
theorem dJ9_abs_2 : decode cJ9_abs 2 = .ok (.lcmp, 1) := dk_148 (dk_at dksJ9_abs_0 2 rfl rfl)
theorem dJ9_abs_3 : decode cJ9_abs 3 = .ok (.ifCond .ge 8, 3) := dk_156 0 8 (dk_at dksJ9_abs_0 3 rfl rfl)
theorem dJ9_abs_6 : decode cJ9_abs 6 = .ok (.lload_n 0, 1) := dk_30 (dk_at dksJ9_abs_0 6 rfl rfl)
theorem dJ9_abs_7 : decode cJ9_abs 7 = .ok (.lneg, 1) := dk_117 (dk_at dksJ9_abs_0 7 rfl rfl)
theorem dJ9_abs_8 : decode cJ9_abs 8 = .ok (.goto 4, 3) := dk_167 0 4 (dk_at dksJ9_abs_0 8 rfl rfl)
theorem dJ9_abs_11 : decode cJ9_abs 11 = .ok (.lload_n 0, 1) := dk_30 (dk_at dksJ9_abs_0 11 rfl rfl)
theorem dJ9_abs_12 : decode cJ9_abs 12 = .ok (.lreturn, 1) := dk_173 (dk_at dksJ9_abs_0 12 rfl rfl)
