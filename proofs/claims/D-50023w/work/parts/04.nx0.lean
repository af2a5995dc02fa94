/-! ColourDuelLaw -/
set_option maxRecDepth 100000
def RX0 : String := "ColourDuelLaw"
abbrev cX0_append : ByteArray := method_3_code
def yX0_append : MethodName := ⟨RX0, "append", "(LColourDuel;IIIII[J)I"⟩
def dkwX0_append_1 : List UInt8 := [172]
abbrev dktX0_append_1 : List UInt8 := dkwX0_append_1 ++ []
def dkwX0_append_0 : List UInt8 := [25, 6, 3, 42, 27, 28, 29, 21, 4, 21, 5, 182, 0, 7, 133, 80, 167, 0, 7, 58, 7, 4, 172, 3]
abbrev dktX0_append_0 : List UInt8 := dkwX0_append_0 ++ dktX0_append_1
theorem dksX0_append_0 : cX0_append.data.toList.drop 0 = dktX0_append_0 := by decide +kernel
theorem dksX0_append_1 : cX0_append.data.toList.drop 24 = dktX0_append_1 := dk_seg dksX0_append_0 24 rfl rfl
theorem dX0_append_0 : decode cX0_append 0 = .ok (.aload 6, 2) := dk_25 6 (dk_at dksX0_append_0 0 rfl rfl)
theorem dX0_append_2 : decode cX0_append 2 = .ok (.iconst 0, 1) := dk_3 (dk_at dksX0_append_0 2 rfl rfl)
theorem dX0_append_3 : decode cX0_append 3 = .ok (.aload_n 0, 1) := dk_42 (dk_at dksX0_append_0 3 rfl rfl)
theorem dX0_append_4 : decode cX0_append 4 = .ok (.iload_n 1, 1) := dk_27 (dk_at dksX0_append_0 4 rfl rfl)
theorem dX0_append_5 : decode cX0_append 5 = .ok (.iload_n 2, 1) := dk_28 (dk_at dksX0_append_0 5 rfl rfl)
theorem dX0_append_6 : decode cX0_append 6 = .ok (.iload_n 3, 1) := dk_29 (dk_at dksX0_append_0 6 rfl rfl)
theorem dX0_append_7 : decode cX0_append 7 = .ok (.iload 4, 2) := dk_21 4 (dk_at dksX0_append_0 7 rfl rfl)
theorem dX0_append_9 : decode cX0_append 9 = .ok (.iload 5, 2) := dk_21 5 (dk_at dksX0_append_0 9 rfl rfl)
theorem dX0_append_11 : decode cX0_append 11 = .ok (.invokevirtual 7, 3) := dk_182 0 7 (dk_at dksX0_append_0 11 rfl rfl)
theorem dX0_append_14 : decode cX0_append 14 = .ok (.i2l, 1) := dk_133 (dk_at dksX0_append_0 14 rfl rfl)
theorem dX0_append_15 : decode cX0_append 15 = .ok (.lastore, 1) := dk_80 (dk_at dksX0_append_0 15 rfl rfl)
theorem dX0_append_16 : decode cX0_append 16 = .ok (.goto 7, 3) := dk_167 0 7 (dk_at dksX0_append_0 16 rfl rfl)
theorem dX0_append_19 : decode cX0_append 19 = .ok (.astore 7, 2) := dk_58 7 (dk_at dksX0_append_0 19 rfl rfl)
theorem dX0_append_21 : decode cX0_append 21 = .ok (.iconst 1, 1) := dk_4 (dk_at dksX0_append_0 21 rfl rfl)
theorem dX0_append_22 : decode cX0_append 22 = .ok (.ireturn, 1) := dk_172 (dk_at dksX0_append_0 22 rfl rfl)
theorem dX0_append_23 : decode cX0_append 23 = .ok (.iconst 0, 1) := dk_3 (dk_at dksX0_append_0 23 rfl rfl)
theorem dX0_append_24 : decode cX0_append 24 = .ok (.ireturn, 1) := dk_172 (dk_at dksX0_append_1 0 rfl rfl)
abbrev cX0_load : ByteArray := method_4_code
def yX0_load : MethodName := ⟨RX0, "load", "(LColourDuel;I[J)I"⟩
def dkwX0_load_0 : List UInt8 := [44, 3, 42, 27, 182, 0, 15, 133, 80, 167, 0, 6, 78, 4, 172, 3, 172]
abbrev dktX0_load_0 : List UInt8 := dkwX0_load_0 ++ []
theorem dksX0_load_0 : cX0_load.data.toList.drop 0 = dktX0_load_0 := by decide +kernel
theorem dX0_load_0 : decode cX0_load 0 = .ok (.aload_n 2, 1) := dk_44 (dk_at dksX0_load_0 0 rfl rfl)
theorem dX0_load_1 : decode cX0_load 1 = .ok (.iconst 0, 1) := dk_3 (dk_at dksX0_load_0 1 rfl rfl)
theorem dX0_load_2 : decode cX0_load 2 = .ok (.aload_n 0, 1) := dk_42 (dk_at dksX0_load_0 2 rfl rfl)
theorem dX0_load_3 : decode cX0_load 3 = .ok (.iload_n 1, 1) := dk_27 (dk_at dksX0_load_0 3 rfl rfl)
theorem dX0_load_4 : decode cX0_load 4 = .ok (.invokevirtual 15, 3) := dk_182 0 15 (dk_at dksX0_load_0 4 rfl rfl)
theorem dX0_load_7 : decode cX0_load 7 = .ok (.i2l, 1) := dk_133 (dk_at dksX0_load_0 7 rfl rfl)
theorem dX0_load_8 : decode cX0_load 8 = .ok (.lastore, 1) := dk_80 (dk_at dksX0_load_0 8 rfl rfl)
theorem dX0_load_9 : decode cX0_load 9 = .ok (.goto 6, 3) := dk_167 0 6 (dk_at dksX0_load_0 9 rfl rfl)
theorem dX0_load_12 : decode cX0_load 12 = .ok (.astore_n 3, 1) := dk_78 (dk_at dksX0_load_0 12 rfl rfl)
theorem dX0_load_13 : decode cX0_load 13 = .ok (.iconst 1, 1) := dk_4 (dk_at dksX0_load_0 13 rfl rfl)
theorem dX0_load_14 : decode cX0_load 14 = .ok (.ireturn, 1) := dk_172 (dk_at dksX0_load_0 14 rfl rfl)
theorem dX0_load_15 : decode cX0_load 15 = .ok (.iconst 0, 1) := dk_3 (dk_at dksX0_load_0 15 rfl rfl)
theorem dX0_load_16 : decode cX0_load 16 = .ok (.ireturn, 1) := dk_172 (dk_at dksX0_load_0 16 rfl rfl)
abbrev cX0_count : ByteArray := method_5_code
def yX0_count : MethodName := ⟨RX0, "count", "(LColourDuel;I[J)I"⟩
def dkwX0_count_0 : List UInt8 := [44, 3, 42, 27, 182, 0, 21, 133, 80, 167, 0, 6, 78, 4, 172, 3, 172]
abbrev dktX0_count_0 : List UInt8 := dkwX0_count_0 ++ []
theorem dksX0_count_0 : cX0_count.data.toList.drop 0 = dktX0_count_0 := by decide +kernel
theorem dX0_count_0 : decode cX0_count 0 = .ok (.aload_n 2, 1) := dk_44 (dk_at dksX0_count_0 0 rfl rfl)
theorem dX0_count_1 : decode cX0_count 1 = .ok (.iconst 0, 1) := dk_3 (dk_at dksX0_count_0 1 rfl rfl)
theorem dX0_count_2 : decode cX0_count 2 = .ok (.aload_n 0, 1) := dk_42 (dk_at dksX0_count_0 2 rfl rfl)
theorem dX0_count_3 : decode cX0_count 3 = .ok (.iload_n 1, 1) := dk_27 (dk_at dksX0_count_0 3 rfl rfl)
theorem dX0_count_4 : decode cX0_count 4 = .ok (.invokevirtual 21, 3) := dk_182 0 21 (dk_at dksX0_count_0 4 rfl rfl)
theorem dX0_count_7 : decode cX0_count 7 = .ok (.i2l, 1) := dk_133 (dk_at dksX0_count_0 7 rfl rfl)
theorem dX0_count_8 : decode cX0_count 8 = .ok (.lastore, 1) := dk_80 (dk_at dksX0_count_0 8 rfl rfl)
theorem dX0_count_9 : decode cX0_count 9 = .ok (.goto 6, 3) := dk_167 0 6 (dk_at dksX0_count_0 9 rfl rfl)
theorem dX0_count_12 : decode cX0_count 12 = .ok (.astore_n 3, 1) := dk_78 (dk_at dksX0_count_0 12 rfl rfl)
theorem dX0_count_13 : decode cX0_count 13 = .ok (.iconst 1, 1) := dk_4 (dk_at dksX0_count_0 13 rfl rfl)
theorem dX0_count_14 : decode cX0_count 14 = .ok (.ireturn, 1) := dk_172 (dk_at dksX0_count_0 14 rfl rfl)
theorem dX0_count_15 : decode cX0_count 15 = .ok (.iconst 0, 1) := dk_3 (dk_at dksX0_count_0 15 rfl rfl)
theorem dX0_count_16 : decode cX0_count 16 = .ok (.ireturn, 1) := dk_172 (dk_at dksX0_count_0 16 rfl rfl)
abbrev cX0_vertex : ByteArray := method_6_code
def yX0_vertex : MethodName := ⟨RX0, "vertex", "(LColourDuel;II[J)I"⟩
def dkwX0_vertex_0 : List UInt8 := [45, 3, 42, 27, 28, 182, 0, 24, 133, 80, 167, 0, 11, 58, 4, 4, 172, 58, 4, 5, 172, 3, 172]
abbrev dktX0_vertex_0 : List UInt8 := dkwX0_vertex_0 ++ []
theorem dksX0_vertex_0 : cX0_vertex.data.toList.drop 0 = dktX0_vertex_0 := by decide +kernel
theorem dX0_vertex_0 : decode cX0_vertex 0 = .ok (.aload_n 3, 1) := dk_45 (dk_at dksX0_vertex_0 0 rfl rfl)
theorem dX0_vertex_1 : decode cX0_vertex 1 = .ok (.iconst 0, 1) := dk_3 (dk_at dksX0_vertex_0 1 rfl rfl)
theorem dX0_vertex_2 : decode cX0_vertex 2 = .ok (.aload_n 0, 1) := dk_42 (dk_at dksX0_vertex_0 2 rfl rfl)
theorem dX0_vertex_3 : decode cX0_vertex 3 = .ok (.iload_n 1, 1) := dk_27 (dk_at dksX0_vertex_0 3 rfl rfl)
theorem dX0_vertex_4 : decode cX0_vertex 4 = .ok (.iload_n 2, 1) := dk_28 (dk_at dksX0_vertex_0 4 rfl rfl)
theorem dX0_vertex_5 : decode cX0_vertex 5 = .ok (.invokevirtual 24, 3) := dk_182 0 24 (dk_at dksX0_vertex_0 5 rfl rfl)
theorem dX0_vertex_8 : decode cX0_vertex 8 = .ok (.i2l, 1) := dk_133 (dk_at dksX0_vertex_0 8 rfl rfl)
theorem dX0_vertex_9 : decode cX0_vertex 9 = .ok (.lastore, 1) := dk_80 (dk_at dksX0_vertex_0 9 rfl rfl)
theorem dX0_vertex_10 : decode cX0_vertex 10 = .ok (.goto 11, 3) := dk_167 0 11 (dk_at dksX0_vertex_0 10 rfl rfl)
theorem dX0_vertex_13 : decode cX0_vertex 13 = .ok (.astore 4, 2) := dk_58 4 (dk_at dksX0_vertex_0 13 rfl rfl)
theorem dX0_vertex_15 : decode cX0_vertex 15 = .ok (.iconst 1, 1) := dk_4 (dk_at dksX0_vertex_0 15 rfl rfl)
theorem dX0_vertex_16 : decode cX0_vertex 16 = .ok (.ireturn, 1) := dk_172 (dk_at dksX0_vertex_0 16 rfl rfl)
theorem dX0_vertex_17 : decode cX0_vertex 17 = .ok (.astore 4, 2) := dk_58 4 (dk_at dksX0_vertex_0 17 rfl rfl)
theorem dX0_vertex_19 : decode cX0_vertex 19 = .ok (.iconst 2, 1) := dk_5 (dk_at dksX0_vertex_0 19 rfl rfl)
theorem dX0_vertex_20 : decode cX0_vertex 20 = .ok (.ireturn, 1) := dk_172 (dk_at dksX0_vertex_0 20 rfl rfl)
theorem dX0_vertex_21 : decode cX0_vertex 21 = .ok (.iconst 0, 1) := dk_3 (dk_at dksX0_vertex_0 21 rfl rfl)
theorem dX0_vertex_22 : decode cX0_vertex 22 = .ok (.ireturn, 1) := dk_172 (dk_at dksX0_vertex_0 22 rfl rfl)
abbrev cX0_reason : ByteArray := method_7_code
def yX0_reason : MethodName := ⟨RX0, "reason", "(LColourDuel;II[J)I"⟩
def dkwX0_reason_0 : List UInt8 := [45, 3, 42, 27, 28, 182, 0, 30, 133, 80, 167, 0, 7, 58, 4, 4, 172, 3, 172]
abbrev dktX0_reason_0 : List UInt8 := dkwX0_reason_0 ++ []
theorem dksX0_reason_0 : cX0_reason.data.toList.drop 0 = dktX0_reason_0 := by decide +kernel
theorem dX0_reason_0 : decode cX0_reason 0 = .ok (.aload_n 3, 1) := dk_45 (dk_at dksX0_reason_0 0 rfl rfl)
theorem dX0_reason_1 : decode cX0_reason 1 = .ok (.iconst 0, 1) := dk_3 (dk_at dksX0_reason_0 1 rfl rfl)
theorem dX0_reason_2 : decode cX0_reason 2 = .ok (.aload_n 0, 1) := dk_42 (dk_at dksX0_reason_0 2 rfl rfl)
theorem dX0_reason_3 : decode cX0_reason 3 = .ok (.iload_n 1, 1) := dk_27 (dk_at dksX0_reason_0 3 rfl rfl)
theorem dX0_reason_4 : decode cX0_reason 4 = .ok (.iload_n 2, 1) := dk_28 (dk_at dksX0_reason_0 4 rfl rfl)
theorem dX0_reason_5 : decode cX0_reason 5 = .ok (.invokevirtual 30, 3) := dk_182 0 30 (dk_at dksX0_reason_0 5 rfl rfl)
theorem dX0_reason_8 : decode cX0_reason 8 = .ok (.i2l, 1) := dk_133 (dk_at dksX0_reason_0 8 rfl rfl)
theorem dX0_reason_9 : decode cX0_reason 9 = .ok (.lastore, 1) := dk_80 (dk_at dksX0_reason_0 9 rfl rfl)
theorem dX0_reason_10 : decode cX0_reason 10 = .ok (.goto 7, 3) := dk_167 0 7 (dk_at dksX0_reason_0 10 rfl rfl)
theorem dX0_reason_13 : decode cX0_reason 13 = .ok (.astore 4, 2) := dk_58 4 (dk_at dksX0_reason_0 13 rfl rfl)
theorem dX0_reason_15 : decode cX0_reason 15 = .ok (.iconst 1, 1) := dk_4 (dk_at dksX0_reason_0 15 rfl rfl)
theorem dX0_reason_16 : decode cX0_reason 16 = .ok (.ireturn, 1) := dk_172 (dk_at dksX0_reason_0 16 rfl rfl)
theorem dX0_reason_17 : decode cX0_reason 17 = .ok (.iconst 0, 1) := dk_3 (dk_at dksX0_reason_0 17 rfl rfl)
theorem dX0_reason_18 : decode cX0_reason 18 = .ok (.ireturn, 1) := dk_172 (dk_at dksX0_reason_0 18 rfl rfl)
abbrev cX0_part : ByteArray := method_8_code
def yX0_part : MethodName := ⟨RX0, "part", "(LColourDuel;II[J)I"⟩
def dkwX0_part_0 : List UInt8 := [45, 3, 42, 27, 28, 182, 0, 33, 133, 80, 167, 0, 11, 58, 4, 4, 172, 58, 4, 5, 172, 3, 172]
abbrev dktX0_part_0 : List UInt8 := dkwX0_part_0 ++ []
theorem dksX0_part_0 : cX0_part.data.toList.drop 0 = dktX0_part_0 := by decide +kernel
theorem dX0_part_0 : decode cX0_part 0 = .ok (.aload_n 3, 1) := dk_45 (dk_at dksX0_part_0 0 rfl rfl)
theorem dX0_part_1 : decode cX0_part 1 = .ok (.iconst 0, 1) := dk_3 (dk_at dksX0_part_0 1 rfl rfl)
theorem dX0_part_2 : decode cX0_part 2 = .ok (.aload_n 0, 1) := dk_42 (dk_at dksX0_part_0 2 rfl rfl)
theorem dX0_part_3 : decode cX0_part 3 = .ok (.iload_n 1, 1) := dk_27 (dk_at dksX0_part_0 3 rfl rfl)
theorem dX0_part_4 : decode cX0_part 4 = .ok (.iload_n 2, 1) := dk_28 (dk_at dksX0_part_0 4 rfl rfl)
theorem dX0_part_5 : decode cX0_part 5 = .ok (.invokevirtual 33, 3) := dk_182 0 33 (dk_at dksX0_part_0 5 rfl rfl)
theorem dX0_part_8 : decode cX0_part 8 = .ok (.i2l, 1) := dk_133 (dk_at dksX0_part_0 8 rfl rfl)
theorem dX0_part_9 : decode cX0_part 9 = .ok (.lastore, 1) := dk_80 (dk_at dksX0_part_0 9 rfl rfl)
theorem dX0_part_10 : decode cX0_part 10 = .ok (.goto 11, 3) := dk_167 0 11 (dk_at dksX0_part_0 10 rfl rfl)
theorem dX0_part_13 : decode cX0_part 13 = .ok (.astore 4, 2) := dk_58 4 (dk_at dksX0_part_0 13 rfl rfl)
theorem dX0_part_15 : decode cX0_part 15 = .ok (.iconst 1, 1) := dk_4 (dk_at dksX0_part_0 15 rfl rfl)
theorem dX0_part_16 : decode cX0_part 16 = .ok (.ireturn, 1) := dk_172 (dk_at dksX0_part_0 16 rfl rfl)
theorem dX0_part_17 : decode cX0_part 17 = .ok (.astore 4, 2) := dk_58 4 (dk_at dksX0_part_0 17 rfl rfl)
theorem dX0_part_19 : decode cX0_part 19 = .ok (.iconst 2, 1) := dk_5 (dk_at dksX0_part_0 19 rfl rfl)
theorem dX0_part_20 : decode cX0_part 20 = .ok (.ireturn, 1) := dk_172 (dk_at dksX0_part_0 20 rfl rfl)
theorem dX0_part_21 : decode cX0_part 21 = .ok (.iconst 0, 1) := dk_3 (dk_at dksX0_part_0 21 rfl rfl)
theorem dX0_part_22 : decode cX0_part 22 = .ok (.ireturn, 1) := dk_172 (dk_at dksX0_part_0 22 rfl rfl)
abbrev cX0_valueIf : ByteArray := method_9_code
def yX0_valueIf : MethodName := ⟨RX0, "valueIf", "(LColourDuel;II[J)I"⟩
def dkwX0_valueIf_0 : List UInt8 := [45, 3, 42, 27, 28, 182, 0, 36, 133, 80, 167, 0, 11, 58, 4, 4, 172, 58, 4, 5, 172, 3, 172]
abbrev dktX0_valueIf_0 : List UInt8 := dkwX0_valueIf_0 ++ []
theorem dksX0_valueIf_0 : cX0_valueIf.data.toList.drop 0 = dktX0_valueIf_0 := by decide +kernel
theorem dX0_valueIf_0 : decode cX0_valueIf 0 = .ok (.aload_n 3, 1) := dk_45 (dk_at dksX0_valueIf_0 0 rfl rfl)
theorem dX0_valueIf_1 : decode cX0_valueIf 1 = .ok (.iconst 0, 1) := dk_3 (dk_at dksX0_valueIf_0 1 rfl rfl)
theorem dX0_valueIf_2 : decode cX0_valueIf 2 = .ok (.aload_n 0, 1) := dk_42 (dk_at dksX0_valueIf_0 2 rfl rfl)
theorem dX0_valueIf_3 : decode cX0_valueIf 3 = .ok (.iload_n 1, 1) := dk_27 (dk_at dksX0_valueIf_0 3 rfl rfl)
theorem dX0_valueIf_4 : decode cX0_valueIf 4 = .ok (.iload_n 2, 1) := dk_28 (dk_at dksX0_valueIf_0 4 rfl rfl)
theorem dX0_valueIf_5 : decode cX0_valueIf 5 = .ok (.invokevirtual 36, 3) := dk_182 0 36 (dk_at dksX0_valueIf_0 5 rfl rfl)
theorem dX0_valueIf_8 : decode cX0_valueIf 8 = .ok (.i2l, 1) := dk_133 (dk_at dksX0_valueIf_0 8 rfl rfl)
theorem dX0_valueIf_9 : decode cX0_valueIf 9 = .ok (.lastore, 1) := dk_80 (dk_at dksX0_valueIf_0 9 rfl rfl)
theorem dX0_valueIf_10 : decode cX0_valueIf 10 = .ok (.goto 11, 3) := dk_167 0 11 (dk_at dksX0_valueIf_0 10 rfl rfl)
theorem dX0_valueIf_13 : decode cX0_valueIf 13 = .ok (.astore 4, 2) := dk_58 4 (dk_at dksX0_valueIf_0 13 rfl rfl)
theorem dX0_valueIf_15 : decode cX0_valueIf 15 = .ok (.iconst 1, 1) := dk_4 (dk_at dksX0_valueIf_0 15 rfl rfl)
theorem dX0_valueIf_16 : decode cX0_valueIf 16 = .ok (.ireturn, 1) := dk_172 (dk_at dksX0_valueIf_0 16 rfl rfl)
theorem dX0_valueIf_17 : decode cX0_valueIf 17 = .ok (.astore 4, 2) := dk_58 4 (dk_at dksX0_valueIf_0 17 rfl rfl)
theorem dX0_valueIf_19 : decode cX0_valueIf 19 = .ok (.iconst 2, 1) := dk_5 (dk_at dksX0_valueIf_0 19 rfl rfl)
theorem dX0_valueIf_20 : decode cX0_valueIf 20 = .ok (.ireturn, 1) := dk_172 (dk_at dksX0_valueIf_0 20 rfl rfl)
theorem dX0_valueIf_21 : decode cX0_valueIf 21 = .ok (.iconst 0, 1) := dk_3 (dk_at dksX0_valueIf_0 21 rfl rfl)
theorem dX0_valueIf_22 : decode cX0_valueIf 22 = .ok (.ireturn, 1) := dk_172 (dk_at dksX0_valueIf_0 22 rfl rfl)
abbrev cX0_bestMove : ByteArray := method_10_code
def yX0_bestMove : MethodName := ⟨RX0, "bestMove", "(LColourDuel;[J)I"⟩
def dkwX0_bestMove_0 : List UInt8 := [43, 3, 42, 182, 0, 41, 133, 80, 167, 0, 6, 77, 4, 172, 3, 172]
abbrev dktX0_bestMove_0 : List UInt8 := dkwX0_bestMove_0 ++ []
theorem dksX0_bestMove_0 : cX0_bestMove.data.toList.drop 0 = dktX0_bestMove_0 := by decide +kernel
theorem dX0_bestMove_0 : decode cX0_bestMove 0 = .ok (.aload_n 1, 1) := dk_43 (dk_at dksX0_bestMove_0 0 rfl rfl)
theorem dX0_bestMove_1 : decode cX0_bestMove 1 = .ok (.iconst 0, 1) := dk_3 (dk_at dksX0_bestMove_0 1 rfl rfl)
theorem dX0_bestMove_2 : decode cX0_bestMove 2 = .ok (.aload_n 0, 1) := dk_42 (dk_at dksX0_bestMove_0 2 rfl rfl)
theorem dX0_bestMove_3 : decode cX0_bestMove 3 = .ok (.invokevirtual 41, 3) := dk_182 0 41 (dk_at dksX0_bestMove_0 3 rfl rfl)
theorem dX0_bestMove_6 : decode cX0_bestMove 6 = .ok (.i2l, 1) := dk_133 (dk_at dksX0_bestMove_0 6 rfl rfl)
theorem dX0_bestMove_7 : decode cX0_bestMove 7 = .ok (.lastore, 1) := dk_80 (dk_at dksX0_bestMove_0 7 rfl rfl)
theorem dX0_bestMove_8 : decode cX0_bestMove 8 = .ok (.goto 6, 3) := dk_167 0 6 (dk_at dksX0_bestMove_0 8 rfl rfl)
theorem dX0_bestMove_11 : decode cX0_bestMove 11 = .ok (.astore_n 2, 1) := dk_77 (dk_at dksX0_bestMove_0 11 rfl rfl)
theorem dX0_bestMove_12 : decode cX0_bestMove 12 = .ok (.iconst 1, 1) := dk_4 (dk_at dksX0_bestMove_0 12 rfl rfl)
theorem dX0_bestMove_13 : decode cX0_bestMove 13 = .ok (.ireturn, 1) := dk_172 (dk_at dksX0_bestMove_0 13 rfl rfl)
theorem dX0_bestMove_14 : decode cX0_bestMove 14 = .ok (.iconst 0, 1) := dk_3 (dk_at dksX0_bestMove_0 14 rfl rfl)
theorem dX0_bestMove_15 : decode cX0_bestMove 15 = .ok (.ireturn, 1) := dk_172 (dk_at dksX0_bestMove_0 15 rfl rfl)
abbrev cX0_winningColours : ByteArray := method_11_code
def yX0_winningColours : MethodName := ⟨RX0, "winningColours", "(LColourDuel;I[J)I"⟩
def dkwX0_winningColours_0 : List UInt8 := [44, 3, 42, 27, 182, 0, 45, 133, 80, 167, 0, 6, 78, 4, 172, 3, 172]
abbrev dktX0_winningColours_0 : List UInt8 := dkwX0_winningColours_0 ++ []
theorem dksX0_winningColours_0 : cX0_winningColours.data.toList.drop 0 = dktX0_winningColours_0 := by decide +kernel
theorem dX0_winningColours_0 : decode cX0_winningColours 0 = .ok (.aload_n 2, 1) := dk_44 (dk_at dksX0_winningColours_0 0 rfl rfl)
theorem dX0_winningColours_1 : decode cX0_winningColours 1 = .ok (.iconst 0, 1) := dk_3 (dk_at dksX0_winningColours_0 1 rfl rfl)
theorem dX0_winningColours_2 : decode cX0_winningColours 2 = .ok (.aload_n 0, 1) := dk_42 (dk_at dksX0_winningColours_0 2 rfl rfl)
theorem dX0_winningColours_3 : decode cX0_winningColours 3 = .ok (.iload_n 1, 1) := dk_27 (dk_at dksX0_winningColours_0 3 rfl rfl)
theorem dX0_winningColours_4 : decode cX0_winningColours 4 = .ok (.invokevirtual 45, 3) := dk_182 0 45 (dk_at dksX0_winningColours_0 4 rfl rfl)
theorem dX0_winningColours_7 : decode cX0_winningColours 7 = .ok (.i2l, 1) := dk_133 (dk_at dksX0_winningColours_0 7 rfl rfl)
theorem dX0_winningColours_8 : decode cX0_winningColours 8 = .ok (.lastore, 1) := dk_80 (dk_at dksX0_winningColours_0 8 rfl rfl)
theorem dX0_winningColours_9 : decode cX0_winningColours 9 = .ok (.goto 6, 3) := dk_167 0 6 (dk_at dksX0_winningColours_0 9 rfl rfl)
theorem dX0_winningColours_12 : decode cX0_winningColours 12 = .ok (.astore_n 3, 1) := dk_78 (dk_at dksX0_winningColours_0 12 rfl rfl)
theorem dX0_winningColours_13 : decode cX0_winningColours 13 = .ok (.iconst 1, 1) := dk_4 (dk_at dksX0_winningColours_0 13 rfl rfl)
theorem dX0_winningColours_14 : decode cX0_winningColours 14 = .ok (.ireturn, 1) := dk_172 (dk_at dksX0_winningColours_0 14 rfl rfl)
theorem dX0_winningColours_15 : decode cX0_winningColours 15 = .ok (.iconst 0, 1) := dk_3 (dk_at dksX0_winningColours_0 15 rfl rfl)
theorem dX0_winningColours_16 : decode cX0_winningColours 16 = .ok (.ireturn, 1) := dk_172 (dk_at dksX0_winningColours_0 16 rfl rfl)
abbrev cX0_falls : ByteArray := method_12_code
def yX0_falls : MethodName := ⟨RX0, "falls", "(LColourDuel;I[J)I"⟩
def dkwX0_falls_0 : List UInt8 := [44, 3, 42, 27, 182, 0, 48, 133, 80, 167, 0, 9, 78, 4, 172, 78, 5, 172, 3, 172]
abbrev dktX0_falls_0 : List UInt8 := dkwX0_falls_0 ++ []
theorem dksX0_falls_0 : cX0_falls.data.toList.drop 0 = dktX0_falls_0 := by decide +kernel
theorem dX0_falls_0 : decode cX0_falls 0 = .ok (.aload_n 2, 1) := dk_44 (dk_at dksX0_falls_0 0 rfl rfl)
theorem dX0_falls_1 : decode cX0_falls 1 = .ok (.iconst 0, 1) := dk_3 (dk_at dksX0_falls_0 1 rfl rfl)
theorem dX0_falls_2 : decode cX0_falls 2 = .ok (.aload_n 0, 1) := dk_42 (dk_at dksX0_falls_0 2 rfl rfl)
theorem dX0_falls_3 : decode cX0_falls 3 = .ok (.iload_n 1, 1) := dk_27 (dk_at dksX0_falls_0 3 rfl rfl)
theorem dX0_falls_4 : decode cX0_falls 4 = .ok (.invokevirtual 48, 3) := dk_182 0 48 (dk_at dksX0_falls_0 4 rfl rfl)
theorem dX0_falls_7 : decode cX0_falls 7 = .ok (.i2l, 1) := dk_133 (dk_at dksX0_falls_0 7 rfl rfl)
theorem dX0_falls_8 : decode cX0_falls 8 = .ok (.lastore, 1) := dk_80 (dk_at dksX0_falls_0 8 rfl rfl)
theorem dX0_falls_9 : decode cX0_falls 9 = .ok (.goto 9, 3) := dk_167 0 9 (dk_at dksX0_falls_0 9 rfl rfl)
theorem dX0_falls_12 : decode cX0_falls 12 = .ok (.astore_n 3, 1) := dk_78 (dk_at dksX0_falls_0 12 rfl rfl)
theorem dX0_falls_13 : decode cX0_falls 13 = .ok (.iconst 1, 1) := dk_4 (dk_at dksX0_falls_0 13 rfl rfl)
theorem dX0_falls_14 : decode cX0_falls 14 = .ok (.ireturn, 1) := dk_172 (dk_at dksX0_falls_0 14 rfl rfl)
theorem dX0_falls_15 : decode cX0_falls 15 = .ok (.astore_n 3, 1) := dk_78 (dk_at dksX0_falls_0 15 rfl rfl)
theorem dX0_falls_16 : decode cX0_falls 16 = .ok (.iconst 2, 1) := dk_5 (dk_at dksX0_falls_0 16 rfl rfl)
theorem dX0_falls_17 : decode cX0_falls 17 = .ok (.ireturn, 1) := dk_172 (dk_at dksX0_falls_0 17 rfl rfl)
theorem dX0_falls_18 : decode cX0_falls 18 = .ok (.iconst 0, 1) := dk_3 (dk_at dksX0_falls_0 18 rfl rfl)
theorem dX0_falls_19 : decode cX0_falls 19 = .ok (.ireturn, 1) := dk_172 (dk_at dksX0_falls_0 19 rfl rfl)
abbrev cX0_valueWithout : ByteArray := method_13_code
def yX0_valueWithout : MethodName := ⟨RX0, "valueWithout", "(LColourDuel;I[J)I"⟩
def dkwX0_valueWithout_0 : List UInt8 := [44, 3, 42, 27, 182, 0, 51, 133, 80, 167, 0, 9, 78, 4, 172, 78, 5, 172, 3, 172]
abbrev dktX0_valueWithout_0 : List UInt8 := dkwX0_valueWithout_0 ++ []
theorem dksX0_valueWithout_0 : cX0_valueWithout.data.toList.drop 0 = dktX0_valueWithout_0 := by decide +kernel
theorem dX0_valueWithout_0 : decode cX0_valueWithout 0 = .ok (.aload_n 2, 1) := dk_44 (dk_at dksX0_valueWithout_0 0 rfl rfl)
theorem dX0_valueWithout_1 : decode cX0_valueWithout 1 = .ok (.iconst 0, 1) := dk_3 (dk_at dksX0_valueWithout_0 1 rfl rfl)
theorem dX0_valueWithout_2 : decode cX0_valueWithout 2 = .ok (.aload_n 0, 1) := dk_42 (dk_at dksX0_valueWithout_0 2 rfl rfl)
theorem dX0_valueWithout_3 : decode cX0_valueWithout 3 = .ok (.iload_n 1, 1) := dk_27 (dk_at dksX0_valueWithout_0 3 rfl rfl)
theorem dX0_valueWithout_4 : decode cX0_valueWithout 4 = .ok (.invokevirtual 51, 3) := dk_182 0 51 (dk_at dksX0_valueWithout_0 4 rfl rfl)
theorem dX0_valueWithout_7 : decode cX0_valueWithout 7 = .ok (.i2l, 1) := dk_133 (dk_at dksX0_valueWithout_0 7 rfl rfl)
theorem dX0_valueWithout_8 : decode cX0_valueWithout 8 = .ok (.lastore, 1) := dk_80 (dk_at dksX0_valueWithout_0 8 rfl rfl)
theorem dX0_valueWithout_9 : decode cX0_valueWithout 9 = .ok (.goto 9, 3) := dk_167 0 9 (dk_at dksX0_valueWithout_0 9 rfl rfl)
theorem dX0_valueWithout_12 : decode cX0_valueWithout 12 = .ok (.astore_n 3, 1) := dk_78 (dk_at dksX0_valueWithout_0 12 rfl rfl)
theorem dX0_valueWithout_13 : decode cX0_valueWithout 13 = .ok (.iconst 1, 1) := dk_4 (dk_at dksX0_valueWithout_0 13 rfl rfl)
theorem dX0_valueWithout_14 : decode cX0_valueWithout 14 = .ok (.ireturn, 1) := dk_172 (dk_at dksX0_valueWithout_0 14 rfl rfl)
theorem dX0_valueWithout_15 : decode cX0_valueWithout 15 = .ok (.astore_n 3, 1) := dk_78 (dk_at dksX0_valueWithout_0 15 rfl rfl)
theorem dX0_valueWithout_16 : decode cX0_valueWithout 16 = .ok (.iconst 2, 1) := dk_5 (dk_at dksX0_valueWithout_0 16 rfl rfl)
theorem dX0_valueWithout_17 : decode cX0_valueWithout 17 = .ok (.ireturn, 1) := dk_172 (dk_at dksX0_valueWithout_0 17 rfl rfl)
theorem dX0_valueWithout_18 : decode cX0_valueWithout 18 = .ok (.iconst 0, 1) := dk_3 (dk_at dksX0_valueWithout_0 18 rfl rfl)
theorem dX0_valueWithout_19 : decode cX0_valueWithout 19 = .ok (.ireturn, 1) := dk_172 (dk_at dksX0_valueWithout_0 19 rfl rfl)
abbrev cX0_lay : ByteArray := method_14_code
def yX0_lay : MethodName := ⟨RX0, "lay", "(LColourDuel;II[J)I"⟩
def dkwX0_lay_0 : List UInt8 := [45, 3, 42, 27, 28, 182, 0, 54, 133, 80, 167, 0, 11, 58, 4, 4, 172, 58, 4, 5, 172, 3, 172]
abbrev dktX0_lay_0 : List UInt8 := dkwX0_lay_0 ++ []
theorem dksX0_lay_0 : cX0_lay.data.toList.drop 0 = dktX0_lay_0 := by decide +kernel
theorem dX0_lay_0 : decode cX0_lay 0 = .ok (.aload_n 3, 1) := dk_45 (dk_at dksX0_lay_0 0 rfl rfl)
theorem dX0_lay_1 : decode cX0_lay 1 = .ok (.iconst 0, 1) := dk_3 (dk_at dksX0_lay_0 1 rfl rfl)
theorem dX0_lay_2 : decode cX0_lay 2 = .ok (.aload_n 0, 1) := dk_42 (dk_at dksX0_lay_0 2 rfl rfl)
theorem dX0_lay_3 : decode cX0_lay 3 = .ok (.iload_n 1, 1) := dk_27 (dk_at dksX0_lay_0 3 rfl rfl)
theorem dX0_lay_4 : decode cX0_lay 4 = .ok (.iload_n 2, 1) := dk_28 (dk_at dksX0_lay_0 4 rfl rfl)
theorem dX0_lay_5 : decode cX0_lay 5 = .ok (.invokevirtual 54, 3) := dk_182 0 54 (dk_at dksX0_lay_0 5 rfl rfl)
theorem dX0_lay_8 : decode cX0_lay 8 = .ok (.i2l, 1) := dk_133 (dk_at dksX0_lay_0 8 rfl rfl)
theorem dX0_lay_9 : decode cX0_lay 9 = .ok (.lastore, 1) := dk_80 (dk_at dksX0_lay_0 9 rfl rfl)
theorem dX0_lay_10 : decode cX0_lay 10 = .ok (.goto 11, 3) := dk_167 0 11 (dk_at dksX0_lay_0 10 rfl rfl)
theorem dX0_lay_13 : decode cX0_lay 13 = .ok (.astore 4, 2) := dk_58 4 (dk_at dksX0_lay_0 13 rfl rfl)
theorem dX0_lay_15 : decode cX0_lay 15 = .ok (.iconst 1, 1) := dk_4 (dk_at dksX0_lay_0 15 rfl rfl)
theorem dX0_lay_16 : decode cX0_lay 16 = .ok (.ireturn, 1) := dk_172 (dk_at dksX0_lay_0 16 rfl rfl)
theorem dX0_lay_17 : decode cX0_lay 17 = .ok (.astore 4, 2) := dk_58 4 (dk_at dksX0_lay_0 17 rfl rfl)
theorem dX0_lay_19 : decode cX0_lay 19 = .ok (.iconst 2, 1) := dk_5 (dk_at dksX0_lay_0 19 rfl rfl)
theorem dX0_lay_20 : decode cX0_lay 20 = .ok (.ireturn, 1) := dk_172 (dk_at dksX0_lay_0 20 rfl rfl)
theorem dX0_lay_21 : decode cX0_lay 21 = .ok (.iconst 0, 1) := dk_3 (dk_at dksX0_lay_0 21 rfl rfl)
theorem dX0_lay_22 : decode cX0_lay 22 = .ok (.ireturn, 1) := dk_172 (dk_at dksX0_lay_0 22 rfl rfl)
abbrev cX0_pass : ByteArray := method_15_code
def yX0_pass : MethodName := ⟨RX0, "pass", "(LColourDuel;[J)I"⟩
def dkwX0_pass_0 : List UInt8 := [43, 3, 42, 182, 0, 57, 133, 80, 167, 0, 6, 77, 4, 172, 3, 172]
abbrev dktX0_pass_0 : List UInt8 := dkwX0_pass_0 ++ []
theorem dksX0_pass_0 : cX0_pass.data.toList.drop 0 = dktX0_pass_0 := by decide +kernel
theorem dX0_pass_0 : decode cX0_pass 0 = .ok (.aload_n 1, 1) := dk_43 (dk_at dksX0_pass_0 0 rfl rfl)
theorem dX0_pass_1 : decode cX0_pass 1 = .ok (.iconst 0, 1) := dk_3 (dk_at dksX0_pass_0 1 rfl rfl)
theorem dX0_pass_2 : decode cX0_pass 2 = .ok (.aload_n 0, 1) := dk_42 (dk_at dksX0_pass_0 2 rfl rfl)
theorem dX0_pass_3 : decode cX0_pass 3 = .ok (.invokevirtual 57, 3) := dk_182 0 57 (dk_at dksX0_pass_0 3 rfl rfl)
theorem dX0_pass_6 : decode cX0_pass 6 = .ok (.i2l, 1) := dk_133 (dk_at dksX0_pass_0 6 rfl rfl)
theorem dX0_pass_7 : decode cX0_pass 7 = .ok (.lastore, 1) := dk_80 (dk_at dksX0_pass_0 7 rfl rfl)
theorem dX0_pass_8 : decode cX0_pass 8 = .ok (.goto 6, 3) := dk_167 0 6 (dk_at dksX0_pass_0 8 rfl rfl)
theorem dX0_pass_11 : decode cX0_pass 11 = .ok (.astore_n 2, 1) := dk_77 (dk_at dksX0_pass_0 11 rfl rfl)
theorem dX0_pass_12 : decode cX0_pass 12 = .ok (.iconst 1, 1) := dk_4 (dk_at dksX0_pass_0 12 rfl rfl)
theorem dX0_pass_13 : decode cX0_pass 13 = .ok (.ireturn, 1) := dk_172 (dk_at dksX0_pass_0 13 rfl rfl)
theorem dX0_pass_14 : decode cX0_pass 14 = .ok (.iconst 0, 1) := dk_3 (dk_at dksX0_pass_0 14 rfl rfl)
theorem dX0_pass_15 : decode cX0_pass 15 = .ok (.ireturn, 1) := dk_172 (dk_at dksX0_pass_0 15 rfl rfl)
abbrev cX0_playOut : ByteArray := method_16_code
def yX0_playOut : MethodName := ⟨RX0, "playOut", "(LColourDuel;I[J)I"⟩
def dkwX0_playOut_0 : List UInt8 := [44, 3, 42, 27, 182, 0, 60, 133, 80, 167, 0, 6, 78, 4, 172, 3, 172]
abbrev dktX0_playOut_0 : List UInt8 := dkwX0_playOut_0 ++ []
theorem dksX0_playOut_0 : cX0_playOut.data.toList.drop 0 = dktX0_playOut_0 := by decide +kernel
theorem dX0_playOut_0 : decode cX0_playOut 0 = .ok (.aload_n 2, 1) := dk_44 (dk_at dksX0_playOut_0 0 rfl rfl)
theorem dX0_playOut_1 : decode cX0_playOut 1 = .ok (.iconst 0, 1) := dk_3 (dk_at dksX0_playOut_0 1 rfl rfl)
theorem dX0_playOut_2 : decode cX0_playOut 2 = .ok (.aload_n 0, 1) := dk_42 (dk_at dksX0_playOut_0 2 rfl rfl)
theorem dX0_playOut_3 : decode cX0_playOut 3 = .ok (.iload_n 1, 1) := dk_27 (dk_at dksX0_playOut_0 3 rfl rfl)
theorem dX0_playOut_4 : decode cX0_playOut 4 = .ok (.invokevirtual 60, 3) := dk_182 0 60 (dk_at dksX0_playOut_0 4 rfl rfl)
theorem dX0_playOut_7 : decode cX0_playOut 7 = .ok (.i2l, 1) := dk_133 (dk_at dksX0_playOut_0 7 rfl rfl)
theorem dX0_playOut_8 : decode cX0_playOut 8 = .ok (.lastore, 1) := dk_80 (dk_at dksX0_playOut_0 8 rfl rfl)
theorem dX0_playOut_9 : decode cX0_playOut 9 = .ok (.goto 6, 3) := dk_167 0 6 (dk_at dksX0_playOut_0 9 rfl rfl)
theorem dX0_playOut_12 : decode cX0_playOut 12 = .ok (.astore_n 3, 1) := dk_78 (dk_at dksX0_playOut_0 12 rfl rfl)
theorem dX0_playOut_13 : decode cX0_playOut 13 = .ok (.iconst 1, 1) := dk_4 (dk_at dksX0_playOut_0 13 rfl rfl)
theorem dX0_playOut_14 : decode cX0_playOut 14 = .ok (.ireturn, 1) := dk_172 (dk_at dksX0_playOut_0 14 rfl rfl)
theorem dX0_playOut_15 : decode cX0_playOut 15 = .ok (.iconst 0, 1) := dk_3 (dk_at dksX0_playOut_0 15 rfl rfl)
theorem dX0_playOut_16 : decode cX0_playOut 16 = .ok (.ireturn, 1) := dk_172 (dk_at dksX0_playOut_0 16 rfl rfl)
abbrev cX0_setPasses : ByteArray := method_17_code
def yX0_setPasses : MethodName := ⟨RX0, "setPasses", "(LColourDuel;I[J)I"⟩
def dkwX0_setPasses_0 : List UInt8 := [44, 3, 42, 27, 182, 0, 63, 133, 80, 167, 0, 6, 78, 4, 172, 3, 172]
abbrev dktX0_setPasses_0 : List UInt8 := dkwX0_setPasses_0 ++ []
theorem dksX0_setPasses_0 : cX0_setPasses.data.toList.drop 0 = dktX0_setPasses_0 := by decide +kernel
theorem dX0_setPasses_0 : decode cX0_setPasses 0 = .ok (.aload_n 2, 1) := dk_44 (dk_at dksX0_setPasses_0 0 rfl rfl)
theorem dX0_setPasses_1 : decode cX0_setPasses 1 = .ok (.iconst 0, 1) := dk_3 (dk_at dksX0_setPasses_0 1 rfl rfl)
theorem dX0_setPasses_2 : decode cX0_setPasses 2 = .ok (.aload_n 0, 1) := dk_42 (dk_at dksX0_setPasses_0 2 rfl rfl)
theorem dX0_setPasses_3 : decode cX0_setPasses 3 = .ok (.iload_n 1, 1) := dk_27 (dk_at dksX0_setPasses_0 3 rfl rfl)
theorem dX0_setPasses_4 : decode cX0_setPasses 4 = .ok (.invokevirtual 63, 3) := dk_182 0 63 (dk_at dksX0_setPasses_0 4 rfl rfl)
theorem dX0_setPasses_7 : decode cX0_setPasses 7 = .ok (.i2l, 1) := dk_133 (dk_at dksX0_setPasses_0 7 rfl rfl)
theorem dX0_setPasses_8 : decode cX0_setPasses 8 = .ok (.lastore, 1) := dk_80 (dk_at dksX0_setPasses_0 8 rfl rfl)
theorem dX0_setPasses_9 : decode cX0_setPasses 9 = .ok (.goto 6, 3) := dk_167 0 6 (dk_at dksX0_setPasses_0 9 rfl rfl)
theorem dX0_setPasses_12 : decode cX0_setPasses 12 = .ok (.astore_n 3, 1) := dk_78 (dk_at dksX0_setPasses_0 12 rfl rfl)
theorem dX0_setPasses_13 : decode cX0_setPasses 13 = .ok (.iconst 1, 1) := dk_4 (dk_at dksX0_setPasses_0 13 rfl rfl)
theorem dX0_setPasses_14 : decode cX0_setPasses 14 = .ok (.ireturn, 1) := dk_172 (dk_at dksX0_setPasses_0 14 rfl rfl)
theorem dX0_setPasses_15 : decode cX0_setPasses 15 = .ok (.iconst 0, 1) := dk_3 (dk_at dksX0_setPasses_0 15 rfl rfl)
theorem dX0_setPasses_16 : decode cX0_setPasses 16 = .ok (.ireturn, 1) := dk_172 (dk_at dksX0_setPasses_0 16 rfl rfl)
abbrev cX0_move : ByteArray := method_18_code
def yX0_move : MethodName := ⟨RX0, "move", "(LColourDuel;II[J)I"⟩
def dkwX0_move_0 : List UInt8 := [45, 3, 42, 27, 28, 182, 0, 66, 133, 80, 167, 0, 11, 58, 4, 4, 172, 58, 4, 5, 172, 3, 172]
abbrev dktX0_move_0 : List UInt8 := dkwX0_move_0 ++ []
theorem dksX0_move_0 : cX0_move.data.toList.drop 0 = dktX0_move_0 := by decide +kernel
theorem dX0_move_0 : decode cX0_move 0 = .ok (.aload_n 3, 1) := dk_45 (dk_at dksX0_move_0 0 rfl rfl)
theorem dX0_move_1 : decode cX0_move 1 = .ok (.iconst 0, 1) := dk_3 (dk_at dksX0_move_0 1 rfl rfl)
theorem dX0_move_2 : decode cX0_move 2 = .ok (.aload_n 0, 1) := dk_42 (dk_at dksX0_move_0 2 rfl rfl)
theorem dX0_move_3 : decode cX0_move 3 = .ok (.iload_n 1, 1) := dk_27 (dk_at dksX0_move_0 3 rfl rfl)
theorem dX0_move_4 : decode cX0_move 4 = .ok (.iload_n 2, 1) := dk_28 (dk_at dksX0_move_0 4 rfl rfl)
theorem dX0_move_5 : decode cX0_move 5 = .ok (.invokevirtual 66, 3) := dk_182 0 66 (dk_at dksX0_move_0 5 rfl rfl)
theorem dX0_move_8 : decode cX0_move 8 = .ok (.i2l, 1) := dk_133 (dk_at dksX0_move_0 8 rfl rfl)
theorem dX0_move_9 : decode cX0_move 9 = .ok (.lastore, 1) := dk_80 (dk_at dksX0_move_0 9 rfl rfl)
theorem dX0_move_10 : decode cX0_move 10 = .ok (.goto 11, 3) := dk_167 0 11 (dk_at dksX0_move_0 10 rfl rfl)
theorem dX0_move_13 : decode cX0_move 13 = .ok (.astore 4, 2) := dk_58 4 (dk_at dksX0_move_0 13 rfl rfl)
theorem dX0_move_15 : decode cX0_move 15 = .ok (.iconst 1, 1) := dk_4 (dk_at dksX0_move_0 15 rfl rfl)
theorem dX0_move_16 : decode cX0_move 16 = .ok (.ireturn, 1) := dk_172 (dk_at dksX0_move_0 16 rfl rfl)
theorem dX0_move_17 : decode cX0_move 17 = .ok (.astore 4, 2) := dk_58 4 (dk_at dksX0_move_0 17 rfl rfl)
theorem dX0_move_19 : decode cX0_move 19 = .ok (.iconst 2, 1) := dk_5 (dk_at dksX0_move_0 19 rfl rfl)
theorem dX0_move_20 : decode cX0_move 20 = .ok (.ireturn, 1) := dk_172 (dk_at dksX0_move_0 20 rfl rfl)
theorem dX0_move_21 : decode cX0_move 21 = .ok (.iconst 0, 1) := dk_3 (dk_at dksX0_move_0 21 rfl rfl)
theorem dX0_move_22 : decode cX0_move 22 = .ok (.ireturn, 1) := dk_172 (dk_at dksX0_move_0 22 rfl rfl)
abbrev cX0_account : ByteArray := method_19_code
def yX0_account : MethodName := ⟨RX0, "account", "(LColourDuel;II[J)I"⟩
def dkwX0_account_0 : List UInt8 := [45, 3, 42, 27, 28, 182, 0, 69, 133, 80, 167, 0, 11, 58, 4, 4, 172, 58, 4, 5, 172, 3, 172]
abbrev dktX0_account_0 : List UInt8 := dkwX0_account_0 ++ []
theorem dksX0_account_0 : cX0_account.data.toList.drop 0 = dktX0_account_0 := by decide +kernel
theorem dX0_account_0 : decode cX0_account 0 = .ok (.aload_n 3, 1) := dk_45 (dk_at dksX0_account_0 0 rfl rfl)
theorem dX0_account_1 : decode cX0_account 1 = .ok (.iconst 0, 1) := dk_3 (dk_at dksX0_account_0 1 rfl rfl)
theorem dX0_account_2 : decode cX0_account 2 = .ok (.aload_n 0, 1) := dk_42 (dk_at dksX0_account_0 2 rfl rfl)
theorem dX0_account_3 : decode cX0_account 3 = .ok (.iload_n 1, 1) := dk_27 (dk_at dksX0_account_0 3 rfl rfl)
theorem dX0_account_4 : decode cX0_account 4 = .ok (.iload_n 2, 1) := dk_28 (dk_at dksX0_account_0 4 rfl rfl)
theorem dX0_account_5 : decode cX0_account 5 = .ok (.invokevirtual 69, 3) := dk_182 0 69 (dk_at dksX0_account_0 5 rfl rfl)
theorem dX0_account_8 : decode cX0_account 8 = .ok (.i2l, 1) := dk_133 (dk_at dksX0_account_0 8 rfl rfl)
theorem dX0_account_9 : decode cX0_account 9 = .ok (.lastore, 1) := dk_80 (dk_at dksX0_account_0 9 rfl rfl)
theorem dX0_account_10 : decode cX0_account 10 = .ok (.goto 11, 3) := dk_167 0 11 (dk_at dksX0_account_0 10 rfl rfl)
theorem dX0_account_13 : decode cX0_account 13 = .ok (.astore 4, 2) := dk_58 4 (dk_at dksX0_account_0 13 rfl rfl)
theorem dX0_account_15 : decode cX0_account 15 = .ok (.iconst 1, 1) := dk_4 (dk_at dksX0_account_0 15 rfl rfl)
theorem dX0_account_16 : decode cX0_account 16 = .ok (.ireturn, 1) := dk_172 (dk_at dksX0_account_0 16 rfl rfl)
theorem dX0_account_17 : decode cX0_account 17 = .ok (.astore 4, 2) := dk_58 4 (dk_at dksX0_account_0 17 rfl rfl)
theorem dX0_account_19 : decode cX0_account 19 = .ok (.iconst 2, 1) := dk_5 (dk_at dksX0_account_0 19 rfl rfl)
theorem dX0_account_20 : decode cX0_account 20 = .ok (.ireturn, 1) := dk_172 (dk_at dksX0_account_0 20 rfl rfl)
theorem dX0_account_21 : decode cX0_account 21 = .ok (.iconst 0, 1) := dk_3 (dk_at dksX0_account_0 21 rfl rfl)
theorem dX0_account_22 : decode cX0_account 22 = .ok (.ireturn, 1) := dk_172 (dk_at dksX0_account_0 22 rfl rfl)
abbrev cX0_writtenByte : ByteArray := method_20_code
def yX0_writtenByte : MethodName := ⟨RX0, "writtenByte", "(LColourDuel;I[J)I"⟩
def dkwX0_writtenByte_0 : List UInt8 := [44, 3, 42, 27, 182, 0, 72, 133, 80, 167, 0, 6, 78, 4, 172, 3, 172]
abbrev dktX0_writtenByte_0 : List UInt8 := dkwX0_writtenByte_0 ++ []
theorem dksX0_writtenByte_0 : cX0_writtenByte.data.toList.drop 0 = dktX0_writtenByte_0 := by decide +kernel
theorem dX0_writtenByte_0 : decode cX0_writtenByte 0 = .ok (.aload_n 2, 1) := dk_44 (dk_at dksX0_writtenByte_0 0 rfl rfl)
theorem dX0_writtenByte_1 : decode cX0_writtenByte 1 = .ok (.iconst 0, 1) := dk_3 (dk_at dksX0_writtenByte_0 1 rfl rfl)
theorem dX0_writtenByte_2 : decode cX0_writtenByte 2 = .ok (.aload_n 0, 1) := dk_42 (dk_at dksX0_writtenByte_0 2 rfl rfl)
theorem dX0_writtenByte_3 : decode cX0_writtenByte 3 = .ok (.iload_n 1, 1) := dk_27 (dk_at dksX0_writtenByte_0 3 rfl rfl)
theorem dX0_writtenByte_4 : decode cX0_writtenByte 4 = .ok (.invokevirtual 72, 3) := dk_182 0 72 (dk_at dksX0_writtenByte_0 4 rfl rfl)
theorem dX0_writtenByte_7 : decode cX0_writtenByte 7 = .ok (.i2l, 1) := dk_133 (dk_at dksX0_writtenByte_0 7 rfl rfl)
theorem dX0_writtenByte_8 : decode cX0_writtenByte 8 = .ok (.lastore, 1) := dk_80 (dk_at dksX0_writtenByte_0 8 rfl rfl)
theorem dX0_writtenByte_9 : decode cX0_writtenByte 9 = .ok (.goto 6, 3) := dk_167 0 6 (dk_at dksX0_writtenByte_0 9 rfl rfl)
theorem dX0_writtenByte_12 : decode cX0_writtenByte 12 = .ok (.astore_n 3, 1) := dk_78 (dk_at dksX0_writtenByte_0 12 rfl rfl)
theorem dX0_writtenByte_13 : decode cX0_writtenByte 13 = .ok (.iconst 1, 1) := dk_4 (dk_at dksX0_writtenByte_0 13 rfl rfl)
theorem dX0_writtenByte_14 : decode cX0_writtenByte 14 = .ok (.ireturn, 1) := dk_172 (dk_at dksX0_writtenByte_0 14 rfl rfl)
theorem dX0_writtenByte_15 : decode cX0_writtenByte 15 = .ok (.iconst 0, 1) := dk_3 (dk_at dksX0_writtenByte_0 15 rfl rfl)
theorem dX0_writtenByte_16 : decode cX0_writtenByte 16 = .ok (.ireturn, 1) := dk_172 (dk_at dksX0_writtenByte_0 16 rfl rfl)
abbrev cX0_undo : ByteArray := method_21_code
def yX0_undo : MethodName := ⟨RX0, "undo", "(LColourDuel;[J)I"⟩
def dkwX0_undo_0 : List UInt8 := [43, 3, 42, 182, 0, 75, 133, 80, 167, 0, 6, 77, 4, 172, 3, 172]
abbrev dktX0_undo_0 : List UInt8 := dkwX0_undo_0 ++ []
theorem dksX0_undo_0 : cX0_undo.data.toList.drop 0 = dktX0_undo_0 := by decide +kernel
theorem dX0_undo_0 : decode cX0_undo 0 = .ok (.aload_n 1, 1) := dk_43 (dk_at dksX0_undo_0 0 rfl rfl)
theorem dX0_undo_1 : decode cX0_undo 1 = .ok (.iconst 0, 1) := dk_3 (dk_at dksX0_undo_0 1 rfl rfl)
theorem dX0_undo_2 : decode cX0_undo 2 = .ok (.aload_n 0, 1) := dk_42 (dk_at dksX0_undo_0 2 rfl rfl)
theorem dX0_undo_3 : decode cX0_undo 3 = .ok (.invokevirtual 75, 3) := dk_182 0 75 (dk_at dksX0_undo_0 3 rfl rfl)
theorem dX0_undo_6 : decode cX0_undo 6 = .ok (.i2l, 1) := dk_133 (dk_at dksX0_undo_0 6 rfl rfl)
theorem dX0_undo_7 : decode cX0_undo 7 = .ok (.lastore, 1) := dk_80 (dk_at dksX0_undo_0 7 rfl rfl)
theorem dX0_undo_8 : decode cX0_undo 8 = .ok (.goto 6, 3) := dk_167 0 6 (dk_at dksX0_undo_0 8 rfl rfl)
theorem dX0_undo_11 : decode cX0_undo 11 = .ok (.astore_n 2, 1) := dk_77 (dk_at dksX0_undo_0 11 rfl rfl)
theorem dX0_undo_12 : decode cX0_undo 12 = .ok (.iconst 1, 1) := dk_4 (dk_at dksX0_undo_0 12 rfl rfl)
theorem dX0_undo_13 : decode cX0_undo 13 = .ok (.ireturn, 1) := dk_172 (dk_at dksX0_undo_0 13 rfl rfl)
theorem dX0_undo_14 : decode cX0_undo 14 = .ok (.iconst 0, 1) := dk_3 (dk_at dksX0_undo_0 14 rfl rfl)
theorem dX0_undo_15 : decode cX0_undo 15 = .ok (.ireturn, 1) := dk_172 (dk_at dksX0_undo_0 15 rfl rfl)
abbrev cX0_save : ByteArray := method_22_code
def yX0_save : MethodName := ⟨RX0, "save", "(LColourDuel;I[J)I"⟩
def dkwX0_save_0 : List UInt8 := [44, 3, 42, 27, 182, 0, 78, 133, 80, 167, 0, 6, 78, 4, 172, 3, 172]
abbrev dktX0_save_0 : List UInt8 := dkwX0_save_0 ++ []
theorem dksX0_save_0 : cX0_save.data.toList.drop 0 = dktX0_save_0 := by decide +kernel
theorem dX0_save_0 : decode cX0_save 0 = .ok (.aload_n 2, 1) := dk_44 (dk_at dksX0_save_0 0 rfl rfl)
theorem dX0_save_1 : decode cX0_save 1 = .ok (.iconst 0, 1) := dk_3 (dk_at dksX0_save_0 1 rfl rfl)
theorem dX0_save_2 : decode cX0_save 2 = .ok (.aload_n 0, 1) := dk_42 (dk_at dksX0_save_0 2 rfl rfl)
theorem dX0_save_3 : decode cX0_save 3 = .ok (.iload_n 1, 1) := dk_27 (dk_at dksX0_save_0 3 rfl rfl)
theorem dX0_save_4 : decode cX0_save 4 = .ok (.invokevirtual 78, 3) := dk_182 0 78 (dk_at dksX0_save_0 4 rfl rfl)
theorem dX0_save_7 : decode cX0_save 7 = .ok (.i2l, 1) := dk_133 (dk_at dksX0_save_0 7 rfl rfl)
theorem dX0_save_8 : decode cX0_save 8 = .ok (.lastore, 1) := dk_80 (dk_at dksX0_save_0 8 rfl rfl)
theorem dX0_save_9 : decode cX0_save 9 = .ok (.goto 6, 3) := dk_167 0 6 (dk_at dksX0_save_0 9 rfl rfl)
theorem dX0_save_12 : decode cX0_save 12 = .ok (.astore_n 3, 1) := dk_78 (dk_at dksX0_save_0 12 rfl rfl)
theorem dX0_save_13 : decode cX0_save 13 = .ok (.iconst 1, 1) := dk_4 (dk_at dksX0_save_0 13 rfl rfl)
theorem dX0_save_14 : decode cX0_save 14 = .ok (.ireturn, 1) := dk_172 (dk_at dksX0_save_0 14 rfl rfl)
theorem dX0_save_15 : decode cX0_save 15 = .ok (.iconst 0, 1) := dk_3 (dk_at dksX0_save_0 15 rfl rfl)
theorem dX0_save_16 : decode cX0_save 16 = .ok (.ireturn, 1) := dk_172 (dk_at dksX0_save_0 16 rfl rfl)
abbrev cX0_restore : ByteArray := method_23_code
def yX0_restore : MethodName := ⟨RX0, "restore", "(LColourDuel;I[J)I"⟩
def dkwX0_restore_0 : List UInt8 := [44, 3, 42, 27, 182, 0, 81, 133, 80, 167, 0, 9, 78, 4, 172, 78, 5, 172, 3, 172]
abbrev dktX0_restore_0 : List UInt8 := dkwX0_restore_0 ++ []
theorem dksX0_restore_0 : cX0_restore.data.toList.drop 0 = dktX0_restore_0 := by decide +kernel
theorem dX0_restore_0 : decode cX0_restore 0 = .ok (.aload_n 2, 1) := dk_44 (dk_at dksX0_restore_0 0 rfl rfl)
theorem dX0_restore_1 : decode cX0_restore 1 = .ok (.iconst 0, 1) := dk_3 (dk_at dksX0_restore_0 1 rfl rfl)
theorem dX0_restore_2 : decode cX0_restore 2 = .ok (.aload_n 0, 1) := dk_42 (dk_at dksX0_restore_0 2 rfl rfl)
theorem dX0_restore_3 : decode cX0_restore 3 = .ok (.iload_n 1, 1) := dk_27 (dk_at dksX0_restore_0 3 rfl rfl)
theorem dX0_restore_4 : decode cX0_restore 4 = .ok (.invokevirtual 81, 3) := dk_182 0 81 (dk_at dksX0_restore_0 4 rfl rfl)
theorem dX0_restore_7 : decode cX0_restore 7 = .ok (.i2l, 1) := dk_133 (dk_at dksX0_restore_0 7 rfl rfl)
theorem dX0_restore_8 : decode cX0_restore 8 = .ok (.lastore, 1) := dk_80 (dk_at dksX0_restore_0 8 rfl rfl)
theorem dX0_restore_9 : decode cX0_restore 9 = .ok (.goto 9, 3) := dk_167 0 9 (dk_at dksX0_restore_0 9 rfl rfl)
theorem dX0_restore_12 : decode cX0_restore 12 = .ok (.astore_n 3, 1) := dk_78 (dk_at dksX0_restore_0 12 rfl rfl)
theorem dX0_restore_13 : decode cX0_restore 13 = .ok (.iconst 1, 1) := dk_4 (dk_at dksX0_restore_0 13 rfl rfl)
theorem dX0_restore_14 : decode cX0_restore 14 = .ok (.ireturn, 1) := dk_172 (dk_at dksX0_restore_0 14 rfl rfl)
theorem dX0_restore_15 : decode cX0_restore 15 = .ok (.astore_n 3, 1) := dk_78 (dk_at dksX0_restore_0 15 rfl rfl)
theorem dX0_restore_16 : decode cX0_restore 16 = .ok (.iconst 2, 1) := dk_5 (dk_at dksX0_restore_0 16 rfl rfl)
theorem dX0_restore_17 : decode cX0_restore 17 = .ok (.ireturn, 1) := dk_172 (dk_at dksX0_restore_0 17 rfl rfl)
theorem dX0_restore_18 : decode cX0_restore 18 = .ok (.iconst 0, 1) := dk_3 (dk_at dksX0_restore_0 18 rfl rfl)
theorem dX0_restore_19 : decode cX0_restore 19 = .ok (.ireturn, 1) := dk_172 (dk_at dksX0_restore_0 19 rfl rfl)
theorem q94 : (Jvm.Cond.initialized "ColourDuelLaw") ∈ lw_all := lw_g (lw_at lw_m1 0 rfl) rfl
theorem q136 : (Jvm.Cond.classLink "ColourDuelLaw" (8 : Nat) "ColourDuel") ∈ lw_all := lw_g (lw_at lw_m1 42 rfl) rfl
theorem q138 : (Jvm.Cond.methodLink "ColourDuelLaw" (84 : Nat) ({ cls := "ColourDuel", name := "<init>", desc := "()V" } : Jvm.MethodName)) ∈ lw_all := lw_g (lw_at lw_m1 44 rfl) rfl
theorem q690 : (Jvm.Cond.methodLink "ColourDuelLaw" (101 : Nat) ({ cls := "ColourDuel", name := "errorPosition", desc := "()I" } : Jvm.MethodName)) ∈ lw_all := lw_g (lw_at lw_m3 116 rfl) rfl
theorem q694 : (Jvm.Cond.methodLink "ColourDuelLaw" (118 : Nat) ({ cls := "ColourDuel", name := "value", desc := "()I" } : Jvm.MethodName)) ∈ lw_all := lw_g (lw_at lw_m3 120 rfl) rfl
theorem q797 : (Jvm.Cond.methodLink "ColourDuelLaw" (125 : Nat) ({ cls := "ColourDuel", name := "winningMoves", desc := "()I" } : Jvm.MethodName)) ∈ lw_all := lw_g (lw_at lw_m3 223 rfl) rfl
theorem q1041 : (Jvm.Cond.methodLink "ColourDuelLaw" (133 : Nat) ({ cls := "ColourDuel", name := "longest", desc := "()I" } : Jvm.MethodName)) ∈ lw_all := lw_g (lw_at lw_m4 227 rfl) rfl
theorem q1050 : (Jvm.Cond.methodLink "ColourDuelLaw" (137 : Nat) ({ cls := "ColourDuel", name := "shortest", desc := "()I" } : Jvm.MethodName)) ∈ lw_all := lw_g (lw_at lw_m4 236 rfl) rfl
theorem q1055 : (Jvm.Cond.methodLink "ColourDuelLaw" (141 : Nat) ({ cls := "ColourDuel", name := "meanValue", desc := "()F" } : Jvm.MethodName)) ∈ lw_all := lw_g (lw_at lw_m5 1 rfl) rfl
theorem q1130 : (Jvm.Cond.methodLink "ColourDuelLaw" (173 : Nat) ({ cls := "ColourDuel", name := "writeBoard", desc := "()I" } : Jvm.MethodName)) ∈ lw_all := lw_g (lw_at lw_m5 76 rfl) rfl
theorem q1228 : (Jvm.Cond.methodLink "ColourDuelLaw" (88 : Nat) ({ cls := "ColourDuelLaw", name := "append", desc := "(LColourDuel;IIIII[J)I" } : Jvm.MethodName)) ∈ lw_all := lw_g (lw_at lw_m5 174 rfl) rfl
theorem q1229 : (Jvm.Cond.static ({ cls := "ColourDuelLaw", name := "append", desc := "(LColourDuel;IIIII[J)I" } : Jvm.MethodName)) ∈ lw_all := lw_g (lw_at lw_m5 175 rfl) rfl
theorem q1230 : (Jvm.Cond.codeWith ({ cls := "ColourDuelLaw", name := "append", desc := "(LColourDuel;IIIII[J)I" } : Jvm.MethodName) method_3_code (8 : Nat) (Option.some Jvm.ClassFile.FieldType.int) [((0 : Nat), (16 : Nat), (19 : Nat), (13 : Nat))]) ∈ lw_all := lw_g (lw_at lw_m5 176 rfl) rfl
theorem q1231 : (Jvm.Cond.classLink "ColourDuelLaw" (13 : Nat) "java/lang/IllegalStateException") ∈ lw_all := lw_g (lw_at lw_m5 177 rfl) rfl
theorem q1232 : (Jvm.Cond.methodLink "ColourDuelLaw" (7 : Nat) ({ cls := "ColourDuel", name := "append", desc := "(IIIII)I" } : Jvm.MethodName)) ∈ lw_all := lw_g (lw_at lw_m5 178 rfl) rfl
theorem q1264 : (Jvm.Cond.methodLink "ColourDuelLaw" (97 : Nat) ({ cls := "ColourDuelLaw", name := "load", desc := "(LColourDuel;I[J)I" } : Jvm.MethodName)) ∈ lw_all := lw_g (lw_at lw_m5 210 rfl) rfl
theorem q1265 : (Jvm.Cond.static ({ cls := "ColourDuelLaw", name := "load", desc := "(LColourDuel;I[J)I" } : Jvm.MethodName)) ∈ lw_all := lw_g (lw_at lw_m5 211 rfl) rfl
theorem q1266 : (Jvm.Cond.codeWith ({ cls := "ColourDuelLaw", name := "load", desc := "(LColourDuel;I[J)I" } : Jvm.MethodName) method_4_code (4 : Nat) (Option.some Jvm.ClassFile.FieldType.int) [((0 : Nat), (9 : Nat), (12 : Nat), (19 : Nat))]) ∈ lw_all := lw_g (lw_at lw_m5 212 rfl) rfl
theorem q1267 : (Jvm.Cond.classLink "ColourDuelLaw" (19 : Nat) "java/lang/IllegalArgumentException") ∈ lw_all := lw_g (lw_at lw_m5 213 rfl) rfl
theorem q1268 : (Jvm.Cond.methodLink "ColourDuelLaw" (15 : Nat) ({ cls := "ColourDuel", name := "load", desc := "(I)I" } : Jvm.MethodName)) ∈ lw_all := lw_g (lw_at lw_m5 214 rfl) rfl
theorem q1506 : (Jvm.Cond.methodLink "ColourDuelLaw" (105 : Nat) ({ cls := "ColourDuelLaw", name := "count", desc := "(LColourDuel;I[J)I" } : Jvm.MethodName)) ∈ lw_all := lw_g (lw_at lw_m6 212 rfl) rfl
theorem q1507 : (Jvm.Cond.static ({ cls := "ColourDuelLaw", name := "count", desc := "(LColourDuel;I[J)I" } : Jvm.MethodName)) ∈ lw_all := lw_g (lw_at lw_m6 213 rfl) rfl
theorem q1508 : (Jvm.Cond.codeWith ({ cls := "ColourDuelLaw", name := "count", desc := "(LColourDuel;I[J)I" } : Jvm.MethodName) method_5_code (4 : Nat) (Option.some Jvm.ClassFile.FieldType.int) [((0 : Nat), (9 : Nat), (12 : Nat), (19 : Nat))]) ∈ lw_all := lw_g (lw_at lw_m6 214 rfl) rfl
theorem q1509 : (Jvm.Cond.methodLink "ColourDuelLaw" (21 : Nat) ({ cls := "ColourDuel", name := "count", desc := "(I)I" } : Jvm.MethodName)) ∈ lw_all := lw_g (lw_at lw_m6 215 rfl) rfl
theorem q1534 : (Jvm.Cond.methodLink "ColourDuelLaw" (108 : Nat) ({ cls := "ColourDuelLaw", name := "vertex", desc := "(LColourDuel;II[J)I" } : Jvm.MethodName)) ∈ lw_all := lw_g (lw_at lw_m7 0 rfl) rfl
theorem q1535 : (Jvm.Cond.static ({ cls := "ColourDuelLaw", name := "vertex", desc := "(LColourDuel;II[J)I" } : Jvm.MethodName)) ∈ lw_all := lw_g (lw_at lw_m7 1 rfl) rfl
theorem q1536 : (Jvm.Cond.codeWith ({ cls := "ColourDuelLaw", name := "vertex", desc := "(LColourDuel;II[J)I" } : Jvm.MethodName) method_6_code (5 : Nat) (Option.some Jvm.ClassFile.FieldType.int) [((0 : Nat), (10 : Nat), (13 : Nat), (28 : Nat)), ((0 : Nat), (10 : Nat), (17 : Nat), (19 : Nat))]) ∈ lw_all := lw_g (lw_at lw_m7 2 rfl) rfl
theorem q1537 : (Jvm.Cond.classLink "ColourDuelLaw" (28 : Nat) "java/lang/IndexOutOfBoundsException") ∈ lw_all := lw_g (lw_at lw_m7 3 rfl) rfl
theorem q1540 : (Jvm.Cond.methodLink "ColourDuelLaw" (24 : Nat) ({ cls := "ColourDuel", name := "vertex", desc := "(II)I" } : Jvm.MethodName)) ∈ lw_all := lw_g (lw_at lw_m7 6 rfl) rfl
theorem q1576 : (Jvm.Cond.methodLink "ColourDuelLaw" (112 : Nat) ({ cls := "ColourDuelLaw", name := "reason", desc := "(LColourDuel;II[J)I" } : Jvm.MethodName)) ∈ lw_all := lw_g (lw_at lw_m7 42 rfl) rfl
theorem q1577 : (Jvm.Cond.static ({ cls := "ColourDuelLaw", name := "reason", desc := "(LColourDuel;II[J)I" } : Jvm.MethodName)) ∈ lw_all := lw_g (lw_at lw_m7 43 rfl) rfl
theorem q1578 : (Jvm.Cond.codeWith ({ cls := "ColourDuelLaw", name := "reason", desc := "(LColourDuel;II[J)I" } : Jvm.MethodName) method_7_code (5 : Nat) (Option.some Jvm.ClassFile.FieldType.int) [((0 : Nat), (10 : Nat), (13 : Nat), (28 : Nat))]) ∈ lw_all := lw_g (lw_at lw_m7 44 rfl) rfl
theorem q1579 : (Jvm.Cond.methodLink "ColourDuelLaw" (30 : Nat) ({ cls := "ColourDuel", name := "reason", desc := "(II)I" } : Jvm.MethodName)) ∈ lw_all := lw_g (lw_at lw_m7 45 rfl) rfl
theorem q1589 : (Jvm.Cond.methodLink "ColourDuelLaw" (115 : Nat) ({ cls := "ColourDuelLaw", name := "part", desc := "(LColourDuel;II[J)I" } : Jvm.MethodName)) ∈ lw_all := lw_g (lw_at lw_m7 55 rfl) rfl
theorem q1590 : (Jvm.Cond.static ({ cls := "ColourDuelLaw", name := "part", desc := "(LColourDuel;II[J)I" } : Jvm.MethodName)) ∈ lw_all := lw_g (lw_at lw_m7 56 rfl) rfl
theorem q1591 : (Jvm.Cond.codeWith ({ cls := "ColourDuelLaw", name := "part", desc := "(LColourDuel;II[J)I" } : Jvm.MethodName) method_8_code (5 : Nat) (Option.some Jvm.ClassFile.FieldType.int) [((0 : Nat), (10 : Nat), (13 : Nat), (28 : Nat)), ((0 : Nat), (10 : Nat), (17 : Nat), (19 : Nat))]) ∈ lw_all := lw_g (lw_at lw_m7 57 rfl) rfl
theorem q1592 : (Jvm.Cond.methodLink "ColourDuelLaw" (33 : Nat) ({ cls := "ColourDuel", name := "part", desc := "(II)I" } : Jvm.MethodName)) ∈ lw_all := lw_g (lw_at lw_m7 58 rfl) rfl
theorem q1611 : (Jvm.Cond.methodLink "ColourDuelLaw" (122 : Nat) ({ cls := "ColourDuelLaw", name := "valueIf", desc := "(LColourDuel;II[J)I" } : Jvm.MethodName)) ∈ lw_all := lw_g (lw_at lw_m7 77 rfl) rfl
theorem q1612 : (Jvm.Cond.static ({ cls := "ColourDuelLaw", name := "valueIf", desc := "(LColourDuel;II[J)I" } : Jvm.MethodName)) ∈ lw_all := lw_g (lw_at lw_m7 78 rfl) rfl
theorem q1613 : (Jvm.Cond.codeWith ({ cls := "ColourDuelLaw", name := "valueIf", desc := "(LColourDuel;II[J)I" } : Jvm.MethodName) method_9_code (5 : Nat) (Option.some Jvm.ClassFile.FieldType.int) [((0 : Nat), (10 : Nat), (13 : Nat), (28 : Nat)), ((0 : Nat), (10 : Nat), (17 : Nat), (39 : Nat))]) ∈ lw_all := lw_g (lw_at lw_m7 79 rfl) rfl
theorem q1614 : (Jvm.Cond.classLink "ColourDuelLaw" (39 : Nat) "java/util/NoSuchElementException") ∈ lw_all := lw_g (lw_at lw_m7 80 rfl) rfl
theorem q1615 : (Jvm.Cond.methodLink "ColourDuelLaw" (36 : Nat) ({ cls := "ColourDuel", name := "valueIf", desc := "(II)I" } : Jvm.MethodName)) ∈ lw_all := lw_g (lw_at lw_m7 81 rfl) rfl
theorem q1624 : (Jvm.Cond.methodLink "ColourDuelLaw" (129 : Nat) ({ cls := "ColourDuelLaw", name := "bestMove", desc := "(LColourDuel;[J)I" } : Jvm.MethodName)) ∈ lw_all := lw_g (lw_at lw_m7 90 rfl) rfl
theorem q1625 : (Jvm.Cond.static ({ cls := "ColourDuelLaw", name := "bestMove", desc := "(LColourDuel;[J)I" } : Jvm.MethodName)) ∈ lw_all := lw_g (lw_at lw_m7 91 rfl) rfl
theorem q1626 : (Jvm.Cond.codeWith ({ cls := "ColourDuelLaw", name := "bestMove", desc := "(LColourDuel;[J)I" } : Jvm.MethodName) method_10_code (3 : Nat) (Option.some Jvm.ClassFile.FieldType.int) [((0 : Nat), (8 : Nat), (11 : Nat), (39 : Nat))]) ∈ lw_all := lw_g (lw_at lw_m7 92 rfl) rfl
theorem q1627 : (Jvm.Cond.methodLink "ColourDuelLaw" (41 : Nat) ({ cls := "ColourDuel", name := "bestMove", desc := "()I" } : Jvm.MethodName)) ∈ lw_all := lw_g (lw_at lw_m7 93 rfl) rfl
theorem q1673 : (Jvm.Cond.methodLink "ColourDuelLaw" (146 : Nat) ({ cls := "ColourDuelLaw", name := "winningColours", desc := "(LColourDuel;I[J)I" } : Jvm.MethodName)) ∈ lw_all := lw_g (lw_at lw_m7 139 rfl) rfl
theorem q1674 : (Jvm.Cond.static ({ cls := "ColourDuelLaw", name := "winningColours", desc := "(LColourDuel;I[J)I" } : Jvm.MethodName)) ∈ lw_all := lw_g (lw_at lw_m7 140 rfl) rfl
theorem q1675 : (Jvm.Cond.codeWith ({ cls := "ColourDuelLaw", name := "winningColours", desc := "(LColourDuel;I[J)I" } : Jvm.MethodName) method_11_code (4 : Nat) (Option.some Jvm.ClassFile.FieldType.int) [((0 : Nat), (9 : Nat), (12 : Nat), (28 : Nat))]) ∈ lw_all := lw_g (lw_at lw_m7 141 rfl) rfl
theorem q1676 : (Jvm.Cond.methodLink "ColourDuelLaw" (45 : Nat) ({ cls := "ColourDuel", name := "winningColours", desc := "(I)I" } : Jvm.MethodName)) ∈ lw_all := lw_g (lw_at lw_m7 142 rfl) rfl
theorem q1680 : (Jvm.Cond.methodLink "ColourDuelLaw" (149 : Nat) ({ cls := "ColourDuelLaw", name := "falls", desc := "(LColourDuel;I[J)I" } : Jvm.MethodName)) ∈ lw_all := lw_g (lw_at lw_m7 146 rfl) rfl
theorem q1681 : (Jvm.Cond.static ({ cls := "ColourDuelLaw", name := "falls", desc := "(LColourDuel;I[J)I" } : Jvm.MethodName)) ∈ lw_all := lw_g (lw_at lw_m7 147 rfl) rfl
theorem q1682 : (Jvm.Cond.codeWith ({ cls := "ColourDuelLaw", name := "falls", desc := "(LColourDuel;I[J)I" } : Jvm.MethodName) method_12_code (4 : Nat) (Option.some Jvm.ClassFile.FieldType.int) [((0 : Nat), (9 : Nat), (12 : Nat), (28 : Nat)), ((0 : Nat), (9 : Nat), (15 : Nat), (39 : Nat))]) ∈ lw_all := lw_g (lw_at lw_m7 148 rfl) rfl
theorem q1683 : (Jvm.Cond.methodLink "ColourDuelLaw" (48 : Nat) ({ cls := "ColourDuel", name := "falls", desc := "(I)I" } : Jvm.MethodName)) ∈ lw_all := lw_g (lw_at lw_m7 149 rfl) rfl
theorem q1688 : (Jvm.Cond.methodLink "ColourDuelLaw" (152 : Nat) ({ cls := "ColourDuelLaw", name := "valueWithout", desc := "(LColourDuel;I[J)I" } : Jvm.MethodName)) ∈ lw_all := lw_g (lw_at lw_m7 154 rfl) rfl
theorem q1689 : (Jvm.Cond.static ({ cls := "ColourDuelLaw", name := "valueWithout", desc := "(LColourDuel;I[J)I" } : Jvm.MethodName)) ∈ lw_all := lw_g (lw_at lw_m7 155 rfl) rfl
theorem q1690 : (Jvm.Cond.codeWith ({ cls := "ColourDuelLaw", name := "valueWithout", desc := "(LColourDuel;I[J)I" } : Jvm.MethodName) method_13_code (4 : Nat) (Option.some Jvm.ClassFile.FieldType.int) [((0 : Nat), (9 : Nat), (12 : Nat), (28 : Nat)), ((0 : Nat), (9 : Nat), (15 : Nat), (39 : Nat))]) ∈ lw_all := lw_g (lw_at lw_m7 156 rfl) rfl
theorem q1691 : (Jvm.Cond.methodLink "ColourDuelLaw" (51 : Nat) ({ cls := "ColourDuel", name := "valueWithout", desc := "(I)I" } : Jvm.MethodName)) ∈ lw_all := lw_g (lw_at lw_m7 157 rfl) rfl
theorem q1695 : (Jvm.Cond.methodLink "ColourDuelLaw" (155 : Nat) ({ cls := "ColourDuelLaw", name := "lay", desc := "(LColourDuel;II[J)I" } : Jvm.MethodName)) ∈ lw_all := lw_g (lw_at lw_m7 161 rfl) rfl
theorem q1696 : (Jvm.Cond.static ({ cls := "ColourDuelLaw", name := "lay", desc := "(LColourDuel;II[J)I" } : Jvm.MethodName)) ∈ lw_all := lw_g (lw_at lw_m7 162 rfl) rfl
theorem q1697 : (Jvm.Cond.codeWith ({ cls := "ColourDuelLaw", name := "lay", desc := "(LColourDuel;II[J)I" } : Jvm.MethodName) method_14_code (5 : Nat) (Option.some Jvm.ClassFile.FieldType.int) [((0 : Nat), (10 : Nat), (13 : Nat), (28 : Nat)), ((0 : Nat), (10 : Nat), (17 : Nat), (13 : Nat))]) ∈ lw_all := lw_g (lw_at lw_m7 163 rfl) rfl
theorem q1698 : (Jvm.Cond.methodLink "ColourDuelLaw" (54 : Nat) ({ cls := "ColourDuel", name := "lay", desc := "(II)I" } : Jvm.MethodName)) ∈ lw_all := lw_g (lw_at lw_m7 164 rfl) rfl
theorem q1707 : (Jvm.Cond.methodLink "ColourDuelLaw" (158 : Nat) ({ cls := "ColourDuelLaw", name := "pass", desc := "(LColourDuel;[J)I" } : Jvm.MethodName)) ∈ lw_all := lw_g (lw_at lw_m7 173 rfl) rfl
theorem q1708 : (Jvm.Cond.static ({ cls := "ColourDuelLaw", name := "pass", desc := "(LColourDuel;[J)I" } : Jvm.MethodName)) ∈ lw_all := lw_g (lw_at lw_m7 174 rfl) rfl
theorem q1709 : (Jvm.Cond.codeWith ({ cls := "ColourDuelLaw", name := "pass", desc := "(LColourDuel;[J)I" } : Jvm.MethodName) method_15_code (3 : Nat) (Option.some Jvm.ClassFile.FieldType.int) [((0 : Nat), (8 : Nat), (11 : Nat), (13 : Nat))]) ∈ lw_all := lw_g (lw_at lw_m7 175 rfl) rfl
theorem q1710 : (Jvm.Cond.methodLink "ColourDuelLaw" (57 : Nat) ({ cls := "ColourDuel", name := "pass", desc := "()I" } : Jvm.MethodName)) ∈ lw_all := lw_g (lw_at lw_m7 176 rfl) rfl
theorem q1715 : (Jvm.Cond.methodLink "ColourDuelLaw" (161 : Nat) ({ cls := "ColourDuelLaw", name := "playOut", desc := "(LColourDuel;I[J)I" } : Jvm.MethodName)) ∈ lw_all := lw_g (lw_at lw_m7 181 rfl) rfl
theorem q1716 : (Jvm.Cond.static ({ cls := "ColourDuelLaw", name := "playOut", desc := "(LColourDuel;I[J)I" } : Jvm.MethodName)) ∈ lw_all := lw_g (lw_at lw_m7 182 rfl) rfl
theorem q1717 : (Jvm.Cond.codeWith ({ cls := "ColourDuelLaw", name := "playOut", desc := "(LColourDuel;I[J)I" } : Jvm.MethodName) method_16_code (4 : Nat) (Option.some Jvm.ClassFile.FieldType.int) [((0 : Nat), (9 : Nat), (12 : Nat), (19 : Nat))]) ∈ lw_all := lw_g (lw_at lw_m7 183 rfl) rfl
theorem q1718 : (Jvm.Cond.methodLink "ColourDuelLaw" (60 : Nat) ({ cls := "ColourDuel", name := "playOut", desc := "(I)I" } : Jvm.MethodName)) ∈ lw_all := lw_g (lw_at lw_m7 184 rfl) rfl
theorem q1723 : (Jvm.Cond.methodLink "ColourDuelLaw" (164 : Nat) ({ cls := "ColourDuelLaw", name := "setPasses", desc := "(LColourDuel;I[J)I" } : Jvm.MethodName)) ∈ lw_all := lw_g (lw_at lw_m7 189 rfl) rfl
theorem q1724 : (Jvm.Cond.static ({ cls := "ColourDuelLaw", name := "setPasses", desc := "(LColourDuel;I[J)I" } : Jvm.MethodName)) ∈ lw_all := lw_g (lw_at lw_m7 190 rfl) rfl
theorem q1725 : (Jvm.Cond.codeWith ({ cls := "ColourDuelLaw", name := "setPasses", desc := "(LColourDuel;I[J)I" } : Jvm.MethodName) method_17_code (4 : Nat) (Option.some Jvm.ClassFile.FieldType.int) [((0 : Nat), (9 : Nat), (12 : Nat), (19 : Nat))]) ∈ lw_all := lw_g (lw_at lw_m7 191 rfl) rfl
theorem q1726 : (Jvm.Cond.methodLink "ColourDuelLaw" (63 : Nat) ({ cls := "ColourDuel", name := "setPasses", desc := "(I)I" } : Jvm.MethodName)) ∈ lw_all := lw_g (lw_at lw_m7 192 rfl) rfl
theorem q1731 : (Jvm.Cond.methodLink "ColourDuelLaw" (167 : Nat) ({ cls := "ColourDuelLaw", name := "move", desc := "(LColourDuel;II[J)I" } : Jvm.MethodName)) ∈ lw_all := lw_g (lw_at lw_m7 197 rfl) rfl
theorem q1732 : (Jvm.Cond.static ({ cls := "ColourDuelLaw", name := "move", desc := "(LColourDuel;II[J)I" } : Jvm.MethodName)) ∈ lw_all := lw_g (lw_at lw_m7 198 rfl) rfl
theorem q1733 : (Jvm.Cond.codeWith ({ cls := "ColourDuelLaw", name := "move", desc := "(LColourDuel;II[J)I" } : Jvm.MethodName) method_18_code (5 : Nat) (Option.some Jvm.ClassFile.FieldType.int) [((0 : Nat), (10 : Nat), (13 : Nat), (28 : Nat)), ((0 : Nat), (10 : Nat), (17 : Nat), (19 : Nat))]) ∈ lw_all := lw_g (lw_at lw_m7 199 rfl) rfl
theorem q1734 : (Jvm.Cond.methodLink "ColourDuelLaw" (66 : Nat) ({ cls := "ColourDuel", name := "move", desc := "(II)I" } : Jvm.MethodName)) ∈ lw_all := lw_g (lw_at lw_m7 200 rfl) rfl
theorem q1744 : (Jvm.Cond.methodLink "ColourDuelLaw" (170 : Nat) ({ cls := "ColourDuelLaw", name := "account", desc := "(LColourDuel;II[J)I" } : Jvm.MethodName)) ∈ lw_all := lw_g (lw_at lw_m7 210 rfl) rfl
theorem q1745 : (Jvm.Cond.static ({ cls := "ColourDuelLaw", name := "account", desc := "(LColourDuel;II[J)I" } : Jvm.MethodName)) ∈ lw_all := lw_g (lw_at lw_m7 211 rfl) rfl
theorem q1746 : (Jvm.Cond.codeWith ({ cls := "ColourDuelLaw", name := "account", desc := "(LColourDuel;II[J)I" } : Jvm.MethodName) method_19_code (5 : Nat) (Option.some Jvm.ClassFile.FieldType.int) [((0 : Nat), (10 : Nat), (13 : Nat), (28 : Nat)), ((0 : Nat), (10 : Nat), (17 : Nat), (19 : Nat))]) ∈ lw_all := lw_g (lw_at lw_m7 212 rfl) rfl
theorem q1747 : (Jvm.Cond.methodLink "ColourDuelLaw" (69 : Nat) ({ cls := "ColourDuel", name := "account", desc := "(II)I" } : Jvm.MethodName)) ∈ lw_all := lw_g (lw_at lw_m7 213 rfl) rfl
theorem q1757 : (Jvm.Cond.methodLink "ColourDuelLaw" (177 : Nat) ({ cls := "ColourDuelLaw", name := "writtenByte", desc := "(LColourDuel;I[J)I" } : Jvm.MethodName)) ∈ lw_all := lw_g (lw_at lw_m7 223 rfl) rfl
theorem q1758 : (Jvm.Cond.static ({ cls := "ColourDuelLaw", name := "writtenByte", desc := "(LColourDuel;I[J)I" } : Jvm.MethodName)) ∈ lw_all := lw_g (lw_at lw_m7 224 rfl) rfl
theorem q1759 : (Jvm.Cond.codeWith ({ cls := "ColourDuelLaw", name := "writtenByte", desc := "(LColourDuel;I[J)I" } : Jvm.MethodName) method_20_code (4 : Nat) (Option.some Jvm.ClassFile.FieldType.int) [((0 : Nat), (9 : Nat), (12 : Nat), (28 : Nat))]) ∈ lw_all := lw_g (lw_at lw_m7 225 rfl) rfl
theorem q1760 : (Jvm.Cond.methodLink "ColourDuelLaw" (72 : Nat) ({ cls := "ColourDuel", name := "writtenByte", desc := "(I)I" } : Jvm.MethodName)) ∈ lw_all := lw_g (lw_at lw_m7 226 rfl) rfl
theorem q1774 : (Jvm.Cond.methodLink "ColourDuelLaw" (180 : Nat) ({ cls := "ColourDuelLaw", name := "undo", desc := "(LColourDuel;[J)I" } : Jvm.MethodName)) ∈ lw_all := lw_g (lw_at lw_m8 0 rfl) rfl
theorem q1775 : (Jvm.Cond.static ({ cls := "ColourDuelLaw", name := "undo", desc := "(LColourDuel;[J)I" } : Jvm.MethodName)) ∈ lw_all := lw_g (lw_at lw_m8 1 rfl) rfl
theorem q1776 : (Jvm.Cond.codeWith ({ cls := "ColourDuelLaw", name := "undo", desc := "(LColourDuel;[J)I" } : Jvm.MethodName) method_21_code (3 : Nat) (Option.some Jvm.ClassFile.FieldType.int) [((0 : Nat), (8 : Nat), (11 : Nat), (13 : Nat))]) ∈ lw_all := lw_g (lw_at lw_m8 2 rfl) rfl
theorem q1777 : (Jvm.Cond.methodLink "ColourDuelLaw" (75 : Nat) ({ cls := "ColourDuel", name := "undo", desc := "()I" } : Jvm.MethodName)) ∈ lw_all := lw_g (lw_at lw_m8 3 rfl) rfl
theorem q1796 : (Jvm.Cond.methodLink "ColourDuelLaw" (183 : Nat) ({ cls := "ColourDuelLaw", name := "save", desc := "(LColourDuel;I[J)I" } : Jvm.MethodName)) ∈ lw_all := lw_g (lw_at lw_m8 22 rfl) rfl
theorem q1797 : (Jvm.Cond.static ({ cls := "ColourDuelLaw", name := "save", desc := "(LColourDuel;I[J)I" } : Jvm.MethodName)) ∈ lw_all := lw_g (lw_at lw_m8 23 rfl) rfl
theorem q1798 : (Jvm.Cond.codeWith ({ cls := "ColourDuelLaw", name := "save", desc := "(LColourDuel;I[J)I" } : Jvm.MethodName) method_22_code (4 : Nat) (Option.some Jvm.ClassFile.FieldType.int) [((0 : Nat), (9 : Nat), (12 : Nat), (28 : Nat))]) ∈ lw_all := lw_g (lw_at lw_m8 24 rfl) rfl
theorem q1799 : (Jvm.Cond.methodLink "ColourDuelLaw" (78 : Nat) ({ cls := "ColourDuel", name := "save", desc := "(I)I" } : Jvm.MethodName)) ∈ lw_all := lw_g (lw_at lw_m8 25 rfl) rfl
theorem q1803 : (Jvm.Cond.methodLink "ColourDuelLaw" (186 : Nat) ({ cls := "ColourDuelLaw", name := "restore", desc := "(LColourDuel;I[J)I" } : Jvm.MethodName)) ∈ lw_all := lw_g (lw_at lw_m8 29 rfl) rfl
theorem q1804 : (Jvm.Cond.static ({ cls := "ColourDuelLaw", name := "restore", desc := "(LColourDuel;I[J)I" } : Jvm.MethodName)) ∈ lw_all := lw_g (lw_at lw_m8 30 rfl) rfl
theorem q1805 : (Jvm.Cond.codeWith ({ cls := "ColourDuelLaw", name := "restore", desc := "(LColourDuel;I[J)I" } : Jvm.MethodName) method_23_code (4 : Nat) (Option.some Jvm.ClassFile.FieldType.int) [((0 : Nat), (9 : Nat), (12 : Nat), (28 : Nat)), ((0 : Nat), (9 : Nat), (15 : Nat), (13 : Nat))]) ∈ lw_all := lw_g (lw_at lw_m8 31 rfl) rfl
theorem q1806 : (Jvm.Cond.methodLink "ColourDuelLaw" (81 : Nat) ({ cls := "ColourDuel", name := "restore", desc := "(I)I" } : Jvm.MethodName)) ∈ lw_all := lw_g (lw_at lw_m8 32 rfl) rfl
theorem q1810 : (Jvm.Cond.classLink "ColourDuelLaw" (85 : Nat) "ColourDuelModel") ∈ lw_all := lw_g (lw_at lw_m8 36 rfl) rfl
theorem q1812 : (Jvm.Cond.methodLink "ColourDuelLaw" (87 : Nat) ({ cls := "ColourDuelModel", name := "<init>", desc := "()V" } : Jvm.MethodName)) ∈ lw_all := lw_g (lw_at lw_m8 38 rfl) rfl
theorem q1886 : (Jvm.Cond.methodLink "ColourDuelLaw" (94 : Nat) ({ cls := "ColourDuelModel", name := "thrown", desc := "()I" } : Jvm.MethodName)) ∈ lw_all := lw_g (lw_at lw_m8 112 rfl) rfl
theorem q1890 : (Jvm.Cond.methodLink "ColourDuelLaw" (182 : Nat) ({ cls := "ColourDuelModel", name := "undo", desc := "()I" } : Jvm.MethodName)) ∈ lw_all := lw_g (lw_at lw_m8 116 rfl) rfl
theorem q1897 : (Jvm.Cond.methodLink "ColourDuelLaw" (93 : Nat) ({ cls := "ColourDuelModel", name := "append", desc := "(IIIII)I" } : Jvm.MethodName)) ∈ lw_all := lw_g (lw_at lw_m8 123 rfl) rfl
theorem q1901 : (Jvm.Cond.methodLink "ColourDuelLaw" (100 : Nat) ({ cls := "ColourDuelModel", name := "load", desc := "(I)I" } : Jvm.MethodName)) ∈ lw_all := lw_g (lw_at lw_m8 127 rfl) rfl
theorem q2042 : (Jvm.Cond.methodLink "ColourDuelLaw" (104 : Nat) ({ cls := "ColourDuelModel", name := "errorPosition", desc := "()I" } : Jvm.MethodName)) ∈ lw_all := lw_g (lw_at lw_m9 28 rfl) rfl
theorem q2046 : (Jvm.Cond.methodLink "ColourDuelLaw" (107 : Nat) ({ cls := "ColourDuelModel", name := "count", desc := "(I)I" } : Jvm.MethodName)) ∈ lw_all := lw_g (lw_at lw_m9 32 rfl) rfl
theorem q2066 : (Jvm.Cond.methodLink "ColourDuelLaw" (111 : Nat) ({ cls := "ColourDuelModel", name := "vertex", desc := "(II)I" } : Jvm.MethodName)) ∈ lw_all := lw_g (lw_at lw_m9 52 rfl) rfl
theorem q2078 : (Jvm.Cond.methodLink "ColourDuelLaw" (114 : Nat) ({ cls := "ColourDuelModel", name := "reason", desc := "(II)I" } : Jvm.MethodName)) ∈ lw_all := lw_g (lw_at lw_m9 64 rfl) rfl
theorem q2086 : (Jvm.Cond.methodLink "ColourDuelLaw" (117 : Nat) ({ cls := "ColourDuelModel", name := "part", desc := "(II)I" } : Jvm.MethodName)) ∈ lw_all := lw_g (lw_at lw_m9 72 rfl) rfl
theorem q2118 : (Jvm.Cond.methodLink "ColourDuelLaw" (121 : Nat) ({ cls := "ColourDuelModel", name := "value", desc := "()I" } : Jvm.MethodName)) ∈ lw_all := lw_g (lw_at lw_m9 104 rfl) rfl
theorem q2130 : (Jvm.Cond.methodLink "ColourDuelLaw" (124 : Nat) ({ cls := "ColourDuelModel", name := "valueIf", desc := "(II)I" } : Jvm.MethodName)) ∈ lw_all := lw_g (lw_at lw_m9 116 rfl) rfl
theorem q2138 : (Jvm.Cond.methodLink "ColourDuelLaw" (128 : Nat) ({ cls := "ColourDuelModel", name := "winningMoves", desc := "()I" } : Jvm.MethodName)) ∈ lw_all := lw_g (lw_at lw_m9 124 rfl) rfl
theorem q2150 : (Jvm.Cond.methodLink "ColourDuelLaw" (148 : Nat) ({ cls := "ColourDuelModel", name := "winningColours", desc := "(I)I" } : Jvm.MethodName)) ∈ lw_all := lw_g (lw_at lw_m9 136 rfl) rfl
theorem q2154 : (Jvm.Cond.methodLink "ColourDuelLaw" (132 : Nat) ({ cls := "ColourDuelModel", name := "bestMove", desc := "()I" } : Jvm.MethodName)) ∈ lw_all := lw_g (lw_at lw_m9 140 rfl) rfl
theorem q2162 : (Jvm.Cond.methodLink "ColourDuelLaw" (136 : Nat) ({ cls := "ColourDuelModel", name := "longest", desc := "()I" } : Jvm.MethodName)) ∈ lw_all := lw_g (lw_at lw_m9 148 rfl) rfl
theorem q2166 : (Jvm.Cond.methodLink "ColourDuelLaw" (140 : Nat) ({ cls := "ColourDuelModel", name := "shortest", desc := "()I" } : Jvm.MethodName)) ∈ lw_all := lw_g (lw_at lw_m9 152 rfl) rfl
theorem q2170 : (Jvm.Cond.methodLink "ColourDuelLaw" (145 : Nat) ({ cls := "ColourDuelModel", name := "meanValue", desc := "()F" } : Jvm.MethodName)) ∈ lw_all := lw_g (lw_at lw_m9 156 rfl) rfl
theorem q2174 : (Jvm.Cond.methodLink "ColourDuelLaw" (151 : Nat) ({ cls := "ColourDuelModel", name := "falls", desc := "(I)I" } : Jvm.MethodName)) ∈ lw_all := lw_g (lw_at lw_m9 160 rfl) rfl
theorem q2178 : (Jvm.Cond.methodLink "ColourDuelLaw" (154 : Nat) ({ cls := "ColourDuelModel", name := "valueWithout", desc := "(I)I" } : Jvm.MethodName)) ∈ lw_all := lw_g (lw_at lw_m9 164 rfl) rfl
theorem q2182 : (Jvm.Cond.methodLink "ColourDuelLaw" (157 : Nat) ({ cls := "ColourDuelModel", name := "lay", desc := "(II)I" } : Jvm.MethodName)) ∈ lw_all := lw_g (lw_at lw_m9 168 rfl) rfl
theorem q2186 : (Jvm.Cond.methodLink "ColourDuelLaw" (160 : Nat) ({ cls := "ColourDuelModel", name := "pass", desc := "()I" } : Jvm.MethodName)) ∈ lw_all := lw_g (lw_at lw_m9 172 rfl) rfl
theorem q2190 : (Jvm.Cond.methodLink "ColourDuelLaw" (163 : Nat) ({ cls := "ColourDuelModel", name := "playOut", desc := "(I)I" } : Jvm.MethodName)) ∈ lw_all := lw_g (lw_at lw_m9 176 rfl) rfl
theorem q2194 : (Jvm.Cond.methodLink "ColourDuelLaw" (166 : Nat) ({ cls := "ColourDuelModel", name := "setPasses", desc := "(I)I" } : Jvm.MethodName)) ∈ lw_all := lw_g (lw_at lw_m9 180 rfl) rfl
theorem q2198 : (Jvm.Cond.methodLink "ColourDuelLaw" (169 : Nat) ({ cls := "ColourDuelModel", name := "move", desc := "(II)I" } : Jvm.MethodName)) ∈ lw_all := lw_g (lw_at lw_m9 184 rfl) rfl
theorem q2206 : (Jvm.Cond.methodLink "ColourDuelLaw" (172 : Nat) ({ cls := "ColourDuelModel", name := "account", desc := "(II)I" } : Jvm.MethodName)) ∈ lw_all := lw_g (lw_at lw_m9 192 rfl) rfl
theorem q2214 : (Jvm.Cond.methodLink "ColourDuelLaw" (176 : Nat) ({ cls := "ColourDuelModel", name := "writeBoard", desc := "()I" } : Jvm.MethodName)) ∈ lw_all := lw_g (lw_at lw_m9 200 rfl) rfl
theorem q2222 : (Jvm.Cond.methodLink "ColourDuelLaw" (179 : Nat) ({ cls := "ColourDuelModel", name := "writtenByte", desc := "(I)I" } : Jvm.MethodName)) ∈ lw_all := lw_g (lw_at lw_m9 208 rfl) rfl
theorem q2226 : (Jvm.Cond.methodLink "ColourDuelLaw" (185 : Nat) ({ cls := "ColourDuelModel", name := "save", desc := "(I)I" } : Jvm.MethodName)) ∈ lw_all := lw_g (lw_at lw_m9 212 rfl) rfl
theorem q2230 : (Jvm.Cond.methodLink "ColourDuelLaw" (188 : Nat) ({ cls := "ColourDuelModel", name := "restore", desc := "(I)I" } : Jvm.MethodName)) ∈ lw_all := lw_g (lw_at lw_m9 216 rfl) rfl
/-! the law's own entry -/
set_option maxRecDepth 100000
abbrev cL_law : ByteArray := code
def dkwL_law_63 : List UInt8 := [167, 249, 251, 4, 172]
abbrev dktL_law_63 : List UInt8 := dkwL_law_63 ++ []
def dkwL_law_62 : List UInt8 := [172, 21, 5, 154, 0, 15, 45, 3, 47, 21, 6, 133, 148, 153, 0, 5, 3, 172, 167, 0, 3, 132, 4, 6]
abbrev dktL_law_62 : List UInt8 := dkwL_law_62 ++ dktL_law_63
def dkwL_law_61 : List UInt8 := [54, 5, 44, 42, 21, 4, 4, 96, 46, 182, 0, 188, 54, 6, 44, 182, 0, 94, 21, 5, 159, 0, 5, 3]
abbrev dktL_law_61 : List UInt8 := dkwL_law_61 ++ dktL_law_62
def dkwL_law_60 : List UInt8 := [21, 6, 133, 148, 153, 0, 5, 3, 172, 167, 0, 59, 43, 42, 21, 4, 4, 96, 46, 45, 184, 0, 186]
abbrev dktL_law_60 : List UInt8 := dkwL_law_60 ++ dktL_law_61
def dkwL_law_59 : List UInt8 := [182, 0, 185, 54, 6, 44, 182, 0, 94, 21, 5, 159, 0, 5, 3, 172, 21, 5, 154, 0, 15, 45, 3, 47]
abbrev dktL_law_59 : List UInt8 := dkwL_law_59 ++ dktL_law_60
def dkwL_law_58 : List UInt8 := [167, 0, 115, 43, 42, 21, 4, 4, 96, 46, 45, 184, 0, 183, 54, 5, 44, 42, 21, 4, 4, 96, 46]
abbrev dktL_law_58 : List UInt8 := dkwL_law_58 ++ dktL_law_59
def dkwL_law_57 : List UInt8 := [159, 0, 5, 3, 172, 21, 5, 154, 0, 15, 45, 3, 47, 21, 6, 133, 148, 153, 0, 5, 3, 172]
abbrev dktL_law_57 : List UInt8 := dkwL_law_57 ++ dktL_law_58
def dkwL_law_56 : List UInt8 := [167, 0, 159, 43, 45, 184, 0, 180, 54, 5, 44, 182, 0, 182, 54, 6, 44, 182, 0, 94, 21, 5]
abbrev dktL_law_56 : List UInt8 := dkwL_law_56 ++ dktL_law_57
def dkwL_law_55 : List UInt8 := [159, 0, 5, 3, 172, 21, 5, 154, 0, 15, 45, 3, 47, 21, 6, 133, 148, 153, 0, 5, 3, 172]
abbrev dktL_law_55 : List UInt8 := dkwL_law_55 ++ dktL_law_56
def dkwL_law_54 : List UInt8 := [184, 0, 177, 54, 5, 44, 42, 21, 4, 4, 96, 46, 182, 0, 179, 54, 6, 44, 182, 0, 94, 21, 5]
abbrev dktL_law_54 : List UInt8 := dkwL_law_54 ++ dktL_law_55
def dkwL_law_53 : List UInt8 := [167, 0, 228, 43, 182, 0, 173, 44, 182, 0, 176, 159, 0, 217, 3, 172, 43, 42, 21, 4, 4, 96, 46, 45]
abbrev dktL_law_53 : List UInt8 := dkwL_law_53 ++ dktL_law_54
def dkwL_law_52 : List UInt8 := [159, 0, 5, 3, 172, 21, 5, 154, 0, 15, 45, 3, 47, 21, 6, 133, 148, 153, 0, 5, 3, 172]
abbrev dktL_law_52 : List UInt8 := dkwL_law_52 ++ dktL_law_53
def dkwL_law_51 : List UInt8 := [21, 4, 4, 96, 46, 42, 21, 4, 5, 96, 46, 182, 0, 172, 54, 6, 44, 182, 0, 94, 21, 5]
abbrev dktL_law_51 : List UInt8 := dkwL_law_51 ++ dktL_law_52
def dkwL_law_50 : List UInt8 := [167, 1, 40, 43, 42, 21, 4, 4, 96, 46, 42, 21, 4, 5, 96, 46, 45, 184, 0, 170, 54, 5, 44, 42]
abbrev dktL_law_50 : List UInt8 := dkwL_law_50 ++ dktL_law_51
def dkwL_law_49 : List UInt8 := [159, 0, 5, 3, 172, 21, 5, 154, 0, 15, 45, 3, 47, 21, 6, 133, 148, 153, 0, 5, 3, 172]
abbrev dktL_law_49 : List UInt8 := dkwL_law_49 ++ dktL_law_50
def dkwL_law_48 : List UInt8 := [21, 4, 4, 96, 46, 42, 21, 4, 5, 96, 46, 182, 0, 169, 54, 6, 44, 182, 0, 94, 21, 5]
abbrev dktL_law_48 : List UInt8 := dkwL_law_48 ++ dktL_law_49
def dkwL_law_47 : List UInt8 := [167, 1, 108, 43, 42, 21, 4, 4, 96, 46, 42, 21, 4, 5, 96, 46, 45, 184, 0, 167, 54, 5, 44, 42]
abbrev dktL_law_47 : List UInt8 := dkwL_law_47 ++ dktL_law_48
def dkwL_law_46 : List UInt8 := [21, 5, 159, 0, 5, 3, 172, 21, 5, 154, 0, 15, 45, 3, 47, 21, 6, 133, 148, 153, 0, 5, 3, 172]
abbrev dktL_law_46 : List UInt8 := dkwL_law_46 ++ dktL_law_47
def dkwL_law_45 : List UInt8 := [46, 45, 184, 0, 164, 54, 5, 44, 42, 21, 4, 4, 96, 46, 182, 0, 166, 54, 6, 44, 182, 0, 94]
abbrev dktL_law_45 : List UInt8 := dkwL_law_45 ++ dktL_law_46
def dkwL_law_44 : List UInt8 := [154, 0, 15, 45, 3, 47, 21, 6, 133, 148, 153, 0, 5, 3, 172, 167, 1, 164, 43, 42, 21, 4, 4, 96]
abbrev dktL_law_44 : List UInt8 := dkwL_law_44 ++ dktL_law_45
def dkwL_law_43 : List UInt8 := [21, 4, 4, 96, 46, 182, 0, 163, 54, 6, 44, 182, 0, 94, 21, 5, 159, 0, 5, 3, 172, 21, 5]
abbrev dktL_law_43 : List UInt8 := dkwL_law_43 ++ dktL_law_44
def dkwL_law_42 : List UInt8 := [153, 0, 5, 3, 172, 167, 1, 220, 43, 42, 21, 4, 4, 96, 46, 45, 184, 0, 161, 54, 5, 44, 42]
abbrev dktL_law_42 : List UInt8 := dkwL_law_42 ++ dktL_law_43
def dkwL_law_41 : List UInt8 := [182, 0, 94, 21, 5, 159, 0, 5, 3, 172, 21, 5, 154, 0, 15, 45, 3, 47, 21, 6, 133, 148]
abbrev dktL_law_41 : List UInt8 := dkwL_law_41 ++ dktL_law_42
def dkwL_law_40 : List UInt8 := [148, 153, 0, 5, 3, 172, 167, 2, 8, 43, 45, 184, 0, 158, 54, 5, 44, 182, 0, 160, 54, 6, 44]
abbrev dktL_law_40 : List UInt8 := dkwL_law_40 ++ dktL_law_41
def dkwL_law_39 : List UInt8 := [54, 6, 44, 182, 0, 94, 21, 5, 159, 0, 5, 3, 172, 21, 5, 154, 0, 15, 45, 3, 47, 21, 6, 133]
abbrev dktL_law_39 : List UInt8 := dkwL_law_39 ++ dktL_law_40
def dkwL_law_38 : List UInt8 := [46, 45, 184, 0, 155, 54, 5, 44, 42, 21, 4, 4, 96, 46, 42, 21, 4, 5, 96, 46, 182, 0, 157]
abbrev dktL_law_38 : List UInt8 := dkwL_law_38 ++ dktL_law_39
def dkwL_law_37 : List UInt8 := [21, 6, 133, 148, 153, 0, 5, 3, 172, 167, 2, 76, 43, 42, 21, 4, 4, 96, 46, 42, 21, 4, 5, 96]
abbrev dktL_law_37 : List UInt8 := dkwL_law_37 ++ dktL_law_38
def dkwL_law_36 : List UInt8 := [182, 0, 154, 54, 6, 44, 182, 0, 94, 21, 5, 159, 0, 5, 3, 172, 21, 5, 154, 0, 15, 45, 3, 47]
abbrev dktL_law_36 : List UInt8 := dkwL_law_36 ++ dktL_law_37
def dkwL_law_35 : List UInt8 := [167, 2, 132, 43, 42, 21, 4, 4, 96, 46, 45, 184, 0, 152, 54, 5, 44, 42, 21, 4, 4, 96, 46]
abbrev dktL_law_35 : List UInt8 := dkwL_law_35 ++ dktL_law_36
def dkwL_law_34 : List UInt8 := [21, 5, 159, 0, 5, 3, 172, 21, 5, 154, 0, 15, 45, 3, 47, 21, 6, 133, 148, 153, 0, 5, 3, 172]
abbrev dktL_law_34 : List UInt8 := dkwL_law_34 ++ dktL_law_35
def dkwL_law_33 : List UInt8 := [46, 45, 184, 0, 149, 54, 5, 44, 42, 21, 4, 4, 96, 46, 182, 0, 151, 54, 6, 44, 182, 0, 94]
abbrev dktL_law_33 : List UInt8 := dkwL_law_33 ++ dktL_law_34
def dkwL_law_32 : List UInt8 := [154, 0, 15, 45, 3, 47, 21, 6, 133, 148, 153, 0, 5, 3, 172, 167, 2, 188, 43, 42, 21, 4, 4, 96]
abbrev dktL_law_32 : List UInt8 := dkwL_law_32 ++ dktL_law_33
def dkwL_law_31 : List UInt8 := [21, 4, 4, 96, 46, 182, 0, 148, 54, 6, 44, 182, 0, 94, 21, 5, 159, 0, 5, 3, 172, 21, 5]
abbrev dktL_law_31 : List UInt8 := dkwL_law_31 ++ dktL_law_32
def dkwL_law_30 : List UInt8 := [154, 0, 5, 3, 172, 167, 2, 244, 43, 42, 21, 4, 4, 96, 46, 45, 184, 0, 146, 54, 5, 44, 42]
abbrev dktL_law_30 : List UInt8 := dkwL_law_30 ++ dktL_law_31
def dkwL_law_29 : List UInt8 := [57, 7, 24, 5, 24, 7, 151, 153, 0, 21, 24, 5, 24, 5, 151, 153, 0, 11, 24, 7, 24, 7, 151]
abbrev dktL_law_29 : List UInt8 := dkwL_law_29 ++ dktL_law_30
def dkwL_law_28 : List UInt8 := [182, 0, 137, 44, 182, 0, 140, 159, 3, 33, 3, 172, 43, 182, 0, 141, 141, 57, 5, 44, 182, 0, 145, 141]
abbrev dktL_law_28 : List UInt8 := dkwL_law_28 ++ dktL_law_29
def dkwL_law_27 : List UInt8 := [153, 0, 5, 3, 172, 167, 3, 57, 43, 182, 0, 133, 44, 182, 0, 136, 159, 3, 46, 3, 172, 43]
abbrev dktL_law_27 : List UInt8 := dkwL_law_27 ++ dktL_law_28
def dkwL_law_26 : List UInt8 := [182, 0, 94, 21, 5, 159, 0, 5, 3, 172, 21, 5, 154, 0, 15, 45, 3, 47, 21, 6, 133, 148]
abbrev dktL_law_26 : List UInt8 := dkwL_law_26 ++ dktL_law_27
def dkwL_law_25 : List UInt8 := [182, 0, 128, 159, 3, 103, 3, 172, 43, 45, 184, 0, 129, 54, 5, 44, 182, 0, 132, 54, 6, 44]
abbrev dktL_law_25 : List UInt8 := dkwL_law_25 ++ dktL_law_26
def dkwL_law_24 : List UInt8 := [154, 0, 15, 45, 3, 47, 21, 6, 133, 148, 153, 0, 5, 3, 172, 167, 3, 114, 43, 182, 0, 125, 44]
abbrev dktL_law_24 : List UInt8 := dkwL_law_24 ++ dktL_law_25
def dkwL_law_23 : List UInt8 := [42, 21, 4, 5, 96, 46, 182, 0, 124, 54, 6, 44, 182, 0, 94, 21, 5, 159, 0, 5, 3, 172, 21, 5]
abbrev dktL_law_23 : List UInt8 := dkwL_law_23 ++ dktL_law_24
def dkwL_law_22 : List UInt8 := [21, 4, 4, 96, 46, 42, 21, 4, 5, 96, 46, 45, 184, 0, 122, 54, 5, 44, 42, 21, 4, 4, 96, 46]
abbrev dktL_law_22 : List UInt8 := dkwL_law_22 ++ dktL_law_23
def dkwL_law_21 : List UInt8 := [148, 153, 0, 5, 3, 172, 167, 3, 195, 43, 182, 0, 118, 44, 182, 0, 121, 159, 3, 184, 3, 172, 43, 42]
abbrev dktL_law_21 : List UInt8 := dkwL_law_21 ++ dktL_law_22
def dkwL_law_20 : List UInt8 := [54, 6, 44, 182, 0, 94, 21, 5, 159, 0, 5, 3, 172, 21, 5, 154, 0, 15, 45, 3, 47, 21, 6, 133]
abbrev dktL_law_20 : List UInt8 := dkwL_law_20 ++ dktL_law_21
def dkwL_law_19 : List UInt8 := [46, 45, 184, 0, 115, 54, 5, 44, 42, 21, 4, 4, 96, 46, 42, 21, 4, 5, 96, 46, 182, 0, 117]
abbrev dktL_law_19 : List UInt8 := dkwL_law_19 ++ dktL_law_20
def dkwL_law_18 : List UInt8 := [21, 6, 133, 148, 153, 0, 5, 3, 172, 167, 4, 7, 43, 42, 21, 4, 4, 96, 46, 42, 21, 4, 5, 96]
abbrev dktL_law_18 : List UInt8 := dkwL_law_18 ++ dktL_law_19
def dkwL_law_17 : List UInt8 := [182, 0, 114, 54, 6, 44, 182, 0, 94, 21, 5, 159, 0, 5, 3, 172, 21, 5, 154, 0, 15, 45, 3, 47]
abbrev dktL_law_17 : List UInt8 := dkwL_law_17 ++ dktL_law_18
def dkwL_law_16 : List UInt8 := [5, 96, 46, 45, 184, 0, 112, 54, 5, 44, 42, 21, 4, 4, 96, 46, 42, 21, 4, 5, 96, 46]
abbrev dktL_law_16 : List UInt8 := dkwL_law_16 ++ dktL_law_17
def dkwL_law_15 : List UInt8 := [3, 47, 21, 6, 133, 148, 153, 0, 5, 3, 172, 167, 4, 75, 43, 42, 21, 4, 4, 96, 46, 42, 21, 4]
abbrev dktL_law_15 : List UInt8 := dkwL_law_15 ++ dktL_law_16
def dkwL_law_14 : List UInt8 := [96, 46, 182, 0, 111, 54, 6, 44, 182, 0, 94, 21, 5, 159, 0, 5, 3, 172, 21, 5, 154, 0, 15, 45]
abbrev dktL_law_14 : List UInt8 := dkwL_law_14 ++ dktL_law_15
def dkwL_law_13 : List UInt8 := [46, 42, 21, 4, 5, 96, 46, 45, 184, 0, 108, 54, 5, 44, 42, 21, 4, 4, 96, 46, 42, 21, 4, 5]
abbrev dktL_law_13 : List UInt8 := dkwL_law_13 ++ dktL_law_14
def dkwL_law_12 : List UInt8 := [154, 0, 15, 45, 3, 47, 21, 6, 133, 148, 153, 0, 5, 3, 172, 167, 4, 143, 43, 42, 21, 4, 4, 96]
abbrev dktL_law_12 : List UInt8 := dkwL_law_12 ++ dktL_law_13
def dkwL_law_11 : List UInt8 := [21, 4, 4, 96, 46, 182, 0, 107, 54, 6, 44, 182, 0, 94, 21, 5, 159, 0, 5, 3, 172, 21, 5]
abbrev dktL_law_11 : List UInt8 := dkwL_law_11 ++ dktL_law_12
def dkwL_law_10 : List UInt8 := [182, 0, 104, 159, 4, 201, 3, 172, 43, 42, 21, 4, 4, 96, 46, 45, 184, 0, 105, 54, 5, 44, 42]
abbrev dktL_law_10 : List UInt8 := dkwL_law_10 ++ dktL_law_11
def dkwL_law_9 : List UInt8 := [154, 0, 15, 45, 3, 47, 21, 6, 133, 148, 153, 0, 5, 3, 172, 167, 4, 212, 43, 182, 0, 101, 44]
abbrev dktL_law_9 : List UInt8 := dkwL_law_9 ++ dktL_law_10
def dkwL_law_8 : List UInt8 := [21, 4, 4, 96, 46, 182, 0, 100, 54, 6, 44, 182, 0, 94, 21, 5, 159, 0, 5, 3, 172, 21, 5]
abbrev dktL_law_8 : List UInt8 := dkwL_law_8 ++ dktL_law_9
def dkwL_law_7 : List UInt8 := [148, 153, 0, 5, 3, 172, 167, 5, 12, 43, 42, 21, 4, 4, 96, 46, 45, 184, 0, 97, 54, 5, 44, 42]
abbrev dktL_law_7 : List UInt8 := dkwL_law_7 ++ dktL_law_8
def dkwL_law_6 : List UInt8 := [54, 6, 44, 182, 0, 94, 21, 5, 159, 0, 5, 3, 172, 21, 5, 154, 0, 15, 45, 3, 47, 21, 6, 133]
abbrev dktL_law_6 : List UInt8 := dkwL_law_6 ++ dktL_law_7
def dkwL_law_5 : List UInt8 := [96, 46, 42, 21, 4, 6, 96, 46, 42, 21, 4, 7, 96, 46, 42, 21, 4, 8, 96, 46, 182, 0, 93]
abbrev dktL_law_5 : List UInt8 := dkwL_law_5 ++ dktL_law_6
def dkwL_law_4 : List UInt8 := [46, 42, 21, 4, 8, 96, 46, 45, 184, 0, 88, 54, 5, 44, 42, 21, 4, 4, 96, 46, 42, 21, 4, 5]
abbrev dktL_law_4 : List UInt8 := dkwL_law_4 ++ dktL_law_5
def dkwL_law_3 : List UInt8 := [43, 42, 21, 4, 4, 96, 46, 42, 21, 4, 5, 96, 46, 42, 21, 4, 6, 96, 46, 42, 21, 4, 7, 96]
abbrev dktL_law_3 : List UInt8 := dkwL_law_3 ++ dktL_law_4
def dkwL_law_2 : List UInt8 := [170, 0, 0, 0, 0, 0, 5, 241, 0, 0, 0, 0, 0, 0, 0, 27, 0, 0, 0, 128, 0, 0, 0, 232, 0, 0, 1, 32, 0, 0, 1, 45, 0, 0, 1, 101, 0, 0, 1, 169, 0, 0, 1, 237, 0, 0, 2, 49, 0, 0, 2, 62, 0, 0, 2, 130, 0, 0, 2, 143, 0, 0, 2, 187, 0, 0, 2, 200, 0, 0, 2, 213, 0, 0, 3, 0, 0, 0, 3, 56, 0, 0, 3, 112, 0, 0, 3, 168, 0, 0, 3, 236, 0, 0, 4, 24, 0, 0, 4, 80, 0, 0, 4, 136, 0, 0, 4, 204, 0, 0, 5, 16, 0, 0, 5, 29, 0, 0, 5, 85, 0, 0, 5, 129, 0, 0, 5, 185]
abbrev dktL_law_2 : List UInt8 := dkwL_law_2 ++ dktL_law_3
def dkwL_law_1 : List UInt8 := [21, 4, 42, 190, 16, 6, 100, 163, 6, 1, 42, 21, 4, 46, 16, 31, 126]
abbrev dktL_law_1 : List UInt8 := dkwL_law_1 ++ dktL_law_2
def dkwL_law_0 : List UInt8 := [187, 0, 8, 89, 183, 0, 84, 76, 187, 0, 85, 89, 183, 0, 87, 77, 4, 188, 11, 78, 3, 54, 4]
abbrev dktL_law_0 : List UInt8 := dkwL_law_0 ++ dktL_law_1
theorem dksL_law_0 : cL_law.data.toList.drop 0 = dktL_law_0 := by decide +kernel
theorem dksL_law_1 : cL_law.data.toList.drop 23 = dktL_law_1 := dk_seg dksL_law_0 23 rfl rfl
theorem dksL_law_2 : cL_law.data.toList.drop 40 = dktL_law_2 := dk_seg dksL_law_1 17 rfl rfl
theorem dksL_law_3 : cL_law.data.toList.drop 168 = dktL_law_3 := dk_seg dksL_law_2 128 rfl rfl
theorem dksL_law_4 : cL_law.data.toList.drop 192 = dktL_law_4 := dk_seg dksL_law_3 24 rfl rfl
theorem dksL_law_5 : cL_law.data.toList.drop 216 = dktL_law_5 := dk_seg dksL_law_4 24 rfl rfl
theorem dksL_law_6 : cL_law.data.toList.drop 239 = dktL_law_6 := dk_seg dksL_law_5 23 rfl rfl
theorem dksL_law_7 : cL_law.data.toList.drop 263 = dktL_law_7 := dk_seg dksL_law_6 24 rfl rfl
theorem dksL_law_8 : cL_law.data.toList.drop 287 = dktL_law_8 := dk_seg dksL_law_7 24 rfl rfl
theorem dksL_law_9 : cL_law.data.toList.drop 310 = dktL_law_9 := dk_seg dksL_law_8 23 rfl rfl
theorem dksL_law_10 : cL_law.data.toList.drop 333 = dktL_law_10 := dk_seg dksL_law_9 23 rfl rfl
theorem dksL_law_11 : cL_law.data.toList.drop 356 = dktL_law_11 := dk_seg dksL_law_10 23 rfl rfl
theorem dksL_law_12 : cL_law.data.toList.drop 379 = dktL_law_12 := dk_seg dksL_law_11 23 rfl rfl
theorem dksL_law_13 : cL_law.data.toList.drop 403 = dktL_law_13 := dk_seg dksL_law_12 24 rfl rfl
theorem dksL_law_14 : cL_law.data.toList.drop 427 = dktL_law_14 := dk_seg dksL_law_13 24 rfl rfl
theorem dksL_law_15 : cL_law.data.toList.drop 451 = dktL_law_15 := dk_seg dksL_law_14 24 rfl rfl
theorem dksL_law_16 : cL_law.data.toList.drop 475 = dktL_law_16 := dk_seg dksL_law_15 24 rfl rfl
theorem dksL_law_17 : cL_law.data.toList.drop 497 = dktL_law_17 := dk_seg dksL_law_16 22 rfl rfl
theorem dksL_law_18 : cL_law.data.toList.drop 521 = dktL_law_18 := dk_seg dksL_law_17 24 rfl rfl
theorem dksL_law_19 : cL_law.data.toList.drop 545 = dktL_law_19 := dk_seg dksL_law_18 24 rfl rfl
theorem dksL_law_20 : cL_law.data.toList.drop 568 = dktL_law_20 := dk_seg dksL_law_19 23 rfl rfl
theorem dksL_law_21 : cL_law.data.toList.drop 592 = dktL_law_21 := dk_seg dksL_law_20 24 rfl rfl
theorem dksL_law_22 : cL_law.data.toList.drop 616 = dktL_law_22 := dk_seg dksL_law_21 24 rfl rfl
theorem dksL_law_23 : cL_law.data.toList.drop 640 = dktL_law_23 := dk_seg dksL_law_22 24 rfl rfl
theorem dksL_law_24 : cL_law.data.toList.drop 664 = dktL_law_24 := dk_seg dksL_law_23 24 rfl rfl
theorem dksL_law_25 : cL_law.data.toList.drop 687 = dktL_law_25 := dk_seg dksL_law_24 23 rfl rfl
theorem dksL_law_26 : cL_law.data.toList.drop 709 = dktL_law_26 := dk_seg dksL_law_25 22 rfl rfl
theorem dksL_law_27 : cL_law.data.toList.drop 731 = dktL_law_27 := dk_seg dksL_law_26 22 rfl rfl
theorem dksL_law_28 : cL_law.data.toList.drop 753 = dktL_law_28 := dk_seg dksL_law_27 22 rfl rfl
theorem dksL_law_29 : cL_law.data.toList.drop 777 = dktL_law_29 := dk_seg dksL_law_28 24 rfl rfl
theorem dksL_law_30 : cL_law.data.toList.drop 800 = dktL_law_30 := dk_seg dksL_law_29 23 rfl rfl
theorem dksL_law_31 : cL_law.data.toList.drop 823 = dktL_law_31 := dk_seg dksL_law_30 23 rfl rfl
theorem dksL_law_32 : cL_law.data.toList.drop 846 = dktL_law_32 := dk_seg dksL_law_31 23 rfl rfl
theorem dksL_law_33 : cL_law.data.toList.drop 870 = dktL_law_33 := dk_seg dksL_law_32 24 rfl rfl
theorem dksL_law_34 : cL_law.data.toList.drop 893 = dktL_law_34 := dk_seg dksL_law_33 23 rfl rfl
theorem dksL_law_35 : cL_law.data.toList.drop 917 = dktL_law_35 := dk_seg dksL_law_34 24 rfl rfl
theorem dksL_law_36 : cL_law.data.toList.drop 940 = dktL_law_36 := dk_seg dksL_law_35 23 rfl rfl
theorem dksL_law_37 : cL_law.data.toList.drop 964 = dktL_law_37 := dk_seg dksL_law_36 24 rfl rfl
theorem dksL_law_38 : cL_law.data.toList.drop 988 = dktL_law_38 := dk_seg dksL_law_37 24 rfl rfl
theorem dksL_law_39 : cL_law.data.toList.drop 1011 = dktL_law_39 := dk_seg dksL_law_38 23 rfl rfl
theorem dksL_law_40 : cL_law.data.toList.drop 1035 = dktL_law_40 := dk_seg dksL_law_39 24 rfl rfl
theorem dksL_law_41 : cL_law.data.toList.drop 1058 = dktL_law_41 := dk_seg dksL_law_40 23 rfl rfl
theorem dksL_law_42 : cL_law.data.toList.drop 1080 = dktL_law_42 := dk_seg dksL_law_41 22 rfl rfl
theorem dksL_law_43 : cL_law.data.toList.drop 1103 = dktL_law_43 := dk_seg dksL_law_42 23 rfl rfl
theorem dksL_law_44 : cL_law.data.toList.drop 1126 = dktL_law_44 := dk_seg dksL_law_43 23 rfl rfl
theorem dksL_law_45 : cL_law.data.toList.drop 1150 = dktL_law_45 := dk_seg dksL_law_44 24 rfl rfl
theorem dksL_law_46 : cL_law.data.toList.drop 1173 = dktL_law_46 := dk_seg dksL_law_45 23 rfl rfl
theorem dksL_law_47 : cL_law.data.toList.drop 1197 = dktL_law_47 := dk_seg dksL_law_46 24 rfl rfl
theorem dksL_law_48 : cL_law.data.toList.drop 1221 = dktL_law_48 := dk_seg dksL_law_47 24 rfl rfl
theorem dksL_law_49 : cL_law.data.toList.drop 1243 = dktL_law_49 := dk_seg dksL_law_48 22 rfl rfl
theorem dksL_law_50 : cL_law.data.toList.drop 1265 = dktL_law_50 := dk_seg dksL_law_49 22 rfl rfl
theorem dksL_law_51 : cL_law.data.toList.drop 1289 = dktL_law_51 := dk_seg dksL_law_50 24 rfl rfl
theorem dksL_law_52 : cL_law.data.toList.drop 1311 = dktL_law_52 := dk_seg dksL_law_51 22 rfl rfl
theorem dksL_law_53 : cL_law.data.toList.drop 1333 = dktL_law_53 := dk_seg dksL_law_52 22 rfl rfl
theorem dksL_law_54 : cL_law.data.toList.drop 1357 = dktL_law_54 := dk_seg dksL_law_53 24 rfl rfl
theorem dksL_law_55 : cL_law.data.toList.drop 1380 = dktL_law_55 := dk_seg dksL_law_54 23 rfl rfl
theorem dksL_law_56 : cL_law.data.toList.drop 1402 = dktL_law_56 := dk_seg dksL_law_55 22 rfl rfl
theorem dksL_law_57 : cL_law.data.toList.drop 1424 = dktL_law_57 := dk_seg dksL_law_56 22 rfl rfl
theorem dksL_law_58 : cL_law.data.toList.drop 1446 = dktL_law_58 := dk_seg dksL_law_57 22 rfl rfl
theorem dksL_law_59 : cL_law.data.toList.drop 1469 = dktL_law_59 := dk_seg dksL_law_58 23 rfl rfl
theorem dksL_law_60 : cL_law.data.toList.drop 1493 = dktL_law_60 := dk_seg dksL_law_59 24 rfl rfl
theorem dksL_law_61 : cL_law.data.toList.drop 1516 = dktL_law_61 := dk_seg dksL_law_60 23 rfl rfl
theorem dksL_law_62 : cL_law.data.toList.drop 1540 = dktL_law_62 := dk_seg dksL_law_61 24 rfl rfl
theorem dksL_law_63 : cL_law.data.toList.drop 1564 = dktL_law_63 := dk_seg dksL_law_62 24 rfl rfl
theorem dL_law_0 : decode cL_law 0 = .ok (.new 8, 3) := dk_187 0 8 (dk_at dksL_law_0 0 rfl rfl)
theorem dL_law_3 : decode cL_law 3 = .ok (.dup, 1) := dk_89 (dk_at dksL_law_0 3 rfl rfl)
theorem dL_law_4 : decode cL_law 4 = .ok (.invokespecial 84, 3) := dk_183 0 84 (dk_at dksL_law_0 4 rfl rfl)
theorem dL_law_7 : decode cL_law 7 = .ok (.astore_n 1, 1) := dk_76 (dk_at dksL_law_0 7 rfl rfl)
theorem dL_law_8 : decode cL_law 8 = .ok (.new 85, 3) := dk_187 0 85 (dk_at dksL_law_0 8 rfl rfl)
theorem dL_law_11 : decode cL_law 11 = .ok (.dup, 1) := dk_89 (dk_at dksL_law_0 11 rfl rfl)
theorem dL_law_12 : decode cL_law 12 = .ok (.invokespecial 87, 3) := dk_183 0 87 (dk_at dksL_law_0 12 rfl rfl)
theorem dL_law_15 : decode cL_law 15 = .ok (.astore_n 2, 1) := dk_77 (dk_at dksL_law_0 15 rfl rfl)
theorem dL_law_16 : decode cL_law 16 = .ok (.iconst 1, 1) := dk_4 (dk_at dksL_law_0 16 rfl rfl)
theorem dL_law_17 : decode cL_law 17 = .ok (.newarray .long, 2) := dk_188_11 (dk_at dksL_law_0 17 rfl rfl)
theorem dL_law_19 : decode cL_law 19 = .ok (.astore_n 3, 1) := dk_78 (dk_at dksL_law_0 19 rfl rfl)
theorem dL_law_20 : decode cL_law 20 = .ok (.iconst 0, 1) := dk_3 (dk_at dksL_law_0 20 rfl rfl)
theorem dL_law_21 : decode cL_law 21 = .ok (.istore 4, 2) := dk_54 4 (dk_at dksL_law_0 21 rfl rfl)
theorem dL_law_23 : decode cL_law 23 = .ok (.iload 4, 2) := dk_21 4 (dk_at dksL_law_1 0 rfl rfl)
theorem dL_law_25 : decode cL_law 25 = .ok (.aload_n 0, 1) := dk_42 (dk_at dksL_law_1 2 rfl rfl)
theorem dL_law_26 : decode cL_law 26 = .ok (.arraylength, 1) := dk_190 (dk_at dksL_law_1 3 rfl rfl)
theorem dL_law_27 : decode cL_law 27 = .ok (.bipush 6, 2) := dk_16 6 (dk_at dksL_law_1 4 rfl rfl)
theorem dL_law_29 : decode cL_law 29 = .ok (.isub, 1) := dk_100 (dk_at dksL_law_1 6 rfl rfl)
theorem dL_law_30 : decode cL_law 30 = .ok (.if_icmp .gt 1537, 3) := dk_163 6 1 (dk_at dksL_law_1 7 rfl rfl)
theorem dL_law_33 : decode cL_law 33 = .ok (.aload_n 0, 1) := dk_42 (dk_at dksL_law_1 10 rfl rfl)
theorem dL_law_34 : decode cL_law 34 = .ok (.iload 4, 2) := dk_21 4 (dk_at dksL_law_1 11 rfl rfl)
theorem dL_law_36 : decode cL_law 36 = .ok (.iaload, 1) := dk_46 (dk_at dksL_law_1 13 rfl rfl)
theorem dL_law_37 : decode cL_law 37 = .ok (.bipush 31, 2) := dk_16 31 (dk_at dksL_law_1 14 rfl rfl)
theorem dL_law_39 : decode cL_law 39 = .ok (.iand, 1) := dk_126 (dk_at dksL_law_1 16 rfl rfl)
theorem dL_law_40 : decode cL_law 40 = .ok (.tableswitch 1521 0 27 #[128, 232, 288, 301, 357, 425, 493, 561, 574, 642, 655, 699, 712, 725, 768, 824, 880, 936, 1004, 1048, 1104, 1160, 1228, 1296, 1309, 1365, 1409, 1465], 128) := by decide +kernel
theorem dL_law_168 : decode cL_law 168 = .ok (.aload_n 1, 1) := dk_43 (dk_at dksL_law_3 0 rfl rfl)
theorem dL_law_169 : decode cL_law 169 = .ok (.aload_n 0, 1) := dk_42 (dk_at dksL_law_3 1 rfl rfl)
theorem dL_law_170 : decode cL_law 170 = .ok (.iload 4, 2) := dk_21 4 (dk_at dksL_law_3 2 rfl rfl)
theorem dL_law_172 : decode cL_law 172 = .ok (.iconst 1, 1) := dk_4 (dk_at dksL_law_3 4 rfl rfl)
theorem dL_law_173 : decode cL_law 173 = .ok (.iadd, 1) := dk_96 (dk_at dksL_law_3 5 rfl rfl)
theorem dL_law_174 : decode cL_law 174 = .ok (.iaload, 1) := dk_46 (dk_at dksL_law_3 6 rfl rfl)
theorem dL_law_175 : decode cL_law 175 = .ok (.aload_n 0, 1) := dk_42 (dk_at dksL_law_3 7 rfl rfl)
theorem dL_law_176 : decode cL_law 176 = .ok (.iload 4, 2) := dk_21 4 (dk_at dksL_law_3 8 rfl rfl)
theorem dL_law_178 : decode cL_law 178 = .ok (.iconst 2, 1) := dk_5 (dk_at dksL_law_3 10 rfl rfl)
theorem dL_law_179 : decode cL_law 179 = .ok (.iadd, 1) := dk_96 (dk_at dksL_law_3 11 rfl rfl)
theorem dL_law_180 : decode cL_law 180 = .ok (.iaload, 1) := dk_46 (dk_at dksL_law_3 12 rfl rfl)
theorem dL_law_181 : decode cL_law 181 = .ok (.aload_n 0, 1) := dk_42 (dk_at dksL_law_3 13 rfl rfl)
theorem dL_law_182 : decode cL_law 182 = .ok (.iload 4, 2) := dk_21 4 (dk_at dksL_law_3 14 rfl rfl)
theorem dL_law_184 : decode cL_law 184 = .ok (.iconst 3, 1) := dk_6 (dk_at dksL_law_3 16 rfl rfl)
theorem dL_law_185 : decode cL_law 185 = .ok (.iadd, 1) := dk_96 (dk_at dksL_law_3 17 rfl rfl)
theorem dL_law_186 : decode cL_law 186 = .ok (.iaload, 1) := dk_46 (dk_at dksL_law_3 18 rfl rfl)
theorem dL_law_187 : decode cL_law 187 = .ok (.aload_n 0, 1) := dk_42 (dk_at dksL_law_3 19 rfl rfl)
theorem dL_law_188 : decode cL_law 188 = .ok (.iload 4, 2) := dk_21 4 (dk_at dksL_law_3 20 rfl rfl)
theorem dL_law_190 : decode cL_law 190 = .ok (.iconst 4, 1) := dk_7 (dk_at dksL_law_3 22 rfl rfl)
theorem dL_law_191 : decode cL_law 191 = .ok (.iadd, 1) := dk_96 (dk_at dksL_law_3 23 rfl rfl)
theorem dL_law_192 : decode cL_law 192 = .ok (.iaload, 1) := dk_46 (dk_at dksL_law_4 0 rfl rfl)
theorem dL_law_193 : decode cL_law 193 = .ok (.aload_n 0, 1) := dk_42 (dk_at dksL_law_4 1 rfl rfl)
theorem dL_law_194 : decode cL_law 194 = .ok (.iload 4, 2) := dk_21 4 (dk_at dksL_law_4 2 rfl rfl)
theorem dL_law_196 : decode cL_law 196 = .ok (.iconst 5, 1) := dk_8 (dk_at dksL_law_4 4 rfl rfl)
theorem dL_law_197 : decode cL_law 197 = .ok (.iadd, 1) := dk_96 (dk_at dksL_law_4 5 rfl rfl)
theorem dL_law_198 : decode cL_law 198 = .ok (.iaload, 1) := dk_46 (dk_at dksL_law_4 6 rfl rfl)
theorem dL_law_199 : decode cL_law 199 = .ok (.aload_n 3, 1) := dk_45 (dk_at dksL_law_4 7 rfl rfl)
theorem dL_law_200 : decode cL_law 200 = .ok (.invokestatic 88, 3) := dk_184 0 88 (dk_at dksL_law_4 8 rfl rfl)
theorem dL_law_203 : decode cL_law 203 = .ok (.istore 5, 2) := dk_54 5 (dk_at dksL_law_4 11 rfl rfl)
theorem dL_law_205 : decode cL_law 205 = .ok (.aload_n 2, 1) := dk_44 (dk_at dksL_law_4 13 rfl rfl)
theorem dL_law_206 : decode cL_law 206 = .ok (.aload_n 0, 1) := dk_42 (dk_at dksL_law_4 14 rfl rfl)
theorem dL_law_207 : decode cL_law 207 = .ok (.iload 4, 2) := dk_21 4 (dk_at dksL_law_4 15 rfl rfl)
theorem dL_law_209 : decode cL_law 209 = .ok (.iconst 1, 1) := dk_4 (dk_at dksL_law_4 17 rfl rfl)
theorem dL_law_210 : decode cL_law 210 = .ok (.iadd, 1) := dk_96 (dk_at dksL_law_4 18 rfl rfl)
theorem dL_law_211 : decode cL_law 211 = .ok (.iaload, 1) := dk_46 (dk_at dksL_law_4 19 rfl rfl)
theorem dL_law_212 : decode cL_law 212 = .ok (.aload_n 0, 1) := dk_42 (dk_at dksL_law_4 20 rfl rfl)
theorem dL_law_213 : decode cL_law 213 = .ok (.iload 4, 2) := dk_21 4 (dk_at dksL_law_4 21 rfl rfl)
theorem dL_law_215 : decode cL_law 215 = .ok (.iconst 2, 1) := dk_5 (dk_at dksL_law_4 23 rfl rfl)
theorem dL_law_216 : decode cL_law 216 = .ok (.iadd, 1) := dk_96 (dk_at dksL_law_5 0 rfl rfl)
theorem dL_law_217 : decode cL_law 217 = .ok (.iaload, 1) := dk_46 (dk_at dksL_law_5 1 rfl rfl)
theorem dL_law_218 : decode cL_law 218 = .ok (.aload_n 0, 1) := dk_42 (dk_at dksL_law_5 2 rfl rfl)
theorem dL_law_219 : decode cL_law 219 = .ok (.iload 4, 2) := dk_21 4 (dk_at dksL_law_5 3 rfl rfl)
theorem dL_law_221 : decode cL_law 221 = .ok (.iconst 3, 1) := dk_6 (dk_at dksL_law_5 5 rfl rfl)
theorem dL_law_222 : decode cL_law 222 = .ok (.iadd, 1) := dk_96 (dk_at dksL_law_5 6 rfl rfl)
theorem dL_law_223 : decode cL_law 223 = .ok (.iaload, 1) := dk_46 (dk_at dksL_law_5 7 rfl rfl)
theorem dL_law_224 : decode cL_law 224 = .ok (.aload_n 0, 1) := dk_42 (dk_at dksL_law_5 8 rfl rfl)
theorem dL_law_225 : decode cL_law 225 = .ok (.iload 4, 2) := dk_21 4 (dk_at dksL_law_5 9 rfl rfl)
theorem dL_law_227 : decode cL_law 227 = .ok (.iconst 4, 1) := dk_7 (dk_at dksL_law_5 11 rfl rfl)
theorem dL_law_228 : decode cL_law 228 = .ok (.iadd, 1) := dk_96 (dk_at dksL_law_5 12 rfl rfl)
theorem dL_law_229 : decode cL_law 229 = .ok (.iaload, 1) := dk_46 (dk_at dksL_law_5 13 rfl rfl)
theorem dL_law_230 : decode cL_law 230 = .ok (.aload_n 0, 1) := dk_42 (dk_at dksL_law_5 14 rfl rfl)
theorem dL_law_231 : decode cL_law 231 = .ok (.iload 4, 2) := dk_21 4 (dk_at dksL_law_5 15 rfl rfl)
theorem dL_law_233 : decode cL_law 233 = .ok (.iconst 5, 1) := dk_8 (dk_at dksL_law_5 17 rfl rfl)
theorem dL_law_234 : decode cL_law 234 = .ok (.iadd, 1) := dk_96 (dk_at dksL_law_5 18 rfl rfl)
theorem dL_law_235 : decode cL_law 235 = .ok (.iaload, 1) := dk_46 (dk_at dksL_law_5 19 rfl rfl)
theorem dL_law_236 : decode cL_law 236 = .ok (.invokevirtual 93, 3) := dk_182 0 93 (dk_at dksL_law_5 20 rfl rfl)
theorem dL_law_239 : decode cL_law 239 = .ok (.istore 6, 2) := dk_54 6 (dk_at dksL_law_6 0 rfl rfl)
theorem dL_law_241 : decode cL_law 241 = .ok (.aload_n 2, 1) := dk_44 (dk_at dksL_law_6 2 rfl rfl)
theorem dL_law_242 : decode cL_law 242 = .ok (.invokevirtual 94, 3) := dk_182 0 94 (dk_at dksL_law_6 3 rfl rfl)
theorem dL_law_245 : decode cL_law 245 = .ok (.iload 5, 2) := dk_21 5 (dk_at dksL_law_6 6 rfl rfl)
theorem dL_law_247 : decode cL_law 247 = .ok (.if_icmp .eq 5, 3) := dk_159 0 5 (dk_at dksL_law_6 8 rfl rfl)
theorem dL_law_250 : decode cL_law 250 = .ok (.iconst 0, 1) := dk_3 (dk_at dksL_law_6 11 rfl rfl)
theorem dL_law_251 : decode cL_law 251 = .ok (.ireturn, 1) := dk_172 (dk_at dksL_law_6 12 rfl rfl)
theorem dL_law_252 : decode cL_law 252 = .ok (.iload 5, 2) := dk_21 5 (dk_at dksL_law_6 13 rfl rfl)
theorem dL_law_254 : decode cL_law 254 = .ok (.ifCond .ne 15, 3) := dk_154 0 15 (dk_at dksL_law_6 15 rfl rfl)
theorem dL_law_257 : decode cL_law 257 = .ok (.aload_n 3, 1) := dk_45 (dk_at dksL_law_6 18 rfl rfl)
theorem dL_law_258 : decode cL_law 258 = .ok (.iconst 0, 1) := dk_3 (dk_at dksL_law_6 19 rfl rfl)
theorem dL_law_259 : decode cL_law 259 = .ok (.laload, 1) := dk_47 (dk_at dksL_law_6 20 rfl rfl)
theorem dL_law_260 : decode cL_law 260 = .ok (.iload 6, 2) := dk_21 6 (dk_at dksL_law_6 21 rfl rfl)
theorem dL_law_262 : decode cL_law 262 = .ok (.i2l, 1) := dk_133 (dk_at dksL_law_6 23 rfl rfl)
theorem dL_law_263 : decode cL_law 263 = .ok (.lcmp, 1) := dk_148 (dk_at dksL_law_7 0 rfl rfl)
theorem dL_law_264 : decode cL_law 264 = .ok (.ifCond .eq 5, 3) := dk_153 0 5 (dk_at dksL_law_7 1 rfl rfl)
theorem dL_law_267 : decode cL_law 267 = .ok (.iconst 0, 1) := dk_3 (dk_at dksL_law_7 4 rfl rfl)
theorem dL_law_268 : decode cL_law 268 = .ok (.ireturn, 1) := dk_172 (dk_at dksL_law_7 5 rfl rfl)
theorem dL_law_269 : decode cL_law 269 = .ok (.goto 1292, 3) := dk_167 5 12 (dk_at dksL_law_7 6 rfl rfl)
theorem dL_law_272 : decode cL_law 272 = .ok (.aload_n 1, 1) := dk_43 (dk_at dksL_law_7 9 rfl rfl)
theorem dL_law_273 : decode cL_law 273 = .ok (.aload_n 0, 1) := dk_42 (dk_at dksL_law_7 10 rfl rfl)
theorem dL_law_274 : decode cL_law 274 = .ok (.iload 4, 2) := dk_21 4 (dk_at dksL_law_7 11 rfl rfl)
theorem dL_law_276 : decode cL_law 276 = .ok (.iconst 1, 1) := dk_4 (dk_at dksL_law_7 13 rfl rfl)
theorem dL_law_277 : decode cL_law 277 = .ok (.iadd, 1) := dk_96 (dk_at dksL_law_7 14 rfl rfl)
theorem dL_law_278 : decode cL_law 278 = .ok (.iaload, 1) := dk_46 (dk_at dksL_law_7 15 rfl rfl)
theorem dL_law_279 : decode cL_law 279 = .ok (.aload_n 3, 1) := dk_45 (dk_at dksL_law_7 16 rfl rfl)
theorem dL_law_280 : decode cL_law 280 = .ok (.invokestatic 97, 3) := dk_184 0 97 (dk_at dksL_law_7 17 rfl rfl)
theorem dL_law_283 : decode cL_law 283 = .ok (.istore 5, 2) := dk_54 5 (dk_at dksL_law_7 20 rfl rfl)
theorem dL_law_285 : decode cL_law 285 = .ok (.aload_n 2, 1) := dk_44 (dk_at dksL_law_7 22 rfl rfl)
theorem dL_law_286 : decode cL_law 286 = .ok (.aload_n 0, 1) := dk_42 (dk_at dksL_law_7 23 rfl rfl)
theorem dL_law_287 : decode cL_law 287 = .ok (.iload 4, 2) := dk_21 4 (dk_at dksL_law_8 0 rfl rfl)
theorem dL_law_289 : decode cL_law 289 = .ok (.iconst 1, 1) := dk_4 (dk_at dksL_law_8 2 rfl rfl)
theorem dL_law_290 : decode cL_law 290 = .ok (.iadd, 1) := dk_96 (dk_at dksL_law_8 3 rfl rfl)
theorem dL_law_291 : decode cL_law 291 = .ok (.iaload, 1) := dk_46 (dk_at dksL_law_8 4 rfl rfl)
theorem dL_law_292 : decode cL_law 292 = .ok (.invokevirtual 100, 3) := dk_182 0 100 (dk_at dksL_law_8 5 rfl rfl)
theorem dL_law_295 : decode cL_law 295 = .ok (.istore 6, 2) := dk_54 6 (dk_at dksL_law_8 8 rfl rfl)
theorem dL_law_297 : decode cL_law 297 = .ok (.aload_n 2, 1) := dk_44 (dk_at dksL_law_8 10 rfl rfl)
theorem dL_law_298 : decode cL_law 298 = .ok (.invokevirtual 94, 3) := dk_182 0 94 (dk_at dksL_law_8 11 rfl rfl)
theorem dL_law_301 : decode cL_law 301 = .ok (.iload 5, 2) := dk_21 5 (dk_at dksL_law_8 14 rfl rfl)
theorem dL_law_303 : decode cL_law 303 = .ok (.if_icmp .eq 5, 3) := dk_159 0 5 (dk_at dksL_law_8 16 rfl rfl)
theorem dL_law_306 : decode cL_law 306 = .ok (.iconst 0, 1) := dk_3 (dk_at dksL_law_8 19 rfl rfl)
theorem dL_law_307 : decode cL_law 307 = .ok (.ireturn, 1) := dk_172 (dk_at dksL_law_8 20 rfl rfl)
theorem dL_law_308 : decode cL_law 308 = .ok (.iload 5, 2) := dk_21 5 (dk_at dksL_law_8 21 rfl rfl)
theorem dL_law_310 : decode cL_law 310 = .ok (.ifCond .ne 15, 3) := dk_154 0 15 (dk_at dksL_law_9 0 rfl rfl)
theorem dL_law_313 : decode cL_law 313 = .ok (.aload_n 3, 1) := dk_45 (dk_at dksL_law_9 3 rfl rfl)
theorem dL_law_314 : decode cL_law 314 = .ok (.iconst 0, 1) := dk_3 (dk_at dksL_law_9 4 rfl rfl)
theorem dL_law_315 : decode cL_law 315 = .ok (.laload, 1) := dk_47 (dk_at dksL_law_9 5 rfl rfl)
theorem dL_law_316 : decode cL_law 316 = .ok (.iload 6, 2) := dk_21 6 (dk_at dksL_law_9 6 rfl rfl)
theorem dL_law_318 : decode cL_law 318 = .ok (.i2l, 1) := dk_133 (dk_at dksL_law_9 8 rfl rfl)
theorem dL_law_319 : decode cL_law 319 = .ok (.lcmp, 1) := dk_148 (dk_at dksL_law_9 9 rfl rfl)
theorem dL_law_320 : decode cL_law 320 = .ok (.ifCond .eq 5, 3) := dk_153 0 5 (dk_at dksL_law_9 10 rfl rfl)
theorem dL_law_323 : decode cL_law 323 = .ok (.iconst 0, 1) := dk_3 (dk_at dksL_law_9 13 rfl rfl)
theorem dL_law_324 : decode cL_law 324 = .ok (.ireturn, 1) := dk_172 (dk_at dksL_law_9 14 rfl rfl)
theorem dL_law_325 : decode cL_law 325 = .ok (.goto 1236, 3) := dk_167 4 212 (dk_at dksL_law_9 15 rfl rfl)
theorem dL_law_328 : decode cL_law 328 = .ok (.aload_n 1, 1) := dk_43 (dk_at dksL_law_9 18 rfl rfl)
theorem dL_law_329 : decode cL_law 329 = .ok (.invokevirtual 101, 3) := dk_182 0 101 (dk_at dksL_law_9 19 rfl rfl)
theorem dL_law_332 : decode cL_law 332 = .ok (.aload_n 2, 1) := dk_44 (dk_at dksL_law_9 22 rfl rfl)
theorem dL_law_333 : decode cL_law 333 = .ok (.invokevirtual 104, 3) := dk_182 0 104 (dk_at dksL_law_10 0 rfl rfl)
theorem dL_law_336 : decode cL_law 336 = .ok (.if_icmp .eq 1225, 3) := dk_159 4 201 (dk_at dksL_law_10 3 rfl rfl)
theorem dL_law_339 : decode cL_law 339 = .ok (.iconst 0, 1) := dk_3 (dk_at dksL_law_10 6 rfl rfl)
theorem dL_law_340 : decode cL_law 340 = .ok (.ireturn, 1) := dk_172 (dk_at dksL_law_10 7 rfl rfl)
theorem dL_law_341 : decode cL_law 341 = .ok (.aload_n 1, 1) := dk_43 (dk_at dksL_law_10 8 rfl rfl)
theorem dL_law_342 : decode cL_law 342 = .ok (.aload_n 0, 1) := dk_42 (dk_at dksL_law_10 9 rfl rfl)
theorem dL_law_343 : decode cL_law 343 = .ok (.iload 4, 2) := dk_21 4 (dk_at dksL_law_10 10 rfl rfl)
theorem dL_law_345 : decode cL_law 345 = .ok (.iconst 1, 1) := dk_4 (dk_at dksL_law_10 12 rfl rfl)
theorem dL_law_346 : decode cL_law 346 = .ok (.iadd, 1) := dk_96 (dk_at dksL_law_10 13 rfl rfl)
theorem dL_law_347 : decode cL_law 347 = .ok (.iaload, 1) := dk_46 (dk_at dksL_law_10 14 rfl rfl)
theorem dL_law_348 : decode cL_law 348 = .ok (.aload_n 3, 1) := dk_45 (dk_at dksL_law_10 15 rfl rfl)
theorem dL_law_349 : decode cL_law 349 = .ok (.invokestatic 105, 3) := dk_184 0 105 (dk_at dksL_law_10 16 rfl rfl)
theorem dL_law_352 : decode cL_law 352 = .ok (.istore 5, 2) := dk_54 5 (dk_at dksL_law_10 19 rfl rfl)
theorem dL_law_354 : decode cL_law 354 = .ok (.aload_n 2, 1) := dk_44 (dk_at dksL_law_10 21 rfl rfl)
theorem dL_law_355 : decode cL_law 355 = .ok (.aload_n 0, 1) := dk_42 (dk_at dksL_law_10 22 rfl rfl)
theorem dL_law_356 : decode cL_law 356 = .ok (.iload 4, 2) := dk_21 4 (dk_at dksL_law_11 0 rfl rfl)
theorem dL_law_358 : decode cL_law 358 = .ok (.iconst 1, 1) := dk_4 (dk_at dksL_law_11 2 rfl rfl)
theorem dL_law_359 : decode cL_law 359 = .ok (.iadd, 1) := dk_96 (dk_at dksL_law_11 3 rfl rfl)
theorem dL_law_360 : decode cL_law 360 = .ok (.iaload, 1) := dk_46 (dk_at dksL_law_11 4 rfl rfl)
theorem dL_law_361 : decode cL_law 361 = .ok (.invokevirtual 107, 3) := dk_182 0 107 (dk_at dksL_law_11 5 rfl rfl)
theorem dL_law_364 : decode cL_law 364 = .ok (.istore 6, 2) := dk_54 6 (dk_at dksL_law_11 8 rfl rfl)
theorem dL_law_366 : decode cL_law 366 = .ok (.aload_n 2, 1) := dk_44 (dk_at dksL_law_11 10 rfl rfl)
theorem dL_law_367 : decode cL_law 367 = .ok (.invokevirtual 94, 3) := dk_182 0 94 (dk_at dksL_law_11 11 rfl rfl)
theorem dL_law_370 : decode cL_law 370 = .ok (.iload 5, 2) := dk_21 5 (dk_at dksL_law_11 14 rfl rfl)
theorem dL_law_372 : decode cL_law 372 = .ok (.if_icmp .eq 5, 3) := dk_159 0 5 (dk_at dksL_law_11 16 rfl rfl)
theorem dL_law_375 : decode cL_law 375 = .ok (.iconst 0, 1) := dk_3 (dk_at dksL_law_11 19 rfl rfl)
theorem dL_law_376 : decode cL_law 376 = .ok (.ireturn, 1) := dk_172 (dk_at dksL_law_11 20 rfl rfl)
theorem dL_law_377 : decode cL_law 377 = .ok (.iload 5, 2) := dk_21 5 (dk_at dksL_law_11 21 rfl rfl)
theorem dL_law_379 : decode cL_law 379 = .ok (.ifCond .ne 15, 3) := dk_154 0 15 (dk_at dksL_law_12 0 rfl rfl)
theorem dL_law_382 : decode cL_law 382 = .ok (.aload_n 3, 1) := dk_45 (dk_at dksL_law_12 3 rfl rfl)
theorem dL_law_383 : decode cL_law 383 = .ok (.iconst 0, 1) := dk_3 (dk_at dksL_law_12 4 rfl rfl)
theorem dL_law_384 : decode cL_law 384 = .ok (.laload, 1) := dk_47 (dk_at dksL_law_12 5 rfl rfl)
theorem dL_law_385 : decode cL_law 385 = .ok (.iload 6, 2) := dk_21 6 (dk_at dksL_law_12 6 rfl rfl)
theorem dL_law_387 : decode cL_law 387 = .ok (.i2l, 1) := dk_133 (dk_at dksL_law_12 8 rfl rfl)
theorem dL_law_388 : decode cL_law 388 = .ok (.lcmp, 1) := dk_148 (dk_at dksL_law_12 9 rfl rfl)
theorem dL_law_389 : decode cL_law 389 = .ok (.ifCond .eq 5, 3) := dk_153 0 5 (dk_at dksL_law_12 10 rfl rfl)
theorem dL_law_392 : decode cL_law 392 = .ok (.iconst 0, 1) := dk_3 (dk_at dksL_law_12 13 rfl rfl)
theorem dL_law_393 : decode cL_law 393 = .ok (.ireturn, 1) := dk_172 (dk_at dksL_law_12 14 rfl rfl)
theorem dL_law_394 : decode cL_law 394 = .ok (.goto 1167, 3) := dk_167 4 143 (dk_at dksL_law_12 15 rfl rfl)
theorem dL_law_397 : decode cL_law 397 = .ok (.aload_n 1, 1) := dk_43 (dk_at dksL_law_12 18 rfl rfl)
theorem dL_law_398 : decode cL_law 398 = .ok (.aload_n 0, 1) := dk_42 (dk_at dksL_law_12 19 rfl rfl)
theorem dL_law_399 : decode cL_law 399 = .ok (.iload 4, 2) := dk_21 4 (dk_at dksL_law_12 20 rfl rfl)
theorem dL_law_401 : decode cL_law 401 = .ok (.iconst 1, 1) := dk_4 (dk_at dksL_law_12 22 rfl rfl)
theorem dL_law_402 : decode cL_law 402 = .ok (.iadd, 1) := dk_96 (dk_at dksL_law_12 23 rfl rfl)
theorem dL_law_403 : decode cL_law 403 = .ok (.iaload, 1) := dk_46 (dk_at dksL_law_13 0 rfl rfl)
theorem dL_law_404 : decode cL_law 404 = .ok (.aload_n 0, 1) := dk_42 (dk_at dksL_law_13 1 rfl rfl)
theorem dL_law_405 : decode cL_law 405 = .ok (.iload 4, 2) := dk_21 4 (dk_at dksL_law_13 2 rfl rfl)
theorem dL_law_407 : decode cL_law 407 = .ok (.iconst 2, 1) := dk_5 (dk_at dksL_law_13 4 rfl rfl)
theorem dL_law_408 : decode cL_law 408 = .ok (.iadd, 1) := dk_96 (dk_at dksL_law_13 5 rfl rfl)
theorem dL_law_409 : decode cL_law 409 = .ok (.iaload, 1) := dk_46 (dk_at dksL_law_13 6 rfl rfl)
theorem dL_law_410 : decode cL_law 410 = .ok (.aload_n 3, 1) := dk_45 (dk_at dksL_law_13 7 rfl rfl)
theorem dL_law_411 : decode cL_law 411 = .ok (.invokestatic 108, 3) := dk_184 0 108 (dk_at dksL_law_13 8 rfl rfl)
theorem dL_law_414 : decode cL_law 414 = .ok (.istore 5, 2) := dk_54 5 (dk_at dksL_law_13 11 rfl rfl)
theorem dL_law_416 : decode cL_law 416 = .ok (.aload_n 2, 1) := dk_44 (dk_at dksL_law_13 13 rfl rfl)
theorem dL_law_417 : decode cL_law 417 = .ok (.aload_n 0, 1) := dk_42 (dk_at dksL_law_13 14 rfl rfl)
theorem dL_law_418 : decode cL_law 418 = .ok (.iload 4, 2) := dk_21 4 (dk_at dksL_law_13 15 rfl rfl)
theorem dL_law_420 : decode cL_law 420 = .ok (.iconst 1, 1) := dk_4 (dk_at dksL_law_13 17 rfl rfl)
theorem dL_law_421 : decode cL_law 421 = .ok (.iadd, 1) := dk_96 (dk_at dksL_law_13 18 rfl rfl)
theorem dL_law_422 : decode cL_law 422 = .ok (.iaload, 1) := dk_46 (dk_at dksL_law_13 19 rfl rfl)
theorem dL_law_423 : decode cL_law 423 = .ok (.aload_n 0, 1) := dk_42 (dk_at dksL_law_13 20 rfl rfl)
theorem dL_law_424 : decode cL_law 424 = .ok (.iload 4, 2) := dk_21 4 (dk_at dksL_law_13 21 rfl rfl)
theorem dL_law_426 : decode cL_law 426 = .ok (.iconst 2, 1) := dk_5 (dk_at dksL_law_13 23 rfl rfl)
theorem dL_law_427 : decode cL_law 427 = .ok (.iadd, 1) := dk_96 (dk_at dksL_law_14 0 rfl rfl)
theorem dL_law_428 : decode cL_law 428 = .ok (.iaload, 1) := dk_46 (dk_at dksL_law_14 1 rfl rfl)
theorem dL_law_429 : decode cL_law 429 = .ok (.invokevirtual 111, 3) := dk_182 0 111 (dk_at dksL_law_14 2 rfl rfl)
theorem dL_law_432 : decode cL_law 432 = .ok (.istore 6, 2) := dk_54 6 (dk_at dksL_law_14 5 rfl rfl)
theorem dL_law_434 : decode cL_law 434 = .ok (.aload_n 2, 1) := dk_44 (dk_at dksL_law_14 7 rfl rfl)
theorem dL_law_435 : decode cL_law 435 = .ok (.invokevirtual 94, 3) := dk_182 0 94 (dk_at dksL_law_14 8 rfl rfl)
theorem dL_law_438 : decode cL_law 438 = .ok (.iload 5, 2) := dk_21 5 (dk_at dksL_law_14 11 rfl rfl)
theorem dL_law_440 : decode cL_law 440 = .ok (.if_icmp .eq 5, 3) := dk_159 0 5 (dk_at dksL_law_14 13 rfl rfl)
theorem dL_law_443 : decode cL_law 443 = .ok (.iconst 0, 1) := dk_3 (dk_at dksL_law_14 16 rfl rfl)
theorem dL_law_444 : decode cL_law 444 = .ok (.ireturn, 1) := dk_172 (dk_at dksL_law_14 17 rfl rfl)
theorem dL_law_445 : decode cL_law 445 = .ok (.iload 5, 2) := dk_21 5 (dk_at dksL_law_14 18 rfl rfl)
theorem dL_law_447 : decode cL_law 447 = .ok (.ifCond .ne 15, 3) := dk_154 0 15 (dk_at dksL_law_14 20 rfl rfl)
theorem dL_law_450 : decode cL_law 450 = .ok (.aload_n 3, 1) := dk_45 (dk_at dksL_law_14 23 rfl rfl)
theorem dL_law_451 : decode cL_law 451 = .ok (.iconst 0, 1) := dk_3 (dk_at dksL_law_15 0 rfl rfl)
theorem dL_law_452 : decode cL_law 452 = .ok (.laload, 1) := dk_47 (dk_at dksL_law_15 1 rfl rfl)
theorem dL_law_453 : decode cL_law 453 = .ok (.iload 6, 2) := dk_21 6 (dk_at dksL_law_15 2 rfl rfl)
theorem dL_law_455 : decode cL_law 455 = .ok (.i2l, 1) := dk_133 (dk_at dksL_law_15 4 rfl rfl)
theorem dL_law_456 : decode cL_law 456 = .ok (.lcmp, 1) := dk_148 (dk_at dksL_law_15 5 rfl rfl)
theorem dL_law_457 : decode cL_law 457 = .ok (.ifCond .eq 5, 3) := dk_153 0 5 (dk_at dksL_law_15 6 rfl rfl)
theorem dL_law_460 : decode cL_law 460 = .ok (.iconst 0, 1) := dk_3 (dk_at dksL_law_15 9 rfl rfl)
theorem dL_law_461 : decode cL_law 461 = .ok (.ireturn, 1) := dk_172 (dk_at dksL_law_15 10 rfl rfl)
theorem dL_law_462 : decode cL_law 462 = .ok (.goto 1099, 3) := dk_167 4 75 (dk_at dksL_law_15 11 rfl rfl)
theorem dL_law_465 : decode cL_law 465 = .ok (.aload_n 1, 1) := dk_43 (dk_at dksL_law_15 14 rfl rfl)
theorem dL_law_466 : decode cL_law 466 = .ok (.aload_n 0, 1) := dk_42 (dk_at dksL_law_15 15 rfl rfl)
theorem dL_law_467 : decode cL_law 467 = .ok (.iload 4, 2) := dk_21 4 (dk_at dksL_law_15 16 rfl rfl)
theorem dL_law_469 : decode cL_law 469 = .ok (.iconst 1, 1) := dk_4 (dk_at dksL_law_15 18 rfl rfl)
theorem dL_law_470 : decode cL_law 470 = .ok (.iadd, 1) := dk_96 (dk_at dksL_law_15 19 rfl rfl)
theorem dL_law_471 : decode cL_law 471 = .ok (.iaload, 1) := dk_46 (dk_at dksL_law_15 20 rfl rfl)
theorem dL_law_472 : decode cL_law 472 = .ok (.aload_n 0, 1) := dk_42 (dk_at dksL_law_15 21 rfl rfl)
theorem dL_law_473 : decode cL_law 473 = .ok (.iload 4, 2) := dk_21 4 (dk_at dksL_law_15 22 rfl rfl)
theorem dL_law_475 : decode cL_law 475 = .ok (.iconst 2, 1) := dk_5 (dk_at dksL_law_16 0 rfl rfl)
theorem dL_law_476 : decode cL_law 476 = .ok (.iadd, 1) := dk_96 (dk_at dksL_law_16 1 rfl rfl)
theorem dL_law_477 : decode cL_law 477 = .ok (.iaload, 1) := dk_46 (dk_at dksL_law_16 2 rfl rfl)
theorem dL_law_478 : decode cL_law 478 = .ok (.aload_n 3, 1) := dk_45 (dk_at dksL_law_16 3 rfl rfl)
theorem dL_law_479 : decode cL_law 479 = .ok (.invokestatic 112, 3) := dk_184 0 112 (dk_at dksL_law_16 4 rfl rfl)
theorem dL_law_482 : decode cL_law 482 = .ok (.istore 5, 2) := dk_54 5 (dk_at dksL_law_16 7 rfl rfl)
theorem dL_law_484 : decode cL_law 484 = .ok (.aload_n 2, 1) := dk_44 (dk_at dksL_law_16 9 rfl rfl)
theorem dL_law_485 : decode cL_law 485 = .ok (.aload_n 0, 1) := dk_42 (dk_at dksL_law_16 10 rfl rfl)
theorem dL_law_486 : decode cL_law 486 = .ok (.iload 4, 2) := dk_21 4 (dk_at dksL_law_16 11 rfl rfl)
theorem dL_law_488 : decode cL_law 488 = .ok (.iconst 1, 1) := dk_4 (dk_at dksL_law_16 13 rfl rfl)
theorem dL_law_489 : decode cL_law 489 = .ok (.iadd, 1) := dk_96 (dk_at dksL_law_16 14 rfl rfl)
theorem dL_law_490 : decode cL_law 490 = .ok (.iaload, 1) := dk_46 (dk_at dksL_law_16 15 rfl rfl)
theorem dL_law_491 : decode cL_law 491 = .ok (.aload_n 0, 1) := dk_42 (dk_at dksL_law_16 16 rfl rfl)
theorem dL_law_492 : decode cL_law 492 = .ok (.iload 4, 2) := dk_21 4 (dk_at dksL_law_16 17 rfl rfl)
theorem dL_law_494 : decode cL_law 494 = .ok (.iconst 2, 1) := dk_5 (dk_at dksL_law_16 19 rfl rfl)
theorem dL_law_495 : decode cL_law 495 = .ok (.iadd, 1) := dk_96 (dk_at dksL_law_16 20 rfl rfl)
theorem dL_law_496 : decode cL_law 496 = .ok (.iaload, 1) := dk_46 (dk_at dksL_law_16 21 rfl rfl)
theorem dL_law_497 : decode cL_law 497 = .ok (.invokevirtual 114, 3) := dk_182 0 114 (dk_at dksL_law_17 0 rfl rfl)
theorem dL_law_500 : decode cL_law 500 = .ok (.istore 6, 2) := dk_54 6 (dk_at dksL_law_17 3 rfl rfl)
theorem dL_law_502 : decode cL_law 502 = .ok (.aload_n 2, 1) := dk_44 (dk_at dksL_law_17 5 rfl rfl)
theorem dL_law_503 : decode cL_law 503 = .ok (.invokevirtual 94, 3) := dk_182 0 94 (dk_at dksL_law_17 6 rfl rfl)
theorem dL_law_506 : decode cL_law 506 = .ok (.iload 5, 2) := dk_21 5 (dk_at dksL_law_17 9 rfl rfl)
theorem dL_law_508 : decode cL_law 508 = .ok (.if_icmp .eq 5, 3) := dk_159 0 5 (dk_at dksL_law_17 11 rfl rfl)
theorem dL_law_511 : decode cL_law 511 = .ok (.iconst 0, 1) := dk_3 (dk_at dksL_law_17 14 rfl rfl)
theorem dL_law_512 : decode cL_law 512 = .ok (.ireturn, 1) := dk_172 (dk_at dksL_law_17 15 rfl rfl)
theorem dL_law_513 : decode cL_law 513 = .ok (.iload 5, 2) := dk_21 5 (dk_at dksL_law_17 16 rfl rfl)
theorem dL_law_515 : decode cL_law 515 = .ok (.ifCond .ne 15, 3) := dk_154 0 15 (dk_at dksL_law_17 18 rfl rfl)
theorem dL_law_518 : decode cL_law 518 = .ok (.aload_n 3, 1) := dk_45 (dk_at dksL_law_17 21 rfl rfl)
theorem dL_law_519 : decode cL_law 519 = .ok (.iconst 0, 1) := dk_3 (dk_at dksL_law_17 22 rfl rfl)
theorem dL_law_520 : decode cL_law 520 = .ok (.laload, 1) := dk_47 (dk_at dksL_law_17 23 rfl rfl)
theorem dL_law_521 : decode cL_law 521 = .ok (.iload 6, 2) := dk_21 6 (dk_at dksL_law_18 0 rfl rfl)
theorem dL_law_523 : decode cL_law 523 = .ok (.i2l, 1) := dk_133 (dk_at dksL_law_18 2 rfl rfl)
theorem dL_law_524 : decode cL_law 524 = .ok (.lcmp, 1) := dk_148 (dk_at dksL_law_18 3 rfl rfl)
theorem dL_law_525 : decode cL_law 525 = .ok (.ifCond .eq 5, 3) := dk_153 0 5 (dk_at dksL_law_18 4 rfl rfl)
theorem dL_law_528 : decode cL_law 528 = .ok (.iconst 0, 1) := dk_3 (dk_at dksL_law_18 7 rfl rfl)
theorem dL_law_529 : decode cL_law 529 = .ok (.ireturn, 1) := dk_172 (dk_at dksL_law_18 8 rfl rfl)
theorem dL_law_530 : decode cL_law 530 = .ok (.goto 1031, 3) := dk_167 4 7 (dk_at dksL_law_18 9 rfl rfl)
theorem dL_law_533 : decode cL_law 533 = .ok (.aload_n 1, 1) := dk_43 (dk_at dksL_law_18 12 rfl rfl)
theorem dL_law_534 : decode cL_law 534 = .ok (.aload_n 0, 1) := dk_42 (dk_at dksL_law_18 13 rfl rfl)
theorem dL_law_535 : decode cL_law 535 = .ok (.iload 4, 2) := dk_21 4 (dk_at dksL_law_18 14 rfl rfl)
theorem dL_law_537 : decode cL_law 537 = .ok (.iconst 1, 1) := dk_4 (dk_at dksL_law_18 16 rfl rfl)
theorem dL_law_538 : decode cL_law 538 = .ok (.iadd, 1) := dk_96 (dk_at dksL_law_18 17 rfl rfl)
theorem dL_law_539 : decode cL_law 539 = .ok (.iaload, 1) := dk_46 (dk_at dksL_law_18 18 rfl rfl)
theorem dL_law_540 : decode cL_law 540 = .ok (.aload_n 0, 1) := dk_42 (dk_at dksL_law_18 19 rfl rfl)
theorem dL_law_541 : decode cL_law 541 = .ok (.iload 4, 2) := dk_21 4 (dk_at dksL_law_18 20 rfl rfl)
theorem dL_law_543 : decode cL_law 543 = .ok (.iconst 2, 1) := dk_5 (dk_at dksL_law_18 22 rfl rfl)
theorem dL_law_544 : decode cL_law 544 = .ok (.iadd, 1) := dk_96 (dk_at dksL_law_18 23 rfl rfl)
theorem dL_law_545 : decode cL_law 545 = .ok (.iaload, 1) := dk_46 (dk_at dksL_law_19 0 rfl rfl)
theorem dL_law_546 : decode cL_law 546 = .ok (.aload_n 3, 1) := dk_45 (dk_at dksL_law_19 1 rfl rfl)
theorem dL_law_547 : decode cL_law 547 = .ok (.invokestatic 115, 3) := dk_184 0 115 (dk_at dksL_law_19 2 rfl rfl)
theorem dL_law_550 : decode cL_law 550 = .ok (.istore 5, 2) := dk_54 5 (dk_at dksL_law_19 5 rfl rfl)
theorem dL_law_552 : decode cL_law 552 = .ok (.aload_n 2, 1) := dk_44 (dk_at dksL_law_19 7 rfl rfl)
theorem dL_law_553 : decode cL_law 553 = .ok (.aload_n 0, 1) := dk_42 (dk_at dksL_law_19 8 rfl rfl)
theorem dL_law_554 : decode cL_law 554 = .ok (.iload 4, 2) := dk_21 4 (dk_at dksL_law_19 9 rfl rfl)
theorem dL_law_556 : decode cL_law 556 = .ok (.iconst 1, 1) := dk_4 (dk_at dksL_law_19 11 rfl rfl)
theorem dL_law_557 : decode cL_law 557 = .ok (.iadd, 1) := dk_96 (dk_at dksL_law_19 12 rfl rfl)
theorem dL_law_558 : decode cL_law 558 = .ok (.iaload, 1) := dk_46 (dk_at dksL_law_19 13 rfl rfl)
theorem dL_law_559 : decode cL_law 559 = .ok (.aload_n 0, 1) := dk_42 (dk_at dksL_law_19 14 rfl rfl)
theorem dL_law_560 : decode cL_law 560 = .ok (.iload 4, 2) := dk_21 4 (dk_at dksL_law_19 15 rfl rfl)
theorem dL_law_562 : decode cL_law 562 = .ok (.iconst 2, 1) := dk_5 (dk_at dksL_law_19 17 rfl rfl)
theorem dL_law_563 : decode cL_law 563 = .ok (.iadd, 1) := dk_96 (dk_at dksL_law_19 18 rfl rfl)
theorem dL_law_564 : decode cL_law 564 = .ok (.iaload, 1) := dk_46 (dk_at dksL_law_19 19 rfl rfl)
theorem dL_law_565 : decode cL_law 565 = .ok (.invokevirtual 117, 3) := dk_182 0 117 (dk_at dksL_law_19 20 rfl rfl)
theorem dL_law_568 : decode cL_law 568 = .ok (.istore 6, 2) := dk_54 6 (dk_at dksL_law_20 0 rfl rfl)
theorem dL_law_570 : decode cL_law 570 = .ok (.aload_n 2, 1) := dk_44 (dk_at dksL_law_20 2 rfl rfl)
theorem dL_law_571 : decode cL_law 571 = .ok (.invokevirtual 94, 3) := dk_182 0 94 (dk_at dksL_law_20 3 rfl rfl)
theorem dL_law_574 : decode cL_law 574 = .ok (.iload 5, 2) := dk_21 5 (dk_at dksL_law_20 6 rfl rfl)
theorem dL_law_576 : decode cL_law 576 = .ok (.if_icmp .eq 5, 3) := dk_159 0 5 (dk_at dksL_law_20 8 rfl rfl)
theorem dL_law_579 : decode cL_law 579 = .ok (.iconst 0, 1) := dk_3 (dk_at dksL_law_20 11 rfl rfl)
theorem dL_law_580 : decode cL_law 580 = .ok (.ireturn, 1) := dk_172 (dk_at dksL_law_20 12 rfl rfl)
theorem dL_law_581 : decode cL_law 581 = .ok (.iload 5, 2) := dk_21 5 (dk_at dksL_law_20 13 rfl rfl)
theorem dL_law_583 : decode cL_law 583 = .ok (.ifCond .ne 15, 3) := dk_154 0 15 (dk_at dksL_law_20 15 rfl rfl)
theorem dL_law_586 : decode cL_law 586 = .ok (.aload_n 3, 1) := dk_45 (dk_at dksL_law_20 18 rfl rfl)
theorem dL_law_587 : decode cL_law 587 = .ok (.iconst 0, 1) := dk_3 (dk_at dksL_law_20 19 rfl rfl)
theorem dL_law_588 : decode cL_law 588 = .ok (.laload, 1) := dk_47 (dk_at dksL_law_20 20 rfl rfl)
theorem dL_law_589 : decode cL_law 589 = .ok (.iload 6, 2) := dk_21 6 (dk_at dksL_law_20 21 rfl rfl)
theorem dL_law_591 : decode cL_law 591 = .ok (.i2l, 1) := dk_133 (dk_at dksL_law_20 23 rfl rfl)
theorem dL_law_592 : decode cL_law 592 = .ok (.lcmp, 1) := dk_148 (dk_at dksL_law_21 0 rfl rfl)
theorem dL_law_593 : decode cL_law 593 = .ok (.ifCond .eq 5, 3) := dk_153 0 5 (dk_at dksL_law_21 1 rfl rfl)
theorem dL_law_596 : decode cL_law 596 = .ok (.iconst 0, 1) := dk_3 (dk_at dksL_law_21 4 rfl rfl)
theorem dL_law_597 : decode cL_law 597 = .ok (.ireturn, 1) := dk_172 (dk_at dksL_law_21 5 rfl rfl)
theorem dL_law_598 : decode cL_law 598 = .ok (.goto 963, 3) := dk_167 3 195 (dk_at dksL_law_21 6 rfl rfl)
theorem dL_law_601 : decode cL_law 601 = .ok (.aload_n 1, 1) := dk_43 (dk_at dksL_law_21 9 rfl rfl)
theorem dL_law_602 : decode cL_law 602 = .ok (.invokevirtual 118, 3) := dk_182 0 118 (dk_at dksL_law_21 10 rfl rfl)
theorem dL_law_605 : decode cL_law 605 = .ok (.aload_n 2, 1) := dk_44 (dk_at dksL_law_21 13 rfl rfl)
theorem dL_law_606 : decode cL_law 606 = .ok (.invokevirtual 121, 3) := dk_182 0 121 (dk_at dksL_law_21 14 rfl rfl)
theorem dL_law_609 : decode cL_law 609 = .ok (.if_icmp .eq 952, 3) := dk_159 3 184 (dk_at dksL_law_21 17 rfl rfl)
theorem dL_law_612 : decode cL_law 612 = .ok (.iconst 0, 1) := dk_3 (dk_at dksL_law_21 20 rfl rfl)
theorem dL_law_613 : decode cL_law 613 = .ok (.ireturn, 1) := dk_172 (dk_at dksL_law_21 21 rfl rfl)
theorem dL_law_614 : decode cL_law 614 = .ok (.aload_n 1, 1) := dk_43 (dk_at dksL_law_21 22 rfl rfl)
theorem dL_law_615 : decode cL_law 615 = .ok (.aload_n 0, 1) := dk_42 (dk_at dksL_law_21 23 rfl rfl)
theorem dL_law_616 : decode cL_law 616 = .ok (.iload 4, 2) := dk_21 4 (dk_at dksL_law_22 0 rfl rfl)
theorem dL_law_618 : decode cL_law 618 = .ok (.iconst 1, 1) := dk_4 (dk_at dksL_law_22 2 rfl rfl)
theorem dL_law_619 : decode cL_law 619 = .ok (.iadd, 1) := dk_96 (dk_at dksL_law_22 3 rfl rfl)
theorem dL_law_620 : decode cL_law 620 = .ok (.iaload, 1) := dk_46 (dk_at dksL_law_22 4 rfl rfl)
theorem dL_law_621 : decode cL_law 621 = .ok (.aload_n 0, 1) := dk_42 (dk_at dksL_law_22 5 rfl rfl)
theorem dL_law_622 : decode cL_law 622 = .ok (.iload 4, 2) := dk_21 4 (dk_at dksL_law_22 6 rfl rfl)
theorem dL_law_624 : decode cL_law 624 = .ok (.iconst 2, 1) := dk_5 (dk_at dksL_law_22 8 rfl rfl)
theorem dL_law_625 : decode cL_law 625 = .ok (.iadd, 1) := dk_96 (dk_at dksL_law_22 9 rfl rfl)
theorem dL_law_626 : decode cL_law 626 = .ok (.iaload, 1) := dk_46 (dk_at dksL_law_22 10 rfl rfl)
theorem dL_law_627 : decode cL_law 627 = .ok (.aload_n 3, 1) := dk_45 (dk_at dksL_law_22 11 rfl rfl)
theorem dL_law_628 : decode cL_law 628 = .ok (.invokestatic 122, 3) := dk_184 0 122 (dk_at dksL_law_22 12 rfl rfl)
theorem dL_law_631 : decode cL_law 631 = .ok (.istore 5, 2) := dk_54 5 (dk_at dksL_law_22 15 rfl rfl)
theorem dL_law_633 : decode cL_law 633 = .ok (.aload_n 2, 1) := dk_44 (dk_at dksL_law_22 17 rfl rfl)
theorem dL_law_634 : decode cL_law 634 = .ok (.aload_n 0, 1) := dk_42 (dk_at dksL_law_22 18 rfl rfl)
theorem dL_law_635 : decode cL_law 635 = .ok (.iload 4, 2) := dk_21 4 (dk_at dksL_law_22 19 rfl rfl)
theorem dL_law_637 : decode cL_law 637 = .ok (.iconst 1, 1) := dk_4 (dk_at dksL_law_22 21 rfl rfl)
theorem dL_law_638 : decode cL_law 638 = .ok (.iadd, 1) := dk_96 (dk_at dksL_law_22 22 rfl rfl)
theorem dL_law_639 : decode cL_law 639 = .ok (.iaload, 1) := dk_46 (dk_at dksL_law_22 23 rfl rfl)
theorem dL_law_640 : decode cL_law 640 = .ok (.aload_n 0, 1) := dk_42 (dk_at dksL_law_23 0 rfl rfl)
theorem dL_law_641 : decode cL_law 641 = .ok (.iload 4, 2) := dk_21 4 (dk_at dksL_law_23 1 rfl rfl)
theorem dL_law_643 : decode cL_law 643 = .ok (.iconst 2, 1) := dk_5 (dk_at dksL_law_23 3 rfl rfl)
theorem dL_law_644 : decode cL_law 644 = .ok (.iadd, 1) := dk_96 (dk_at dksL_law_23 4 rfl rfl)
theorem dL_law_645 : decode cL_law 645 = .ok (.iaload, 1) := dk_46 (dk_at dksL_law_23 5 rfl rfl)
theorem dL_law_646 : decode cL_law 646 = .ok (.invokevirtual 124, 3) := dk_182 0 124 (dk_at dksL_law_23 6 rfl rfl)
theorem dL_law_649 : decode cL_law 649 = .ok (.istore 6, 2) := dk_54 6 (dk_at dksL_law_23 9 rfl rfl)
theorem dL_law_651 : decode cL_law 651 = .ok (.aload_n 2, 1) := dk_44 (dk_at dksL_law_23 11 rfl rfl)
theorem dL_law_652 : decode cL_law 652 = .ok (.invokevirtual 94, 3) := dk_182 0 94 (dk_at dksL_law_23 12 rfl rfl)
theorem dL_law_655 : decode cL_law 655 = .ok (.iload 5, 2) := dk_21 5 (dk_at dksL_law_23 15 rfl rfl)
theorem dL_law_657 : decode cL_law 657 = .ok (.if_icmp .eq 5, 3) := dk_159 0 5 (dk_at dksL_law_23 17 rfl rfl)
theorem dL_law_660 : decode cL_law 660 = .ok (.iconst 0, 1) := dk_3 (dk_at dksL_law_23 20 rfl rfl)
theorem dL_law_661 : decode cL_law 661 = .ok (.ireturn, 1) := dk_172 (dk_at dksL_law_23 21 rfl rfl)
theorem dL_law_662 : decode cL_law 662 = .ok (.iload 5, 2) := dk_21 5 (dk_at dksL_law_23 22 rfl rfl)
theorem dL_law_664 : decode cL_law 664 = .ok (.ifCond .ne 15, 3) := dk_154 0 15 (dk_at dksL_law_24 0 rfl rfl)
theorem dL_law_667 : decode cL_law 667 = .ok (.aload_n 3, 1) := dk_45 (dk_at dksL_law_24 3 rfl rfl)
theorem dL_law_668 : decode cL_law 668 = .ok (.iconst 0, 1) := dk_3 (dk_at dksL_law_24 4 rfl rfl)
theorem dL_law_669 : decode cL_law 669 = .ok (.laload, 1) := dk_47 (dk_at dksL_law_24 5 rfl rfl)
theorem dL_law_670 : decode cL_law 670 = .ok (.iload 6, 2) := dk_21 6 (dk_at dksL_law_24 6 rfl rfl)
theorem dL_law_672 : decode cL_law 672 = .ok (.i2l, 1) := dk_133 (dk_at dksL_law_24 8 rfl rfl)
theorem dL_law_673 : decode cL_law 673 = .ok (.lcmp, 1) := dk_148 (dk_at dksL_law_24 9 rfl rfl)
theorem dL_law_674 : decode cL_law 674 = .ok (.ifCond .eq 5, 3) := dk_153 0 5 (dk_at dksL_law_24 10 rfl rfl)
theorem dL_law_677 : decode cL_law 677 = .ok (.iconst 0, 1) := dk_3 (dk_at dksL_law_24 13 rfl rfl)
theorem dL_law_678 : decode cL_law 678 = .ok (.ireturn, 1) := dk_172 (dk_at dksL_law_24 14 rfl rfl)
theorem dL_law_679 : decode cL_law 679 = .ok (.goto 882, 3) := dk_167 3 114 (dk_at dksL_law_24 15 rfl rfl)
theorem dL_law_682 : decode cL_law 682 = .ok (.aload_n 1, 1) := dk_43 (dk_at dksL_law_24 18 rfl rfl)
theorem dL_law_683 : decode cL_law 683 = .ok (.invokevirtual 125, 3) := dk_182 0 125 (dk_at dksL_law_24 19 rfl rfl)
theorem dL_law_686 : decode cL_law 686 = .ok (.aload_n 2, 1) := dk_44 (dk_at dksL_law_24 22 rfl rfl)
theorem dL_law_687 : decode cL_law 687 = .ok (.invokevirtual 128, 3) := dk_182 0 128 (dk_at dksL_law_25 0 rfl rfl)
theorem dL_law_690 : decode cL_law 690 = .ok (.if_icmp .eq 871, 3) := dk_159 3 103 (dk_at dksL_law_25 3 rfl rfl)
theorem dL_law_693 : decode cL_law 693 = .ok (.iconst 0, 1) := dk_3 (dk_at dksL_law_25 6 rfl rfl)
theorem dL_law_694 : decode cL_law 694 = .ok (.ireturn, 1) := dk_172 (dk_at dksL_law_25 7 rfl rfl)
theorem dL_law_695 : decode cL_law 695 = .ok (.aload_n 1, 1) := dk_43 (dk_at dksL_law_25 8 rfl rfl)
theorem dL_law_696 : decode cL_law 696 = .ok (.aload_n 3, 1) := dk_45 (dk_at dksL_law_25 9 rfl rfl)
theorem dL_law_697 : decode cL_law 697 = .ok (.invokestatic 129, 3) := dk_184 0 129 (dk_at dksL_law_25 10 rfl rfl)
theorem dL_law_700 : decode cL_law 700 = .ok (.istore 5, 2) := dk_54 5 (dk_at dksL_law_25 13 rfl rfl)
theorem dL_law_702 : decode cL_law 702 = .ok (.aload_n 2, 1) := dk_44 (dk_at dksL_law_25 15 rfl rfl)
theorem dL_law_703 : decode cL_law 703 = .ok (.invokevirtual 132, 3) := dk_182 0 132 (dk_at dksL_law_25 16 rfl rfl)
theorem dL_law_706 : decode cL_law 706 = .ok (.istore 6, 2) := dk_54 6 (dk_at dksL_law_25 19 rfl rfl)
theorem dL_law_708 : decode cL_law 708 = .ok (.aload_n 2, 1) := dk_44 (dk_at dksL_law_25 21 rfl rfl)
theorem dL_law_709 : decode cL_law 709 = .ok (.invokevirtual 94, 3) := dk_182 0 94 (dk_at dksL_law_26 0 rfl rfl)
theorem dL_law_712 : decode cL_law 712 = .ok (.iload 5, 2) := dk_21 5 (dk_at dksL_law_26 3 rfl rfl)
theorem dL_law_714 : decode cL_law 714 = .ok (.if_icmp .eq 5, 3) := dk_159 0 5 (dk_at dksL_law_26 5 rfl rfl)
theorem dL_law_717 : decode cL_law 717 = .ok (.iconst 0, 1) := dk_3 (dk_at dksL_law_26 8 rfl rfl)
theorem dL_law_718 : decode cL_law 718 = .ok (.ireturn, 1) := dk_172 (dk_at dksL_law_26 9 rfl rfl)
theorem dL_law_719 : decode cL_law 719 = .ok (.iload 5, 2) := dk_21 5 (dk_at dksL_law_26 10 rfl rfl)
theorem dL_law_721 : decode cL_law 721 = .ok (.ifCond .ne 15, 3) := dk_154 0 15 (dk_at dksL_law_26 12 rfl rfl)
theorem dL_law_724 : decode cL_law 724 = .ok (.aload_n 3, 1) := dk_45 (dk_at dksL_law_26 15 rfl rfl)
theorem dL_law_725 : decode cL_law 725 = .ok (.iconst 0, 1) := dk_3 (dk_at dksL_law_26 16 rfl rfl)
theorem dL_law_726 : decode cL_law 726 = .ok (.laload, 1) := dk_47 (dk_at dksL_law_26 17 rfl rfl)
theorem dL_law_727 : decode cL_law 727 = .ok (.iload 6, 2) := dk_21 6 (dk_at dksL_law_26 18 rfl rfl)
theorem dL_law_729 : decode cL_law 729 = .ok (.i2l, 1) := dk_133 (dk_at dksL_law_26 20 rfl rfl)
theorem dL_law_730 : decode cL_law 730 = .ok (.lcmp, 1) := dk_148 (dk_at dksL_law_26 21 rfl rfl)
theorem dL_law_731 : decode cL_law 731 = .ok (.ifCond .eq 5, 3) := dk_153 0 5 (dk_at dksL_law_27 0 rfl rfl)
theorem dL_law_734 : decode cL_law 734 = .ok (.iconst 0, 1) := dk_3 (dk_at dksL_law_27 3 rfl rfl)
theorem dL_law_735 : decode cL_law 735 = .ok (.ireturn, 1) := dk_172 (dk_at dksL_law_27 4 rfl rfl)
theorem dL_law_736 : decode cL_law 736 = .ok (.goto 825, 3) := dk_167 3 57 (dk_at dksL_law_27 5 rfl rfl)
theorem dL_law_739 : decode cL_law 739 = .ok (.aload_n 1, 1) := dk_43 (dk_at dksL_law_27 8 rfl rfl)
theorem dL_law_740 : decode cL_law 740 = .ok (.invokevirtual 133, 3) := dk_182 0 133 (dk_at dksL_law_27 9 rfl rfl)
theorem dL_law_743 : decode cL_law 743 = .ok (.aload_n 2, 1) := dk_44 (dk_at dksL_law_27 12 rfl rfl)
theorem dL_law_744 : decode cL_law 744 = .ok (.invokevirtual 136, 3) := dk_182 0 136 (dk_at dksL_law_27 13 rfl rfl)
theorem dL_law_747 : decode cL_law 747 = .ok (.if_icmp .eq 814, 3) := dk_159 3 46 (dk_at dksL_law_27 16 rfl rfl)
theorem dL_law_750 : decode cL_law 750 = .ok (.iconst 0, 1) := dk_3 (dk_at dksL_law_27 19 rfl rfl)
theorem dL_law_751 : decode cL_law 751 = .ok (.ireturn, 1) := dk_172 (dk_at dksL_law_27 20 rfl rfl)
theorem dL_law_752 : decode cL_law 752 = .ok (.aload_n 1, 1) := dk_43 (dk_at dksL_law_27 21 rfl rfl)
theorem dL_law_753 : decode cL_law 753 = .ok (.invokevirtual 137, 3) := dk_182 0 137 (dk_at dksL_law_28 0 rfl rfl)
theorem dL_law_756 : decode cL_law 756 = .ok (.aload_n 2, 1) := dk_44 (dk_at dksL_law_28 3 rfl rfl)
theorem dL_law_757 : decode cL_law 757 = .ok (.invokevirtual 140, 3) := dk_182 0 140 (dk_at dksL_law_28 4 rfl rfl)
theorem dL_law_760 : decode cL_law 760 = .ok (.if_icmp .eq 801, 3) := dk_159 3 33 (dk_at dksL_law_28 7 rfl rfl)
theorem dL_law_763 : decode cL_law 763 = .ok (.iconst 0, 1) := dk_3 (dk_at dksL_law_28 10 rfl rfl)
theorem dL_law_764 : decode cL_law 764 = .ok (.ireturn, 1) := dk_172 (dk_at dksL_law_28 11 rfl rfl)
theorem dL_law_765 : decode cL_law 765 = .ok (.aload_n 1, 1) := dk_43 (dk_at dksL_law_28 12 rfl rfl)
theorem dL_law_766 : decode cL_law 766 = .ok (.invokevirtual 141, 3) := dk_182 0 141 (dk_at dksL_law_28 13 rfl rfl)
theorem dL_law_769 : decode cL_law 769 = .ok (.f2d, 1) := dk_141 (dk_at dksL_law_28 16 rfl rfl)
theorem dL_law_770 : decode cL_law 770 = .ok (.dstore 5, 2) := dk_57 5 (dk_at dksL_law_28 17 rfl rfl)
theorem dL_law_772 : decode cL_law 772 = .ok (.aload_n 2, 1) := dk_44 (dk_at dksL_law_28 19 rfl rfl)
theorem dL_law_773 : decode cL_law 773 = .ok (.invokevirtual 145, 3) := dk_182 0 145 (dk_at dksL_law_28 20 rfl rfl)
theorem dL_law_776 : decode cL_law 776 = .ok (.f2d, 1) := dk_141 (dk_at dksL_law_28 23 rfl rfl)
theorem dL_law_777 : decode cL_law 777 = .ok (.dstore 7, 2) := dk_57 7 (dk_at dksL_law_29 0 rfl rfl)
theorem dL_law_779 : decode cL_law 779 = .ok (.dload 5, 2) := dk_24 5 (dk_at dksL_law_29 2 rfl rfl)
theorem dL_law_781 : decode cL_law 781 = .ok (.dload 7, 2) := dk_24 7 (dk_at dksL_law_29 4 rfl rfl)
theorem dL_law_783 : decode cL_law 783 = .ok (.dcmp .l, 1) := dk_151 (dk_at dksL_law_29 6 rfl rfl)
theorem dL_law_784 : decode cL_law 784 = .ok (.ifCond .eq 21, 3) := dk_153 0 21 (dk_at dksL_law_29 7 rfl rfl)
theorem dL_law_787 : decode cL_law 787 = .ok (.dload 5, 2) := dk_24 5 (dk_at dksL_law_29 10 rfl rfl)
theorem dL_law_789 : decode cL_law 789 = .ok (.dload 5, 2) := dk_24 5 (dk_at dksL_law_29 12 rfl rfl)
theorem dL_law_791 : decode cL_law 791 = .ok (.dcmp .l, 1) := dk_151 (dk_at dksL_law_29 14 rfl rfl)
theorem dL_law_792 : decode cL_law 792 = .ok (.ifCond .eq 11, 3) := dk_153 0 11 (dk_at dksL_law_29 15 rfl rfl)
theorem dL_law_795 : decode cL_law 795 = .ok (.dload 7, 2) := dk_24 7 (dk_at dksL_law_29 18 rfl rfl)
theorem dL_law_797 : decode cL_law 797 = .ok (.dload 7, 2) := dk_24 7 (dk_at dksL_law_29 20 rfl rfl)
theorem dL_law_799 : decode cL_law 799 = .ok (.dcmp .l, 1) := dk_151 (dk_at dksL_law_29 22 rfl rfl)
theorem dL_law_800 : decode cL_law 800 = .ok (.ifCond .ne 5, 3) := dk_154 0 5 (dk_at dksL_law_30 0 rfl rfl)
theorem dL_law_803 : decode cL_law 803 = .ok (.iconst 0, 1) := dk_3 (dk_at dksL_law_30 3 rfl rfl)
theorem dL_law_804 : decode cL_law 804 = .ok (.ireturn, 1) := dk_172 (dk_at dksL_law_30 4 rfl rfl)
theorem dL_law_805 : decode cL_law 805 = .ok (.goto 756, 3) := dk_167 2 244 (dk_at dksL_law_30 5 rfl rfl)
theorem dL_law_808 : decode cL_law 808 = .ok (.aload_n 1, 1) := dk_43 (dk_at dksL_law_30 8 rfl rfl)
theorem dL_law_809 : decode cL_law 809 = .ok (.aload_n 0, 1) := dk_42 (dk_at dksL_law_30 9 rfl rfl)
theorem dL_law_810 : decode cL_law 810 = .ok (.iload 4, 2) := dk_21 4 (dk_at dksL_law_30 10 rfl rfl)
theorem dL_law_812 : decode cL_law 812 = .ok (.iconst 1, 1) := dk_4 (dk_at dksL_law_30 12 rfl rfl)
theorem dL_law_813 : decode cL_law 813 = .ok (.iadd, 1) := dk_96 (dk_at dksL_law_30 13 rfl rfl)
theorem dL_law_814 : decode cL_law 814 = .ok (.iaload, 1) := dk_46 (dk_at dksL_law_30 14 rfl rfl)
theorem dL_law_815 : decode cL_law 815 = .ok (.aload_n 3, 1) := dk_45 (dk_at dksL_law_30 15 rfl rfl)
theorem dL_law_816 : decode cL_law 816 = .ok (.invokestatic 146, 3) := dk_184 0 146 (dk_at dksL_law_30 16 rfl rfl)
theorem dL_law_819 : decode cL_law 819 = .ok (.istore 5, 2) := dk_54 5 (dk_at dksL_law_30 19 rfl rfl)
theorem dL_law_821 : decode cL_law 821 = .ok (.aload_n 2, 1) := dk_44 (dk_at dksL_law_30 21 rfl rfl)
theorem dL_law_822 : decode cL_law 822 = .ok (.aload_n 0, 1) := dk_42 (dk_at dksL_law_30 22 rfl rfl)
theorem dL_law_823 : decode cL_law 823 = .ok (.iload 4, 2) := dk_21 4 (dk_at dksL_law_31 0 rfl rfl)
theorem dL_law_825 : decode cL_law 825 = .ok (.iconst 1, 1) := dk_4 (dk_at dksL_law_31 2 rfl rfl)
theorem dL_law_826 : decode cL_law 826 = .ok (.iadd, 1) := dk_96 (dk_at dksL_law_31 3 rfl rfl)
theorem dL_law_827 : decode cL_law 827 = .ok (.iaload, 1) := dk_46 (dk_at dksL_law_31 4 rfl rfl)
theorem dL_law_828 : decode cL_law 828 = .ok (.invokevirtual 148, 3) := dk_182 0 148 (dk_at dksL_law_31 5 rfl rfl)
theorem dL_law_831 : decode cL_law 831 = .ok (.istore 6, 2) := dk_54 6 (dk_at dksL_law_31 8 rfl rfl)
theorem dL_law_833 : decode cL_law 833 = .ok (.aload_n 2, 1) := dk_44 (dk_at dksL_law_31 10 rfl rfl)
theorem dL_law_834 : decode cL_law 834 = .ok (.invokevirtual 94, 3) := dk_182 0 94 (dk_at dksL_law_31 11 rfl rfl)
theorem dL_law_837 : decode cL_law 837 = .ok (.iload 5, 2) := dk_21 5 (dk_at dksL_law_31 14 rfl rfl)
theorem dL_law_839 : decode cL_law 839 = .ok (.if_icmp .eq 5, 3) := dk_159 0 5 (dk_at dksL_law_31 16 rfl rfl)
theorem dL_law_842 : decode cL_law 842 = .ok (.iconst 0, 1) := dk_3 (dk_at dksL_law_31 19 rfl rfl)
theorem dL_law_843 : decode cL_law 843 = .ok (.ireturn, 1) := dk_172 (dk_at dksL_law_31 20 rfl rfl)
theorem dL_law_844 : decode cL_law 844 = .ok (.iload 5, 2) := dk_21 5 (dk_at dksL_law_31 21 rfl rfl)
theorem dL_law_846 : decode cL_law 846 = .ok (.ifCond .ne 15, 3) := dk_154 0 15 (dk_at dksL_law_32 0 rfl rfl)
theorem dL_law_849 : decode cL_law 849 = .ok (.aload_n 3, 1) := dk_45 (dk_at dksL_law_32 3 rfl rfl)
theorem dL_law_850 : decode cL_law 850 = .ok (.iconst 0, 1) := dk_3 (dk_at dksL_law_32 4 rfl rfl)
theorem dL_law_851 : decode cL_law 851 = .ok (.laload, 1) := dk_47 (dk_at dksL_law_32 5 rfl rfl)
theorem dL_law_852 : decode cL_law 852 = .ok (.iload 6, 2) := dk_21 6 (dk_at dksL_law_32 6 rfl rfl)
theorem dL_law_854 : decode cL_law 854 = .ok (.i2l, 1) := dk_133 (dk_at dksL_law_32 8 rfl rfl)
theorem dL_law_855 : decode cL_law 855 = .ok (.lcmp, 1) := dk_148 (dk_at dksL_law_32 9 rfl rfl)
theorem dL_law_856 : decode cL_law 856 = .ok (.ifCond .eq 5, 3) := dk_153 0 5 (dk_at dksL_law_32 10 rfl rfl)
theorem dL_law_859 : decode cL_law 859 = .ok (.iconst 0, 1) := dk_3 (dk_at dksL_law_32 13 rfl rfl)
theorem dL_law_860 : decode cL_law 860 = .ok (.ireturn, 1) := dk_172 (dk_at dksL_law_32 14 rfl rfl)
theorem dL_law_861 : decode cL_law 861 = .ok (.goto 700, 3) := dk_167 2 188 (dk_at dksL_law_32 15 rfl rfl)
theorem dL_law_864 : decode cL_law 864 = .ok (.aload_n 1, 1) := dk_43 (dk_at dksL_law_32 18 rfl rfl)
theorem dL_law_865 : decode cL_law 865 = .ok (.aload_n 0, 1) := dk_42 (dk_at dksL_law_32 19 rfl rfl)
theorem dL_law_866 : decode cL_law 866 = .ok (.iload 4, 2) := dk_21 4 (dk_at dksL_law_32 20 rfl rfl)
theorem dL_law_868 : decode cL_law 868 = .ok (.iconst 1, 1) := dk_4 (dk_at dksL_law_32 22 rfl rfl)
theorem dL_law_869 : decode cL_law 869 = .ok (.iadd, 1) := dk_96 (dk_at dksL_law_32 23 rfl rfl)
theorem dL_law_870 : decode cL_law 870 = .ok (.iaload, 1) := dk_46 (dk_at dksL_law_33 0 rfl rfl)
theorem dL_law_871 : decode cL_law 871 = .ok (.aload_n 3, 1) := dk_45 (dk_at dksL_law_33 1 rfl rfl)
theorem dL_law_872 : decode cL_law 872 = .ok (.invokestatic 149, 3) := dk_184 0 149 (dk_at dksL_law_33 2 rfl rfl)
theorem dL_law_875 : decode cL_law 875 = .ok (.istore 5, 2) := dk_54 5 (dk_at dksL_law_33 5 rfl rfl)
theorem dL_law_877 : decode cL_law 877 = .ok (.aload_n 2, 1) := dk_44 (dk_at dksL_law_33 7 rfl rfl)
theorem dL_law_878 : decode cL_law 878 = .ok (.aload_n 0, 1) := dk_42 (dk_at dksL_law_33 8 rfl rfl)
theorem dL_law_879 : decode cL_law 879 = .ok (.iload 4, 2) := dk_21 4 (dk_at dksL_law_33 9 rfl rfl)
theorem dL_law_881 : decode cL_law 881 = .ok (.iconst 1, 1) := dk_4 (dk_at dksL_law_33 11 rfl rfl)
theorem dL_law_882 : decode cL_law 882 = .ok (.iadd, 1) := dk_96 (dk_at dksL_law_33 12 rfl rfl)
theorem dL_law_883 : decode cL_law 883 = .ok (.iaload, 1) := dk_46 (dk_at dksL_law_33 13 rfl rfl)
theorem dL_law_884 : decode cL_law 884 = .ok (.invokevirtual 151, 3) := dk_182 0 151 (dk_at dksL_law_33 14 rfl rfl)
theorem dL_law_887 : decode cL_law 887 = .ok (.istore 6, 2) := dk_54 6 (dk_at dksL_law_33 17 rfl rfl)
theorem dL_law_889 : decode cL_law 889 = .ok (.aload_n 2, 1) := dk_44 (dk_at dksL_law_33 19 rfl rfl)
theorem dL_law_890 : decode cL_law 890 = .ok (.invokevirtual 94, 3) := dk_182 0 94 (dk_at dksL_law_33 20 rfl rfl)
theorem dL_law_893 : decode cL_law 893 = .ok (.iload 5, 2) := dk_21 5 (dk_at dksL_law_34 0 rfl rfl)
theorem dL_law_895 : decode cL_law 895 = .ok (.if_icmp .eq 5, 3) := dk_159 0 5 (dk_at dksL_law_34 2 rfl rfl)
theorem dL_law_898 : decode cL_law 898 = .ok (.iconst 0, 1) := dk_3 (dk_at dksL_law_34 5 rfl rfl)
theorem dL_law_899 : decode cL_law 899 = .ok (.ireturn, 1) := dk_172 (dk_at dksL_law_34 6 rfl rfl)
theorem dL_law_900 : decode cL_law 900 = .ok (.iload 5, 2) := dk_21 5 (dk_at dksL_law_34 7 rfl rfl)
theorem dL_law_902 : decode cL_law 902 = .ok (.ifCond .ne 15, 3) := dk_154 0 15 (dk_at dksL_law_34 9 rfl rfl)
theorem dL_law_905 : decode cL_law 905 = .ok (.aload_n 3, 1) := dk_45 (dk_at dksL_law_34 12 rfl rfl)
theorem dL_law_906 : decode cL_law 906 = .ok (.iconst 0, 1) := dk_3 (dk_at dksL_law_34 13 rfl rfl)
theorem dL_law_907 : decode cL_law 907 = .ok (.laload, 1) := dk_47 (dk_at dksL_law_34 14 rfl rfl)
theorem dL_law_908 : decode cL_law 908 = .ok (.iload 6, 2) := dk_21 6 (dk_at dksL_law_34 15 rfl rfl)
theorem dL_law_910 : decode cL_law 910 = .ok (.i2l, 1) := dk_133 (dk_at dksL_law_34 17 rfl rfl)
theorem dL_law_911 : decode cL_law 911 = .ok (.lcmp, 1) := dk_148 (dk_at dksL_law_34 18 rfl rfl)
theorem dL_law_912 : decode cL_law 912 = .ok (.ifCond .eq 5, 3) := dk_153 0 5 (dk_at dksL_law_34 19 rfl rfl)
theorem dL_law_915 : decode cL_law 915 = .ok (.iconst 0, 1) := dk_3 (dk_at dksL_law_34 22 rfl rfl)
theorem dL_law_916 : decode cL_law 916 = .ok (.ireturn, 1) := dk_172 (dk_at dksL_law_34 23 rfl rfl)
theorem dL_law_917 : decode cL_law 917 = .ok (.goto 644, 3) := dk_167 2 132 (dk_at dksL_law_35 0 rfl rfl)
theorem dL_law_920 : decode cL_law 920 = .ok (.aload_n 1, 1) := dk_43 (dk_at dksL_law_35 3 rfl rfl)
theorem dL_law_921 : decode cL_law 921 = .ok (.aload_n 0, 1) := dk_42 (dk_at dksL_law_35 4 rfl rfl)
theorem dL_law_922 : decode cL_law 922 = .ok (.iload 4, 2) := dk_21 4 (dk_at dksL_law_35 5 rfl rfl)
theorem dL_law_924 : decode cL_law 924 = .ok (.iconst 1, 1) := dk_4 (dk_at dksL_law_35 7 rfl rfl)
theorem dL_law_925 : decode cL_law 925 = .ok (.iadd, 1) := dk_96 (dk_at dksL_law_35 8 rfl rfl)
theorem dL_law_926 : decode cL_law 926 = .ok (.iaload, 1) := dk_46 (dk_at dksL_law_35 9 rfl rfl)
theorem dL_law_927 : decode cL_law 927 = .ok (.aload_n 3, 1) := dk_45 (dk_at dksL_law_35 10 rfl rfl)
theorem dL_law_928 : decode cL_law 928 = .ok (.invokestatic 152, 3) := dk_184 0 152 (dk_at dksL_law_35 11 rfl rfl)
theorem dL_law_931 : decode cL_law 931 = .ok (.istore 5, 2) := dk_54 5 (dk_at dksL_law_35 14 rfl rfl)
theorem dL_law_933 : decode cL_law 933 = .ok (.aload_n 2, 1) := dk_44 (dk_at dksL_law_35 16 rfl rfl)
theorem dL_law_934 : decode cL_law 934 = .ok (.aload_n 0, 1) := dk_42 (dk_at dksL_law_35 17 rfl rfl)
theorem dL_law_935 : decode cL_law 935 = .ok (.iload 4, 2) := dk_21 4 (dk_at dksL_law_35 18 rfl rfl)
theorem dL_law_937 : decode cL_law 937 = .ok (.iconst 1, 1) := dk_4 (dk_at dksL_law_35 20 rfl rfl)
theorem dL_law_938 : decode cL_law 938 = .ok (.iadd, 1) := dk_96 (dk_at dksL_law_35 21 rfl rfl)
theorem dL_law_939 : decode cL_law 939 = .ok (.iaload, 1) := dk_46 (dk_at dksL_law_35 22 rfl rfl)
theorem dL_law_940 : decode cL_law 940 = .ok (.invokevirtual 154, 3) := dk_182 0 154 (dk_at dksL_law_36 0 rfl rfl)
theorem dL_law_943 : decode cL_law 943 = .ok (.istore 6, 2) := dk_54 6 (dk_at dksL_law_36 3 rfl rfl)
theorem dL_law_945 : decode cL_law 945 = .ok (.aload_n 2, 1) := dk_44 (dk_at dksL_law_36 5 rfl rfl)
theorem dL_law_946 : decode cL_law 946 = .ok (.invokevirtual 94, 3) := dk_182 0 94 (dk_at dksL_law_36 6 rfl rfl)
theorem dL_law_949 : decode cL_law 949 = .ok (.iload 5, 2) := dk_21 5 (dk_at dksL_law_36 9 rfl rfl)
theorem dL_law_951 : decode cL_law 951 = .ok (.if_icmp .eq 5, 3) := dk_159 0 5 (dk_at dksL_law_36 11 rfl rfl)
theorem dL_law_954 : decode cL_law 954 = .ok (.iconst 0, 1) := dk_3 (dk_at dksL_law_36 14 rfl rfl)
theorem dL_law_955 : decode cL_law 955 = .ok (.ireturn, 1) := dk_172 (dk_at dksL_law_36 15 rfl rfl)
theorem dL_law_956 : decode cL_law 956 = .ok (.iload 5, 2) := dk_21 5 (dk_at dksL_law_36 16 rfl rfl)
theorem dL_law_958 : decode cL_law 958 = .ok (.ifCond .ne 15, 3) := dk_154 0 15 (dk_at dksL_law_36 18 rfl rfl)
theorem dL_law_961 : decode cL_law 961 = .ok (.aload_n 3, 1) := dk_45 (dk_at dksL_law_36 21 rfl rfl)
theorem dL_law_962 : decode cL_law 962 = .ok (.iconst 0, 1) := dk_3 (dk_at dksL_law_36 22 rfl rfl)
theorem dL_law_963 : decode cL_law 963 = .ok (.laload, 1) := dk_47 (dk_at dksL_law_36 23 rfl rfl)
theorem dL_law_964 : decode cL_law 964 = .ok (.iload 6, 2) := dk_21 6 (dk_at dksL_law_37 0 rfl rfl)
theorem dL_law_966 : decode cL_law 966 = .ok (.i2l, 1) := dk_133 (dk_at dksL_law_37 2 rfl rfl)
theorem dL_law_967 : decode cL_law 967 = .ok (.lcmp, 1) := dk_148 (dk_at dksL_law_37 3 rfl rfl)
theorem dL_law_968 : decode cL_law 968 = .ok (.ifCond .eq 5, 3) := dk_153 0 5 (dk_at dksL_law_37 4 rfl rfl)
theorem dL_law_971 : decode cL_law 971 = .ok (.iconst 0, 1) := dk_3 (dk_at dksL_law_37 7 rfl rfl)
theorem dL_law_972 : decode cL_law 972 = .ok (.ireturn, 1) := dk_172 (dk_at dksL_law_37 8 rfl rfl)
theorem dL_law_973 : decode cL_law 973 = .ok (.goto 588, 3) := dk_167 2 76 (dk_at dksL_law_37 9 rfl rfl)
theorem dL_law_976 : decode cL_law 976 = .ok (.aload_n 1, 1) := dk_43 (dk_at dksL_law_37 12 rfl rfl)
theorem dL_law_977 : decode cL_law 977 = .ok (.aload_n 0, 1) := dk_42 (dk_at dksL_law_37 13 rfl rfl)
theorem dL_law_978 : decode cL_law 978 = .ok (.iload 4, 2) := dk_21 4 (dk_at dksL_law_37 14 rfl rfl)
theorem dL_law_980 : decode cL_law 980 = .ok (.iconst 1, 1) := dk_4 (dk_at dksL_law_37 16 rfl rfl)
theorem dL_law_981 : decode cL_law 981 = .ok (.iadd, 1) := dk_96 (dk_at dksL_law_37 17 rfl rfl)
theorem dL_law_982 : decode cL_law 982 = .ok (.iaload, 1) := dk_46 (dk_at dksL_law_37 18 rfl rfl)
theorem dL_law_983 : decode cL_law 983 = .ok (.aload_n 0, 1) := dk_42 (dk_at dksL_law_37 19 rfl rfl)
theorem dL_law_984 : decode cL_law 984 = .ok (.iload 4, 2) := dk_21 4 (dk_at dksL_law_37 20 rfl rfl)
theorem dL_law_986 : decode cL_law 986 = .ok (.iconst 2, 1) := dk_5 (dk_at dksL_law_37 22 rfl rfl)
theorem dL_law_987 : decode cL_law 987 = .ok (.iadd, 1) := dk_96 (dk_at dksL_law_37 23 rfl rfl)
theorem dL_law_988 : decode cL_law 988 = .ok (.iaload, 1) := dk_46 (dk_at dksL_law_38 0 rfl rfl)
theorem dL_law_989 : decode cL_law 989 = .ok (.aload_n 3, 1) := dk_45 (dk_at dksL_law_38 1 rfl rfl)
theorem dL_law_990 : decode cL_law 990 = .ok (.invokestatic 155, 3) := dk_184 0 155 (dk_at dksL_law_38 2 rfl rfl)
theorem dL_law_993 : decode cL_law 993 = .ok (.istore 5, 2) := dk_54 5 (dk_at dksL_law_38 5 rfl rfl)
theorem dL_law_995 : decode cL_law 995 = .ok (.aload_n 2, 1) := dk_44 (dk_at dksL_law_38 7 rfl rfl)
theorem dL_law_996 : decode cL_law 996 = .ok (.aload_n 0, 1) := dk_42 (dk_at dksL_law_38 8 rfl rfl)
theorem dL_law_997 : decode cL_law 997 = .ok (.iload 4, 2) := dk_21 4 (dk_at dksL_law_38 9 rfl rfl)
theorem dL_law_999 : decode cL_law 999 = .ok (.iconst 1, 1) := dk_4 (dk_at dksL_law_38 11 rfl rfl)
theorem dL_law_1000 : decode cL_law 1000 = .ok (.iadd, 1) := dk_96 (dk_at dksL_law_38 12 rfl rfl)
theorem dL_law_1001 : decode cL_law 1001 = .ok (.iaload, 1) := dk_46 (dk_at dksL_law_38 13 rfl rfl)
theorem dL_law_1002 : decode cL_law 1002 = .ok (.aload_n 0, 1) := dk_42 (dk_at dksL_law_38 14 rfl rfl)
theorem dL_law_1003 : decode cL_law 1003 = .ok (.iload 4, 2) := dk_21 4 (dk_at dksL_law_38 15 rfl rfl)
theorem dL_law_1005 : decode cL_law 1005 = .ok (.iconst 2, 1) := dk_5 (dk_at dksL_law_38 17 rfl rfl)
theorem dL_law_1006 : decode cL_law 1006 = .ok (.iadd, 1) := dk_96 (dk_at dksL_law_38 18 rfl rfl)
theorem dL_law_1007 : decode cL_law 1007 = .ok (.iaload, 1) := dk_46 (dk_at dksL_law_38 19 rfl rfl)
theorem dL_law_1008 : decode cL_law 1008 = .ok (.invokevirtual 157, 3) := dk_182 0 157 (dk_at dksL_law_38 20 rfl rfl)
theorem dL_law_1011 : decode cL_law 1011 = .ok (.istore 6, 2) := dk_54 6 (dk_at dksL_law_39 0 rfl rfl)
theorem dL_law_1013 : decode cL_law 1013 = .ok (.aload_n 2, 1) := dk_44 (dk_at dksL_law_39 2 rfl rfl)
theorem dL_law_1014 : decode cL_law 1014 = .ok (.invokevirtual 94, 3) := dk_182 0 94 (dk_at dksL_law_39 3 rfl rfl)
theorem dL_law_1017 : decode cL_law 1017 = .ok (.iload 5, 2) := dk_21 5 (dk_at dksL_law_39 6 rfl rfl)
theorem dL_law_1019 : decode cL_law 1019 = .ok (.if_icmp .eq 5, 3) := dk_159 0 5 (dk_at dksL_law_39 8 rfl rfl)
theorem dL_law_1022 : decode cL_law 1022 = .ok (.iconst 0, 1) := dk_3 (dk_at dksL_law_39 11 rfl rfl)
theorem dL_law_1023 : decode cL_law 1023 = .ok (.ireturn, 1) := dk_172 (dk_at dksL_law_39 12 rfl rfl)
theorem dL_law_1024 : decode cL_law 1024 = .ok (.iload 5, 2) := dk_21 5 (dk_at dksL_law_39 13 rfl rfl)
theorem dL_law_1026 : decode cL_law 1026 = .ok (.ifCond .ne 15, 3) := dk_154 0 15 (dk_at dksL_law_39 15 rfl rfl)
theorem dL_law_1029 : decode cL_law 1029 = .ok (.aload_n 3, 1) := dk_45 (dk_at dksL_law_39 18 rfl rfl)
theorem dL_law_1030 : decode cL_law 1030 = .ok (.iconst 0, 1) := dk_3 (dk_at dksL_law_39 19 rfl rfl)
theorem dL_law_1031 : decode cL_law 1031 = .ok (.laload, 1) := dk_47 (dk_at dksL_law_39 20 rfl rfl)
theorem dL_law_1032 : decode cL_law 1032 = .ok (.iload 6, 2) := dk_21 6 (dk_at dksL_law_39 21 rfl rfl)
theorem dL_law_1034 : decode cL_law 1034 = .ok (.i2l, 1) := dk_133 (dk_at dksL_law_39 23 rfl rfl)
theorem dL_law_1035 : decode cL_law 1035 = .ok (.lcmp, 1) := dk_148 (dk_at dksL_law_40 0 rfl rfl)
theorem dL_law_1036 : decode cL_law 1036 = .ok (.ifCond .eq 5, 3) := dk_153 0 5 (dk_at dksL_law_40 1 rfl rfl)
theorem dL_law_1039 : decode cL_law 1039 = .ok (.iconst 0, 1) := dk_3 (dk_at dksL_law_40 4 rfl rfl)
theorem dL_law_1040 : decode cL_law 1040 = .ok (.ireturn, 1) := dk_172 (dk_at dksL_law_40 5 rfl rfl)
theorem dL_law_1041 : decode cL_law 1041 = .ok (.goto 520, 3) := dk_167 2 8 (dk_at dksL_law_40 6 rfl rfl)
theorem dL_law_1044 : decode cL_law 1044 = .ok (.aload_n 1, 1) := dk_43 (dk_at dksL_law_40 9 rfl rfl)
theorem dL_law_1045 : decode cL_law 1045 = .ok (.aload_n 3, 1) := dk_45 (dk_at dksL_law_40 10 rfl rfl)
theorem dL_law_1046 : decode cL_law 1046 = .ok (.invokestatic 158, 3) := dk_184 0 158 (dk_at dksL_law_40 11 rfl rfl)
theorem dL_law_1049 : decode cL_law 1049 = .ok (.istore 5, 2) := dk_54 5 (dk_at dksL_law_40 14 rfl rfl)
theorem dL_law_1051 : decode cL_law 1051 = .ok (.aload_n 2, 1) := dk_44 (dk_at dksL_law_40 16 rfl rfl)
theorem dL_law_1052 : decode cL_law 1052 = .ok (.invokevirtual 160, 3) := dk_182 0 160 (dk_at dksL_law_40 17 rfl rfl)
theorem dL_law_1055 : decode cL_law 1055 = .ok (.istore 6, 2) := dk_54 6 (dk_at dksL_law_40 20 rfl rfl)
theorem dL_law_1057 : decode cL_law 1057 = .ok (.aload_n 2, 1) := dk_44 (dk_at dksL_law_40 22 rfl rfl)
theorem dL_law_1058 : decode cL_law 1058 = .ok (.invokevirtual 94, 3) := dk_182 0 94 (dk_at dksL_law_41 0 rfl rfl)
theorem dL_law_1061 : decode cL_law 1061 = .ok (.iload 5, 2) := dk_21 5 (dk_at dksL_law_41 3 rfl rfl)
theorem dL_law_1063 : decode cL_law 1063 = .ok (.if_icmp .eq 5, 3) := dk_159 0 5 (dk_at dksL_law_41 5 rfl rfl)
theorem dL_law_1066 : decode cL_law 1066 = .ok (.iconst 0, 1) := dk_3 (dk_at dksL_law_41 8 rfl rfl)
theorem dL_law_1067 : decode cL_law 1067 = .ok (.ireturn, 1) := dk_172 (dk_at dksL_law_41 9 rfl rfl)
theorem dL_law_1068 : decode cL_law 1068 = .ok (.iload 5, 2) := dk_21 5 (dk_at dksL_law_41 10 rfl rfl)
theorem dL_law_1070 : decode cL_law 1070 = .ok (.ifCond .ne 15, 3) := dk_154 0 15 (dk_at dksL_law_41 12 rfl rfl)
theorem dL_law_1073 : decode cL_law 1073 = .ok (.aload_n 3, 1) := dk_45 (dk_at dksL_law_41 15 rfl rfl)
theorem dL_law_1074 : decode cL_law 1074 = .ok (.iconst 0, 1) := dk_3 (dk_at dksL_law_41 16 rfl rfl)
theorem dL_law_1075 : decode cL_law 1075 = .ok (.laload, 1) := dk_47 (dk_at dksL_law_41 17 rfl rfl)
theorem dL_law_1076 : decode cL_law 1076 = .ok (.iload 6, 2) := dk_21 6 (dk_at dksL_law_41 18 rfl rfl)
theorem dL_law_1078 : decode cL_law 1078 = .ok (.i2l, 1) := dk_133 (dk_at dksL_law_41 20 rfl rfl)
theorem dL_law_1079 : decode cL_law 1079 = .ok (.lcmp, 1) := dk_148 (dk_at dksL_law_41 21 rfl rfl)
theorem dL_law_1080 : decode cL_law 1080 = .ok (.ifCond .eq 5, 3) := dk_153 0 5 (dk_at dksL_law_42 0 rfl rfl)
theorem dL_law_1083 : decode cL_law 1083 = .ok (.iconst 0, 1) := dk_3 (dk_at dksL_law_42 3 rfl rfl)
theorem dL_law_1084 : decode cL_law 1084 = .ok (.ireturn, 1) := dk_172 (dk_at dksL_law_42 4 rfl rfl)
theorem dL_law_1085 : decode cL_law 1085 = .ok (.goto 476, 3) := dk_167 1 220 (dk_at dksL_law_42 5 rfl rfl)
theorem dL_law_1088 : decode cL_law 1088 = .ok (.aload_n 1, 1) := dk_43 (dk_at dksL_law_42 8 rfl rfl)
theorem dL_law_1089 : decode cL_law 1089 = .ok (.aload_n 0, 1) := dk_42 (dk_at dksL_law_42 9 rfl rfl)
theorem dL_law_1090 : decode cL_law 1090 = .ok (.iload 4, 2) := dk_21 4 (dk_at dksL_law_42 10 rfl rfl)
theorem dL_law_1092 : decode cL_law 1092 = .ok (.iconst 1, 1) := dk_4 (dk_at dksL_law_42 12 rfl rfl)
theorem dL_law_1093 : decode cL_law 1093 = .ok (.iadd, 1) := dk_96 (dk_at dksL_law_42 13 rfl rfl)
theorem dL_law_1094 : decode cL_law 1094 = .ok (.iaload, 1) := dk_46 (dk_at dksL_law_42 14 rfl rfl)
theorem dL_law_1095 : decode cL_law 1095 = .ok (.aload_n 3, 1) := dk_45 (dk_at dksL_law_42 15 rfl rfl)
theorem dL_law_1096 : decode cL_law 1096 = .ok (.invokestatic 161, 3) := dk_184 0 161 (dk_at dksL_law_42 16 rfl rfl)
theorem dL_law_1099 : decode cL_law 1099 = .ok (.istore 5, 2) := dk_54 5 (dk_at dksL_law_42 19 rfl rfl)
theorem dL_law_1101 : decode cL_law 1101 = .ok (.aload_n 2, 1) := dk_44 (dk_at dksL_law_42 21 rfl rfl)
theorem dL_law_1102 : decode cL_law 1102 = .ok (.aload_n 0, 1) := dk_42 (dk_at dksL_law_42 22 rfl rfl)
theorem dL_law_1103 : decode cL_law 1103 = .ok (.iload 4, 2) := dk_21 4 (dk_at dksL_law_43 0 rfl rfl)
theorem dL_law_1105 : decode cL_law 1105 = .ok (.iconst 1, 1) := dk_4 (dk_at dksL_law_43 2 rfl rfl)
theorem dL_law_1106 : decode cL_law 1106 = .ok (.iadd, 1) := dk_96 (dk_at dksL_law_43 3 rfl rfl)
theorem dL_law_1107 : decode cL_law 1107 = .ok (.iaload, 1) := dk_46 (dk_at dksL_law_43 4 rfl rfl)
theorem dL_law_1108 : decode cL_law 1108 = .ok (.invokevirtual 163, 3) := dk_182 0 163 (dk_at dksL_law_43 5 rfl rfl)
theorem dL_law_1111 : decode cL_law 1111 = .ok (.istore 6, 2) := dk_54 6 (dk_at dksL_law_43 8 rfl rfl)
theorem dL_law_1113 : decode cL_law 1113 = .ok (.aload_n 2, 1) := dk_44 (dk_at dksL_law_43 10 rfl rfl)
theorem dL_law_1114 : decode cL_law 1114 = .ok (.invokevirtual 94, 3) := dk_182 0 94 (dk_at dksL_law_43 11 rfl rfl)
theorem dL_law_1117 : decode cL_law 1117 = .ok (.iload 5, 2) := dk_21 5 (dk_at dksL_law_43 14 rfl rfl)
theorem dL_law_1119 : decode cL_law 1119 = .ok (.if_icmp .eq 5, 3) := dk_159 0 5 (dk_at dksL_law_43 16 rfl rfl)
theorem dL_law_1122 : decode cL_law 1122 = .ok (.iconst 0, 1) := dk_3 (dk_at dksL_law_43 19 rfl rfl)
theorem dL_law_1123 : decode cL_law 1123 = .ok (.ireturn, 1) := dk_172 (dk_at dksL_law_43 20 rfl rfl)
theorem dL_law_1124 : decode cL_law 1124 = .ok (.iload 5, 2) := dk_21 5 (dk_at dksL_law_43 21 rfl rfl)
theorem dL_law_1126 : decode cL_law 1126 = .ok (.ifCond .ne 15, 3) := dk_154 0 15 (dk_at dksL_law_44 0 rfl rfl)
theorem dL_law_1129 : decode cL_law 1129 = .ok (.aload_n 3, 1) := dk_45 (dk_at dksL_law_44 3 rfl rfl)
theorem dL_law_1130 : decode cL_law 1130 = .ok (.iconst 0, 1) := dk_3 (dk_at dksL_law_44 4 rfl rfl)
theorem dL_law_1131 : decode cL_law 1131 = .ok (.laload, 1) := dk_47 (dk_at dksL_law_44 5 rfl rfl)
theorem dL_law_1132 : decode cL_law 1132 = .ok (.iload 6, 2) := dk_21 6 (dk_at dksL_law_44 6 rfl rfl)
theorem dL_law_1134 : decode cL_law 1134 = .ok (.i2l, 1) := dk_133 (dk_at dksL_law_44 8 rfl rfl)
theorem dL_law_1135 : decode cL_law 1135 = .ok (.lcmp, 1) := dk_148 (dk_at dksL_law_44 9 rfl rfl)
theorem dL_law_1136 : decode cL_law 1136 = .ok (.ifCond .eq 5, 3) := dk_153 0 5 (dk_at dksL_law_44 10 rfl rfl)
theorem dL_law_1139 : decode cL_law 1139 = .ok (.iconst 0, 1) := dk_3 (dk_at dksL_law_44 13 rfl rfl)
theorem dL_law_1140 : decode cL_law 1140 = .ok (.ireturn, 1) := dk_172 (dk_at dksL_law_44 14 rfl rfl)
theorem dL_law_1141 : decode cL_law 1141 = .ok (.goto 420, 3) := dk_167 1 164 (dk_at dksL_law_44 15 rfl rfl)
theorem dL_law_1144 : decode cL_law 1144 = .ok (.aload_n 1, 1) := dk_43 (dk_at dksL_law_44 18 rfl rfl)
theorem dL_law_1145 : decode cL_law 1145 = .ok (.aload_n 0, 1) := dk_42 (dk_at dksL_law_44 19 rfl rfl)
theorem dL_law_1146 : decode cL_law 1146 = .ok (.iload 4, 2) := dk_21 4 (dk_at dksL_law_44 20 rfl rfl)
theorem dL_law_1148 : decode cL_law 1148 = .ok (.iconst 1, 1) := dk_4 (dk_at dksL_law_44 22 rfl rfl)
theorem dL_law_1149 : decode cL_law 1149 = .ok (.iadd, 1) := dk_96 (dk_at dksL_law_44 23 rfl rfl)
theorem dL_law_1150 : decode cL_law 1150 = .ok (.iaload, 1) := dk_46 (dk_at dksL_law_45 0 rfl rfl)
theorem dL_law_1151 : decode cL_law 1151 = .ok (.aload_n 3, 1) := dk_45 (dk_at dksL_law_45 1 rfl rfl)
theorem dL_law_1152 : decode cL_law 1152 = .ok (.invokestatic 164, 3) := dk_184 0 164 (dk_at dksL_law_45 2 rfl rfl)
theorem dL_law_1155 : decode cL_law 1155 = .ok (.istore 5, 2) := dk_54 5 (dk_at dksL_law_45 5 rfl rfl)
theorem dL_law_1157 : decode cL_law 1157 = .ok (.aload_n 2, 1) := dk_44 (dk_at dksL_law_45 7 rfl rfl)
theorem dL_law_1158 : decode cL_law 1158 = .ok (.aload_n 0, 1) := dk_42 (dk_at dksL_law_45 8 rfl rfl)
theorem dL_law_1159 : decode cL_law 1159 = .ok (.iload 4, 2) := dk_21 4 (dk_at dksL_law_45 9 rfl rfl)
theorem dL_law_1161 : decode cL_law 1161 = .ok (.iconst 1, 1) := dk_4 (dk_at dksL_law_45 11 rfl rfl)
theorem dL_law_1162 : decode cL_law 1162 = .ok (.iadd, 1) := dk_96 (dk_at dksL_law_45 12 rfl rfl)
theorem dL_law_1163 : decode cL_law 1163 = .ok (.iaload, 1) := dk_46 (dk_at dksL_law_45 13 rfl rfl)
theorem dL_law_1164 : decode cL_law 1164 = .ok (.invokevirtual 166, 3) := dk_182 0 166 (dk_at dksL_law_45 14 rfl rfl)
theorem dL_law_1167 : decode cL_law 1167 = .ok (.istore 6, 2) := dk_54 6 (dk_at dksL_law_45 17 rfl rfl)
theorem dL_law_1169 : decode cL_law 1169 = .ok (.aload_n 2, 1) := dk_44 (dk_at dksL_law_45 19 rfl rfl)
theorem dL_law_1170 : decode cL_law 1170 = .ok (.invokevirtual 94, 3) := dk_182 0 94 (dk_at dksL_law_45 20 rfl rfl)
theorem dL_law_1173 : decode cL_law 1173 = .ok (.iload 5, 2) := dk_21 5 (dk_at dksL_law_46 0 rfl rfl)
theorem dL_law_1175 : decode cL_law 1175 = .ok (.if_icmp .eq 5, 3) := dk_159 0 5 (dk_at dksL_law_46 2 rfl rfl)
theorem dL_law_1178 : decode cL_law 1178 = .ok (.iconst 0, 1) := dk_3 (dk_at dksL_law_46 5 rfl rfl)
theorem dL_law_1179 : decode cL_law 1179 = .ok (.ireturn, 1) := dk_172 (dk_at dksL_law_46 6 rfl rfl)
theorem dL_law_1180 : decode cL_law 1180 = .ok (.iload 5, 2) := dk_21 5 (dk_at dksL_law_46 7 rfl rfl)
theorem dL_law_1182 : decode cL_law 1182 = .ok (.ifCond .ne 15, 3) := dk_154 0 15 (dk_at dksL_law_46 9 rfl rfl)
theorem dL_law_1185 : decode cL_law 1185 = .ok (.aload_n 3, 1) := dk_45 (dk_at dksL_law_46 12 rfl rfl)
theorem dL_law_1186 : decode cL_law 1186 = .ok (.iconst 0, 1) := dk_3 (dk_at dksL_law_46 13 rfl rfl)
theorem dL_law_1187 : decode cL_law 1187 = .ok (.laload, 1) := dk_47 (dk_at dksL_law_46 14 rfl rfl)
theorem dL_law_1188 : decode cL_law 1188 = .ok (.iload 6, 2) := dk_21 6 (dk_at dksL_law_46 15 rfl rfl)
theorem dL_law_1190 : decode cL_law 1190 = .ok (.i2l, 1) := dk_133 (dk_at dksL_law_46 17 rfl rfl)
theorem dL_law_1191 : decode cL_law 1191 = .ok (.lcmp, 1) := dk_148 (dk_at dksL_law_46 18 rfl rfl)
theorem dL_law_1192 : decode cL_law 1192 = .ok (.ifCond .eq 5, 3) := dk_153 0 5 (dk_at dksL_law_46 19 rfl rfl)
theorem dL_law_1195 : decode cL_law 1195 = .ok (.iconst 0, 1) := dk_3 (dk_at dksL_law_46 22 rfl rfl)
theorem dL_law_1196 : decode cL_law 1196 = .ok (.ireturn, 1) := dk_172 (dk_at dksL_law_46 23 rfl rfl)
theorem dL_law_1197 : decode cL_law 1197 = .ok (.goto 364, 3) := dk_167 1 108 (dk_at dksL_law_47 0 rfl rfl)
theorem dL_law_1200 : decode cL_law 1200 = .ok (.aload_n 1, 1) := dk_43 (dk_at dksL_law_47 3 rfl rfl)
theorem dL_law_1201 : decode cL_law 1201 = .ok (.aload_n 0, 1) := dk_42 (dk_at dksL_law_47 4 rfl rfl)
theorem dL_law_1202 : decode cL_law 1202 = .ok (.iload 4, 2) := dk_21 4 (dk_at dksL_law_47 5 rfl rfl)
theorem dL_law_1204 : decode cL_law 1204 = .ok (.iconst 1, 1) := dk_4 (dk_at dksL_law_47 7 rfl rfl)
theorem dL_law_1205 : decode cL_law 1205 = .ok (.iadd, 1) := dk_96 (dk_at dksL_law_47 8 rfl rfl)
theorem dL_law_1206 : decode cL_law 1206 = .ok (.iaload, 1) := dk_46 (dk_at dksL_law_47 9 rfl rfl)
theorem dL_law_1207 : decode cL_law 1207 = .ok (.aload_n 0, 1) := dk_42 (dk_at dksL_law_47 10 rfl rfl)
theorem dL_law_1208 : decode cL_law 1208 = .ok (.iload 4, 2) := dk_21 4 (dk_at dksL_law_47 11 rfl rfl)
theorem dL_law_1210 : decode cL_law 1210 = .ok (.iconst 2, 1) := dk_5 (dk_at dksL_law_47 13 rfl rfl)
theorem dL_law_1211 : decode cL_law 1211 = .ok (.iadd, 1) := dk_96 (dk_at dksL_law_47 14 rfl rfl)
theorem dL_law_1212 : decode cL_law 1212 = .ok (.iaload, 1) := dk_46 (dk_at dksL_law_47 15 rfl rfl)
theorem dL_law_1213 : decode cL_law 1213 = .ok (.aload_n 3, 1) := dk_45 (dk_at dksL_law_47 16 rfl rfl)
theorem dL_law_1214 : decode cL_law 1214 = .ok (.invokestatic 167, 3) := dk_184 0 167 (dk_at dksL_law_47 17 rfl rfl)
theorem dL_law_1217 : decode cL_law 1217 = .ok (.istore 5, 2) := dk_54 5 (dk_at dksL_law_47 20 rfl rfl)
theorem dL_law_1219 : decode cL_law 1219 = .ok (.aload_n 2, 1) := dk_44 (dk_at dksL_law_47 22 rfl rfl)
theorem dL_law_1220 : decode cL_law 1220 = .ok (.aload_n 0, 1) := dk_42 (dk_at dksL_law_47 23 rfl rfl)
theorem dL_law_1221 : decode cL_law 1221 = .ok (.iload 4, 2) := dk_21 4 (dk_at dksL_law_48 0 rfl rfl)
theorem dL_law_1223 : decode cL_law 1223 = .ok (.iconst 1, 1) := dk_4 (dk_at dksL_law_48 2 rfl rfl)
theorem dL_law_1224 : decode cL_law 1224 = .ok (.iadd, 1) := dk_96 (dk_at dksL_law_48 3 rfl rfl)
theorem dL_law_1225 : decode cL_law 1225 = .ok (.iaload, 1) := dk_46 (dk_at dksL_law_48 4 rfl rfl)
theorem dL_law_1226 : decode cL_law 1226 = .ok (.aload_n 0, 1) := dk_42 (dk_at dksL_law_48 5 rfl rfl)
theorem dL_law_1227 : decode cL_law 1227 = .ok (.iload 4, 2) := dk_21 4 (dk_at dksL_law_48 6 rfl rfl)
theorem dL_law_1229 : decode cL_law 1229 = .ok (.iconst 2, 1) := dk_5 (dk_at dksL_law_48 8 rfl rfl)
theorem dL_law_1230 : decode cL_law 1230 = .ok (.iadd, 1) := dk_96 (dk_at dksL_law_48 9 rfl rfl)
theorem dL_law_1231 : decode cL_law 1231 = .ok (.iaload, 1) := dk_46 (dk_at dksL_law_48 10 rfl rfl)
theorem dL_law_1232 : decode cL_law 1232 = .ok (.invokevirtual 169, 3) := dk_182 0 169 (dk_at dksL_law_48 11 rfl rfl)
theorem dL_law_1235 : decode cL_law 1235 = .ok (.istore 6, 2) := dk_54 6 (dk_at dksL_law_48 14 rfl rfl)
theorem dL_law_1237 : decode cL_law 1237 = .ok (.aload_n 2, 1) := dk_44 (dk_at dksL_law_48 16 rfl rfl)
theorem dL_law_1238 : decode cL_law 1238 = .ok (.invokevirtual 94, 3) := dk_182 0 94 (dk_at dksL_law_48 17 rfl rfl)
theorem dL_law_1241 : decode cL_law 1241 = .ok (.iload 5, 2) := dk_21 5 (dk_at dksL_law_48 20 rfl rfl)
theorem dL_law_1243 : decode cL_law 1243 = .ok (.if_icmp .eq 5, 3) := dk_159 0 5 (dk_at dksL_law_49 0 rfl rfl)
theorem dL_law_1246 : decode cL_law 1246 = .ok (.iconst 0, 1) := dk_3 (dk_at dksL_law_49 3 rfl rfl)
theorem dL_law_1247 : decode cL_law 1247 = .ok (.ireturn, 1) := dk_172 (dk_at dksL_law_49 4 rfl rfl)
theorem dL_law_1248 : decode cL_law 1248 = .ok (.iload 5, 2) := dk_21 5 (dk_at dksL_law_49 5 rfl rfl)
theorem dL_law_1250 : decode cL_law 1250 = .ok (.ifCond .ne 15, 3) := dk_154 0 15 (dk_at dksL_law_49 7 rfl rfl)
theorem dL_law_1253 : decode cL_law 1253 = .ok (.aload_n 3, 1) := dk_45 (dk_at dksL_law_49 10 rfl rfl)
theorem dL_law_1254 : decode cL_law 1254 = .ok (.iconst 0, 1) := dk_3 (dk_at dksL_law_49 11 rfl rfl)
theorem dL_law_1255 : decode cL_law 1255 = .ok (.laload, 1) := dk_47 (dk_at dksL_law_49 12 rfl rfl)
theorem dL_law_1256 : decode cL_law 1256 = .ok (.iload 6, 2) := dk_21 6 (dk_at dksL_law_49 13 rfl rfl)
theorem dL_law_1258 : decode cL_law 1258 = .ok (.i2l, 1) := dk_133 (dk_at dksL_law_49 15 rfl rfl)
theorem dL_law_1259 : decode cL_law 1259 = .ok (.lcmp, 1) := dk_148 (dk_at dksL_law_49 16 rfl rfl)
theorem dL_law_1260 : decode cL_law 1260 = .ok (.ifCond .eq 5, 3) := dk_153 0 5 (dk_at dksL_law_49 17 rfl rfl)
theorem dL_law_1263 : decode cL_law 1263 = .ok (.iconst 0, 1) := dk_3 (dk_at dksL_law_49 20 rfl rfl)
theorem dL_law_1264 : decode cL_law 1264 = .ok (.ireturn, 1) := dk_172 (dk_at dksL_law_49 21 rfl rfl)
theorem dL_law_1265 : decode cL_law 1265 = .ok (.goto 296, 3) := dk_167 1 40 (dk_at dksL_law_50 0 rfl rfl)
theorem dL_law_1268 : decode cL_law 1268 = .ok (.aload_n 1, 1) := dk_43 (dk_at dksL_law_50 3 rfl rfl)
theorem dL_law_1269 : decode cL_law 1269 = .ok (.aload_n 0, 1) := dk_42 (dk_at dksL_law_50 4 rfl rfl)
theorem dL_law_1270 : decode cL_law 1270 = .ok (.iload 4, 2) := dk_21 4 (dk_at dksL_law_50 5 rfl rfl)
theorem dL_law_1272 : decode cL_law 1272 = .ok (.iconst 1, 1) := dk_4 (dk_at dksL_law_50 7 rfl rfl)
theorem dL_law_1273 : decode cL_law 1273 = .ok (.iadd, 1) := dk_96 (dk_at dksL_law_50 8 rfl rfl)
theorem dL_law_1274 : decode cL_law 1274 = .ok (.iaload, 1) := dk_46 (dk_at dksL_law_50 9 rfl rfl)
theorem dL_law_1275 : decode cL_law 1275 = .ok (.aload_n 0, 1) := dk_42 (dk_at dksL_law_50 10 rfl rfl)
theorem dL_law_1276 : decode cL_law 1276 = .ok (.iload 4, 2) := dk_21 4 (dk_at dksL_law_50 11 rfl rfl)
theorem dL_law_1278 : decode cL_law 1278 = .ok (.iconst 2, 1) := dk_5 (dk_at dksL_law_50 13 rfl rfl)
theorem dL_law_1279 : decode cL_law 1279 = .ok (.iadd, 1) := dk_96 (dk_at dksL_law_50 14 rfl rfl)
theorem dL_law_1280 : decode cL_law 1280 = .ok (.iaload, 1) := dk_46 (dk_at dksL_law_50 15 rfl rfl)
theorem dL_law_1281 : decode cL_law 1281 = .ok (.aload_n 3, 1) := dk_45 (dk_at dksL_law_50 16 rfl rfl)
theorem dL_law_1282 : decode cL_law 1282 = .ok (.invokestatic 170, 3) := dk_184 0 170 (dk_at dksL_law_50 17 rfl rfl)
theorem dL_law_1285 : decode cL_law 1285 = .ok (.istore 5, 2) := dk_54 5 (dk_at dksL_law_50 20 rfl rfl)
theorem dL_law_1287 : decode cL_law 1287 = .ok (.aload_n 2, 1) := dk_44 (dk_at dksL_law_50 22 rfl rfl)
theorem dL_law_1288 : decode cL_law 1288 = .ok (.aload_n 0, 1) := dk_42 (dk_at dksL_law_50 23 rfl rfl)
theorem dL_law_1289 : decode cL_law 1289 = .ok (.iload 4, 2) := dk_21 4 (dk_at dksL_law_51 0 rfl rfl)
theorem dL_law_1291 : decode cL_law 1291 = .ok (.iconst 1, 1) := dk_4 (dk_at dksL_law_51 2 rfl rfl)
theorem dL_law_1292 : decode cL_law 1292 = .ok (.iadd, 1) := dk_96 (dk_at dksL_law_51 3 rfl rfl)
theorem dL_law_1293 : decode cL_law 1293 = .ok (.iaload, 1) := dk_46 (dk_at dksL_law_51 4 rfl rfl)
theorem dL_law_1294 : decode cL_law 1294 = .ok (.aload_n 0, 1) := dk_42 (dk_at dksL_law_51 5 rfl rfl)
theorem dL_law_1295 : decode cL_law 1295 = .ok (.iload 4, 2) := dk_21 4 (dk_at dksL_law_51 6 rfl rfl)
theorem dL_law_1297 : decode cL_law 1297 = .ok (.iconst 2, 1) := dk_5 (dk_at dksL_law_51 8 rfl rfl)
theorem dL_law_1298 : decode cL_law 1298 = .ok (.iadd, 1) := dk_96 (dk_at dksL_law_51 9 rfl rfl)
theorem dL_law_1299 : decode cL_law 1299 = .ok (.iaload, 1) := dk_46 (dk_at dksL_law_51 10 rfl rfl)
theorem dL_law_1300 : decode cL_law 1300 = .ok (.invokevirtual 172, 3) := dk_182 0 172 (dk_at dksL_law_51 11 rfl rfl)
theorem dL_law_1303 : decode cL_law 1303 = .ok (.istore 6, 2) := dk_54 6 (dk_at dksL_law_51 14 rfl rfl)
theorem dL_law_1305 : decode cL_law 1305 = .ok (.aload_n 2, 1) := dk_44 (dk_at dksL_law_51 16 rfl rfl)
theorem dL_law_1306 : decode cL_law 1306 = .ok (.invokevirtual 94, 3) := dk_182 0 94 (dk_at dksL_law_51 17 rfl rfl)
theorem dL_law_1309 : decode cL_law 1309 = .ok (.iload 5, 2) := dk_21 5 (dk_at dksL_law_51 20 rfl rfl)
theorem dL_law_1311 : decode cL_law 1311 = .ok (.if_icmp .eq 5, 3) := dk_159 0 5 (dk_at dksL_law_52 0 rfl rfl)
theorem dL_law_1314 : decode cL_law 1314 = .ok (.iconst 0, 1) := dk_3 (dk_at dksL_law_52 3 rfl rfl)
theorem dL_law_1315 : decode cL_law 1315 = .ok (.ireturn, 1) := dk_172 (dk_at dksL_law_52 4 rfl rfl)
theorem dL_law_1316 : decode cL_law 1316 = .ok (.iload 5, 2) := dk_21 5 (dk_at dksL_law_52 5 rfl rfl)
theorem dL_law_1318 : decode cL_law 1318 = .ok (.ifCond .ne 15, 3) := dk_154 0 15 (dk_at dksL_law_52 7 rfl rfl)
theorem dL_law_1321 : decode cL_law 1321 = .ok (.aload_n 3, 1) := dk_45 (dk_at dksL_law_52 10 rfl rfl)
theorem dL_law_1322 : decode cL_law 1322 = .ok (.iconst 0, 1) := dk_3 (dk_at dksL_law_52 11 rfl rfl)
theorem dL_law_1323 : decode cL_law 1323 = .ok (.laload, 1) := dk_47 (dk_at dksL_law_52 12 rfl rfl)
theorem dL_law_1324 : decode cL_law 1324 = .ok (.iload 6, 2) := dk_21 6 (dk_at dksL_law_52 13 rfl rfl)
theorem dL_law_1326 : decode cL_law 1326 = .ok (.i2l, 1) := dk_133 (dk_at dksL_law_52 15 rfl rfl)
theorem dL_law_1327 : decode cL_law 1327 = .ok (.lcmp, 1) := dk_148 (dk_at dksL_law_52 16 rfl rfl)
theorem dL_law_1328 : decode cL_law 1328 = .ok (.ifCond .eq 5, 3) := dk_153 0 5 (dk_at dksL_law_52 17 rfl rfl)
theorem dL_law_1331 : decode cL_law 1331 = .ok (.iconst 0, 1) := dk_3 (dk_at dksL_law_52 20 rfl rfl)
theorem dL_law_1332 : decode cL_law 1332 = .ok (.ireturn, 1) := dk_172 (dk_at dksL_law_52 21 rfl rfl)
theorem dL_law_1333 : decode cL_law 1333 = .ok (.goto 228, 3) := dk_167 0 228 (dk_at dksL_law_53 0 rfl rfl)
theorem dL_law_1336 : decode cL_law 1336 = .ok (.aload_n 1, 1) := dk_43 (dk_at dksL_law_53 3 rfl rfl)
theorem dL_law_1337 : decode cL_law 1337 = .ok (.invokevirtual 173, 3) := dk_182 0 173 (dk_at dksL_law_53 4 rfl rfl)
theorem dL_law_1340 : decode cL_law 1340 = .ok (.aload_n 2, 1) := dk_44 (dk_at dksL_law_53 7 rfl rfl)
theorem dL_law_1341 : decode cL_law 1341 = .ok (.invokevirtual 176, 3) := dk_182 0 176 (dk_at dksL_law_53 8 rfl rfl)
theorem dL_law_1344 : decode cL_law 1344 = .ok (.if_icmp .eq 217, 3) := dk_159 0 217 (dk_at dksL_law_53 11 rfl rfl)
theorem dL_law_1347 : decode cL_law 1347 = .ok (.iconst 0, 1) := dk_3 (dk_at dksL_law_53 14 rfl rfl)
theorem dL_law_1348 : decode cL_law 1348 = .ok (.ireturn, 1) := dk_172 (dk_at dksL_law_53 15 rfl rfl)
theorem dL_law_1349 : decode cL_law 1349 = .ok (.aload_n 1, 1) := dk_43 (dk_at dksL_law_53 16 rfl rfl)
theorem dL_law_1350 : decode cL_law 1350 = .ok (.aload_n 0, 1) := dk_42 (dk_at dksL_law_53 17 rfl rfl)
theorem dL_law_1351 : decode cL_law 1351 = .ok (.iload 4, 2) := dk_21 4 (dk_at dksL_law_53 18 rfl rfl)
theorem dL_law_1353 : decode cL_law 1353 = .ok (.iconst 1, 1) := dk_4 (dk_at dksL_law_53 20 rfl rfl)
theorem dL_law_1354 : decode cL_law 1354 = .ok (.iadd, 1) := dk_96 (dk_at dksL_law_53 21 rfl rfl)
theorem dL_law_1355 : decode cL_law 1355 = .ok (.iaload, 1) := dk_46 (dk_at dksL_law_53 22 rfl rfl)
theorem dL_law_1356 : decode cL_law 1356 = .ok (.aload_n 3, 1) := dk_45 (dk_at dksL_law_53 23 rfl rfl)
theorem dL_law_1357 : decode cL_law 1357 = .ok (.invokestatic 177, 3) := dk_184 0 177 (dk_at dksL_law_54 0 rfl rfl)
theorem dL_law_1360 : decode cL_law 1360 = .ok (.istore 5, 2) := dk_54 5 (dk_at dksL_law_54 3 rfl rfl)
theorem dL_law_1362 : decode cL_law 1362 = .ok (.aload_n 2, 1) := dk_44 (dk_at dksL_law_54 5 rfl rfl)
theorem dL_law_1363 : decode cL_law 1363 = .ok (.aload_n 0, 1) := dk_42 (dk_at dksL_law_54 6 rfl rfl)
theorem dL_law_1364 : decode cL_law 1364 = .ok (.iload 4, 2) := dk_21 4 (dk_at dksL_law_54 7 rfl rfl)
theorem dL_law_1366 : decode cL_law 1366 = .ok (.iconst 1, 1) := dk_4 (dk_at dksL_law_54 9 rfl rfl)
theorem dL_law_1367 : decode cL_law 1367 = .ok (.iadd, 1) := dk_96 (dk_at dksL_law_54 10 rfl rfl)
theorem dL_law_1368 : decode cL_law 1368 = .ok (.iaload, 1) := dk_46 (dk_at dksL_law_54 11 rfl rfl)
theorem dL_law_1369 : decode cL_law 1369 = .ok (.invokevirtual 179, 3) := dk_182 0 179 (dk_at dksL_law_54 12 rfl rfl)
theorem dL_law_1372 : decode cL_law 1372 = .ok (.istore 6, 2) := dk_54 6 (dk_at dksL_law_54 15 rfl rfl)
theorem dL_law_1374 : decode cL_law 1374 = .ok (.aload_n 2, 1) := dk_44 (dk_at dksL_law_54 17 rfl rfl)
theorem dL_law_1375 : decode cL_law 1375 = .ok (.invokevirtual 94, 3) := dk_182 0 94 (dk_at dksL_law_54 18 rfl rfl)
theorem dL_law_1378 : decode cL_law 1378 = .ok (.iload 5, 2) := dk_21 5 (dk_at dksL_law_54 21 rfl rfl)
theorem dL_law_1380 : decode cL_law 1380 = .ok (.if_icmp .eq 5, 3) := dk_159 0 5 (dk_at dksL_law_55 0 rfl rfl)
theorem dL_law_1383 : decode cL_law 1383 = .ok (.iconst 0, 1) := dk_3 (dk_at dksL_law_55 3 rfl rfl)
theorem dL_law_1384 : decode cL_law 1384 = .ok (.ireturn, 1) := dk_172 (dk_at dksL_law_55 4 rfl rfl)
theorem dL_law_1385 : decode cL_law 1385 = .ok (.iload 5, 2) := dk_21 5 (dk_at dksL_law_55 5 rfl rfl)
theorem dL_law_1387 : decode cL_law 1387 = .ok (.ifCond .ne 15, 3) := dk_154 0 15 (dk_at dksL_law_55 7 rfl rfl)
theorem dL_law_1390 : decode cL_law 1390 = .ok (.aload_n 3, 1) := dk_45 (dk_at dksL_law_55 10 rfl rfl)
theorem dL_law_1391 : decode cL_law 1391 = .ok (.iconst 0, 1) := dk_3 (dk_at dksL_law_55 11 rfl rfl)
theorem dL_law_1392 : decode cL_law 1392 = .ok (.laload, 1) := dk_47 (dk_at dksL_law_55 12 rfl rfl)
theorem dL_law_1393 : decode cL_law 1393 = .ok (.iload 6, 2) := dk_21 6 (dk_at dksL_law_55 13 rfl rfl)
theorem dL_law_1395 : decode cL_law 1395 = .ok (.i2l, 1) := dk_133 (dk_at dksL_law_55 15 rfl rfl)
theorem dL_law_1396 : decode cL_law 1396 = .ok (.lcmp, 1) := dk_148 (dk_at dksL_law_55 16 rfl rfl)
theorem dL_law_1397 : decode cL_law 1397 = .ok (.ifCond .eq 5, 3) := dk_153 0 5 (dk_at dksL_law_55 17 rfl rfl)
theorem dL_law_1400 : decode cL_law 1400 = .ok (.iconst 0, 1) := dk_3 (dk_at dksL_law_55 20 rfl rfl)
theorem dL_law_1401 : decode cL_law 1401 = .ok (.ireturn, 1) := dk_172 (dk_at dksL_law_55 21 rfl rfl)
theorem dL_law_1402 : decode cL_law 1402 = .ok (.goto 159, 3) := dk_167 0 159 (dk_at dksL_law_56 0 rfl rfl)
theorem dL_law_1405 : decode cL_law 1405 = .ok (.aload_n 1, 1) := dk_43 (dk_at dksL_law_56 3 rfl rfl)
theorem dL_law_1406 : decode cL_law 1406 = .ok (.aload_n 3, 1) := dk_45 (dk_at dksL_law_56 4 rfl rfl)
theorem dL_law_1407 : decode cL_law 1407 = .ok (.invokestatic 180, 3) := dk_184 0 180 (dk_at dksL_law_56 5 rfl rfl)
theorem dL_law_1410 : decode cL_law 1410 = .ok (.istore 5, 2) := dk_54 5 (dk_at dksL_law_56 8 rfl rfl)
theorem dL_law_1412 : decode cL_law 1412 = .ok (.aload_n 2, 1) := dk_44 (dk_at dksL_law_56 10 rfl rfl)
theorem dL_law_1413 : decode cL_law 1413 = .ok (.invokevirtual 182, 3) := dk_182 0 182 (dk_at dksL_law_56 11 rfl rfl)
theorem dL_law_1416 : decode cL_law 1416 = .ok (.istore 6, 2) := dk_54 6 (dk_at dksL_law_56 14 rfl rfl)
theorem dL_law_1418 : decode cL_law 1418 = .ok (.aload_n 2, 1) := dk_44 (dk_at dksL_law_56 16 rfl rfl)
theorem dL_law_1419 : decode cL_law 1419 = .ok (.invokevirtual 94, 3) := dk_182 0 94 (dk_at dksL_law_56 17 rfl rfl)
theorem dL_law_1422 : decode cL_law 1422 = .ok (.iload 5, 2) := dk_21 5 (dk_at dksL_law_56 20 rfl rfl)
theorem dL_law_1424 : decode cL_law 1424 = .ok (.if_icmp .eq 5, 3) := dk_159 0 5 (dk_at dksL_law_57 0 rfl rfl)
theorem dL_law_1427 : decode cL_law 1427 = .ok (.iconst 0, 1) := dk_3 (dk_at dksL_law_57 3 rfl rfl)
theorem dL_law_1428 : decode cL_law 1428 = .ok (.ireturn, 1) := dk_172 (dk_at dksL_law_57 4 rfl rfl)
theorem dL_law_1429 : decode cL_law 1429 = .ok (.iload 5, 2) := dk_21 5 (dk_at dksL_law_57 5 rfl rfl)
theorem dL_law_1431 : decode cL_law 1431 = .ok (.ifCond .ne 15, 3) := dk_154 0 15 (dk_at dksL_law_57 7 rfl rfl)
theorem dL_law_1434 : decode cL_law 1434 = .ok (.aload_n 3, 1) := dk_45 (dk_at dksL_law_57 10 rfl rfl)
theorem dL_law_1435 : decode cL_law 1435 = .ok (.iconst 0, 1) := dk_3 (dk_at dksL_law_57 11 rfl rfl)
theorem dL_law_1436 : decode cL_law 1436 = .ok (.laload, 1) := dk_47 (dk_at dksL_law_57 12 rfl rfl)
theorem dL_law_1437 : decode cL_law 1437 = .ok (.iload 6, 2) := dk_21 6 (dk_at dksL_law_57 13 rfl rfl)
theorem dL_law_1439 : decode cL_law 1439 = .ok (.i2l, 1) := dk_133 (dk_at dksL_law_57 15 rfl rfl)
theorem dL_law_1440 : decode cL_law 1440 = .ok (.lcmp, 1) := dk_148 (dk_at dksL_law_57 16 rfl rfl)
theorem dL_law_1441 : decode cL_law 1441 = .ok (.ifCond .eq 5, 3) := dk_153 0 5 (dk_at dksL_law_57 17 rfl rfl)
theorem dL_law_1444 : decode cL_law 1444 = .ok (.iconst 0, 1) := dk_3 (dk_at dksL_law_57 20 rfl rfl)
theorem dL_law_1445 : decode cL_law 1445 = .ok (.ireturn, 1) := dk_172 (dk_at dksL_law_57 21 rfl rfl)
theorem dL_law_1446 : decode cL_law 1446 = .ok (.goto 115, 3) := dk_167 0 115 (dk_at dksL_law_58 0 rfl rfl)
theorem dL_law_1449 : decode cL_law 1449 = .ok (.aload_n 1, 1) := dk_43 (dk_at dksL_law_58 3 rfl rfl)
theorem dL_law_1450 : decode cL_law 1450 = .ok (.aload_n 0, 1) := dk_42 (dk_at dksL_law_58 4 rfl rfl)
theorem dL_law_1451 : decode cL_law 1451 = .ok (.iload 4, 2) := dk_21 4 (dk_at dksL_law_58 5 rfl rfl)
theorem dL_law_1453 : decode cL_law 1453 = .ok (.iconst 1, 1) := dk_4 (dk_at dksL_law_58 7 rfl rfl)
theorem dL_law_1454 : decode cL_law 1454 = .ok (.iadd, 1) := dk_96 (dk_at dksL_law_58 8 rfl rfl)
theorem dL_law_1455 : decode cL_law 1455 = .ok (.iaload, 1) := dk_46 (dk_at dksL_law_58 9 rfl rfl)
theorem dL_law_1456 : decode cL_law 1456 = .ok (.aload_n 3, 1) := dk_45 (dk_at dksL_law_58 10 rfl rfl)
theorem dL_law_1457 : decode cL_law 1457 = .ok (.invokestatic 183, 3) := dk_184 0 183 (dk_at dksL_law_58 11 rfl rfl)
theorem dL_law_1460 : decode cL_law 1460 = .ok (.istore 5, 2) := dk_54 5 (dk_at dksL_law_58 14 rfl rfl)
theorem dL_law_1462 : decode cL_law 1462 = .ok (.aload_n 2, 1) := dk_44 (dk_at dksL_law_58 16 rfl rfl)
theorem dL_law_1463 : decode cL_law 1463 = .ok (.aload_n 0, 1) := dk_42 (dk_at dksL_law_58 17 rfl rfl)
theorem dL_law_1464 : decode cL_law 1464 = .ok (.iload 4, 2) := dk_21 4 (dk_at dksL_law_58 18 rfl rfl)
theorem dL_law_1466 : decode cL_law 1466 = .ok (.iconst 1, 1) := dk_4 (dk_at dksL_law_58 20 rfl rfl)
theorem dL_law_1467 : decode cL_law 1467 = .ok (.iadd, 1) := dk_96 (dk_at dksL_law_58 21 rfl rfl)
theorem dL_law_1468 : decode cL_law 1468 = .ok (.iaload, 1) := dk_46 (dk_at dksL_law_58 22 rfl rfl)
theorem dL_law_1469 : decode cL_law 1469 = .ok (.invokevirtual 185, 3) := dk_182 0 185 (dk_at dksL_law_59 0 rfl rfl)
theorem dL_law_1472 : decode cL_law 1472 = .ok (.istore 6, 2) := dk_54 6 (dk_at dksL_law_59 3 rfl rfl)
theorem dL_law_1474 : decode cL_law 1474 = .ok (.aload_n 2, 1) := dk_44 (dk_at dksL_law_59 5 rfl rfl)
theorem dL_law_1475 : decode cL_law 1475 = .ok (.invokevirtual 94, 3) := dk_182 0 94 (dk_at dksL_law_59 6 rfl rfl)
theorem dL_law_1478 : decode cL_law 1478 = .ok (.iload 5, 2) := dk_21 5 (dk_at dksL_law_59 9 rfl rfl)
theorem dL_law_1480 : decode cL_law 1480 = .ok (.if_icmp .eq 5, 3) := dk_159 0 5 (dk_at dksL_law_59 11 rfl rfl)
theorem dL_law_1483 : decode cL_law 1483 = .ok (.iconst 0, 1) := dk_3 (dk_at dksL_law_59 14 rfl rfl)
theorem dL_law_1484 : decode cL_law 1484 = .ok (.ireturn, 1) := dk_172 (dk_at dksL_law_59 15 rfl rfl)
theorem dL_law_1485 : decode cL_law 1485 = .ok (.iload 5, 2) := dk_21 5 (dk_at dksL_law_59 16 rfl rfl)
theorem dL_law_1487 : decode cL_law 1487 = .ok (.ifCond .ne 15, 3) := dk_154 0 15 (dk_at dksL_law_59 18 rfl rfl)
theorem dL_law_1490 : decode cL_law 1490 = .ok (.aload_n 3, 1) := dk_45 (dk_at dksL_law_59 21 rfl rfl)
theorem dL_law_1491 : decode cL_law 1491 = .ok (.iconst 0, 1) := dk_3 (dk_at dksL_law_59 22 rfl rfl)
theorem dL_law_1492 : decode cL_law 1492 = .ok (.laload, 1) := dk_47 (dk_at dksL_law_59 23 rfl rfl)
theorem dL_law_1493 : decode cL_law 1493 = .ok (.iload 6, 2) := dk_21 6 (dk_at dksL_law_60 0 rfl rfl)
theorem dL_law_1495 : decode cL_law 1495 = .ok (.i2l, 1) := dk_133 (dk_at dksL_law_60 2 rfl rfl)
theorem dL_law_1496 : decode cL_law 1496 = .ok (.lcmp, 1) := dk_148 (dk_at dksL_law_60 3 rfl rfl)
theorem dL_law_1497 : decode cL_law 1497 = .ok (.ifCond .eq 5, 3) := dk_153 0 5 (dk_at dksL_law_60 4 rfl rfl)
theorem dL_law_1500 : decode cL_law 1500 = .ok (.iconst 0, 1) := dk_3 (dk_at dksL_law_60 7 rfl rfl)
theorem dL_law_1501 : decode cL_law 1501 = .ok (.ireturn, 1) := dk_172 (dk_at dksL_law_60 8 rfl rfl)
theorem dL_law_1502 : decode cL_law 1502 = .ok (.goto 59, 3) := dk_167 0 59 (dk_at dksL_law_60 9 rfl rfl)
theorem dL_law_1505 : decode cL_law 1505 = .ok (.aload_n 1, 1) := dk_43 (dk_at dksL_law_60 12 rfl rfl)
theorem dL_law_1506 : decode cL_law 1506 = .ok (.aload_n 0, 1) := dk_42 (dk_at dksL_law_60 13 rfl rfl)
theorem dL_law_1507 : decode cL_law 1507 = .ok (.iload 4, 2) := dk_21 4 (dk_at dksL_law_60 14 rfl rfl)
theorem dL_law_1509 : decode cL_law 1509 = .ok (.iconst 1, 1) := dk_4 (dk_at dksL_law_60 16 rfl rfl)
theorem dL_law_1510 : decode cL_law 1510 = .ok (.iadd, 1) := dk_96 (dk_at dksL_law_60 17 rfl rfl)
theorem dL_law_1511 : decode cL_law 1511 = .ok (.iaload, 1) := dk_46 (dk_at dksL_law_60 18 rfl rfl)
theorem dL_law_1512 : decode cL_law 1512 = .ok (.aload_n 3, 1) := dk_45 (dk_at dksL_law_60 19 rfl rfl)
theorem dL_law_1513 : decode cL_law 1513 = .ok (.invokestatic 186, 3) := dk_184 0 186 (dk_at dksL_law_60 20 rfl rfl)
theorem dL_law_1516 : decode cL_law 1516 = .ok (.istore 5, 2) := dk_54 5 (dk_at dksL_law_61 0 rfl rfl)
theorem dL_law_1518 : decode cL_law 1518 = .ok (.aload_n 2, 1) := dk_44 (dk_at dksL_law_61 2 rfl rfl)
theorem dL_law_1519 : decode cL_law 1519 = .ok (.aload_n 0, 1) := dk_42 (dk_at dksL_law_61 3 rfl rfl)
theorem dL_law_1520 : decode cL_law 1520 = .ok (.iload 4, 2) := dk_21 4 (dk_at dksL_law_61 4 rfl rfl)
theorem dL_law_1522 : decode cL_law 1522 = .ok (.iconst 1, 1) := dk_4 (dk_at dksL_law_61 6 rfl rfl)
theorem dL_law_1523 : decode cL_law 1523 = .ok (.iadd, 1) := dk_96 (dk_at dksL_law_61 7 rfl rfl)
theorem dL_law_1524 : decode cL_law 1524 = .ok (.iaload, 1) := dk_46 (dk_at dksL_law_61 8 rfl rfl)
theorem dL_law_1525 : decode cL_law 1525 = .ok (.invokevirtual 188, 3) := dk_182 0 188 (dk_at dksL_law_61 9 rfl rfl)
theorem dL_law_1528 : decode cL_law 1528 = .ok (.istore 6, 2) := dk_54 6 (dk_at dksL_law_61 12 rfl rfl)
theorem dL_law_1530 : decode cL_law 1530 = .ok (.aload_n 2, 1) := dk_44 (dk_at dksL_law_61 14 rfl rfl)
theorem dL_law_1531 : decode cL_law 1531 = .ok (.invokevirtual 94, 3) := dk_182 0 94 (dk_at dksL_law_61 15 rfl rfl)
theorem dL_law_1534 : decode cL_law 1534 = .ok (.iload 5, 2) := dk_21 5 (dk_at dksL_law_61 18 rfl rfl)
theorem dL_law_1536 : decode cL_law 1536 = .ok (.if_icmp .eq 5, 3) := dk_159 0 5 (dk_at dksL_law_61 20 rfl rfl)
theorem dL_law_1539 : decode cL_law 1539 = .ok (.iconst 0, 1) := dk_3 (dk_at dksL_law_61 23 rfl rfl)
theorem dL_law_1540 : decode cL_law 1540 = .ok (.ireturn, 1) := dk_172 (dk_at dksL_law_62 0 rfl rfl)
theorem dL_law_1541 : decode cL_law 1541 = .ok (.iload 5, 2) := dk_21 5 (dk_at dksL_law_62 1 rfl rfl)
theorem dL_law_1543 : decode cL_law 1543 = .ok (.ifCond .ne 15, 3) := dk_154 0 15 (dk_at dksL_law_62 3 rfl rfl)
theorem dL_law_1546 : decode cL_law 1546 = .ok (.aload_n 3, 1) := dk_45 (dk_at dksL_law_62 6 rfl rfl)
theorem dL_law_1547 : decode cL_law 1547 = .ok (.iconst 0, 1) := dk_3 (dk_at dksL_law_62 7 rfl rfl)
theorem dL_law_1548 : decode cL_law 1548 = .ok (.laload, 1) := dk_47 (dk_at dksL_law_62 8 rfl rfl)
theorem dL_law_1549 : decode cL_law 1549 = .ok (.iload 6, 2) := dk_21 6 (dk_at dksL_law_62 9 rfl rfl)
theorem dL_law_1551 : decode cL_law 1551 = .ok (.i2l, 1) := dk_133 (dk_at dksL_law_62 11 rfl rfl)
theorem dL_law_1552 : decode cL_law 1552 = .ok (.lcmp, 1) := dk_148 (dk_at dksL_law_62 12 rfl rfl)
theorem dL_law_1553 : decode cL_law 1553 = .ok (.ifCond .eq 5, 3) := dk_153 0 5 (dk_at dksL_law_62 13 rfl rfl)
theorem dL_law_1556 : decode cL_law 1556 = .ok (.iconst 0, 1) := dk_3 (dk_at dksL_law_62 16 rfl rfl)
theorem dL_law_1557 : decode cL_law 1557 = .ok (.ireturn, 1) := dk_172 (dk_at dksL_law_62 17 rfl rfl)
theorem dL_law_1558 : decode cL_law 1558 = .ok (.goto 3, 3) := dk_167 0 3 (dk_at dksL_law_62 18 rfl rfl)
theorem dL_law_1561 : decode cL_law 1561 = .ok (.iinc 4 6, 3) := dk_132 4 6 (dk_at dksL_law_62 21 rfl rfl)
theorem dL_law_1564 : decode cL_law 1564 = .ok (.goto (-1541), 3) := dk_167 249 251 (dk_at dksL_law_63 0 rfl rfl)
theorem dL_law_1567 : decode cL_law 1567 = .ok (.iconst 1, 1) := dk_4 (dk_at dksL_law_63 3 rfl rfl)
theorem dL_law_1568 : decode cL_law 1568 = .ok (.ireturn, 1) := dk_172 (dk_at dksL_law_63 4 rfl rfl)
