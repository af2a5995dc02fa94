/-! ColourDuel -/
set_option maxRecDepth 100000
def RX1 : String := "ColourDuel"
def TX1 : u_T := fun k => match k with
  | 0 => ("ColourDuel", "search", "LColourDuel$Search;", true)
  | 1 => ("ColourDuel", "board", "LColourDuel$Board;", false)
  | 2 => ("ColourDuel", "history", "Ljava/util/ArrayDeque;", true)
  | 3 => ("ColourDuel", "slots", "[LColourDuel$Board;", true)
  | 4 => ("ColourDuel", "buffer", "[B", true)
  | 5 => ("ColourDuel", "length", "I", false)
  | 6 => ("ColourDuel", "errorAt", "I", false)
  | _ => ("ColourDuel", "written", "Ljava/lang/StringBuilder;", true)
def tyX1 : Nat → FieldType := fun k => match k with
  | 0 => .object "ColourDuel$Search"
  | 1 => .object "ColourDuel$Board"
  | 2 => .object "java/util/ArrayDeque"
  | 3 => .array (.object "ColourDuel$Board")
  | 4 => .array .byte
  | 5 => .int
  | 6 => .int
  | _ => .object "java/lang/StringBuilder"
abbrev wsX10 : List Cond := u_ws RX1 TX1 8
theorem nmX1 : ∀ a, a < 8 → ∀ b, b < 8 → a ≠ b → (TX1 a).2.1 ≠ (TX1 b).2.1 := by decide +kernel
theorem tyX1_ok : ∀ k, k < 8 → parseFieldDescriptor (TX1 k).2.2.1 = some (tyX1 k) := by decide +kernel
abbrev cX1_init : ByteArray := prog_1_method_19_code
def yX1_init : MethodName := ⟨RX1, "<init>", "()V"⟩
def dkwX1_init_3 : List UInt8 := [183, 0, 137, 181, 0, 138, 177]
abbrev dktX1_init_3 : List UInt8 := dkwX1_init_3 ++ []
def dkwX1_init_2 : List UInt8 := [181, 0, 124, 42, 17, 1, 244, 188, 8, 181, 0, 128, 42, 2, 181, 0, 132, 42, 187, 0, 135, 89]
abbrev dktX1_init_2 : List UInt8 := dkwX1_init_2 ++ dktX1_init_3
def dkwX1_init_1 : List UInt8 := [183, 0, 120, 181, 0, 94, 42, 187, 0, 87, 89, 183, 0, 123, 181, 0, 82, 42, 5, 189, 0, 48]
abbrev dktX1_init_1 : List UInt8 := dkwX1_init_1 ++ dktX1_init_2
def dkwX1_init_0 : List UInt8 := [42, 183, 0, 110, 42, 187, 0, 42, 89, 42, 183, 0, 113, 181, 0, 28, 42, 187, 0, 48, 89, 184, 0, 116]
abbrev dktX1_init_0 : List UInt8 := dkwX1_init_0 ++ dktX1_init_1
theorem dksX1_init_0 : cX1_init.data.toList.drop 0 = dktX1_init_0 := by decide +kernel
theorem dksX1_init_1 : cX1_init.data.toList.drop 24 = dktX1_init_1 := dk_seg dksX1_init_0 24 rfl rfl
theorem dksX1_init_2 : cX1_init.data.toList.drop 46 = dktX1_init_2 := dk_seg dksX1_init_1 22 rfl rfl
theorem dksX1_init_3 : cX1_init.data.toList.drop 68 = dktX1_init_3 := dk_seg dksX1_init_2 22 rfl rfl
theorem dX1_init_0 : decode cX1_init 0 = .ok (.aload_n 0, 1) := dk_42 (dk_at dksX1_init_0 0 rfl rfl)
theorem dX1_init_1 : decode cX1_init 1 = .ok (.invokespecial 110, 3) := dk_183 0 110 (dk_at dksX1_init_0 1 rfl rfl)
theorem dX1_init_4 : decode cX1_init 4 = .ok (.aload_n 0, 1) := dk_42 (dk_at dksX1_init_0 4 rfl rfl)
theorem dX1_init_5 : decode cX1_init 5 = .ok (.new 42, 3) := dk_187 0 42 (dk_at dksX1_init_0 5 rfl rfl)
theorem dX1_init_8 : decode cX1_init 8 = .ok (.dup, 1) := dk_89 (dk_at dksX1_init_0 8 rfl rfl)
theorem dX1_init_9 : decode cX1_init 9 = .ok (.aload_n 0, 1) := dk_42 (dk_at dksX1_init_0 9 rfl rfl)
theorem dX1_init_10 : decode cX1_init 10 = .ok (.invokespecial 113, 3) := dk_183 0 113 (dk_at dksX1_init_0 10 rfl rfl)
theorem dX1_init_13 : decode cX1_init 13 = .ok (.putfield 28, 3) := dk_181 0 28 (dk_at dksX1_init_0 13 rfl rfl)
theorem dX1_init_16 : decode cX1_init 16 = .ok (.aload_n 0, 1) := dk_42 (dk_at dksX1_init_0 16 rfl rfl)
theorem dX1_init_17 : decode cX1_init 17 = .ok (.new 48, 3) := dk_187 0 48 (dk_at dksX1_init_0 17 rfl rfl)
theorem dX1_init_20 : decode cX1_init 20 = .ok (.dup, 1) := dk_89 (dk_at dksX1_init_0 20 rfl rfl)
theorem dX1_init_21 : decode cX1_init 21 = .ok (.invokestatic 116, 3) := dk_184 0 116 (dk_at dksX1_init_0 21 rfl rfl)
theorem dX1_init_24 : decode cX1_init 24 = .ok (.invokespecial 120, 3) := dk_183 0 120 (dk_at dksX1_init_1 0 rfl rfl)
theorem dX1_init_27 : decode cX1_init 27 = .ok (.putfield 94, 3) := dk_181 0 94 (dk_at dksX1_init_1 3 rfl rfl)
theorem dX1_init_30 : decode cX1_init 30 = .ok (.aload_n 0, 1) := dk_42 (dk_at dksX1_init_1 6 rfl rfl)
theorem dX1_init_31 : decode cX1_init 31 = .ok (.new 87, 3) := dk_187 0 87 (dk_at dksX1_init_1 7 rfl rfl)
theorem dX1_init_34 : decode cX1_init 34 = .ok (.dup, 1) := dk_89 (dk_at dksX1_init_1 10 rfl rfl)
theorem dX1_init_35 : decode cX1_init 35 = .ok (.invokespecial 123, 3) := dk_183 0 123 (dk_at dksX1_init_1 11 rfl rfl)
theorem dX1_init_38 : decode cX1_init 38 = .ok (.putfield 82, 3) := dk_181 0 82 (dk_at dksX1_init_1 14 rfl rfl)
theorem dX1_init_41 : decode cX1_init 41 = .ok (.aload_n 0, 1) := dk_42 (dk_at dksX1_init_1 17 rfl rfl)
theorem dX1_init_42 : decode cX1_init 42 = .ok (.iconst 2, 1) := dk_5 (dk_at dksX1_init_1 18 rfl rfl)
theorem dX1_init_43 : decode cX1_init 43 = .ok (.anewarray 48, 3) := dk_189 0 48 (dk_at dksX1_init_1 19 rfl rfl)
theorem dX1_init_46 : decode cX1_init 46 = .ok (.putfield 124, 3) := dk_181 0 124 (dk_at dksX1_init_2 0 rfl rfl)
theorem dX1_init_49 : decode cX1_init 49 = .ok (.aload_n 0, 1) := dk_42 (dk_at dksX1_init_2 3 rfl rfl)
theorem dX1_init_50 : decode cX1_init 50 = .ok (.sipush 500, 3) := dk_17 1 244 (dk_at dksX1_init_2 4 rfl rfl)
theorem dX1_init_53 : decode cX1_init 53 = .ok (.newarray .byte, 2) := dk_188_8 (dk_at dksX1_init_2 7 rfl rfl)
theorem dX1_init_55 : decode cX1_init 55 = .ok (.putfield 128, 3) := dk_181 0 128 (dk_at dksX1_init_2 9 rfl rfl)
theorem dX1_init_58 : decode cX1_init 58 = .ok (.aload_n 0, 1) := dk_42 (dk_at dksX1_init_2 12 rfl rfl)
theorem dX1_init_59 : decode cX1_init 59 = .ok (.iconst (-1), 1) := dk_2 (dk_at dksX1_init_2 13 rfl rfl)
theorem dX1_init_60 : decode cX1_init 60 = .ok (.putfield 132, 3) := dk_181 0 132 (dk_at dksX1_init_2 14 rfl rfl)
theorem dX1_init_63 : decode cX1_init 63 = .ok (.aload_n 0, 1) := dk_42 (dk_at dksX1_init_2 17 rfl rfl)
theorem dX1_init_64 : decode cX1_init 64 = .ok (.new 135, 3) := dk_187 0 135 (dk_at dksX1_init_2 18 rfl rfl)
theorem dX1_init_67 : decode cX1_init 67 = .ok (.dup, 1) := dk_89 (dk_at dksX1_init_2 21 rfl rfl)
theorem dX1_init_68 : decode cX1_init 68 = .ok (.invokespecial 137, 3) := dk_183 0 137 (dk_at dksX1_init_3 0 rfl rfl)
theorem dX1_init_71 : decode cX1_init 71 = .ok (.putfield 138, 3) := dk_181 0 138 (dk_at dksX1_init_3 3 rfl rfl)
theorem dX1_init_74 : decode cX1_init 74 = .ok (.return_, 1) := dk_177 (dk_at dksX1_init_3 6 rfl rfl)
abbrev cX1_has : ByteArray := prog_1_method_2_code
def yX1_has : MethodName := ⟨RX1, "has", "(II)Z"⟩
def dkwX1_has_0 : List UInt8 := [26, 27, 122, 4, 126, 4, 160, 0, 7, 4, 167, 0, 4, 3, 172]
abbrev dktX1_has_0 : List UInt8 := dkwX1_has_0 ++ []
theorem dksX1_has_0 : cX1_has.data.toList.drop 0 = dktX1_has_0 := by decide +kernel
theorem dX1_has_0 : decode cX1_has 0 = .ok (.iload_n 0, 1) := dk_26 (dk_at dksX1_has_0 0 rfl rfl)
theorem dX1_has_1 : decode cX1_has 1 = .ok (.iload_n 1, 1) := dk_27 (dk_at dksX1_has_0 1 rfl rfl)
theorem dX1_has_2 : decode cX1_has 2 = .ok (.ishr, 1) := dk_122 (dk_at dksX1_has_0 2 rfl rfl)
theorem dX1_has_3 : decode cX1_has 3 = .ok (.iconst 1, 1) := dk_4 (dk_at dksX1_has_0 3 rfl rfl)
theorem dX1_has_4 : decode cX1_has 4 = .ok (.iand, 1) := dk_126 (dk_at dksX1_has_0 4 rfl rfl)
theorem dX1_has_5 : decode cX1_has 5 = .ok (.iconst 1, 1) := dk_4 (dk_at dksX1_has_0 5 rfl rfl)
theorem dX1_has_6 : decode cX1_has 6 = .ok (.if_icmp .ne 7, 3) := dk_160 0 7 (dk_at dksX1_has_0 6 rfl rfl)
theorem dX1_has_9 : decode cX1_has 9 = .ok (.iconst 1, 1) := dk_4 (dk_at dksX1_has_0 9 rfl rfl)
theorem dX1_has_10 : decode cX1_has 10 = .ok (.goto 4, 3) := dk_167 0 4 (dk_at dksX1_has_0 10 rfl rfl)
theorem dX1_has_13 : decode cX1_has 13 = .ok (.iconst 0, 1) := dk_3 (dk_at dksX1_has_0 13 rfl rfl)
theorem dX1_has_14 : decode cX1_has 14 = .ok (.ireturn, 1) := dk_172 (dk_at dksX1_has_0 14 rfl rfl)
abbrev cX1_plain : ByteArray := prog_1_method_16_code
def yX1_plain : MethodName := ⟨RX1, "plain", "()LColourDuel$Graph;"⟩
def dkwX1_plain_0 : List UInt8 := [187, 0, 70, 89, 4, 183, 0, 72, 75, 42, 180, 0, 75, 3, 4, 79, 42, 4, 181, 0, 79, 42, 176]
abbrev dktX1_plain_0 : List UInt8 := dkwX1_plain_0 ++ []
theorem dksX1_plain_0 : cX1_plain.data.toList.drop 0 = dktX1_plain_0 := by decide +kernel
theorem dX1_plain_0 : decode cX1_plain 0 = .ok (.new 70, 3) := dk_187 0 70 (dk_at dksX1_plain_0 0 rfl rfl)
theorem dX1_plain_3 : decode cX1_plain 3 = .ok (.dup, 1) := dk_89 (dk_at dksX1_plain_0 3 rfl rfl)
theorem dX1_plain_4 : decode cX1_plain 4 = .ok (.iconst 1, 1) := dk_4 (dk_at dksX1_plain_0 4 rfl rfl)
theorem dX1_plain_5 : decode cX1_plain 5 = .ok (.invokespecial 72, 3) := dk_183 0 72 (dk_at dksX1_plain_0 5 rfl rfl)
theorem dX1_plain_8 : decode cX1_plain 8 = .ok (.astore_n 0, 1) := dk_75 (dk_at dksX1_plain_0 8 rfl rfl)
theorem dX1_plain_9 : decode cX1_plain 9 = .ok (.aload_n 0, 1) := dk_42 (dk_at dksX1_plain_0 9 rfl rfl)
theorem dX1_plain_10 : decode cX1_plain 10 = .ok (.getfield 75, 3) := dk_180 0 75 (dk_at dksX1_plain_0 10 rfl rfl)
theorem dX1_plain_13 : decode cX1_plain 13 = .ok (.iconst 0, 1) := dk_3 (dk_at dksX1_plain_0 13 rfl rfl)
theorem dX1_plain_14 : decode cX1_plain 14 = .ok (.iconst 1, 1) := dk_4 (dk_at dksX1_plain_0 14 rfl rfl)
theorem dX1_plain_15 : decode cX1_plain 15 = .ok (.iastore, 1) := dk_79 (dk_at dksX1_plain_0 15 rfl rfl)
theorem dX1_plain_16 : decode cX1_plain 16 = .ok (.aload_n 0, 1) := dk_42 (dk_at dksX1_plain_0 16 rfl rfl)
theorem dX1_plain_17 : decode cX1_plain 17 = .ok (.iconst 1, 1) := dk_4 (dk_at dksX1_plain_0 17 rfl rfl)
theorem dX1_plain_18 : decode cX1_plain 18 = .ok (.putfield 79, 3) := dk_181 0 79 (dk_at dksX1_plain_0 18 rfl rfl)
theorem dX1_plain_21 : decode cX1_plain 21 = .ok (.aload_n 0, 1) := dk_42 (dk_at dksX1_plain_0 21 rfl rfl)
theorem dX1_plain_22 : decode cX1_plain 22 = .ok (.areturn, 1) := dk_176 (dk_at dksX1_plain_0 22 rfl rfl)
abbrev cX1_errorPosition : ByteArray := prog_1_method_23_code
def yX1_errorPosition : MethodName := ⟨RX1, "errorPosition", "()I"⟩
theorem dX1_errorPosition_0 : decode cX1_errorPosition 0 = .ok (.aload_n 0, 1) := by decide +kernel
theorem dX1_errorPosition_1 : decode cX1_errorPosition 1 = .ok (.getfield 132, 3) := by decide +kernel
theorem dX1_errorPosition_4 : decode cX1_errorPosition 4 = .ok (.ireturn, 1) := by decide +kernel
abbrev cX1_value : ByteArray := prog_1_method_32_code
def yX1_value : MethodName := ⟨RX1, "value", "()I"⟩
def dkwX1_value_0 : List UInt8 := [42, 42, 180, 0, 94, 182, 1, 5, 172]
abbrev dktX1_value_0 : List UInt8 := dkwX1_value_0 ++ []
theorem dksX1_value_0 : cX1_value.data.toList.drop 0 = dktX1_value_0 := by decide +kernel
theorem dX1_value_0 : decode cX1_value 0 = .ok (.aload_n 0, 1) := dk_42 (dk_at dksX1_value_0 0 rfl rfl)
theorem dX1_value_1 : decode cX1_value 1 = .ok (.aload_n 0, 1) := dk_42 (dk_at dksX1_value_0 1 rfl rfl)
theorem dX1_value_2 : decode cX1_value 2 = .ok (.getfield 94, 3) := dk_180 0 94 (dk_at dksX1_value_0 2 rfl rfl)
theorem dX1_value_5 : decode cX1_value 5 = .ok (.invokevirtual 261, 3) := dk_182 1 5 (dk_at dksX1_value_0 5 rfl rfl)
theorem dX1_value_8 : decode cX1_value 8 = .ok (.ireturn, 1) := dk_172 (dk_at dksX1_value_0 8 rfl rfl)
abbrev cX1_valueOf : ByteArray := prog_1_method_14_code
def yX1_valueOf : MethodName := ⟨RX1, "valueOf", "(LColourDuel$Board;)I"⟩
def dkwX1_valueOf_0 : List UInt8 := [43, 184, 0, 53, 42, 180, 0, 28, 43, 43, 182, 0, 57, 182, 0, 60, 184, 0, 64, 130, 172]
abbrev dktX1_valueOf_0 : List UInt8 := dkwX1_valueOf_0 ++ []
theorem dksX1_valueOf_0 : cX1_valueOf.data.toList.drop 0 = dktX1_valueOf_0 := by decide +kernel
theorem dX1_valueOf_0 : decode cX1_valueOf 0 = .ok (.aload_n 1, 1) := dk_43 (dk_at dksX1_valueOf_0 0 rfl rfl)
theorem dX1_valueOf_1 : decode cX1_valueOf 1 = .ok (.invokestatic 53, 3) := dk_184 0 53 (dk_at dksX1_valueOf_0 1 rfl rfl)
theorem dX1_valueOf_4 : decode cX1_valueOf 4 = .ok (.aload_n 0, 1) := dk_42 (dk_at dksX1_valueOf_0 4 rfl rfl)
theorem dX1_valueOf_5 : decode cX1_valueOf 5 = .ok (.getfield 28, 3) := dk_180 0 28 (dk_at dksX1_valueOf_0 5 rfl rfl)
theorem dX1_valueOf_8 : decode cX1_valueOf 8 = .ok (.aload_n 1, 1) := dk_43 (dk_at dksX1_valueOf_0 8 rfl rfl)
theorem dX1_valueOf_9 : decode cX1_valueOf 9 = .ok (.aload_n 1, 1) := dk_43 (dk_at dksX1_valueOf_0 9 rfl rfl)
theorem dX1_valueOf_10 : decode cX1_valueOf 10 = .ok (.invokevirtual 57, 3) := dk_182 0 57 (dk_at dksX1_valueOf_0 10 rfl rfl)
theorem dX1_valueOf_13 : decode cX1_valueOf 13 = .ok (.invokevirtual 60, 3) := dk_182 0 60 (dk_at dksX1_valueOf_0 13 rfl rfl)
theorem dX1_valueOf_16 : decode cX1_valueOf 16 = .ok (.invokestatic 64, 3) := dk_184 0 64 (dk_at dksX1_valueOf_0 16 rfl rfl)
theorem dX1_valueOf_19 : decode cX1_valueOf 19 = .ok (.ixor, 1) := dk_130 (dk_at dksX1_valueOf_0 19 rfl rfl)
theorem dX1_valueOf_20 : decode cX1_valueOf 20 = .ok (.ireturn, 1) := dk_172 (dk_at dksX1_valueOf_0 20 rfl rfl)
abbrev cX1_valueOfPasses : ByteArray := prog_1_method_13_code
def yX1_valueOfPasses : MethodName := ⟨RX1, "valueOfPasses", "(LColourDuel$Board;)I"⟩
def dkwX1_valueOfPasses_0 : List UInt8 := [42, 180, 0, 47, 5, 112, 172]
abbrev dktX1_valueOfPasses_0 : List UInt8 := dkwX1_valueOfPasses_0 ++ []
theorem dksX1_valueOfPasses_0 : cX1_valueOfPasses.data.toList.drop 0 = dktX1_valueOfPasses_0 := by decide +kernel
theorem dX1_valueOfPasses_0 : decode cX1_valueOfPasses 0 = .ok (.aload_n 0, 1) := dk_42 (dk_at dksX1_valueOfPasses_0 0 rfl rfl)
theorem dX1_valueOfPasses_1 : decode cX1_valueOfPasses 1 = .ok (.getfield 47, 3) := dk_180 0 47 (dk_at dksX1_valueOfPasses_0 1 rfl rfl)
theorem dX1_valueOfPasses_4 : decode cX1_valueOfPasses 4 = .ok (.iconst 2, 1) := dk_5 (dk_at dksX1_valueOfPasses_0 4 rfl rfl)
theorem dX1_valueOfPasses_5 : decode cX1_valueOfPasses 5 = .ok (.irem, 1) := dk_112 (dk_at dksX1_valueOfPasses_0 5 rfl rfl)
theorem dX1_valueOfPasses_6 : decode cX1_valueOfPasses 6 = .ok (.ireturn, 1) := dk_172 (dk_at dksX1_valueOfPasses_0 6 rfl rfl)
abbrev cX1_counting : ByteArray := prog_1_method_7_code
def yX1_counting : MethodName := ⟨RX1, "counting", "(II)I"⟩
def dkwX1_counting_0 : List UInt8 := [26, 184, 0, 22, 4, 160, 0, 7, 2, 167, 0, 4, 27, 172]
abbrev dktX1_counting_0 : List UInt8 := dkwX1_counting_0 ++ []
theorem dksX1_counting_0 : cX1_counting.data.toList.drop 0 = dktX1_counting_0 := by decide +kernel
theorem dX1_counting_0 : decode cX1_counting 0 = .ok (.iload_n 0, 1) := dk_26 (dk_at dksX1_counting_0 0 rfl rfl)
theorem dX1_counting_1 : decode cX1_counting 1 = .ok (.invokestatic 22, 3) := dk_184 0 22 (dk_at dksX1_counting_0 1 rfl rfl)
theorem dX1_counting_4 : decode cX1_counting 4 = .ok (.iconst 1, 1) := dk_4 (dk_at dksX1_counting_0 4 rfl rfl)
theorem dX1_counting_5 : decode cX1_counting 5 = .ok (.if_icmp .ne 7, 3) := dk_160 0 7 (dk_at dksX1_counting_0 5 rfl rfl)
theorem dX1_counting_8 : decode cX1_counting 8 = .ok (.iconst (-1), 1) := dk_2 (dk_at dksX1_counting_0 8 rfl rfl)
theorem dX1_counting_9 : decode cX1_counting 9 = .ok (.goto 4, 3) := dk_167 0 4 (dk_at dksX1_counting_0 9 rfl rfl)
theorem dX1_counting_12 : decode cX1_counting 12 = .ok (.iload_n 1, 1) := dk_27 (dk_at dksX1_counting_0 12 rfl rfl)
theorem dX1_counting_13 : decode cX1_counting 13 = .ok (.ireturn, 1) := dk_172 (dk_at dksX1_counting_0 13 rfl rfl)
abbrev cX1_value_2 : ByteArray := prog_1_method_9_code
def yX1_value_2 : MethodName := ⟨RX1, "value", "(I)I"⟩
def dkwX1_value_2_0 : List UInt8 := [26, 16, 8, 122, 172]
abbrev dktX1_value_2_0 : List UInt8 := dkwX1_value_2_0 ++ []
theorem dksX1_value_2_0 : cX1_value_2.data.toList.drop 0 = dktX1_value_2_0 := by decide +kernel
theorem dX1_value_2_0 : decode cX1_value_2 0 = .ok (.iload_n 0, 1) := dk_26 (dk_at dksX1_value_2_0 0 rfl rfl)
theorem dX1_value_2_1 : decode cX1_value_2 1 = .ok (.bipush 8, 2) := dk_16 8 (dk_at dksX1_value_2_0 1 rfl rfl)
theorem dX1_value_2_3 : decode cX1_value_2 3 = .ok (.ishr, 1) := dk_122 (dk_at dksX1_value_2_0 3 rfl rfl)
theorem dX1_value_2_4 : decode cX1_value_2 4 = .ok (.ireturn, 1) := dk_172 (dk_at dksX1_value_2_0 4 rfl rfl)
abbrev cX1_longest : ByteArray := prog_1_method_10_code
def yX1_longest : MethodName := ⟨RX1, "longest", "(I)I"⟩
def dkwX1_longest_0 : List UInt8 := [26, 7, 122, 16, 15, 126, 172]
abbrev dktX1_longest_0 : List UInt8 := dkwX1_longest_0 ++ []
theorem dksX1_longest_0 : cX1_longest.data.toList.drop 0 = dktX1_longest_0 := by decide +kernel
theorem dX1_longest_0 : decode cX1_longest 0 = .ok (.iload_n 0, 1) := dk_26 (dk_at dksX1_longest_0 0 rfl rfl)
theorem dX1_longest_1 : decode cX1_longest 1 = .ok (.iconst 4, 1) := dk_7 (dk_at dksX1_longest_0 1 rfl rfl)
theorem dX1_longest_2 : decode cX1_longest 2 = .ok (.ishr, 1) := dk_122 (dk_at dksX1_longest_0 2 rfl rfl)
theorem dX1_longest_3 : decode cX1_longest 3 = .ok (.bipush 15, 2) := dk_16 15 (dk_at dksX1_longest_0 3 rfl rfl)
theorem dX1_longest_5 : decode cX1_longest 5 = .ok (.iand, 1) := dk_126 (dk_at dksX1_longest_0 5 rfl rfl)
theorem dX1_longest_6 : decode cX1_longest 6 = .ok (.ireturn, 1) := dk_172 (dk_at dksX1_longest_0 6 rfl rfl)
abbrev cX1_shortest : ByteArray := prog_1_method_11_code
def yX1_shortest : MethodName := ⟨RX1, "shortest", "(I)I"⟩
def dkwX1_shortest_0 : List UInt8 := [26, 16, 15, 126, 172]
abbrev dktX1_shortest_0 : List UInt8 := dkwX1_shortest_0 ++ []
theorem dksX1_shortest_0 : cX1_shortest.data.toList.drop 0 = dktX1_shortest_0 := by decide +kernel
theorem dX1_shortest_0 : decode cX1_shortest 0 = .ok (.iload_n 0, 1) := dk_26 (dk_at dksX1_shortest_0 0 rfl rfl)
theorem dX1_shortest_1 : decode cX1_shortest 1 = .ok (.bipush 15, 2) := dk_16 15 (dk_at dksX1_shortest_0 1 rfl rfl)
theorem dX1_shortest_3 : decode cX1_shortest 3 = .ok (.iand, 1) := dk_126 (dk_at dksX1_shortest_0 3 rfl rfl)
theorem dX1_shortest_4 : decode cX1_shortest 4 = .ok (.ireturn, 1) := dk_172 (dk_at dksX1_shortest_0 4 rfl rfl)
abbrev cX1_packed : ByteArray := prog_1_method_8_code
def yX1_packed : MethodName := ⟨RX1, "packed", "(III)I"⟩
def dkwX1_packed_0 : List UInt8 := [26, 16, 8, 120, 27, 7, 120, 128, 28, 128, 172]
abbrev dktX1_packed_0 : List UInt8 := dkwX1_packed_0 ++ []
theorem dksX1_packed_0 : cX1_packed.data.toList.drop 0 = dktX1_packed_0 := by decide +kernel
theorem dX1_packed_0 : decode cX1_packed 0 = .ok (.iload_n 0, 1) := dk_26 (dk_at dksX1_packed_0 0 rfl rfl)
theorem dX1_packed_1 : decode cX1_packed 1 = .ok (.bipush 8, 2) := dk_16 8 (dk_at dksX1_packed_0 1 rfl rfl)
theorem dX1_packed_3 : decode cX1_packed 3 = .ok (.ishl, 1) := dk_120 (dk_at dksX1_packed_0 3 rfl rfl)
theorem dX1_packed_4 : decode cX1_packed 4 = .ok (.iload_n 1, 1) := dk_27 (dk_at dksX1_packed_0 4 rfl rfl)
theorem dX1_packed_5 : decode cX1_packed 5 = .ok (.iconst 4, 1) := dk_7 (dk_at dksX1_packed_0 5 rfl rfl)
theorem dX1_packed_6 : decode cX1_packed 6 = .ok (.ishl, 1) := dk_120 (dk_at dksX1_packed_0 6 rfl rfl)
theorem dX1_packed_7 : decode cX1_packed 7 = .ok (.ior, 1) := dk_128 (dk_at dksX1_packed_0 7 rfl rfl)
theorem dX1_packed_8 : decode cX1_packed 8 = .ok (.iload_n 2, 1) := dk_28 (dk_at dksX1_packed_0 8 rfl rfl)
theorem dX1_packed_9 : decode cX1_packed 9 = .ok (.ior, 1) := dk_128 (dk_at dksX1_packed_0 9 rfl rfl)
theorem dX1_packed_10 : decode cX1_packed 10 = .ok (.ireturn, 1) := dk_172 (dk_at dksX1_packed_0 10 rfl rfl)
abbrev cX1_winningMoves : ByteArray := prog_1_method_36_code
def yX1_winningMoves : MethodName := ⟨RX1, "winningMoves", "()I"⟩
def dkwX1_winningMoves_1 : List UInt8 := [182, 1, 31, 182, 1, 34, 153, 0, 7, 4, 167, 0, 4, 3, 96, 60, 167, 255, 227, 27, 172]
abbrev dktX1_winningMoves_1 : List UInt8 := dkwX1_winningMoves_1 ++ []
def dkwX1_winningMoves_0 : List UInt8 := [3, 60, 42, 180, 0, 94, 182, 1, 18, 77, 44, 182, 1, 22, 153, 0, 28, 27, 42, 44, 182, 1, 27]
abbrev dktX1_winningMoves_0 : List UInt8 := dkwX1_winningMoves_0 ++ dktX1_winningMoves_1
theorem dksX1_winningMoves_0 : cX1_winningMoves.data.toList.drop 0 = dktX1_winningMoves_0 := by decide +kernel
theorem dksX1_winningMoves_1 : cX1_winningMoves.data.toList.drop 23 = dktX1_winningMoves_1 := dk_seg dksX1_winningMoves_0 23 rfl rfl
theorem dX1_winningMoves_0 : decode cX1_winningMoves 0 = .ok (.iconst 0, 1) := dk_3 (dk_at dksX1_winningMoves_0 0 rfl rfl)
theorem dX1_winningMoves_1 : decode cX1_winningMoves 1 = .ok (.istore_n 1, 1) := dk_60 (dk_at dksX1_winningMoves_0 1 rfl rfl)
theorem dX1_winningMoves_2 : decode cX1_winningMoves 2 = .ok (.aload_n 0, 1) := dk_42 (dk_at dksX1_winningMoves_0 2 rfl rfl)
theorem dX1_winningMoves_3 : decode cX1_winningMoves 3 = .ok (.getfield 94, 3) := dk_180 0 94 (dk_at dksX1_winningMoves_0 3 rfl rfl)
theorem dX1_winningMoves_6 : decode cX1_winningMoves 6 = .ok (.invokevirtual 274, 3) := dk_182 1 18 (dk_at dksX1_winningMoves_0 6 rfl rfl)
theorem dX1_winningMoves_9 : decode cX1_winningMoves 9 = .ok (.astore_n 2, 1) := dk_77 (dk_at dksX1_winningMoves_0 9 rfl rfl)
theorem dX1_winningMoves_10 : decode cX1_winningMoves 10 = .ok (.aload_n 2, 1) := dk_44 (dk_at dksX1_winningMoves_0 10 rfl rfl)
theorem dX1_winningMoves_11 : decode cX1_winningMoves 11 = .ok (.invokevirtual 278, 3) := dk_182 1 22 (dk_at dksX1_winningMoves_0 11 rfl rfl)
theorem dX1_winningMoves_14 : decode cX1_winningMoves 14 = .ok (.ifCond .eq 28, 3) := dk_153 0 28 (dk_at dksX1_winningMoves_0 14 rfl rfl)
theorem dX1_winningMoves_17 : decode cX1_winningMoves 17 = .ok (.iload_n 1, 1) := dk_27 (dk_at dksX1_winningMoves_0 17 rfl rfl)
theorem dX1_winningMoves_18 : decode cX1_winningMoves 18 = .ok (.aload_n 0, 1) := dk_42 (dk_at dksX1_winningMoves_0 18 rfl rfl)
theorem dX1_winningMoves_19 : decode cX1_winningMoves 19 = .ok (.aload_n 2, 1) := dk_44 (dk_at dksX1_winningMoves_0 19 rfl rfl)
theorem dX1_winningMoves_20 : decode cX1_winningMoves 20 = .ok (.invokevirtual 283, 3) := dk_182 1 27 (dk_at dksX1_winningMoves_0 20 rfl rfl)
theorem dX1_winningMoves_23 : decode cX1_winningMoves 23 = .ok (.invokevirtual 287, 3) := dk_182 1 31 (dk_at dksX1_winningMoves_1 0 rfl rfl)
theorem dX1_winningMoves_26 : decode cX1_winningMoves 26 = .ok (.invokevirtual 290, 3) := dk_182 1 34 (dk_at dksX1_winningMoves_1 3 rfl rfl)
theorem dX1_winningMoves_29 : decode cX1_winningMoves 29 = .ok (.ifCond .eq 7, 3) := dk_153 0 7 (dk_at dksX1_winningMoves_1 6 rfl rfl)
theorem dX1_winningMoves_32 : decode cX1_winningMoves 32 = .ok (.iconst 1, 1) := dk_4 (dk_at dksX1_winningMoves_1 9 rfl rfl)
theorem dX1_winningMoves_33 : decode cX1_winningMoves 33 = .ok (.goto 4, 3) := dk_167 0 4 (dk_at dksX1_winningMoves_1 10 rfl rfl)
theorem dX1_winningMoves_36 : decode cX1_winningMoves 36 = .ok (.iconst 0, 1) := dk_3 (dk_at dksX1_winningMoves_1 13 rfl rfl)
theorem dX1_winningMoves_37 : decode cX1_winningMoves 37 = .ok (.iadd, 1) := dk_96 (dk_at dksX1_winningMoves_1 14 rfl rfl)
theorem dX1_winningMoves_38 : decode cX1_winningMoves 38 = .ok (.istore_n 1, 1) := dk_60 (dk_at dksX1_winningMoves_1 15 rfl rfl)
theorem dX1_winningMoves_39 : decode cX1_winningMoves 39 = .ok (.goto (-29), 3) := dk_167 255 227 (dk_at dksX1_winningMoves_1 16 rfl rfl)
theorem dX1_winningMoves_42 : decode cX1_winningMoves 42 = .ok (.iload_n 1, 1) := dk_27 (dk_at dksX1_winningMoves_1 19 rfl rfl)
theorem dX1_winningMoves_43 : decode cX1_winningMoves 43 = .ok (.ireturn, 1) := dk_172 (dk_at dksX1_winningMoves_1 20 rfl rfl)
abbrev cX1_wins : ByteArray := prog_1_method_35_code
def yX1_wins : MethodName := ⟨RX1, "wins", "(I)Z"⟩
def dkwX1_wins_0 : List UInt8 := [42, 42, 27, 182, 1, 14, 182, 1, 5, 154, 0, 7, 4, 167, 0, 4, 3, 172]
abbrev dktX1_wins_0 : List UInt8 := dkwX1_wins_0 ++ []
theorem dksX1_wins_0 : cX1_wins.data.toList.drop 0 = dktX1_wins_0 := by decide +kernel
theorem dX1_wins_0 : decode cX1_wins 0 = .ok (.aload_n 0, 1) := dk_42 (dk_at dksX1_wins_0 0 rfl rfl)
theorem dX1_wins_1 : decode cX1_wins 1 = .ok (.aload_n 0, 1) := dk_42 (dk_at dksX1_wins_0 1 rfl rfl)
theorem dX1_wins_2 : decode cX1_wins 2 = .ok (.iload_n 1, 1) := dk_27 (dk_at dksX1_wins_0 2 rfl rfl)
theorem dX1_wins_3 : decode cX1_wins 3 = .ok (.invokevirtual 270, 3) := dk_182 1 14 (dk_at dksX1_wins_0 3 rfl rfl)
theorem dX1_wins_6 : decode cX1_wins 6 = .ok (.invokevirtual 261, 3) := dk_182 1 5 (dk_at dksX1_wins_0 6 rfl rfl)
theorem dX1_wins_9 : decode cX1_wins 9 = .ok (.ifCond .ne 7, 3) := dk_154 0 7 (dk_at dksX1_wins_0 9 rfl rfl)
theorem dX1_wins_12 : decode cX1_wins 12 = .ok (.iconst 1, 1) := dk_4 (dk_at dksX1_wins_0 12 rfl rfl)
theorem dX1_wins_13 : decode cX1_wins 13 = .ok (.goto 4, 3) := dk_167 0 4 (dk_at dksX1_wins_0 13 rfl rfl)
theorem dX1_wins_16 : decode cX1_wins 16 = .ok (.iconst 0, 1) := dk_3 (dk_at dksX1_wins_0 16 rfl rfl)
theorem dX1_wins_17 : decode cX1_wins 17 = .ok (.ireturn, 1) := dk_172 (dk_at dksX1_wins_0 17 rfl rfl)
abbrev cX1_behind : ByteArray := prog_1_method_33_code
def yX1_behind : MethodName := ⟨RX1, "behind", "(I)LColourDuel$Board;"⟩
def dkwX1_behind_0 : List UInt8 := [42, 180, 0, 94, 182, 0, 102, 77, 44, 27, 182, 1, 8, 44, 176]
abbrev dktX1_behind_0 : List UInt8 := dkwX1_behind_0 ++ []
theorem dksX1_behind_0 : cX1_behind.data.toList.drop 0 = dktX1_behind_0 := by decide +kernel
theorem dX1_behind_0 : decode cX1_behind 0 = .ok (.aload_n 0, 1) := dk_42 (dk_at dksX1_behind_0 0 rfl rfl)
theorem dX1_behind_1 : decode cX1_behind 1 = .ok (.getfield 94, 3) := dk_180 0 94 (dk_at dksX1_behind_0 1 rfl rfl)
theorem dX1_behind_4 : decode cX1_behind 4 = .ok (.invokevirtual 102, 3) := dk_182 0 102 (dk_at dksX1_behind_0 4 rfl rfl)
theorem dX1_behind_7 : decode cX1_behind 7 = .ok (.astore_n 2, 1) := dk_77 (dk_at dksX1_behind_0 7 rfl rfl)
theorem dX1_behind_8 : decode cX1_behind 8 = .ok (.aload_n 2, 1) := dk_44 (dk_at dksX1_behind_0 8 rfl rfl)
theorem dX1_behind_9 : decode cX1_behind 9 = .ok (.iload_n 1, 1) := dk_27 (dk_at dksX1_behind_0 9 rfl rfl)
theorem dX1_behind_10 : decode cX1_behind 10 = .ok (.invokevirtual 264, 3) := dk_182 1 8 (dk_at dksX1_behind_0 10 rfl rfl)
theorem dX1_behind_13 : decode cX1_behind 13 = .ok (.aload_n 2, 1) := dk_44 (dk_at dksX1_behind_0 13 rfl rfl)
theorem dX1_behind_14 : decode cX1_behind 14 = .ok (.areturn, 1) := dk_176 (dk_at dksX1_behind_0 14 rfl rfl)
abbrev cX1_longest_2 : ByteArray := prog_1_method_40_code
def yX1_longest_2 : MethodName := ⟨RX1, "longest", "()I"⟩
def dkwX1_longest_2_0 : List UInt8 := [42, 42, 180, 0, 94, 182, 1, 54, 172]
abbrev dktX1_longest_2_0 : List UInt8 := dkwX1_longest_2_0 ++ []
theorem dksX1_longest_2_0 : cX1_longest_2.data.toList.drop 0 = dktX1_longest_2_0 := by decide +kernel
theorem dX1_longest_2_0 : decode cX1_longest_2 0 = .ok (.aload_n 0, 1) := dk_42 (dk_at dksX1_longest_2_0 0 rfl rfl)
theorem dX1_longest_2_1 : decode cX1_longest_2 1 = .ok (.aload_n 0, 1) := dk_42 (dk_at dksX1_longest_2_0 1 rfl rfl)
theorem dX1_longest_2_2 : decode cX1_longest_2 2 = .ok (.getfield 94, 3) := dk_180 0 94 (dk_at dksX1_longest_2_0 2 rfl rfl)
theorem dX1_longest_2_5 : decode cX1_longest_2 5 = .ok (.invokevirtual 310, 3) := dk_182 1 54 (dk_at dksX1_longest_2_0 5 rfl rfl)
theorem dX1_longest_2_8 : decode cX1_longest_2 8 = .ok (.ireturn, 1) := dk_172 (dk_at dksX1_longest_2_0 8 rfl rfl)
abbrev cX1_longestOf : ByteArray := prog_1_method_15_code
def yX1_longestOf : MethodName := ⟨RX1, "longestOf", "(LColourDuel$Board;)I"⟩
def dkwX1_longestOf_0 : List UInt8 := [43, 180, 0, 47, 42, 180, 0, 28, 43, 43, 182, 0, 57, 182, 0, 60, 184, 0, 67, 96, 172]
abbrev dktX1_longestOf_0 : List UInt8 := dkwX1_longestOf_0 ++ []
theorem dksX1_longestOf_0 : cX1_longestOf.data.toList.drop 0 = dktX1_longestOf_0 := by decide +kernel
theorem dX1_longestOf_0 : decode cX1_longestOf 0 = .ok (.aload_n 1, 1) := dk_43 (dk_at dksX1_longestOf_0 0 rfl rfl)
theorem dX1_longestOf_1 : decode cX1_longestOf 1 = .ok (.getfield 47, 3) := dk_180 0 47 (dk_at dksX1_longestOf_0 1 rfl rfl)
theorem dX1_longestOf_4 : decode cX1_longestOf 4 = .ok (.aload_n 0, 1) := dk_42 (dk_at dksX1_longestOf_0 4 rfl rfl)
theorem dX1_longestOf_5 : decode cX1_longestOf 5 = .ok (.getfield 28, 3) := dk_180 0 28 (dk_at dksX1_longestOf_0 5 rfl rfl)
theorem dX1_longestOf_8 : decode cX1_longestOf 8 = .ok (.aload_n 1, 1) := dk_43 (dk_at dksX1_longestOf_0 8 rfl rfl)
theorem dX1_longestOf_9 : decode cX1_longestOf 9 = .ok (.aload_n 1, 1) := dk_43 (dk_at dksX1_longestOf_0 9 rfl rfl)
theorem dX1_longestOf_10 : decode cX1_longestOf 10 = .ok (.invokevirtual 57, 3) := dk_182 0 57 (dk_at dksX1_longestOf_0 10 rfl rfl)
theorem dX1_longestOf_13 : decode cX1_longestOf 13 = .ok (.invokevirtual 60, 3) := dk_182 0 60 (dk_at dksX1_longestOf_0 13 rfl rfl)
theorem dX1_longestOf_16 : decode cX1_longestOf 16 = .ok (.invokestatic 67, 3) := dk_184 0 67 (dk_at dksX1_longestOf_0 16 rfl rfl)
theorem dX1_longestOf_19 : decode cX1_longestOf 19 = .ok (.iadd, 1) := dk_96 (dk_at dksX1_longestOf_0 19 rfl rfl)
theorem dX1_longestOf_20 : decode cX1_longestOf 20 = .ok (.ireturn, 1) := dk_172 (dk_at dksX1_longestOf_0 20 rfl rfl)
abbrev cX1_shortest_2 : ByteArray := prog_1_method_41_code
def yX1_shortest_2 : MethodName := ⟨RX1, "shortest", "()I"⟩
def dkwX1_shortest_2_1 : List UInt8 := [182, 0, 60, 184, 1, 2, 96, 172]
abbrev dktX1_shortest_2_1 : List UInt8 := dkwX1_shortest_2_1 ++ []
def dkwX1_shortest_2_0 : List UInt8 := [42, 180, 0, 94, 180, 0, 47, 42, 180, 0, 28, 42, 180, 0, 94, 42, 180, 0, 94, 182, 0, 57]
abbrev dktX1_shortest_2_0 : List UInt8 := dkwX1_shortest_2_0 ++ dktX1_shortest_2_1
theorem dksX1_shortest_2_0 : cX1_shortest_2.data.toList.drop 0 = dktX1_shortest_2_0 := by decide +kernel
theorem dksX1_shortest_2_1 : cX1_shortest_2.data.toList.drop 22 = dktX1_shortest_2_1 := dk_seg dksX1_shortest_2_0 22 rfl rfl
theorem dX1_shortest_2_0 : decode cX1_shortest_2 0 = .ok (.aload_n 0, 1) := dk_42 (dk_at dksX1_shortest_2_0 0 rfl rfl)
theorem dX1_shortest_2_1 : decode cX1_shortest_2 1 = .ok (.getfield 94, 3) := dk_180 0 94 (dk_at dksX1_shortest_2_0 1 rfl rfl)
theorem dX1_shortest_2_4 : decode cX1_shortest_2 4 = .ok (.getfield 47, 3) := dk_180 0 47 (dk_at dksX1_shortest_2_0 4 rfl rfl)
theorem dX1_shortest_2_7 : decode cX1_shortest_2 7 = .ok (.aload_n 0, 1) := dk_42 (dk_at dksX1_shortest_2_0 7 rfl rfl)
theorem dX1_shortest_2_8 : decode cX1_shortest_2 8 = .ok (.getfield 28, 3) := dk_180 0 28 (dk_at dksX1_shortest_2_0 8 rfl rfl)
theorem dX1_shortest_2_11 : decode cX1_shortest_2 11 = .ok (.aload_n 0, 1) := dk_42 (dk_at dksX1_shortest_2_0 11 rfl rfl)
theorem dX1_shortest_2_12 : decode cX1_shortest_2 12 = .ok (.getfield 94, 3) := dk_180 0 94 (dk_at dksX1_shortest_2_0 12 rfl rfl)
theorem dX1_shortest_2_15 : decode cX1_shortest_2 15 = .ok (.aload_n 0, 1) := dk_42 (dk_at dksX1_shortest_2_0 15 rfl rfl)
theorem dX1_shortest_2_16 : decode cX1_shortest_2 16 = .ok (.getfield 94, 3) := dk_180 0 94 (dk_at dksX1_shortest_2_0 16 rfl rfl)
theorem dX1_shortest_2_19 : decode cX1_shortest_2 19 = .ok (.invokevirtual 57, 3) := dk_182 0 57 (dk_at dksX1_shortest_2_0 19 rfl rfl)
theorem dX1_shortest_2_22 : decode cX1_shortest_2 22 = .ok (.invokevirtual 60, 3) := dk_182 0 60 (dk_at dksX1_shortest_2_1 0 rfl rfl)
theorem dX1_shortest_2_25 : decode cX1_shortest_2 25 = .ok (.invokestatic 258, 3) := dk_184 1 2 (dk_at dksX1_shortest_2_1 3 rfl rfl)
theorem dX1_shortest_2_28 : decode cX1_shortest_2 28 = .ok (.iadd, 1) := dk_96 (dk_at dksX1_shortest_2_1 6 rfl rfl)
theorem dX1_shortest_2_29 : decode cX1_shortest_2 29 = .ok (.ireturn, 1) := dk_172 (dk_at dksX1_shortest_2_1 7 rfl rfl)
abbrev cX1_meanValue : ByteArray := prog_1_method_42_code
def yX1_meanValue : MethodName := ⟨RX1, "meanValue", "()F"⟩
def dkwX1_meanValue_3 : List UInt8 := [185, 0, 191, 1, 0, 134, 110, 174]
abbrev dktX1_meanValue_3 : List UInt8 := dkwX1_meanValue_3 ++ []
def dkwX1_meanValue_2 : List UInt8 := [132, 3, 1, 167, 255, 219, 43, 185, 1, 57, 1, 0, 153, 0, 7, 11, 167, 0, 13, 28, 134, 43]
abbrev dktX1_meanValue_2 : List UInt8 := dkwX1_meanValue_2 ++ dktX1_meanValue_3
def dkwX1_meanValue_1 : List UInt8 := [42, 180, 0, 94, 43, 29, 185, 0, 243, 2, 0, 192, 0, 33, 182, 0, 254, 184, 0, 64, 96, 61]
abbrev dktX1_meanValue_1 : List UInt8 := dkwX1_meanValue_1 ++ dktX1_meanValue_2
def dkwX1_meanValue_0 : List UInt8 := [42, 180, 0, 94, 182, 0, 239, 76, 3, 61, 3, 62, 29, 43, 185, 0, 191, 1, 0, 162, 0, 33, 28, 42]
abbrev dktX1_meanValue_0 : List UInt8 := dkwX1_meanValue_0 ++ dktX1_meanValue_1
theorem dksX1_meanValue_0 : cX1_meanValue.data.toList.drop 0 = dktX1_meanValue_0 := by decide +kernel
theorem dksX1_meanValue_1 : cX1_meanValue.data.toList.drop 24 = dktX1_meanValue_1 := dk_seg dksX1_meanValue_0 24 rfl rfl
theorem dksX1_meanValue_2 : cX1_meanValue.data.toList.drop 46 = dktX1_meanValue_2 := dk_seg dksX1_meanValue_1 22 rfl rfl
theorem dksX1_meanValue_3 : cX1_meanValue.data.toList.drop 68 = dktX1_meanValue_3 := dk_seg dksX1_meanValue_2 22 rfl rfl
theorem dX1_meanValue_0 : decode cX1_meanValue 0 = .ok (.aload_n 0, 1) := dk_42 (dk_at dksX1_meanValue_0 0 rfl rfl)
theorem dX1_meanValue_1 : decode cX1_meanValue 1 = .ok (.getfield 94, 3) := dk_180 0 94 (dk_at dksX1_meanValue_0 1 rfl rfl)
theorem dX1_meanValue_4 : decode cX1_meanValue 4 = .ok (.invokevirtual 239, 3) := dk_182 0 239 (dk_at dksX1_meanValue_0 4 rfl rfl)
theorem dX1_meanValue_7 : decode cX1_meanValue 7 = .ok (.astore_n 1, 1) := dk_76 (dk_at dksX1_meanValue_0 7 rfl rfl)
theorem dX1_meanValue_8 : decode cX1_meanValue 8 = .ok (.iconst 0, 1) := dk_3 (dk_at dksX1_meanValue_0 8 rfl rfl)
theorem dX1_meanValue_9 : decode cX1_meanValue 9 = .ok (.istore_n 2, 1) := dk_61 (dk_at dksX1_meanValue_0 9 rfl rfl)
theorem dX1_meanValue_10 : decode cX1_meanValue 10 = .ok (.iconst 0, 1) := dk_3 (dk_at dksX1_meanValue_0 10 rfl rfl)
theorem dX1_meanValue_11 : decode cX1_meanValue 11 = .ok (.istore_n 3, 1) := dk_62 (dk_at dksX1_meanValue_0 11 rfl rfl)
theorem dX1_meanValue_12 : decode cX1_meanValue 12 = .ok (.iload_n 3, 1) := dk_29 (dk_at dksX1_meanValue_0 12 rfl rfl)
theorem dX1_meanValue_13 : decode cX1_meanValue 13 = .ok (.aload_n 1, 1) := dk_43 (dk_at dksX1_meanValue_0 13 rfl rfl)
theorem dX1_meanValue_14 : decode cX1_meanValue 14 = .ok (.invokeinterface 191 1, 5) := by decide +kernel
theorem dX1_meanValue_19 : decode cX1_meanValue 19 = .ok (.if_icmp .ge 33, 3) := dk_162 0 33 (dk_at dksX1_meanValue_0 19 rfl rfl)
theorem dX1_meanValue_22 : decode cX1_meanValue 22 = .ok (.iload_n 2, 1) := dk_28 (dk_at dksX1_meanValue_0 22 rfl rfl)
theorem dX1_meanValue_23 : decode cX1_meanValue 23 = .ok (.aload_n 0, 1) := dk_42 (dk_at dksX1_meanValue_0 23 rfl rfl)
theorem dX1_meanValue_24 : decode cX1_meanValue 24 = .ok (.aload_n 0, 1) := dk_42 (dk_at dksX1_meanValue_1 0 rfl rfl)
theorem dX1_meanValue_25 : decode cX1_meanValue 25 = .ok (.getfield 94, 3) := dk_180 0 94 (dk_at dksX1_meanValue_1 1 rfl rfl)
theorem dX1_meanValue_28 : decode cX1_meanValue 28 = .ok (.aload_n 1, 1) := dk_43 (dk_at dksX1_meanValue_1 4 rfl rfl)
theorem dX1_meanValue_29 : decode cX1_meanValue 29 = .ok (.iload_n 3, 1) := dk_29 (dk_at dksX1_meanValue_1 5 rfl rfl)
theorem dX1_meanValue_30 : decode cX1_meanValue 30 = .ok (.invokeinterface 243 2, 5) := by decide +kernel
theorem dX1_meanValue_35 : decode cX1_meanValue 35 = .ok (.checkcast 33, 3) := dk_192 0 33 (dk_at dksX1_meanValue_1 11 rfl rfl)
theorem dX1_meanValue_38 : decode cX1_meanValue 38 = .ok (.invokevirtual 254, 3) := dk_182 0 254 (dk_at dksX1_meanValue_1 14 rfl rfl)
theorem dX1_meanValue_41 : decode cX1_meanValue 41 = .ok (.invokestatic 64, 3) := dk_184 0 64 (dk_at dksX1_meanValue_1 17 rfl rfl)
theorem dX1_meanValue_44 : decode cX1_meanValue 44 = .ok (.iadd, 1) := dk_96 (dk_at dksX1_meanValue_1 20 rfl rfl)
theorem dX1_meanValue_45 : decode cX1_meanValue 45 = .ok (.istore_n 2, 1) := dk_61 (dk_at dksX1_meanValue_1 21 rfl rfl)
theorem dX1_meanValue_46 : decode cX1_meanValue 46 = .ok (.iinc 3 1, 3) := dk_132 3 1 (dk_at dksX1_meanValue_2 0 rfl rfl)
theorem dX1_meanValue_49 : decode cX1_meanValue 49 = .ok (.goto (-37), 3) := dk_167 255 219 (dk_at dksX1_meanValue_2 3 rfl rfl)
theorem dX1_meanValue_52 : decode cX1_meanValue 52 = .ok (.aload_n 1, 1) := dk_43 (dk_at dksX1_meanValue_2 6 rfl rfl)
theorem dX1_meanValue_53 : decode cX1_meanValue 53 = .ok (.invokeinterface 313 1, 5) := by decide +kernel
theorem dX1_meanValue_58 : decode cX1_meanValue 58 = .ok (.ifCond .eq 7, 3) := dk_153 0 7 (dk_at dksX1_meanValue_2 12 rfl rfl)
theorem dX1_meanValue_61 : decode cX1_meanValue 61 = .ok (.fconst 0, 1) := dk_11 (dk_at dksX1_meanValue_2 15 rfl rfl)
theorem dX1_meanValue_62 : decode cX1_meanValue 62 = .ok (.goto 13, 3) := dk_167 0 13 (dk_at dksX1_meanValue_2 16 rfl rfl)
theorem dX1_meanValue_65 : decode cX1_meanValue 65 = .ok (.iload_n 2, 1) := dk_28 (dk_at dksX1_meanValue_2 19 rfl rfl)
theorem dX1_meanValue_66 : decode cX1_meanValue 66 = .ok (.i2f, 1) := dk_134 (dk_at dksX1_meanValue_2 20 rfl rfl)
theorem dX1_meanValue_67 : decode cX1_meanValue 67 = .ok (.aload_n 1, 1) := dk_43 (dk_at dksX1_meanValue_2 21 rfl rfl)
theorem dX1_meanValue_68 : decode cX1_meanValue 68 = .ok (.invokeinterface 191 1, 5) := by decide +kernel
theorem dX1_meanValue_73 : decode cX1_meanValue 73 = .ok (.i2f, 1) := dk_134 (dk_at dksX1_meanValue_3 5 rfl rfl)
theorem dX1_meanValue_74 : decode cX1_meanValue 74 = .ok (.fdiv, 1) := dk_110 (dk_at dksX1_meanValue_3 6 rfl rfl)
theorem dX1_meanValue_75 : decode cX1_meanValue 75 = .ok (.freturn, 1) := dk_174 (dk_at dksX1_meanValue_3 7 rfl rfl)
abbrev cX1_of : ByteArray := prog_1_method_12_code
def yX1_of : MethodName := ⟨RX1, "of", "(LColourDuel$Board;LColourDuel$Part;)I"⟩
def dkwX1_of_0 : List UInt8 := [42, 180, 0, 28, 43, 44, 182, 0, 32, 44, 182, 0, 38, 182, 0, 41, 172]
abbrev dktX1_of_0 : List UInt8 := dkwX1_of_0 ++ []
theorem dksX1_of_0 : cX1_of.data.toList.drop 0 = dktX1_of_0 := by decide +kernel
theorem dX1_of_0 : decode cX1_of 0 = .ok (.aload_n 0, 1) := dk_42 (dk_at dksX1_of_0 0 rfl rfl)
theorem dX1_of_1 : decode cX1_of 1 = .ok (.getfield 28, 3) := dk_180 0 28 (dk_at dksX1_of_0 1 rfl rfl)
theorem dX1_of_4 : decode cX1_of 4 = .ok (.aload_n 1, 1) := dk_43 (dk_at dksX1_of_0 4 rfl rfl)
theorem dX1_of_5 : decode cX1_of 5 = .ok (.aload_n 2, 1) := dk_44 (dk_at dksX1_of_0 5 rfl rfl)
theorem dX1_of_6 : decode cX1_of 6 = .ok (.invokevirtual 32, 3) := dk_182 0 32 (dk_at dksX1_of_0 6 rfl rfl)
theorem dX1_of_9 : decode cX1_of 9 = .ok (.aload_n 2, 1) := dk_44 (dk_at dksX1_of_0 9 rfl rfl)
theorem dX1_of_10 : decode cX1_of 10 = .ok (.invokevirtual 38, 3) := dk_182 0 38 (dk_at dksX1_of_0 10 rfl rfl)
theorem dX1_of_13 : decode cX1_of 13 = .ok (.invokevirtual 41, 3) := dk_182 0 41 (dk_at dksX1_of_0 13 rfl rfl)
theorem dX1_of_16 : decode cX1_of 16 = .ok (.ireturn, 1) := dk_172 (dk_at dksX1_of_0 16 rfl rfl)
abbrev cX1_writeBoard : ByteArray := prog_1_method_51_code
def yX1_writeBoard : MethodName := ⟨RX1, "writeBoard", "()I"⟩
def dkwX1_writeBoard_4 : List UInt8 := [180, 0, 47, 182, 1, 101, 87, 42, 180, 0, 138, 182, 1, 104, 172]
abbrev dktX1_writeBoard_4 : List UInt8 := dkwX1_writeBoard_4 ++ []
def dkwX1_writeBoard_3 : List UInt8 := [182, 1, 97, 42, 180, 0, 94, 180, 0, 184, 182, 1, 101, 16, 47, 182, 1, 97, 42, 180, 0, 94]
abbrev dktX1_writeBoard_3 : List UInt8 := dkwX1_writeBoard_3 ++ dktX1_writeBoard_4
def dkwX1_writeBoard_2 : List UInt8 := [180, 0, 211, 27, 46, 96, 146, 182, 1, 97, 87, 132, 1, 1, 167, 255, 205, 42, 180, 0, 138, 16, 47]
abbrev dktX1_writeBoard_2 : List UInt8 := dkwX1_writeBoard_2 ++ dktX1_writeBoard_3
def dkwX1_writeBoard_1 : List UInt8 := [42, 180, 0, 138, 42, 27, 182, 1, 60, 153, 0, 8, 16, 46, 167, 0, 16, 16, 97, 42, 180, 0, 94]
abbrev dktX1_writeBoard_1 : List UInt8 := dkwX1_writeBoard_1 ++ dktX1_writeBoard_2
def dkwX1_writeBoard_0 : List UInt8 := [42, 180, 0, 138, 3, 182, 1, 94, 3, 60, 27, 42, 180, 0, 94, 180, 0, 163, 180, 0, 79, 162, 0, 43]
abbrev dktX1_writeBoard_0 : List UInt8 := dkwX1_writeBoard_0 ++ dktX1_writeBoard_1
theorem dksX1_writeBoard_0 : cX1_writeBoard.data.toList.drop 0 = dktX1_writeBoard_0 := by decide +kernel
theorem dksX1_writeBoard_1 : cX1_writeBoard.data.toList.drop 24 = dktX1_writeBoard_1 := dk_seg dksX1_writeBoard_0 24 rfl rfl
theorem dksX1_writeBoard_2 : cX1_writeBoard.data.toList.drop 47 = dktX1_writeBoard_2 := dk_seg dksX1_writeBoard_1 23 rfl rfl
theorem dksX1_writeBoard_3 : cX1_writeBoard.data.toList.drop 70 = dktX1_writeBoard_3 := dk_seg dksX1_writeBoard_2 23 rfl rfl
theorem dksX1_writeBoard_4 : cX1_writeBoard.data.toList.drop 92 = dktX1_writeBoard_4 := dk_seg dksX1_writeBoard_3 22 rfl rfl
theorem dX1_writeBoard_0 : decode cX1_writeBoard 0 = .ok (.aload_n 0, 1) := dk_42 (dk_at dksX1_writeBoard_0 0 rfl rfl)
theorem dX1_writeBoard_1 : decode cX1_writeBoard 1 = .ok (.getfield 138, 3) := dk_180 0 138 (dk_at dksX1_writeBoard_0 1 rfl rfl)
theorem dX1_writeBoard_4 : decode cX1_writeBoard 4 = .ok (.iconst 0, 1) := dk_3 (dk_at dksX1_writeBoard_0 4 rfl rfl)
theorem dX1_writeBoard_5 : decode cX1_writeBoard 5 = .ok (.invokevirtual 350, 3) := dk_182 1 94 (dk_at dksX1_writeBoard_0 5 rfl rfl)
theorem dX1_writeBoard_8 : decode cX1_writeBoard 8 = .ok (.iconst 0, 1) := dk_3 (dk_at dksX1_writeBoard_0 8 rfl rfl)
theorem dX1_writeBoard_9 : decode cX1_writeBoard 9 = .ok (.istore_n 1, 1) := dk_60 (dk_at dksX1_writeBoard_0 9 rfl rfl)
theorem dX1_writeBoard_10 : decode cX1_writeBoard 10 = .ok (.iload_n 1, 1) := dk_27 (dk_at dksX1_writeBoard_0 10 rfl rfl)
theorem dX1_writeBoard_11 : decode cX1_writeBoard 11 = .ok (.aload_n 0, 1) := dk_42 (dk_at dksX1_writeBoard_0 11 rfl rfl)
theorem dX1_writeBoard_12 : decode cX1_writeBoard 12 = .ok (.getfield 94, 3) := dk_180 0 94 (dk_at dksX1_writeBoard_0 12 rfl rfl)
theorem dX1_writeBoard_15 : decode cX1_writeBoard 15 = .ok (.getfield 163, 3) := dk_180 0 163 (dk_at dksX1_writeBoard_0 15 rfl rfl)
theorem dX1_writeBoard_18 : decode cX1_writeBoard 18 = .ok (.getfield 79, 3) := dk_180 0 79 (dk_at dksX1_writeBoard_0 18 rfl rfl)
theorem dX1_writeBoard_21 : decode cX1_writeBoard 21 = .ok (.if_icmp .ge 43, 3) := dk_162 0 43 (dk_at dksX1_writeBoard_0 21 rfl rfl)
theorem dX1_writeBoard_24 : decode cX1_writeBoard 24 = .ok (.aload_n 0, 1) := dk_42 (dk_at dksX1_writeBoard_1 0 rfl rfl)
theorem dX1_writeBoard_25 : decode cX1_writeBoard 25 = .ok (.getfield 138, 3) := dk_180 0 138 (dk_at dksX1_writeBoard_1 1 rfl rfl)
theorem dX1_writeBoard_28 : decode cX1_writeBoard 28 = .ok (.aload_n 0, 1) := dk_42 (dk_at dksX1_writeBoard_1 4 rfl rfl)
theorem dX1_writeBoard_29 : decode cX1_writeBoard 29 = .ok (.iload_n 1, 1) := dk_27 (dk_at dksX1_writeBoard_1 5 rfl rfl)
theorem dX1_writeBoard_30 : decode cX1_writeBoard 30 = .ok (.invokevirtual 316, 3) := dk_182 1 60 (dk_at dksX1_writeBoard_1 6 rfl rfl)
theorem dX1_writeBoard_33 : decode cX1_writeBoard 33 = .ok (.ifCond .eq 8, 3) := dk_153 0 8 (dk_at dksX1_writeBoard_1 9 rfl rfl)
theorem dX1_writeBoard_36 : decode cX1_writeBoard 36 = .ok (.bipush 46, 2) := dk_16 46 (dk_at dksX1_writeBoard_1 12 rfl rfl)
theorem dX1_writeBoard_38 : decode cX1_writeBoard 38 = .ok (.goto 16, 3) := dk_167 0 16 (dk_at dksX1_writeBoard_1 14 rfl rfl)
theorem dX1_writeBoard_41 : decode cX1_writeBoard 41 = .ok (.bipush 97, 2) := dk_16 97 (dk_at dksX1_writeBoard_1 17 rfl rfl)
theorem dX1_writeBoard_43 : decode cX1_writeBoard 43 = .ok (.aload_n 0, 1) := dk_42 (dk_at dksX1_writeBoard_1 19 rfl rfl)
theorem dX1_writeBoard_44 : decode cX1_writeBoard 44 = .ok (.getfield 94, 3) := dk_180 0 94 (dk_at dksX1_writeBoard_1 20 rfl rfl)
theorem dX1_writeBoard_47 : decode cX1_writeBoard 47 = .ok (.getfield 211, 3) := dk_180 0 211 (dk_at dksX1_writeBoard_2 0 rfl rfl)
theorem dX1_writeBoard_50 : decode cX1_writeBoard 50 = .ok (.iload_n 1, 1) := dk_27 (dk_at dksX1_writeBoard_2 3 rfl rfl)
theorem dX1_writeBoard_51 : decode cX1_writeBoard 51 = .ok (.iaload, 1) := dk_46 (dk_at dksX1_writeBoard_2 4 rfl rfl)
theorem dX1_writeBoard_52 : decode cX1_writeBoard 52 = .ok (.iadd, 1) := dk_96 (dk_at dksX1_writeBoard_2 5 rfl rfl)
theorem dX1_writeBoard_53 : decode cX1_writeBoard 53 = .ok (.i2c, 1) := dk_146 (dk_at dksX1_writeBoard_2 6 rfl rfl)
theorem dX1_writeBoard_54 : decode cX1_writeBoard 54 = .ok (.invokevirtual 353, 3) := dk_182 1 97 (dk_at dksX1_writeBoard_2 7 rfl rfl)
theorem dX1_writeBoard_57 : decode cX1_writeBoard 57 = .ok (.pop, 1) := dk_87 (dk_at dksX1_writeBoard_2 10 rfl rfl)
theorem dX1_writeBoard_58 : decode cX1_writeBoard 58 = .ok (.iinc 1 1, 3) := dk_132 1 1 (dk_at dksX1_writeBoard_2 11 rfl rfl)
theorem dX1_writeBoard_61 : decode cX1_writeBoard 61 = .ok (.goto (-51), 3) := dk_167 255 205 (dk_at dksX1_writeBoard_2 14 rfl rfl)
theorem dX1_writeBoard_64 : decode cX1_writeBoard 64 = .ok (.aload_n 0, 1) := dk_42 (dk_at dksX1_writeBoard_2 17 rfl rfl)
theorem dX1_writeBoard_65 : decode cX1_writeBoard 65 = .ok (.getfield 138, 3) := dk_180 0 138 (dk_at dksX1_writeBoard_2 18 rfl rfl)
theorem dX1_writeBoard_68 : decode cX1_writeBoard 68 = .ok (.bipush 47, 2) := dk_16 47 (dk_at dksX1_writeBoard_2 21 rfl rfl)
theorem dX1_writeBoard_70 : decode cX1_writeBoard 70 = .ok (.invokevirtual 353, 3) := dk_182 1 97 (dk_at dksX1_writeBoard_3 0 rfl rfl)
theorem dX1_writeBoard_73 : decode cX1_writeBoard 73 = .ok (.aload_n 0, 1) := dk_42 (dk_at dksX1_writeBoard_3 3 rfl rfl)
theorem dX1_writeBoard_74 : decode cX1_writeBoard 74 = .ok (.getfield 94, 3) := dk_180 0 94 (dk_at dksX1_writeBoard_3 4 rfl rfl)
theorem dX1_writeBoard_77 : decode cX1_writeBoard 77 = .ok (.getfield 184, 3) := dk_180 0 184 (dk_at dksX1_writeBoard_3 7 rfl rfl)
theorem dX1_writeBoard_80 : decode cX1_writeBoard 80 = .ok (.invokevirtual 357, 3) := dk_182 1 101 (dk_at dksX1_writeBoard_3 10 rfl rfl)
theorem dX1_writeBoard_83 : decode cX1_writeBoard 83 = .ok (.bipush 47, 2) := dk_16 47 (dk_at dksX1_writeBoard_3 13 rfl rfl)
theorem dX1_writeBoard_85 : decode cX1_writeBoard 85 = .ok (.invokevirtual 353, 3) := dk_182 1 97 (dk_at dksX1_writeBoard_3 15 rfl rfl)
theorem dX1_writeBoard_88 : decode cX1_writeBoard 88 = .ok (.aload_n 0, 1) := dk_42 (dk_at dksX1_writeBoard_3 18 rfl rfl)
theorem dX1_writeBoard_89 : decode cX1_writeBoard 89 = .ok (.getfield 94, 3) := dk_180 0 94 (dk_at dksX1_writeBoard_3 19 rfl rfl)
theorem dX1_writeBoard_92 : decode cX1_writeBoard 92 = .ok (.getfield 47, 3) := dk_180 0 47 (dk_at dksX1_writeBoard_4 0 rfl rfl)
theorem dX1_writeBoard_95 : decode cX1_writeBoard 95 = .ok (.invokevirtual 357, 3) := dk_182 1 101 (dk_at dksX1_writeBoard_4 3 rfl rfl)
theorem dX1_writeBoard_98 : decode cX1_writeBoard 98 = .ok (.pop, 1) := dk_87 (dk_at dksX1_writeBoard_4 6 rfl rfl)
theorem dX1_writeBoard_99 : decode cX1_writeBoard 99 = .ok (.aload_n 0, 1) := dk_42 (dk_at dksX1_writeBoard_4 7 rfl rfl)
theorem dX1_writeBoard_100 : decode cX1_writeBoard 100 = .ok (.getfield 138, 3) := dk_180 0 138 (dk_at dksX1_writeBoard_4 8 rfl rfl)
theorem dX1_writeBoard_103 : decode cX1_writeBoard 103 = .ok (.invokevirtual 360, 3) := dk_182 1 104 (dk_at dksX1_writeBoard_4 11 rfl rfl)
theorem dX1_writeBoard_106 : decode cX1_writeBoard 106 = .ok (.ireturn, 1) := dk_172 (dk_at dksX1_writeBoard_4 14 rfl rfl)
abbrev cX1_isFree : ByteArray := prog_1_method_27_code
def yX1_isFree : MethodName := ⟨RX1, "isFree", "(I)Z"⟩
def dkwX1_isFree_0 : List UInt8 := [42, 180, 0, 94, 180, 0, 211, 27, 46, 2, 160, 0, 7, 4, 167, 0, 4, 3, 172]
abbrev dktX1_isFree_0 : List UInt8 := dkwX1_isFree_0 ++ []
theorem dksX1_isFree_0 : cX1_isFree.data.toList.drop 0 = dktX1_isFree_0 := by decide +kernel
theorem dX1_isFree_0 : decode cX1_isFree 0 = .ok (.aload_n 0, 1) := dk_42 (dk_at dksX1_isFree_0 0 rfl rfl)
theorem dX1_isFree_1 : decode cX1_isFree 1 = .ok (.getfield 94, 3) := dk_180 0 94 (dk_at dksX1_isFree_0 1 rfl rfl)
theorem dX1_isFree_4 : decode cX1_isFree 4 = .ok (.getfield 211, 3) := dk_180 0 211 (dk_at dksX1_isFree_0 4 rfl rfl)
theorem dX1_isFree_7 : decode cX1_isFree 7 = .ok (.iload_n 1, 1) := dk_27 (dk_at dksX1_isFree_0 7 rfl rfl)
theorem dX1_isFree_8 : decode cX1_isFree 8 = .ok (.iaload, 1) := dk_46 (dk_at dksX1_isFree_0 8 rfl rfl)
theorem dX1_isFree_9 : decode cX1_isFree 9 = .ok (.iconst (-1), 1) := dk_2 (dk_at dksX1_isFree_0 9 rfl rfl)
theorem dX1_isFree_10 : decode cX1_isFree 10 = .ok (.if_icmp .ne 7, 3) := dk_160 0 7 (dk_at dksX1_isFree_0 10 rfl rfl)
theorem dX1_isFree_13 : decode cX1_isFree 13 = .ok (.iconst 1, 1) := dk_4 (dk_at dksX1_isFree_0 13 rfl rfl)
theorem dX1_isFree_14 : decode cX1_isFree 14 = .ok (.goto 4, 3) := dk_167 0 4 (dk_at dksX1_isFree_0 14 rfl rfl)
theorem dX1_isFree_17 : decode cX1_isFree 17 = .ok (.iconst 0, 1) := dk_3 (dk_at dksX1_isFree_0 17 rfl rfl)
theorem dX1_isFree_18 : decode cX1_isFree 18 = .ok (.ireturn, 1) := dk_172 (dk_at dksX1_isFree_0 18 rfl rfl)
abbrev cX1_append : ByteArray := prog_1_method_21_code
def yX1_append : MethodName := ⟨RX1, "append", "(IIIII)I"⟩
def dkwX1_append_2 : List UInt8 := [182, 0, 149, 42, 180, 0, 142, 172]
abbrev dktX1_append_2 : List UInt8 := dkwX1_append_2 ++ []
def dkwX1_append_1 : List UInt8 := [182, 0, 149, 42, 28, 182, 0, 149, 42, 29, 182, 0, 149, 42, 21, 4, 182, 0, 149, 42, 21, 5]
abbrev dktX1_append_1 : List UInt8 := dkwX1_append_1 ++ dktX1_append_2
def dkwX1_append_0 : List UInt8 := [42, 180, 0, 142, 16, 20, 96, 17, 1, 244, 163, 0, 7, 4, 167, 0, 4, 3, 184, 0, 145, 42, 27]
abbrev dktX1_append_0 : List UInt8 := dkwX1_append_0 ++ dktX1_append_1
theorem dksX1_append_0 : cX1_append.data.toList.drop 0 = dktX1_append_0 := by decide +kernel
theorem dksX1_append_1 : cX1_append.data.toList.drop 23 = dktX1_append_1 := dk_seg dksX1_append_0 23 rfl rfl
theorem dksX1_append_2 : cX1_append.data.toList.drop 45 = dktX1_append_2 := dk_seg dksX1_append_1 22 rfl rfl
theorem dX1_append_0 : decode cX1_append 0 = .ok (.aload_n 0, 1) := dk_42 (dk_at dksX1_append_0 0 rfl rfl)
theorem dX1_append_1 : decode cX1_append 1 = .ok (.getfield 142, 3) := dk_180 0 142 (dk_at dksX1_append_0 1 rfl rfl)
theorem dX1_append_4 : decode cX1_append 4 = .ok (.bipush 20, 2) := dk_16 20 (dk_at dksX1_append_0 4 rfl rfl)
theorem dX1_append_6 : decode cX1_append 6 = .ok (.iadd, 1) := dk_96 (dk_at dksX1_append_0 6 rfl rfl)
theorem dX1_append_7 : decode cX1_append 7 = .ok (.sipush 500, 3) := dk_17 1 244 (dk_at dksX1_append_0 7 rfl rfl)
theorem dX1_append_10 : decode cX1_append 10 = .ok (.if_icmp .gt 7, 3) := dk_163 0 7 (dk_at dksX1_append_0 10 rfl rfl)
theorem dX1_append_13 : decode cX1_append 13 = .ok (.iconst 1, 1) := dk_4 (dk_at dksX1_append_0 13 rfl rfl)
theorem dX1_append_14 : decode cX1_append 14 = .ok (.goto 4, 3) := dk_167 0 4 (dk_at dksX1_append_0 14 rfl rfl)
theorem dX1_append_17 : decode cX1_append 17 = .ok (.iconst 0, 1) := dk_3 (dk_at dksX1_append_0 17 rfl rfl)
theorem dX1_append_18 : decode cX1_append 18 = .ok (.invokestatic 145, 3) := dk_184 0 145 (dk_at dksX1_append_0 18 rfl rfl)
theorem dX1_append_21 : decode cX1_append 21 = .ok (.aload_n 0, 1) := dk_42 (dk_at dksX1_append_0 21 rfl rfl)
theorem dX1_append_22 : decode cX1_append 22 = .ok (.iload_n 1, 1) := dk_27 (dk_at dksX1_append_0 22 rfl rfl)
theorem dX1_append_23 : decode cX1_append 23 = .ok (.invokevirtual 149, 3) := dk_182 0 149 (dk_at dksX1_append_1 0 rfl rfl)
theorem dX1_append_26 : decode cX1_append 26 = .ok (.aload_n 0, 1) := dk_42 (dk_at dksX1_append_1 3 rfl rfl)
theorem dX1_append_27 : decode cX1_append 27 = .ok (.iload_n 2, 1) := dk_28 (dk_at dksX1_append_1 4 rfl rfl)
theorem dX1_append_28 : decode cX1_append 28 = .ok (.invokevirtual 149, 3) := dk_182 0 149 (dk_at dksX1_append_1 5 rfl rfl)
theorem dX1_append_31 : decode cX1_append 31 = .ok (.aload_n 0, 1) := dk_42 (dk_at dksX1_append_1 8 rfl rfl)
theorem dX1_append_32 : decode cX1_append 32 = .ok (.iload_n 3, 1) := dk_29 (dk_at dksX1_append_1 9 rfl rfl)
theorem dX1_append_33 : decode cX1_append 33 = .ok (.invokevirtual 149, 3) := dk_182 0 149 (dk_at dksX1_append_1 10 rfl rfl)
theorem dX1_append_36 : decode cX1_append 36 = .ok (.aload_n 0, 1) := dk_42 (dk_at dksX1_append_1 13 rfl rfl)
theorem dX1_append_37 : decode cX1_append 37 = .ok (.iload 4, 2) := dk_21 4 (dk_at dksX1_append_1 14 rfl rfl)
theorem dX1_append_39 : decode cX1_append 39 = .ok (.invokevirtual 149, 3) := dk_182 0 149 (dk_at dksX1_append_1 16 rfl rfl)
theorem dX1_append_42 : decode cX1_append 42 = .ok (.aload_n 0, 1) := dk_42 (dk_at dksX1_append_1 19 rfl rfl)
theorem dX1_append_43 : decode cX1_append 43 = .ok (.iload 5, 2) := dk_21 5 (dk_at dksX1_append_1 20 rfl rfl)
theorem dX1_append_45 : decode cX1_append 45 = .ok (.invokevirtual 149, 3) := dk_182 0 149 (dk_at dksX1_append_2 0 rfl rfl)
theorem dX1_append_48 : decode cX1_append 48 = .ok (.aload_n 0, 1) := dk_42 (dk_at dksX1_append_2 3 rfl rfl)
theorem dX1_append_49 : decode cX1_append 49 = .ok (.getfield 142, 3) := dk_180 0 142 (dk_at dksX1_append_2 4 rfl rfl)
theorem dX1_append_52 : decode cX1_append 52 = .ok (.ireturn, 1) := dk_172 (dk_at dksX1_append_2 7 rfl rfl)
abbrev cX1_requireState : ByteArray := prog_1_method_5_code
def yX1_requireState : MethodName := ⟨RX1, "requireState", "(Z)V"⟩
def dkwX1_requireState_0 : List UInt8 := [26, 154, 0, 11, 187, 0, 16, 89, 183, 0, 18, 191, 177]
abbrev dktX1_requireState_0 : List UInt8 := dkwX1_requireState_0 ++ []
theorem dksX1_requireState_0 : cX1_requireState.data.toList.drop 0 = dktX1_requireState_0 := by decide +kernel
theorem dX1_requireState_0 : decode cX1_requireState 0 = .ok (.iload_n 0, 1) := dk_26 (dk_at dksX1_requireState_0 0 rfl rfl)
theorem dX1_requireState_1 : decode cX1_requireState 1 = .ok (.ifCond .ne 11, 3) := dk_154 0 11 (dk_at dksX1_requireState_0 1 rfl rfl)
theorem dX1_requireState_4 : decode cX1_requireState 4 = .ok (.new 16, 3) := dk_187 0 16 (dk_at dksX1_requireState_0 4 rfl rfl)
theorem dX1_requireState_7 : decode cX1_requireState 7 = .ok (.dup, 1) := dk_89 (dk_at dksX1_requireState_0 7 rfl rfl)
theorem dX1_requireState_8 : decode cX1_requireState 8 = .ok (.invokespecial 18, 3) := dk_183 0 18 (dk_at dksX1_requireState_0 8 rfl rfl)
theorem dX1_requireState_11 : decode cX1_requireState 11 = .ok (.athrow, 1) := dk_191 (dk_at dksX1_requireState_0 11 rfl rfl)
theorem dX1_requireState_12 : decode cX1_requireState 12 = .ok (.return_, 1) := dk_177 (dk_at dksX1_requireState_0 12 rfl rfl)
abbrev cX1_write : ByteArray := prog_1_method_20_code
def yX1_write : MethodName := ⟨RX1, "write", "(I)V"⟩
def dkwX1_write_1 : List UInt8 := [180, 0, 142, 4, 96, 181, 0, 142, 132, 2, 248, 167, 255, 226, 177]
abbrev dktX1_write_1 : List UInt8 := dkwX1_write_1 ++ []
def dkwX1_write_0 : List UInt8 := [16, 24, 61, 28, 155, 0, 32, 42, 180, 0, 128, 42, 180, 0, 142, 27, 28, 122, 145, 84, 42, 89]
abbrev dktX1_write_0 : List UInt8 := dkwX1_write_0 ++ dktX1_write_1
theorem dksX1_write_0 : cX1_write.data.toList.drop 0 = dktX1_write_0 := by decide +kernel
theorem dksX1_write_1 : cX1_write.data.toList.drop 22 = dktX1_write_1 := dk_seg dksX1_write_0 22 rfl rfl
theorem dX1_write_0 : decode cX1_write 0 = .ok (.bipush 24, 2) := dk_16 24 (dk_at dksX1_write_0 0 rfl rfl)
theorem dX1_write_2 : decode cX1_write 2 = .ok (.istore_n 2, 1) := dk_61 (dk_at dksX1_write_0 2 rfl rfl)
theorem dX1_write_3 : decode cX1_write 3 = .ok (.iload_n 2, 1) := dk_28 (dk_at dksX1_write_0 3 rfl rfl)
theorem dX1_write_4 : decode cX1_write 4 = .ok (.ifCond .lt 32, 3) := dk_155 0 32 (dk_at dksX1_write_0 4 rfl rfl)
theorem dX1_write_7 : decode cX1_write 7 = .ok (.aload_n 0, 1) := dk_42 (dk_at dksX1_write_0 7 rfl rfl)
theorem dX1_write_8 : decode cX1_write 8 = .ok (.getfield 128, 3) := dk_180 0 128 (dk_at dksX1_write_0 8 rfl rfl)
theorem dX1_write_11 : decode cX1_write 11 = .ok (.aload_n 0, 1) := dk_42 (dk_at dksX1_write_0 11 rfl rfl)
theorem dX1_write_12 : decode cX1_write 12 = .ok (.getfield 142, 3) := dk_180 0 142 (dk_at dksX1_write_0 12 rfl rfl)
theorem dX1_write_15 : decode cX1_write 15 = .ok (.iload_n 1, 1) := dk_27 (dk_at dksX1_write_0 15 rfl rfl)
theorem dX1_write_16 : decode cX1_write 16 = .ok (.iload_n 2, 1) := dk_28 (dk_at dksX1_write_0 16 rfl rfl)
theorem dX1_write_17 : decode cX1_write 17 = .ok (.ishr, 1) := dk_122 (dk_at dksX1_write_0 17 rfl rfl)
theorem dX1_write_18 : decode cX1_write 18 = .ok (.i2b, 1) := dk_145 (dk_at dksX1_write_0 18 rfl rfl)
theorem dX1_write_19 : decode cX1_write 19 = .ok (.bastore, 1) := dk_84 (dk_at dksX1_write_0 19 rfl rfl)
theorem dX1_write_20 : decode cX1_write 20 = .ok (.aload_n 0, 1) := dk_42 (dk_at dksX1_write_0 20 rfl rfl)
theorem dX1_write_21 : decode cX1_write 21 = .ok (.dup, 1) := dk_89 (dk_at dksX1_write_0 21 rfl rfl)
theorem dX1_write_22 : decode cX1_write 22 = .ok (.getfield 142, 3) := dk_180 0 142 (dk_at dksX1_write_1 0 rfl rfl)
theorem dX1_write_25 : decode cX1_write 25 = .ok (.iconst 1, 1) := dk_4 (dk_at dksX1_write_1 3 rfl rfl)
theorem dX1_write_26 : decode cX1_write 26 = .ok (.iadd, 1) := dk_96 (dk_at dksX1_write_1 4 rfl rfl)
theorem dX1_write_27 : decode cX1_write 27 = .ok (.putfield 142, 3) := dk_181 0 142 (dk_at dksX1_write_1 5 rfl rfl)
theorem dX1_write_30 : decode cX1_write 30 = .ok (.iinc 2 (-8), 3) := dk_132 2 248 (dk_at dksX1_write_1 8 rfl rfl)
theorem dX1_write_33 : decode cX1_write 33 = .ok (.goto (-30), 3) := dk_167 255 226 (dk_at dksX1_write_1 11 rfl rfl)
theorem dX1_write_36 : decode cX1_write 36 = .ok (.return_, 1) := dk_177 (dk_at dksX1_write_1 14 rfl rfl)
abbrev cX1_load : ByteArray := prog_1_method_22_code
def yX1_load : MethodName := ⟨RX1, "load", "(I)I"⟩
def dkwX1_load_2 : List UInt8 := [180, 0, 79, 172, 77, 42, 44, 180, 0, 169, 181, 0, 132, 44, 180, 0, 172, 172]
abbrev dktX1_load_2 : List UInt8 := dkwX1_load_2 ++ []
def dkwX1_load_1 : List UInt8 := [42, 187, 0, 155, 89, 42, 27, 183, 0, 157, 182, 0, 160, 182, 0, 106, 42, 180, 0, 94, 180, 0, 163]
abbrev dktX1_load_1 : List UInt8 := dkwX1_load_1 ++ dktX1_load_2
def dkwX1_load_0 : List UInt8 := [27, 133, 9, 42, 180, 0, 142, 133, 184, 0, 1, 184, 0, 152, 42, 3, 181, 0, 142, 42, 2, 181, 0, 132]
abbrev dktX1_load_0 : List UInt8 := dkwX1_load_0 ++ dktX1_load_1
theorem dksX1_load_0 : cX1_load.data.toList.drop 0 = dktX1_load_0 := by decide +kernel
theorem dksX1_load_1 : cX1_load.data.toList.drop 24 = dktX1_load_1 := dk_seg dksX1_load_0 24 rfl rfl
theorem dksX1_load_2 : cX1_load.data.toList.drop 47 = dktX1_load_2 := dk_seg dksX1_load_1 23 rfl rfl
theorem dX1_load_0 : decode cX1_load 0 = .ok (.iload_n 1, 1) := dk_27 (dk_at dksX1_load_0 0 rfl rfl)
theorem dX1_load_1 : decode cX1_load 1 = .ok (.i2l, 1) := dk_133 (dk_at dksX1_load_0 1 rfl rfl)
theorem dX1_load_2 : decode cX1_load 2 = .ok (.lconst 0, 1) := dk_9 (dk_at dksX1_load_0 2 rfl rfl)
theorem dX1_load_3 : decode cX1_load 3 = .ok (.aload_n 0, 1) := dk_42 (dk_at dksX1_load_0 3 rfl rfl)
theorem dX1_load_4 : decode cX1_load 4 = .ok (.getfield 142, 3) := dk_180 0 142 (dk_at dksX1_load_0 4 rfl rfl)
theorem dX1_load_7 : decode cX1_load 7 = .ok (.i2l, 1) := dk_133 (dk_at dksX1_load_0 7 rfl rfl)
theorem dX1_load_8 : decode cX1_load 8 = .ok (.invokestatic 1, 3) := dk_184 0 1 (dk_at dksX1_load_0 8 rfl rfl)
theorem dX1_load_11 : decode cX1_load 11 = .ok (.invokestatic 152, 3) := dk_184 0 152 (dk_at dksX1_load_0 11 rfl rfl)
theorem dX1_load_14 : decode cX1_load 14 = .ok (.aload_n 0, 1) := dk_42 (dk_at dksX1_load_0 14 rfl rfl)
theorem dX1_load_15 : decode cX1_load 15 = .ok (.iconst 0, 1) := dk_3 (dk_at dksX1_load_0 15 rfl rfl)
theorem dX1_load_16 : decode cX1_load 16 = .ok (.putfield 142, 3) := dk_181 0 142 (dk_at dksX1_load_0 16 rfl rfl)
theorem dX1_load_19 : decode cX1_load 19 = .ok (.aload_n 0, 1) := dk_42 (dk_at dksX1_load_0 19 rfl rfl)
theorem dX1_load_20 : decode cX1_load 20 = .ok (.iconst (-1), 1) := dk_2 (dk_at dksX1_load_0 20 rfl rfl)
theorem dX1_load_21 : decode cX1_load 21 = .ok (.putfield 132, 3) := dk_181 0 132 (dk_at dksX1_load_0 21 rfl rfl)
theorem dX1_load_24 : decode cX1_load 24 = .ok (.aload_n 0, 1) := dk_42 (dk_at dksX1_load_1 0 rfl rfl)
theorem dX1_load_25 : decode cX1_load 25 = .ok (.new 155, 3) := dk_187 0 155 (dk_at dksX1_load_1 1 rfl rfl)
theorem dX1_load_28 : decode cX1_load 28 = .ok (.dup, 1) := dk_89 (dk_at dksX1_load_1 4 rfl rfl)
theorem dX1_load_29 : decode cX1_load 29 = .ok (.aload_n 0, 1) := dk_42 (dk_at dksX1_load_1 5 rfl rfl)
theorem dX1_load_30 : decode cX1_load 30 = .ok (.iload_n 1, 1) := dk_27 (dk_at dksX1_load_1 6 rfl rfl)
theorem dX1_load_31 : decode cX1_load 31 = .ok (.invokespecial 157, 3) := dk_183 0 157 (dk_at dksX1_load_1 7 rfl rfl)
theorem dX1_load_34 : decode cX1_load 34 = .ok (.invokevirtual 160, 3) := dk_182 0 160 (dk_at dksX1_load_1 10 rfl rfl)
theorem dX1_load_37 : decode cX1_load 37 = .ok (.invokevirtual 106, 3) := dk_182 0 106 (dk_at dksX1_load_1 13 rfl rfl)
theorem dX1_load_40 : decode cX1_load 40 = .ok (.aload_n 0, 1) := dk_42 (dk_at dksX1_load_1 16 rfl rfl)
theorem dX1_load_41 : decode cX1_load 41 = .ok (.getfield 94, 3) := dk_180 0 94 (dk_at dksX1_load_1 17 rfl rfl)
theorem dX1_load_44 : decode cX1_load 44 = .ok (.getfield 163, 3) := dk_180 0 163 (dk_at dksX1_load_1 20 rfl rfl)
theorem dX1_load_47 : decode cX1_load 47 = .ok (.getfield 79, 3) := dk_180 0 79 (dk_at dksX1_load_2 0 rfl rfl)
theorem dX1_load_50 : decode cX1_load 50 = .ok (.ireturn, 1) := dk_172 (dk_at dksX1_load_2 3 rfl rfl)
theorem dX1_load_51 : decode cX1_load 51 = .ok (.astore_n 2, 1) := dk_77 (dk_at dksX1_load_2 4 rfl rfl)
theorem dX1_load_52 : decode cX1_load 52 = .ok (.aload_n 0, 1) := dk_42 (dk_at dksX1_load_2 5 rfl rfl)
theorem dX1_load_53 : decode cX1_load 53 = .ok (.aload_n 2, 1) := dk_44 (dk_at dksX1_load_2 6 rfl rfl)
theorem dX1_load_54 : decode cX1_load 54 = .ok (.getfield 169, 3) := dk_180 0 169 (dk_at dksX1_load_2 7 rfl rfl)
theorem dX1_load_57 : decode cX1_load 57 = .ok (.putfield 132, 3) := dk_181 0 132 (dk_at dksX1_load_2 10 rfl rfl)
theorem dX1_load_60 : decode cX1_load 60 = .ok (.aload_n 2, 1) := dk_44 (dk_at dksX1_load_2 13 rfl rfl)
theorem dX1_load_61 : decode cX1_load 61 = .ok (.getfield 172, 3) := dk_180 0 172 (dk_at dksX1_load_2 14 rfl rfl)
theorem dX1_load_64 : decode cX1_load 64 = .ok (.ireturn, 1) := dk_172 (dk_at dksX1_load_2 17 rfl rfl)
abbrev cX1_inRange : ByteArray := prog_1_method_1_code
def yX1_inRange : MethodName := ⟨RX1, "inRange", "(JJJ)Z"⟩
def dkwX1_inRange_0 : List UInt8 := [30, 32, 148, 155, 0, 14, 30, 22, 4, 148, 157, 0, 7, 4, 167, 0, 4, 3, 172]
abbrev dktX1_inRange_0 : List UInt8 := dkwX1_inRange_0 ++ []
theorem dksX1_inRange_0 : cX1_inRange.data.toList.drop 0 = dktX1_inRange_0 := by decide +kernel
theorem dX1_inRange_0 : decode cX1_inRange 0 = .ok (.lload_n 0, 1) := dk_30 (dk_at dksX1_inRange_0 0 rfl rfl)
theorem dX1_inRange_1 : decode cX1_inRange 1 = .ok (.lload_n 2, 1) := dk_32 (dk_at dksX1_inRange_0 1 rfl rfl)
theorem dX1_inRange_2 : decode cX1_inRange 2 = .ok (.lcmp, 1) := dk_148 (dk_at dksX1_inRange_0 2 rfl rfl)
theorem dX1_inRange_3 : decode cX1_inRange 3 = .ok (.ifCond .lt 14, 3) := dk_155 0 14 (dk_at dksX1_inRange_0 3 rfl rfl)
theorem dX1_inRange_6 : decode cX1_inRange 6 = .ok (.lload_n 0, 1) := dk_30 (dk_at dksX1_inRange_0 6 rfl rfl)
theorem dX1_inRange_7 : decode cX1_inRange 7 = .ok (.lload 4, 2) := dk_22 4 (dk_at dksX1_inRange_0 7 rfl rfl)
theorem dX1_inRange_9 : decode cX1_inRange 9 = .ok (.lcmp, 1) := dk_148 (dk_at dksX1_inRange_0 9 rfl rfl)
theorem dX1_inRange_10 : decode cX1_inRange 10 = .ok (.ifCond .gt 7, 3) := dk_157 0 7 (dk_at dksX1_inRange_0 10 rfl rfl)
theorem dX1_inRange_13 : decode cX1_inRange 13 = .ok (.iconst 1, 1) := dk_4 (dk_at dksX1_inRange_0 13 rfl rfl)
theorem dX1_inRange_14 : decode cX1_inRange 14 = .ok (.goto 4, 3) := dk_167 0 4 (dk_at dksX1_inRange_0 14 rfl rfl)
theorem dX1_inRange_17 : decode cX1_inRange 17 = .ok (.iconst 0, 1) := dk_3 (dk_at dksX1_inRange_0 17 rfl rfl)
theorem dX1_inRange_18 : decode cX1_inRange 18 = .ok (.ireturn, 1) := dk_172 (dk_at dksX1_inRange_0 18 rfl rfl)
abbrev cX1_requireArgument : ByteArray := prog_1_method_4_code
def yX1_requireArgument : MethodName := ⟨RX1, "requireArgument", "(Z)V"⟩
def dkwX1_requireArgument_0 : List UInt8 := [26, 154, 0, 11, 187, 0, 13, 89, 183, 0, 15, 191, 177]
abbrev dktX1_requireArgument_0 : List UInt8 := dkwX1_requireArgument_0 ++ []
theorem dksX1_requireArgument_0 : cX1_requireArgument.data.toList.drop 0 = dktX1_requireArgument_0 := by decide +kernel
theorem dX1_requireArgument_0 : decode cX1_requireArgument 0 = .ok (.iload_n 0, 1) := dk_26 (dk_at dksX1_requireArgument_0 0 rfl rfl)
theorem dX1_requireArgument_1 : decode cX1_requireArgument 1 = .ok (.ifCond .ne 11, 3) := dk_154 0 11 (dk_at dksX1_requireArgument_0 1 rfl rfl)
theorem dX1_requireArgument_4 : decode cX1_requireArgument 4 = .ok (.new 13, 3) := dk_187 0 13 (dk_at dksX1_requireArgument_0 4 rfl rfl)
theorem dX1_requireArgument_7 : decode cX1_requireArgument 7 = .ok (.dup, 1) := dk_89 (dk_at dksX1_requireArgument_0 7 rfl rfl)
theorem dX1_requireArgument_8 : decode cX1_requireArgument 8 = .ok (.invokespecial 15, 3) := dk_183 0 15 (dk_at dksX1_requireArgument_0 8 rfl rfl)
theorem dX1_requireArgument_11 : decode cX1_requireArgument 11 = .ok (.athrow, 1) := dk_191 (dk_at dksX1_requireArgument_0 11 rfl rfl)
theorem dX1_requireArgument_12 : decode cX1_requireArgument 12 = .ok (.return_, 1) := dk_177 (dk_at dksX1_requireArgument_0 12 rfl rfl)
abbrev cX1_become : ByteArray := prog_1_method_17_code
def yX1_become : MethodName := ⟨RX1, "become", "(LColourDuel$Board;)V"⟩
def dkwX1_become_1 : List UInt8 := [180, 0, 82, 42, 180, 0, 94, 182, 0, 98, 42, 43, 181, 0, 94, 177]
abbrev dktX1_become_1 : List UInt8 := dkwX1_become_1 ++ []
def dkwX1_become_0 : List UInt8 := [42, 180, 0, 82, 182, 0, 86, 16, 8, 160, 0, 14, 42, 180, 0, 82, 182, 0, 90, 192, 0, 48, 77, 42]
abbrev dktX1_become_0 : List UInt8 := dkwX1_become_0 ++ dktX1_become_1
theorem dksX1_become_0 : cX1_become.data.toList.drop 0 = dktX1_become_0 := by decide +kernel
theorem dksX1_become_1 : cX1_become.data.toList.drop 24 = dktX1_become_1 := dk_seg dksX1_become_0 24 rfl rfl
theorem dX1_become_0 : decode cX1_become 0 = .ok (.aload_n 0, 1) := dk_42 (dk_at dksX1_become_0 0 rfl rfl)
theorem dX1_become_1 : decode cX1_become 1 = .ok (.getfield 82, 3) := dk_180 0 82 (dk_at dksX1_become_0 1 rfl rfl)
theorem dX1_become_4 : decode cX1_become 4 = .ok (.invokevirtual 86, 3) := dk_182 0 86 (dk_at dksX1_become_0 4 rfl rfl)
theorem dX1_become_7 : decode cX1_become 7 = .ok (.bipush 8, 2) := dk_16 8 (dk_at dksX1_become_0 7 rfl rfl)
theorem dX1_become_9 : decode cX1_become 9 = .ok (.if_icmp .ne 14, 3) := dk_160 0 14 (dk_at dksX1_become_0 9 rfl rfl)
theorem dX1_become_12 : decode cX1_become 12 = .ok (.aload_n 0, 1) := dk_42 (dk_at dksX1_become_0 12 rfl rfl)
theorem dX1_become_13 : decode cX1_become 13 = .ok (.getfield 82, 3) := dk_180 0 82 (dk_at dksX1_become_0 13 rfl rfl)
theorem dX1_become_16 : decode cX1_become 16 = .ok (.invokevirtual 90, 3) := dk_182 0 90 (dk_at dksX1_become_0 16 rfl rfl)
theorem dX1_become_19 : decode cX1_become 19 = .ok (.checkcast 48, 3) := dk_192 0 48 (dk_at dksX1_become_0 19 rfl rfl)
theorem dX1_become_22 : decode cX1_become 22 = .ok (.astore_n 2, 1) := dk_77 (dk_at dksX1_become_0 22 rfl rfl)
theorem dX1_become_23 : decode cX1_become 23 = .ok (.aload_n 0, 1) := dk_42 (dk_at dksX1_become_0 23 rfl rfl)
theorem dX1_become_24 : decode cX1_become 24 = .ok (.getfield 82, 3) := dk_180 0 82 (dk_at dksX1_become_1 0 rfl rfl)
theorem dX1_become_27 : decode cX1_become 27 = .ok (.aload_n 0, 1) := dk_42 (dk_at dksX1_become_1 3 rfl rfl)
theorem dX1_become_28 : decode cX1_become 28 = .ok (.getfield 94, 3) := dk_180 0 94 (dk_at dksX1_become_1 4 rfl rfl)
theorem dX1_become_31 : decode cX1_become 31 = .ok (.invokevirtual 98, 3) := dk_182 0 98 (dk_at dksX1_become_1 7 rfl rfl)
theorem dX1_become_34 : decode cX1_become 34 = .ok (.aload_n 0, 1) := dk_42 (dk_at dksX1_become_1 10 rfl rfl)
theorem dX1_become_35 : decode cX1_become 35 = .ok (.aload_n 1, 1) := dk_43 (dk_at dksX1_become_1 11 rfl rfl)
theorem dX1_become_36 : decode cX1_become 36 = .ok (.putfield 94, 3) := dk_181 0 94 (dk_at dksX1_become_1 12 rfl rfl)
theorem dX1_become_39 : decode cX1_become 39 = .ok (.return_, 1) := dk_177 (dk_at dksX1_become_1 15 rfl rfl)
abbrev cX1_count : ByteArray := prog_1_method_24_code
def yX1_count : MethodName := ⟨RX1, "count", "(I)I"⟩
def dkwX1_count_9 : List UInt8 := [184, 0, 53, 172, 187, 0, 13, 89, 183, 0, 15, 191]
abbrev dktX1_count_9 : List UInt8 := dkwX1_count_9 ++ []
def dkwX1_count_8 : List UInt8 := [180, 0, 94, 182, 0, 57, 182, 0, 198, 172, 42, 180, 0, 94, 182, 0, 201, 172, 42, 180, 0, 94]
abbrev dktX1_count_8 : List UInt8 := dkwX1_count_8 ++ dktX1_count_9
def dkwX1_count_7 : List UInt8 := [153, 0, 15, 4, 42, 180, 0, 94, 180, 0, 184, 100, 167, 0, 4, 2, 172, 42, 180, 0, 94, 42]
abbrev dktX1_count_7 : List UInt8 := dkwX1_count_7 ++ dktX1_count_8
def dkwX1_count_6 : List UInt8 := [180, 0, 94, 182, 0, 194, 153, 0, 7, 4, 167, 0, 4, 3, 172, 42, 180, 0, 94, 182, 0, 194]
abbrev dktX1_count_6 : List UInt8 := dkwX1_count_6 ++ dktX1_count_7
def dkwX1_count_5 : List UInt8 := [172, 42, 180, 0, 94, 180, 0, 184, 172, 42, 180, 0, 94, 180, 0, 187, 185, 0, 191, 1, 0, 172, 42]
abbrev dktX1_count_5 : List UInt8 := dkwX1_count_5 ++ dktX1_count_6
def dkwX1_count_4 : List UInt8 := [182, 0, 57, 184, 0, 22, 172, 42, 180, 0, 94, 180, 0, 163, 42, 180, 0, 94, 182, 0, 57, 182, 0, 181]
abbrev dktX1_count_4 : List UInt8 := dkwX1_count_4 ++ dktX1_count_5
def dkwX1_count_3 : List UInt8 := [180, 0, 94, 180, 0, 163, 180, 0, 178, 172, 42, 180, 0, 94, 180, 0, 47, 172, 42, 180, 0, 94]
abbrev dktX1_count_3 : List UInt8 := dkwX1_count_3 ++ dktX1_count_4
def dkwX1_count_2 : List UInt8 := [42, 180, 0, 94, 180, 0, 163, 180, 0, 79, 172, 42, 180, 0, 94, 180, 0, 163, 180, 0, 175, 172, 42]
abbrev dktX1_count_2 : List UInt8 := dkwX1_count_2 ++ dktX1_count_3
def dkwX1_count_1 : List UInt8 := [170, 0, 0, 0, 0, 0, 229, 0, 0, 0, 0, 0, 0, 0, 12, 0, 0, 0, 67, 0, 0, 0, 78, 0, 0, 0, 89, 0, 0, 0, 100, 0, 0, 0, 108, 0, 0, 0, 119, 0, 0, 0, 137, 0, 0, 0, 145, 0, 0, 0, 158, 0, 0, 0, 174, 0, 0, 0, 198, 0, 0, 0, 213, 0, 0, 0, 221]
abbrev dktX1_count_1 : List UInt8 := dkwX1_count_1 ++ dktX1_count_2
def dkwX1_count_0 : List UInt8 := [27]
abbrev dktX1_count_0 : List UInt8 := dkwX1_count_0 ++ dktX1_count_1
theorem dksX1_count_0 : cX1_count.data.toList.drop 0 = dktX1_count_0 := by decide +kernel
theorem dksX1_count_1 : cX1_count.data.toList.drop 1 = dktX1_count_1 := dk_seg dksX1_count_0 1 rfl rfl
theorem dksX1_count_2 : cX1_count.data.toList.drop 68 = dktX1_count_2 := dk_seg dksX1_count_1 67 rfl rfl
theorem dksX1_count_3 : cX1_count.data.toList.drop 91 = dktX1_count_3 := dk_seg dksX1_count_2 23 rfl rfl
theorem dksX1_count_4 : cX1_count.data.toList.drop 113 = dktX1_count_4 := dk_seg dksX1_count_3 22 rfl rfl
theorem dksX1_count_5 : cX1_count.data.toList.drop 137 = dktX1_count_5 := dk_seg dksX1_count_4 24 rfl rfl
theorem dksX1_count_6 : cX1_count.data.toList.drop 160 = dktX1_count_6 := dk_seg dksX1_count_5 23 rfl rfl
theorem dksX1_count_7 : cX1_count.data.toList.drop 182 = dktX1_count_7 := dk_seg dksX1_count_6 22 rfl rfl
theorem dksX1_count_8 : cX1_count.data.toList.drop 204 = dktX1_count_8 := dk_seg dksX1_count_7 22 rfl rfl
theorem dksX1_count_9 : cX1_count.data.toList.drop 226 = dktX1_count_9 := dk_seg dksX1_count_8 22 rfl rfl
theorem dX1_count_0 : decode cX1_count 0 = .ok (.iload_n 1, 1) := dk_27 (dk_at dksX1_count_0 0 rfl rfl)
theorem dX1_count_1 : decode cX1_count 1 = .ok (.tableswitch 229 0 12 #[67, 78, 89, 100, 108, 119, 137, 145, 158, 174, 198, 213, 221], 67) := by decide +kernel
theorem dX1_count_68 : decode cX1_count 68 = .ok (.aload_n 0, 1) := dk_42 (dk_at dksX1_count_2 0 rfl rfl)
theorem dX1_count_69 : decode cX1_count 69 = .ok (.getfield 94, 3) := dk_180 0 94 (dk_at dksX1_count_2 1 rfl rfl)
theorem dX1_count_72 : decode cX1_count 72 = .ok (.getfield 163, 3) := dk_180 0 163 (dk_at dksX1_count_2 4 rfl rfl)
theorem dX1_count_75 : decode cX1_count 75 = .ok (.getfield 79, 3) := dk_180 0 79 (dk_at dksX1_count_2 7 rfl rfl)
theorem dX1_count_78 : decode cX1_count 78 = .ok (.ireturn, 1) := dk_172 (dk_at dksX1_count_2 10 rfl rfl)
theorem dX1_count_79 : decode cX1_count 79 = .ok (.aload_n 0, 1) := dk_42 (dk_at dksX1_count_2 11 rfl rfl)
theorem dX1_count_80 : decode cX1_count 80 = .ok (.getfield 94, 3) := dk_180 0 94 (dk_at dksX1_count_2 12 rfl rfl)
theorem dX1_count_83 : decode cX1_count 83 = .ok (.getfield 163, 3) := dk_180 0 163 (dk_at dksX1_count_2 15 rfl rfl)
theorem dX1_count_86 : decode cX1_count 86 = .ok (.getfield 175, 3) := dk_180 0 175 (dk_at dksX1_count_2 18 rfl rfl)
theorem dX1_count_89 : decode cX1_count 89 = .ok (.ireturn, 1) := dk_172 (dk_at dksX1_count_2 21 rfl rfl)
theorem dX1_count_90 : decode cX1_count 90 = .ok (.aload_n 0, 1) := dk_42 (dk_at dksX1_count_2 22 rfl rfl)
theorem dX1_count_91 : decode cX1_count 91 = .ok (.getfield 94, 3) := dk_180 0 94 (dk_at dksX1_count_3 0 rfl rfl)
theorem dX1_count_94 : decode cX1_count 94 = .ok (.getfield 163, 3) := dk_180 0 163 (dk_at dksX1_count_3 3 rfl rfl)
theorem dX1_count_97 : decode cX1_count 97 = .ok (.getfield 178, 3) := dk_180 0 178 (dk_at dksX1_count_3 6 rfl rfl)
theorem dX1_count_100 : decode cX1_count 100 = .ok (.ireturn, 1) := dk_172 (dk_at dksX1_count_3 9 rfl rfl)
theorem dX1_count_101 : decode cX1_count 101 = .ok (.aload_n 0, 1) := dk_42 (dk_at dksX1_count_3 10 rfl rfl)
theorem dX1_count_102 : decode cX1_count 102 = .ok (.getfield 94, 3) := dk_180 0 94 (dk_at dksX1_count_3 11 rfl rfl)
theorem dX1_count_105 : decode cX1_count 105 = .ok (.getfield 47, 3) := dk_180 0 47 (dk_at dksX1_count_3 14 rfl rfl)
theorem dX1_count_108 : decode cX1_count 108 = .ok (.ireturn, 1) := dk_172 (dk_at dksX1_count_3 17 rfl rfl)
theorem dX1_count_109 : decode cX1_count 109 = .ok (.aload_n 0, 1) := dk_42 (dk_at dksX1_count_3 18 rfl rfl)
theorem dX1_count_110 : decode cX1_count 110 = .ok (.getfield 94, 3) := dk_180 0 94 (dk_at dksX1_count_3 19 rfl rfl)
theorem dX1_count_113 : decode cX1_count 113 = .ok (.invokevirtual 57, 3) := dk_182 0 57 (dk_at dksX1_count_4 0 rfl rfl)
theorem dX1_count_116 : decode cX1_count 116 = .ok (.invokestatic 22, 3) := dk_184 0 22 (dk_at dksX1_count_4 3 rfl rfl)
theorem dX1_count_119 : decode cX1_count 119 = .ok (.ireturn, 1) := dk_172 (dk_at dksX1_count_4 6 rfl rfl)
theorem dX1_count_120 : decode cX1_count 120 = .ok (.aload_n 0, 1) := dk_42 (dk_at dksX1_count_4 7 rfl rfl)
theorem dX1_count_121 : decode cX1_count 121 = .ok (.getfield 94, 3) := dk_180 0 94 (dk_at dksX1_count_4 8 rfl rfl)
theorem dX1_count_124 : decode cX1_count 124 = .ok (.getfield 163, 3) := dk_180 0 163 (dk_at dksX1_count_4 11 rfl rfl)
theorem dX1_count_127 : decode cX1_count 127 = .ok (.aload_n 0, 1) := dk_42 (dk_at dksX1_count_4 14 rfl rfl)
theorem dX1_count_128 : decode cX1_count 128 = .ok (.getfield 94, 3) := dk_180 0 94 (dk_at dksX1_count_4 15 rfl rfl)
theorem dX1_count_131 : decode cX1_count 131 = .ok (.invokevirtual 57, 3) := dk_182 0 57 (dk_at dksX1_count_4 18 rfl rfl)
theorem dX1_count_134 : decode cX1_count 134 = .ok (.invokevirtual 181, 3) := dk_182 0 181 (dk_at dksX1_count_4 21 rfl rfl)
theorem dX1_count_137 : decode cX1_count 137 = .ok (.ireturn, 1) := dk_172 (dk_at dksX1_count_5 0 rfl rfl)
theorem dX1_count_138 : decode cX1_count 138 = .ok (.aload_n 0, 1) := dk_42 (dk_at dksX1_count_5 1 rfl rfl)
theorem dX1_count_139 : decode cX1_count 139 = .ok (.getfield 94, 3) := dk_180 0 94 (dk_at dksX1_count_5 2 rfl rfl)
theorem dX1_count_142 : decode cX1_count 142 = .ok (.getfield 184, 3) := dk_180 0 184 (dk_at dksX1_count_5 5 rfl rfl)
theorem dX1_count_145 : decode cX1_count 145 = .ok (.ireturn, 1) := dk_172 (dk_at dksX1_count_5 8 rfl rfl)
theorem dX1_count_146 : decode cX1_count 146 = .ok (.aload_n 0, 1) := dk_42 (dk_at dksX1_count_5 9 rfl rfl)
theorem dX1_count_147 : decode cX1_count 147 = .ok (.getfield 94, 3) := dk_180 0 94 (dk_at dksX1_count_5 10 rfl rfl)
theorem dX1_count_150 : decode cX1_count 150 = .ok (.getfield 187, 3) := dk_180 0 187 (dk_at dksX1_count_5 13 rfl rfl)
theorem dX1_count_153 : decode cX1_count 153 = .ok (.invokeinterface 191 1, 5) := by decide +kernel
theorem dX1_count_158 : decode cX1_count 158 = .ok (.ireturn, 1) := dk_172 (dk_at dksX1_count_5 21 rfl rfl)
theorem dX1_count_159 : decode cX1_count 159 = .ok (.aload_n 0, 1) := dk_42 (dk_at dksX1_count_5 22 rfl rfl)
theorem dX1_count_160 : decode cX1_count 160 = .ok (.getfield 94, 3) := dk_180 0 94 (dk_at dksX1_count_6 0 rfl rfl)
theorem dX1_count_163 : decode cX1_count 163 = .ok (.invokevirtual 194, 3) := dk_182 0 194 (dk_at dksX1_count_6 3 rfl rfl)
theorem dX1_count_166 : decode cX1_count 166 = .ok (.ifCond .eq 7, 3) := dk_153 0 7 (dk_at dksX1_count_6 6 rfl rfl)
theorem dX1_count_169 : decode cX1_count 169 = .ok (.iconst 1, 1) := dk_4 (dk_at dksX1_count_6 9 rfl rfl)
theorem dX1_count_170 : decode cX1_count 170 = .ok (.goto 4, 3) := dk_167 0 4 (dk_at dksX1_count_6 10 rfl rfl)
theorem dX1_count_173 : decode cX1_count 173 = .ok (.iconst 0, 1) := dk_3 (dk_at dksX1_count_6 13 rfl rfl)
theorem dX1_count_174 : decode cX1_count 174 = .ok (.ireturn, 1) := dk_172 (dk_at dksX1_count_6 14 rfl rfl)
theorem dX1_count_175 : decode cX1_count 175 = .ok (.aload_n 0, 1) := dk_42 (dk_at dksX1_count_6 15 rfl rfl)
theorem dX1_count_176 : decode cX1_count 176 = .ok (.getfield 94, 3) := dk_180 0 94 (dk_at dksX1_count_6 16 rfl rfl)
theorem dX1_count_179 : decode cX1_count 179 = .ok (.invokevirtual 194, 3) := dk_182 0 194 (dk_at dksX1_count_6 19 rfl rfl)
theorem dX1_count_182 : decode cX1_count 182 = .ok (.ifCond .eq 15, 3) := dk_153 0 15 (dk_at dksX1_count_7 0 rfl rfl)
theorem dX1_count_185 : decode cX1_count 185 = .ok (.iconst 1, 1) := dk_4 (dk_at dksX1_count_7 3 rfl rfl)
theorem dX1_count_186 : decode cX1_count 186 = .ok (.aload_n 0, 1) := dk_42 (dk_at dksX1_count_7 4 rfl rfl)
theorem dX1_count_187 : decode cX1_count 187 = .ok (.getfield 94, 3) := dk_180 0 94 (dk_at dksX1_count_7 5 rfl rfl)
theorem dX1_count_190 : decode cX1_count 190 = .ok (.getfield 184, 3) := dk_180 0 184 (dk_at dksX1_count_7 8 rfl rfl)
theorem dX1_count_193 : decode cX1_count 193 = .ok (.isub, 1) := dk_100 (dk_at dksX1_count_7 11 rfl rfl)
theorem dX1_count_194 : decode cX1_count 194 = .ok (.goto 4, 3) := dk_167 0 4 (dk_at dksX1_count_7 12 rfl rfl)
theorem dX1_count_197 : decode cX1_count 197 = .ok (.iconst (-1), 1) := dk_2 (dk_at dksX1_count_7 15 rfl rfl)
theorem dX1_count_198 : decode cX1_count 198 = .ok (.ireturn, 1) := dk_172 (dk_at dksX1_count_7 16 rfl rfl)
theorem dX1_count_199 : decode cX1_count 199 = .ok (.aload_n 0, 1) := dk_42 (dk_at dksX1_count_7 17 rfl rfl)
theorem dX1_count_200 : decode cX1_count 200 = .ok (.getfield 94, 3) := dk_180 0 94 (dk_at dksX1_count_7 18 rfl rfl)
theorem dX1_count_203 : decode cX1_count 203 = .ok (.aload_n 0, 1) := dk_42 (dk_at dksX1_count_7 21 rfl rfl)
theorem dX1_count_204 : decode cX1_count 204 = .ok (.getfield 94, 3) := dk_180 0 94 (dk_at dksX1_count_8 0 rfl rfl)
theorem dX1_count_207 : decode cX1_count 207 = .ok (.invokevirtual 57, 3) := dk_182 0 57 (dk_at dksX1_count_8 3 rfl rfl)
theorem dX1_count_210 : decode cX1_count 210 = .ok (.invokevirtual 198, 3) := dk_182 0 198 (dk_at dksX1_count_8 6 rfl rfl)
theorem dX1_count_213 : decode cX1_count 213 = .ok (.ireturn, 1) := dk_172 (dk_at dksX1_count_8 9 rfl rfl)
theorem dX1_count_214 : decode cX1_count 214 = .ok (.aload_n 0, 1) := dk_42 (dk_at dksX1_count_8 10 rfl rfl)
theorem dX1_count_215 : decode cX1_count 215 = .ok (.getfield 94, 3) := dk_180 0 94 (dk_at dksX1_count_8 11 rfl rfl)
theorem dX1_count_218 : decode cX1_count 218 = .ok (.invokevirtual 201, 3) := dk_182 0 201 (dk_at dksX1_count_8 14 rfl rfl)
theorem dX1_count_221 : decode cX1_count 221 = .ok (.ireturn, 1) := dk_172 (dk_at dksX1_count_8 17 rfl rfl)
theorem dX1_count_222 : decode cX1_count 222 = .ok (.aload_n 0, 1) := dk_42 (dk_at dksX1_count_8 18 rfl rfl)
theorem dX1_count_223 : decode cX1_count 223 = .ok (.getfield 94, 3) := dk_180 0 94 (dk_at dksX1_count_8 19 rfl rfl)
theorem dX1_count_226 : decode cX1_count 226 = .ok (.invokestatic 53, 3) := dk_184 0 53 (dk_at dksX1_count_9 0 rfl rfl)
theorem dX1_count_229 : decode cX1_count 229 = .ok (.ireturn, 1) := dk_172 (dk_at dksX1_count_9 3 rfl rfl)
theorem dX1_count_230 : decode cX1_count 230 = .ok (.new 13, 3) := dk_187 0 13 (dk_at dksX1_count_9 4 rfl rfl)
theorem dX1_count_233 : decode cX1_count 233 = .ok (.dup, 1) := dk_89 (dk_at dksX1_count_9 7 rfl rfl)
theorem dX1_count_234 : decode cX1_count 234 = .ok (.invokespecial 15, 3) := dk_183 0 15 (dk_at dksX1_count_9 8 rfl rfl)
theorem dX1_count_237 : decode cX1_count 237 = .ok (.athrow, 1) := dk_191 (dk_at dksX1_count_9 11 rfl rfl)
abbrev cX1_vertex : ByteArray := prog_1_method_28_code
def yX1_vertex : MethodName := ⟨RX1, "vertex", "(II)I"⟩
def dkwX1_vertex_5 : List UInt8 := [180, 0, 94, 182, 0, 57, 126, 184, 0, 22, 172, 187, 0, 13, 89, 183, 0, 15, 191]
abbrev dktX1_vertex_5 : List UInt8 := dkwX1_vertex_5 ++ []
def dkwX1_vertex_4 : List UInt8 := [42, 180, 0, 94, 27, 182, 0, 220, 172, 42, 180, 0, 94, 180, 0, 163, 180, 0, 217, 27, 46, 42]
abbrev dktX1_vertex_4 : List UInt8 := dkwX1_vertex_4 ++ dktX1_vertex_5
def dkwX1_vertex_3 : List UInt8 := [180, 0, 94, 27, 182, 0, 214, 172, 42, 180, 0, 94, 180, 0, 163, 180, 0, 217, 27, 46, 184, 0, 22, 172]
abbrev dktX1_vertex_3 : List UInt8 := dkwX1_vertex_3 ++ dktX1_vertex_4
def dkwX1_vertex_2 : List UInt8 := [42, 180, 0, 94, 180, 0, 211, 27, 46, 172, 42, 180, 0, 94, 180, 0, 163, 180, 0, 75, 27, 46, 172, 42]
abbrev dktX1_vertex_2 : List UInt8 := dkwX1_vertex_2 ++ dktX1_vertex_3
def dkwX1_vertex_1 : List UInt8 := [170, 0, 0, 0, 0, 119, 0, 0, 0, 0, 0, 0, 0, 5, 0, 0, 0, 38, 0, 0, 0, 48, 0, 0, 0, 61, 0, 0, 0, 70, 0, 0, 0, 86, 0, 0, 0, 95]
abbrev dktX1_vertex_1 : List UInt8 := dkwX1_vertex_1 ++ dktX1_vertex_2
def dkwX1_vertex_0 : List UInt8 := [42, 27, 182, 0, 208, 28]
abbrev dktX1_vertex_0 : List UInt8 := dkwX1_vertex_0 ++ dktX1_vertex_1
theorem dksX1_vertex_0 : cX1_vertex.data.toList.drop 0 = dktX1_vertex_0 := by decide +kernel
theorem dksX1_vertex_1 : cX1_vertex.data.toList.drop 6 = dktX1_vertex_1 := dk_seg dksX1_vertex_0 6 rfl rfl
theorem dksX1_vertex_2 : cX1_vertex.data.toList.drop 44 = dktX1_vertex_2 := dk_seg dksX1_vertex_1 38 rfl rfl
theorem dksX1_vertex_3 : cX1_vertex.data.toList.drop 68 = dktX1_vertex_3 := dk_seg dksX1_vertex_2 24 rfl rfl
theorem dksX1_vertex_4 : cX1_vertex.data.toList.drop 92 = dktX1_vertex_4 := dk_seg dksX1_vertex_3 24 rfl rfl
theorem dksX1_vertex_5 : cX1_vertex.data.toList.drop 114 = dktX1_vertex_5 := dk_seg dksX1_vertex_4 22 rfl rfl
theorem dX1_vertex_0 : decode cX1_vertex 0 = .ok (.aload_n 0, 1) := dk_42 (dk_at dksX1_vertex_0 0 rfl rfl)
theorem dX1_vertex_1 : decode cX1_vertex 1 = .ok (.iload_n 1, 1) := dk_27 (dk_at dksX1_vertex_0 1 rfl rfl)
theorem dX1_vertex_2 : decode cX1_vertex 2 = .ok (.invokevirtual 208, 3) := dk_182 0 208 (dk_at dksX1_vertex_0 2 rfl rfl)
theorem dX1_vertex_5 : decode cX1_vertex 5 = .ok (.iload_n 2, 1) := dk_28 (dk_at dksX1_vertex_0 5 rfl rfl)
theorem dX1_vertex_6 : decode cX1_vertex 6 = .ok (.tableswitch 119 0 5 #[38, 48, 61, 70, 86, 95], 38) := by decide +kernel
theorem dX1_vertex_44 : decode cX1_vertex 44 = .ok (.aload_n 0, 1) := dk_42 (dk_at dksX1_vertex_2 0 rfl rfl)
theorem dX1_vertex_45 : decode cX1_vertex 45 = .ok (.getfield 94, 3) := dk_180 0 94 (dk_at dksX1_vertex_2 1 rfl rfl)
theorem dX1_vertex_48 : decode cX1_vertex 48 = .ok (.getfield 211, 3) := dk_180 0 211 (dk_at dksX1_vertex_2 4 rfl rfl)
theorem dX1_vertex_51 : decode cX1_vertex 51 = .ok (.iload_n 1, 1) := dk_27 (dk_at dksX1_vertex_2 7 rfl rfl)
theorem dX1_vertex_52 : decode cX1_vertex 52 = .ok (.iaload, 1) := dk_46 (dk_at dksX1_vertex_2 8 rfl rfl)
theorem dX1_vertex_53 : decode cX1_vertex 53 = .ok (.ireturn, 1) := dk_172 (dk_at dksX1_vertex_2 9 rfl rfl)
theorem dX1_vertex_54 : decode cX1_vertex 54 = .ok (.aload_n 0, 1) := dk_42 (dk_at dksX1_vertex_2 10 rfl rfl)
theorem dX1_vertex_55 : decode cX1_vertex 55 = .ok (.getfield 94, 3) := dk_180 0 94 (dk_at dksX1_vertex_2 11 rfl rfl)
theorem dX1_vertex_58 : decode cX1_vertex 58 = .ok (.getfield 163, 3) := dk_180 0 163 (dk_at dksX1_vertex_2 14 rfl rfl)
theorem dX1_vertex_61 : decode cX1_vertex 61 = .ok (.getfield 75, 3) := dk_180 0 75 (dk_at dksX1_vertex_2 17 rfl rfl)
theorem dX1_vertex_64 : decode cX1_vertex 64 = .ok (.iload_n 1, 1) := dk_27 (dk_at dksX1_vertex_2 20 rfl rfl)
theorem dX1_vertex_65 : decode cX1_vertex 65 = .ok (.iaload, 1) := dk_46 (dk_at dksX1_vertex_2 21 rfl rfl)
theorem dX1_vertex_66 : decode cX1_vertex 66 = .ok (.ireturn, 1) := dk_172 (dk_at dksX1_vertex_2 22 rfl rfl)
theorem dX1_vertex_67 : decode cX1_vertex 67 = .ok (.aload_n 0, 1) := dk_42 (dk_at dksX1_vertex_2 23 rfl rfl)
theorem dX1_vertex_68 : decode cX1_vertex 68 = .ok (.getfield 94, 3) := dk_180 0 94 (dk_at dksX1_vertex_3 0 rfl rfl)
theorem dX1_vertex_71 : decode cX1_vertex 71 = .ok (.iload_n 1, 1) := dk_27 (dk_at dksX1_vertex_3 3 rfl rfl)
theorem dX1_vertex_72 : decode cX1_vertex 72 = .ok (.invokevirtual 214, 3) := dk_182 0 214 (dk_at dksX1_vertex_3 4 rfl rfl)
theorem dX1_vertex_75 : decode cX1_vertex 75 = .ok (.ireturn, 1) := dk_172 (dk_at dksX1_vertex_3 7 rfl rfl)
theorem dX1_vertex_76 : decode cX1_vertex 76 = .ok (.aload_n 0, 1) := dk_42 (dk_at dksX1_vertex_3 8 rfl rfl)
theorem dX1_vertex_77 : decode cX1_vertex 77 = .ok (.getfield 94, 3) := dk_180 0 94 (dk_at dksX1_vertex_3 9 rfl rfl)
theorem dX1_vertex_80 : decode cX1_vertex 80 = .ok (.getfield 163, 3) := dk_180 0 163 (dk_at dksX1_vertex_3 12 rfl rfl)
theorem dX1_vertex_83 : decode cX1_vertex 83 = .ok (.getfield 217, 3) := dk_180 0 217 (dk_at dksX1_vertex_3 15 rfl rfl)
theorem dX1_vertex_86 : decode cX1_vertex 86 = .ok (.iload_n 1, 1) := dk_27 (dk_at dksX1_vertex_3 18 rfl rfl)
theorem dX1_vertex_87 : decode cX1_vertex 87 = .ok (.iaload, 1) := dk_46 (dk_at dksX1_vertex_3 19 rfl rfl)
theorem dX1_vertex_88 : decode cX1_vertex 88 = .ok (.invokestatic 22, 3) := dk_184 0 22 (dk_at dksX1_vertex_3 20 rfl rfl)
theorem dX1_vertex_91 : decode cX1_vertex 91 = .ok (.ireturn, 1) := dk_172 (dk_at dksX1_vertex_3 23 rfl rfl)
theorem dX1_vertex_92 : decode cX1_vertex 92 = .ok (.aload_n 0, 1) := dk_42 (dk_at dksX1_vertex_4 0 rfl rfl)
theorem dX1_vertex_93 : decode cX1_vertex 93 = .ok (.getfield 94, 3) := dk_180 0 94 (dk_at dksX1_vertex_4 1 rfl rfl)
theorem dX1_vertex_96 : decode cX1_vertex 96 = .ok (.iload_n 1, 1) := dk_27 (dk_at dksX1_vertex_4 4 rfl rfl)
theorem dX1_vertex_97 : decode cX1_vertex 97 = .ok (.invokevirtual 220, 3) := dk_182 0 220 (dk_at dksX1_vertex_4 5 rfl rfl)
theorem dX1_vertex_100 : decode cX1_vertex 100 = .ok (.ireturn, 1) := dk_172 (dk_at dksX1_vertex_4 8 rfl rfl)
theorem dX1_vertex_101 : decode cX1_vertex 101 = .ok (.aload_n 0, 1) := dk_42 (dk_at dksX1_vertex_4 9 rfl rfl)
theorem dX1_vertex_102 : decode cX1_vertex 102 = .ok (.getfield 94, 3) := dk_180 0 94 (dk_at dksX1_vertex_4 10 rfl rfl)
theorem dX1_vertex_105 : decode cX1_vertex 105 = .ok (.getfield 163, 3) := dk_180 0 163 (dk_at dksX1_vertex_4 13 rfl rfl)
theorem dX1_vertex_108 : decode cX1_vertex 108 = .ok (.getfield 217, 3) := dk_180 0 217 (dk_at dksX1_vertex_4 16 rfl rfl)
theorem dX1_vertex_111 : decode cX1_vertex 111 = .ok (.iload_n 1, 1) := dk_27 (dk_at dksX1_vertex_4 19 rfl rfl)
theorem dX1_vertex_112 : decode cX1_vertex 112 = .ok (.iaload, 1) := dk_46 (dk_at dksX1_vertex_4 20 rfl rfl)
theorem dX1_vertex_113 : decode cX1_vertex 113 = .ok (.aload_n 0, 1) := dk_42 (dk_at dksX1_vertex_4 21 rfl rfl)
theorem dX1_vertex_114 : decode cX1_vertex 114 = .ok (.getfield 94, 3) := dk_180 0 94 (dk_at dksX1_vertex_5 0 rfl rfl)
theorem dX1_vertex_117 : decode cX1_vertex 117 = .ok (.invokevirtual 57, 3) := dk_182 0 57 (dk_at dksX1_vertex_5 3 rfl rfl)
theorem dX1_vertex_120 : decode cX1_vertex 120 = .ok (.iand, 1) := dk_126 (dk_at dksX1_vertex_5 6 rfl rfl)
theorem dX1_vertex_121 : decode cX1_vertex 121 = .ok (.invokestatic 22, 3) := dk_184 0 22 (dk_at dksX1_vertex_5 7 rfl rfl)
theorem dX1_vertex_124 : decode cX1_vertex 124 = .ok (.ireturn, 1) := dk_172 (dk_at dksX1_vertex_5 10 rfl rfl)
theorem dX1_vertex_125 : decode cX1_vertex 125 = .ok (.new 13, 3) := dk_187 0 13 (dk_at dksX1_vertex_5 11 rfl rfl)
theorem dX1_vertex_128 : decode cX1_vertex 128 = .ok (.dup, 1) := dk_89 (dk_at dksX1_vertex_5 14 rfl rfl)
theorem dX1_vertex_129 : decode cX1_vertex 129 = .ok (.invokespecial 15, 3) := dk_183 0 15 (dk_at dksX1_vertex_5 15 rfl rfl)
theorem dX1_vertex_132 : decode cX1_vertex 132 = .ok (.athrow, 1) := dk_191 (dk_at dksX1_vertex_5 18 rfl rfl)
abbrev cX1_requireVertex : ByteArray := prog_1_method_25_code
def yX1_requireVertex : MethodName := ⟨RX1, "requireVertex", "(I)V"⟩
def dkwX1_requireVertex_0 : List UInt8 := [27, 42, 180, 0, 94, 180, 0, 163, 180, 0, 79, 184, 0, 204, 177]
abbrev dktX1_requireVertex_0 : List UInt8 := dkwX1_requireVertex_0 ++ []
theorem dksX1_requireVertex_0 : cX1_requireVertex.data.toList.drop 0 = dktX1_requireVertex_0 := by decide +kernel
theorem dX1_requireVertex_0 : decode cX1_requireVertex 0 = .ok (.iload_n 1, 1) := dk_27 (dk_at dksX1_requireVertex_0 0 rfl rfl)
theorem dX1_requireVertex_1 : decode cX1_requireVertex 1 = .ok (.aload_n 0, 1) := dk_42 (dk_at dksX1_requireVertex_0 1 rfl rfl)
theorem dX1_requireVertex_2 : decode cX1_requireVertex 2 = .ok (.getfield 94, 3) := dk_180 0 94 (dk_at dksX1_requireVertex_0 2 rfl rfl)
theorem dX1_requireVertex_5 : decode cX1_requireVertex 5 = .ok (.getfield 163, 3) := dk_180 0 163 (dk_at dksX1_requireVertex_0 5 rfl rfl)
theorem dX1_requireVertex_8 : decode cX1_requireVertex 8 = .ok (.getfield 79, 3) := dk_180 0 79 (dk_at dksX1_requireVertex_0 8 rfl rfl)
theorem dX1_requireVertex_11 : decode cX1_requireVertex 11 = .ok (.invokestatic 204, 3) := dk_184 0 204 (dk_at dksX1_requireVertex_0 11 rfl rfl)
theorem dX1_requireVertex_14 : decode cX1_requireVertex 14 = .ok (.return_, 1) := dk_177 (dk_at dksX1_requireVertex_0 14 rfl rfl)
abbrev cX1_requireIndex : ByteArray := prog_1_method_3_code
def yX1_requireIndex : MethodName := ⟨RX1, "requireIndex", "(II)V"⟩
def dkwX1_requireIndex_0 : List UInt8 := [26, 133, 9, 27, 4, 100, 133, 184, 0, 1, 154, 0, 11, 187, 0, 7, 89, 183, 0, 9, 191, 177]
abbrev dktX1_requireIndex_0 : List UInt8 := dkwX1_requireIndex_0 ++ []
theorem dksX1_requireIndex_0 : cX1_requireIndex.data.toList.drop 0 = dktX1_requireIndex_0 := by decide +kernel
theorem dX1_requireIndex_0 : decode cX1_requireIndex 0 = .ok (.iload_n 0, 1) := dk_26 (dk_at dksX1_requireIndex_0 0 rfl rfl)
theorem dX1_requireIndex_1 : decode cX1_requireIndex 1 = .ok (.i2l, 1) := dk_133 (dk_at dksX1_requireIndex_0 1 rfl rfl)
theorem dX1_requireIndex_2 : decode cX1_requireIndex 2 = .ok (.lconst 0, 1) := dk_9 (dk_at dksX1_requireIndex_0 2 rfl rfl)
theorem dX1_requireIndex_3 : decode cX1_requireIndex 3 = .ok (.iload_n 1, 1) := dk_27 (dk_at dksX1_requireIndex_0 3 rfl rfl)
theorem dX1_requireIndex_4 : decode cX1_requireIndex 4 = .ok (.iconst 1, 1) := dk_4 (dk_at dksX1_requireIndex_0 4 rfl rfl)
theorem dX1_requireIndex_5 : decode cX1_requireIndex 5 = .ok (.isub, 1) := dk_100 (dk_at dksX1_requireIndex_0 5 rfl rfl)
theorem dX1_requireIndex_6 : decode cX1_requireIndex 6 = .ok (.i2l, 1) := dk_133 (dk_at dksX1_requireIndex_0 6 rfl rfl)
theorem dX1_requireIndex_7 : decode cX1_requireIndex 7 = .ok (.invokestatic 1, 3) := dk_184 0 1 (dk_at dksX1_requireIndex_0 7 rfl rfl)
theorem dX1_requireIndex_10 : decode cX1_requireIndex 10 = .ok (.ifCond .ne 11, 3) := dk_154 0 11 (dk_at dksX1_requireIndex_0 10 rfl rfl)
theorem dX1_requireIndex_13 : decode cX1_requireIndex 13 = .ok (.new 7, 3) := dk_187 0 7 (dk_at dksX1_requireIndex_0 13 rfl rfl)
theorem dX1_requireIndex_16 : decode cX1_requireIndex 16 = .ok (.dup, 1) := dk_89 (dk_at dksX1_requireIndex_0 16 rfl rfl)
theorem dX1_requireIndex_17 : decode cX1_requireIndex 17 = .ok (.invokespecial 9, 3) := dk_183 0 9 (dk_at dksX1_requireIndex_0 17 rfl rfl)
theorem dX1_requireIndex_20 : decode cX1_requireIndex 20 = .ok (.athrow, 1) := dk_191 (dk_at dksX1_requireIndex_0 20 rfl rfl)
theorem dX1_requireIndex_21 : decode cX1_requireIndex 21 = .ok (.return_, 1) := dk_177 (dk_at dksX1_requireIndex_0 21 rfl rfl)
abbrev cX1_reason : ByteArray := prog_1_method_29_code
def yX1_reason : MethodName := ⟨RX1, "reason", "(II)I"⟩
def dkwX1_reason_0 : List UInt8 := [42, 27, 28, 182, 0, 223, 178, 0, 226, 42, 180, 0, 94, 27, 28, 182, 0, 230, 172]
abbrev dktX1_reason_0 : List UInt8 := dkwX1_reason_0 ++ []
theorem dksX1_reason_0 : cX1_reason.data.toList.drop 0 = dktX1_reason_0 := by decide +kernel
theorem dX1_reason_0 : decode cX1_reason 0 = .ok (.aload_n 0, 1) := dk_42 (dk_at dksX1_reason_0 0 rfl rfl)
theorem dX1_reason_1 : decode cX1_reason 1 = .ok (.iload_n 1, 1) := dk_27 (dk_at dksX1_reason_0 1 rfl rfl)
theorem dX1_reason_2 : decode cX1_reason 2 = .ok (.iload_n 2, 1) := dk_28 (dk_at dksX1_reason_0 2 rfl rfl)
theorem dX1_reason_3 : decode cX1_reason 3 = .ok (.invokevirtual 223, 3) := dk_182 0 223 (dk_at dksX1_reason_0 3 rfl rfl)
theorem dX1_reason_6 : decode cX1_reason 6 = .ok (.getstatic 226, 3) := dk_178 0 226 (dk_at dksX1_reason_0 6 rfl rfl)
theorem dX1_reason_9 : decode cX1_reason 9 = .ok (.aload_n 0, 1) := dk_42 (dk_at dksX1_reason_0 9 rfl rfl)
theorem dX1_reason_10 : decode cX1_reason 10 = .ok (.getfield 94, 3) := dk_180 0 94 (dk_at dksX1_reason_0 10 rfl rfl)
theorem dX1_reason_13 : decode cX1_reason 13 = .ok (.iload_n 1, 1) := dk_27 (dk_at dksX1_reason_0 13 rfl rfl)
theorem dX1_reason_14 : decode cX1_reason 14 = .ok (.iload_n 2, 1) := dk_28 (dk_at dksX1_reason_0 14 rfl rfl)
theorem dX1_reason_15 : decode cX1_reason 15 = .ok (.invokevirtual 230, 3) := dk_182 0 230 (dk_at dksX1_reason_0 15 rfl rfl)
theorem dX1_reason_18 : decode cX1_reason 18 = .ok (.ireturn, 1) := dk_172 (dk_at dksX1_reason_0 18 rfl rfl)
abbrev cX1_requirePair : ByteArray := prog_1_method_26_code
def yX1_requirePair : MethodName := ⟨RX1, "requirePair", "(II)V"⟩
def dkwX1_requirePair_0 : List UInt8 := [42, 27, 182, 0, 208, 28, 42, 180, 0, 94, 180, 0, 163, 180, 0, 178, 184, 0, 204, 177]
abbrev dktX1_requirePair_0 : List UInt8 := dkwX1_requirePair_0 ++ []
theorem dksX1_requirePair_0 : cX1_requirePair.data.toList.drop 0 = dktX1_requirePair_0 := by decide +kernel
theorem dX1_requirePair_0 : decode cX1_requirePair 0 = .ok (.aload_n 0, 1) := dk_42 (dk_at dksX1_requirePair_0 0 rfl rfl)
theorem dX1_requirePair_1 : decode cX1_requirePair 1 = .ok (.iload_n 1, 1) := dk_27 (dk_at dksX1_requirePair_0 1 rfl rfl)
theorem dX1_requirePair_2 : decode cX1_requirePair 2 = .ok (.invokevirtual 208, 3) := dk_182 0 208 (dk_at dksX1_requirePair_0 2 rfl rfl)
theorem dX1_requirePair_5 : decode cX1_requirePair 5 = .ok (.iload_n 2, 1) := dk_28 (dk_at dksX1_requirePair_0 5 rfl rfl)
theorem dX1_requirePair_6 : decode cX1_requirePair 6 = .ok (.aload_n 0, 1) := dk_42 (dk_at dksX1_requirePair_0 6 rfl rfl)
theorem dX1_requirePair_7 : decode cX1_requirePair 7 = .ok (.getfield 94, 3) := dk_180 0 94 (dk_at dksX1_requirePair_0 7 rfl rfl)
theorem dX1_requirePair_10 : decode cX1_requirePair 10 = .ok (.getfield 163, 3) := dk_180 0 163 (dk_at dksX1_requirePair_0 10 rfl rfl)
theorem dX1_requirePair_13 : decode cX1_requirePair 13 = .ok (.getfield 178, 3) := dk_180 0 178 (dk_at dksX1_requirePair_0 13 rfl rfl)
theorem dX1_requirePair_16 : decode cX1_requirePair 16 = .ok (.invokestatic 204, 3) := dk_184 0 204 (dk_at dksX1_requirePair_0 16 rfl rfl)
theorem dX1_requirePair_19 : decode cX1_requirePair 19 = .ok (.return_, 1) := dk_177 (dk_at dksX1_requirePair_0 19 rfl rfl)
abbrev cX1_part : ByteArray := prog_1_method_31_code
def yX1_part : MethodName := ⟨RX1, "part", "(II)I"⟩
def dkwX1_part_6 : List UInt8 := [180, 0, 94, 25, 4, 182, 0, 254, 184, 1, 2, 172, 187, 0, 13, 89, 183, 0, 15, 191]
abbrev dktX1_part_6 : List UInt8 := dkwX1_part_6 ++ []
def dkwX1_part_5 : List UInt8 := [182, 0, 254, 184, 0, 64, 172, 42, 42, 180, 0, 94, 25, 4, 182, 0, 254, 184, 0, 67, 172, 42, 42]
abbrev dktX1_part_5 : List UInt8 := dkwX1_part_5 ++ dktX1_part_6
def dkwX1_part_4 : List UInt8 := [182, 0, 251, 172, 42, 180, 0, 94, 25, 4, 182, 0, 32, 182, 0, 198, 172, 42, 42, 180, 0, 94, 25, 4]
abbrev dktX1_part_4 : List UInt8 := dkwX1_part_4 ++ dktX1_part_5
def dkwX1_part_3 : List UInt8 := [25, 4, 182, 0, 247, 172, 25, 4, 182, 0, 248, 172, 25, 4, 182, 0, 38, 172, 42, 25, 4, 182, 0, 32]
abbrev dktX1_part_3 : List UInt8 := dkwX1_part_3 ++ dktX1_part_4
def dkwX1_part_2 : List UInt8 := [170, 0, 0, 0, 128, 0, 0, 0, 0, 0, 0, 0, 7, 0, 0, 0, 45, 0, 0, 0, 51, 0, 0, 0, 57, 0, 0, 0, 63, 0, 0, 0, 73, 0, 0, 0, 86, 0, 0, 0, 100, 0, 0, 0, 114]
abbrev dktX1_part_2 : List UInt8 := dkwX1_part_2 ++ dktX1_part_3
def dkwX1_part_1 : List UInt8 := [185, 0, 243, 2, 0, 192, 0, 33, 58, 4, 28]
abbrev dktX1_part_1 : List UInt8 := dkwX1_part_1 ++ dktX1_part_2
def dkwX1_part_0 : List UInt8 := [42, 180, 0, 94, 182, 0, 239, 78, 27, 45, 185, 0, 191, 1, 0, 184, 0, 204, 45, 27]
abbrev dktX1_part_0 : List UInt8 := dkwX1_part_0 ++ dktX1_part_1
theorem dksX1_part_0 : cX1_part.data.toList.drop 0 = dktX1_part_0 := by decide +kernel
theorem dksX1_part_1 : cX1_part.data.toList.drop 20 = dktX1_part_1 := dk_seg dksX1_part_0 20 rfl rfl
theorem dksX1_part_2 : cX1_part.data.toList.drop 31 = dktX1_part_2 := dk_seg dksX1_part_1 11 rfl rfl
theorem dksX1_part_3 : cX1_part.data.toList.drop 76 = dktX1_part_3 := dk_seg dksX1_part_2 45 rfl rfl
theorem dksX1_part_4 : cX1_part.data.toList.drop 100 = dktX1_part_4 := dk_seg dksX1_part_3 24 rfl rfl
theorem dksX1_part_5 : cX1_part.data.toList.drop 124 = dktX1_part_5 := dk_seg dksX1_part_4 24 rfl rfl
theorem dksX1_part_6 : cX1_part.data.toList.drop 147 = dktX1_part_6 := dk_seg dksX1_part_5 23 rfl rfl
theorem dX1_part_0 : decode cX1_part 0 = .ok (.aload_n 0, 1) := dk_42 (dk_at dksX1_part_0 0 rfl rfl)
theorem dX1_part_1 : decode cX1_part 1 = .ok (.getfield 94, 3) := dk_180 0 94 (dk_at dksX1_part_0 1 rfl rfl)
theorem dX1_part_4 : decode cX1_part 4 = .ok (.invokevirtual 239, 3) := dk_182 0 239 (dk_at dksX1_part_0 4 rfl rfl)
theorem dX1_part_7 : decode cX1_part 7 = .ok (.astore_n 3, 1) := dk_78 (dk_at dksX1_part_0 7 rfl rfl)
theorem dX1_part_8 : decode cX1_part 8 = .ok (.iload_n 1, 1) := dk_27 (dk_at dksX1_part_0 8 rfl rfl)
theorem dX1_part_9 : decode cX1_part 9 = .ok (.aload_n 3, 1) := dk_45 (dk_at dksX1_part_0 9 rfl rfl)
theorem dX1_part_10 : decode cX1_part 10 = .ok (.invokeinterface 191 1, 5) := by decide +kernel
theorem dX1_part_15 : decode cX1_part 15 = .ok (.invokestatic 204, 3) := dk_184 0 204 (dk_at dksX1_part_0 15 rfl rfl)
theorem dX1_part_18 : decode cX1_part 18 = .ok (.aload_n 3, 1) := dk_45 (dk_at dksX1_part_0 18 rfl rfl)
theorem dX1_part_19 : decode cX1_part 19 = .ok (.iload_n 1, 1) := dk_27 (dk_at dksX1_part_0 19 rfl rfl)
theorem dX1_part_20 : decode cX1_part 20 = .ok (.invokeinterface 243 2, 5) := by decide +kernel
theorem dX1_part_25 : decode cX1_part 25 = .ok (.checkcast 33, 3) := dk_192 0 33 (dk_at dksX1_part_1 5 rfl rfl)
theorem dX1_part_28 : decode cX1_part 28 = .ok (.astore 4, 2) := dk_58 4 (dk_at dksX1_part_1 8 rfl rfl)
theorem dX1_part_30 : decode cX1_part 30 = .ok (.iload_n 2, 1) := dk_28 (dk_at dksX1_part_1 10 rfl rfl)
theorem dX1_part_31 : decode cX1_part 31 = .ok (.tableswitch 128 0 7 #[45, 51, 57, 63, 73, 86, 100, 114], 45) := by decide +kernel
theorem dX1_part_76 : decode cX1_part 76 = .ok (.aload 4, 2) := dk_25 4 (dk_at dksX1_part_3 0 rfl rfl)
theorem dX1_part_78 : decode cX1_part 78 = .ok (.invokevirtual 247, 3) := dk_182 0 247 (dk_at dksX1_part_3 2 rfl rfl)
theorem dX1_part_81 : decode cX1_part 81 = .ok (.ireturn, 1) := dk_172 (dk_at dksX1_part_3 5 rfl rfl)
theorem dX1_part_82 : decode cX1_part 82 = .ok (.aload 4, 2) := dk_25 4 (dk_at dksX1_part_3 6 rfl rfl)
theorem dX1_part_84 : decode cX1_part 84 = .ok (.invokevirtual 248, 3) := dk_182 0 248 (dk_at dksX1_part_3 8 rfl rfl)
theorem dX1_part_87 : decode cX1_part 87 = .ok (.ireturn, 1) := dk_172 (dk_at dksX1_part_3 11 rfl rfl)
theorem dX1_part_88 : decode cX1_part 88 = .ok (.aload 4, 2) := dk_25 4 (dk_at dksX1_part_3 12 rfl rfl)
theorem dX1_part_90 : decode cX1_part 90 = .ok (.invokevirtual 38, 3) := dk_182 0 38 (dk_at dksX1_part_3 14 rfl rfl)
theorem dX1_part_93 : decode cX1_part 93 = .ok (.ireturn, 1) := dk_172 (dk_at dksX1_part_3 17 rfl rfl)
theorem dX1_part_94 : decode cX1_part 94 = .ok (.aload_n 0, 1) := dk_42 (dk_at dksX1_part_3 18 rfl rfl)
theorem dX1_part_95 : decode cX1_part 95 = .ok (.aload 4, 2) := dk_25 4 (dk_at dksX1_part_3 19 rfl rfl)
theorem dX1_part_97 : decode cX1_part 97 = .ok (.invokevirtual 32, 3) := dk_182 0 32 (dk_at dksX1_part_3 21 rfl rfl)
theorem dX1_part_100 : decode cX1_part 100 = .ok (.invokevirtual 251, 3) := dk_182 0 251 (dk_at dksX1_part_4 0 rfl rfl)
theorem dX1_part_103 : decode cX1_part 103 = .ok (.ireturn, 1) := dk_172 (dk_at dksX1_part_4 3 rfl rfl)
theorem dX1_part_104 : decode cX1_part 104 = .ok (.aload_n 0, 1) := dk_42 (dk_at dksX1_part_4 4 rfl rfl)
theorem dX1_part_105 : decode cX1_part 105 = .ok (.getfield 94, 3) := dk_180 0 94 (dk_at dksX1_part_4 5 rfl rfl)
theorem dX1_part_108 : decode cX1_part 108 = .ok (.aload 4, 2) := dk_25 4 (dk_at dksX1_part_4 8 rfl rfl)
theorem dX1_part_110 : decode cX1_part 110 = .ok (.invokevirtual 32, 3) := dk_182 0 32 (dk_at dksX1_part_4 10 rfl rfl)
theorem dX1_part_113 : decode cX1_part 113 = .ok (.invokevirtual 198, 3) := dk_182 0 198 (dk_at dksX1_part_4 13 rfl rfl)
theorem dX1_part_116 : decode cX1_part 116 = .ok (.ireturn, 1) := dk_172 (dk_at dksX1_part_4 16 rfl rfl)
theorem dX1_part_117 : decode cX1_part 117 = .ok (.aload_n 0, 1) := dk_42 (dk_at dksX1_part_4 17 rfl rfl)
theorem dX1_part_118 : decode cX1_part 118 = .ok (.aload_n 0, 1) := dk_42 (dk_at dksX1_part_4 18 rfl rfl)
theorem dX1_part_119 : decode cX1_part 119 = .ok (.getfield 94, 3) := dk_180 0 94 (dk_at dksX1_part_4 19 rfl rfl)
theorem dX1_part_122 : decode cX1_part 122 = .ok (.aload 4, 2) := dk_25 4 (dk_at dksX1_part_4 22 rfl rfl)
theorem dX1_part_124 : decode cX1_part 124 = .ok (.invokevirtual 254, 3) := dk_182 0 254 (dk_at dksX1_part_5 0 rfl rfl)
theorem dX1_part_127 : decode cX1_part 127 = .ok (.invokestatic 64, 3) := dk_184 0 64 (dk_at dksX1_part_5 3 rfl rfl)
theorem dX1_part_130 : decode cX1_part 130 = .ok (.ireturn, 1) := dk_172 (dk_at dksX1_part_5 6 rfl rfl)
theorem dX1_part_131 : decode cX1_part 131 = .ok (.aload_n 0, 1) := dk_42 (dk_at dksX1_part_5 7 rfl rfl)
theorem dX1_part_132 : decode cX1_part 132 = .ok (.aload_n 0, 1) := dk_42 (dk_at dksX1_part_5 8 rfl rfl)
theorem dX1_part_133 : decode cX1_part 133 = .ok (.getfield 94, 3) := dk_180 0 94 (dk_at dksX1_part_5 9 rfl rfl)
theorem dX1_part_136 : decode cX1_part 136 = .ok (.aload 4, 2) := dk_25 4 (dk_at dksX1_part_5 12 rfl rfl)
theorem dX1_part_138 : decode cX1_part 138 = .ok (.invokevirtual 254, 3) := dk_182 0 254 (dk_at dksX1_part_5 14 rfl rfl)
theorem dX1_part_141 : decode cX1_part 141 = .ok (.invokestatic 67, 3) := dk_184 0 67 (dk_at dksX1_part_5 17 rfl rfl)
theorem dX1_part_144 : decode cX1_part 144 = .ok (.ireturn, 1) := dk_172 (dk_at dksX1_part_5 20 rfl rfl)
theorem dX1_part_145 : decode cX1_part 145 = .ok (.aload_n 0, 1) := dk_42 (dk_at dksX1_part_5 21 rfl rfl)
theorem dX1_part_146 : decode cX1_part 146 = .ok (.aload_n 0, 1) := dk_42 (dk_at dksX1_part_5 22 rfl rfl)
theorem dX1_part_147 : decode cX1_part 147 = .ok (.getfield 94, 3) := dk_180 0 94 (dk_at dksX1_part_6 0 rfl rfl)
theorem dX1_part_150 : decode cX1_part 150 = .ok (.aload 4, 2) := dk_25 4 (dk_at dksX1_part_6 3 rfl rfl)
theorem dX1_part_152 : decode cX1_part 152 = .ok (.invokevirtual 254, 3) := dk_182 0 254 (dk_at dksX1_part_6 5 rfl rfl)
theorem dX1_part_155 : decode cX1_part 155 = .ok (.invokestatic 258, 3) := dk_184 1 2 (dk_at dksX1_part_6 8 rfl rfl)
theorem dX1_part_158 : decode cX1_part 158 = .ok (.ireturn, 1) := dk_172 (dk_at dksX1_part_6 11 rfl rfl)
theorem dX1_part_159 : decode cX1_part 159 = .ok (.new 13, 3) := dk_187 0 13 (dk_at dksX1_part_6 12 rfl rfl)
theorem dX1_part_162 : decode cX1_part 162 = .ok (.dup, 1) := dk_89 (dk_at dksX1_part_6 15 rfl rfl)
theorem dX1_part_163 : decode cX1_part 163 = .ok (.invokespecial 15, 3) := dk_183 0 15 (dk_at dksX1_part_6 16 rfl rfl)
theorem dX1_part_166 : decode cX1_part 166 = .ok (.athrow, 1) := dk_191 (dk_at dksX1_part_6 19 rfl rfl)
abbrev cX1_edgesIn : ByteArray := prog_1_method_30_code
def yX1_edgesIn : MethodName := ⟨RX1, "edgesIn", "(I)I"⟩
def dkwX1_edgesIn_2 : List UInt8 := [96, 61, 132, 3, 1, 167, 255, 207, 28, 5, 108, 172]
abbrev dktX1_edgesIn_2 : List UInt8 := dkwX1_edgesIn_2 ++ []
def dkwX1_edgesIn_1 : List UInt8 := [153, 0, 23, 42, 180, 0, 94, 180, 0, 163, 180, 0, 217, 29, 46, 27, 126, 184, 0, 22, 167, 0, 4, 3]
abbrev dktX1_edgesIn_1 : List UInt8 := dkwX1_edgesIn_1 ++ dktX1_edgesIn_2
def dkwX1_edgesIn_0 : List UInt8 := [3, 61, 3, 62, 29, 42, 180, 0, 94, 180, 0, 163, 180, 0, 79, 162, 0, 41, 28, 27, 29, 184, 0, 235]
abbrev dktX1_edgesIn_0 : List UInt8 := dkwX1_edgesIn_0 ++ dktX1_edgesIn_1
theorem dksX1_edgesIn_0 : cX1_edgesIn.data.toList.drop 0 = dktX1_edgesIn_0 := by decide +kernel
theorem dksX1_edgesIn_1 : cX1_edgesIn.data.toList.drop 24 = dktX1_edgesIn_1 := dk_seg dksX1_edgesIn_0 24 rfl rfl
theorem dksX1_edgesIn_2 : cX1_edgesIn.data.toList.drop 48 = dktX1_edgesIn_2 := dk_seg dksX1_edgesIn_1 24 rfl rfl
theorem dX1_edgesIn_0 : decode cX1_edgesIn 0 = .ok (.iconst 0, 1) := dk_3 (dk_at dksX1_edgesIn_0 0 rfl rfl)
theorem dX1_edgesIn_1 : decode cX1_edgesIn 1 = .ok (.istore_n 2, 1) := dk_61 (dk_at dksX1_edgesIn_0 1 rfl rfl)
theorem dX1_edgesIn_2 : decode cX1_edgesIn 2 = .ok (.iconst 0, 1) := dk_3 (dk_at dksX1_edgesIn_0 2 rfl rfl)
theorem dX1_edgesIn_3 : decode cX1_edgesIn 3 = .ok (.istore_n 3, 1) := dk_62 (dk_at dksX1_edgesIn_0 3 rfl rfl)
theorem dX1_edgesIn_4 : decode cX1_edgesIn 4 = .ok (.iload_n 3, 1) := dk_29 (dk_at dksX1_edgesIn_0 4 rfl rfl)
theorem dX1_edgesIn_5 : decode cX1_edgesIn 5 = .ok (.aload_n 0, 1) := dk_42 (dk_at dksX1_edgesIn_0 5 rfl rfl)
theorem dX1_edgesIn_6 : decode cX1_edgesIn 6 = .ok (.getfield 94, 3) := dk_180 0 94 (dk_at dksX1_edgesIn_0 6 rfl rfl)
theorem dX1_edgesIn_9 : decode cX1_edgesIn 9 = .ok (.getfield 163, 3) := dk_180 0 163 (dk_at dksX1_edgesIn_0 9 rfl rfl)
theorem dX1_edgesIn_12 : decode cX1_edgesIn 12 = .ok (.getfield 79, 3) := dk_180 0 79 (dk_at dksX1_edgesIn_0 12 rfl rfl)
theorem dX1_edgesIn_15 : decode cX1_edgesIn 15 = .ok (.if_icmp .ge 41, 3) := dk_162 0 41 (dk_at dksX1_edgesIn_0 15 rfl rfl)
theorem dX1_edgesIn_18 : decode cX1_edgesIn 18 = .ok (.iload_n 2, 1) := dk_28 (dk_at dksX1_edgesIn_0 18 rfl rfl)
theorem dX1_edgesIn_19 : decode cX1_edgesIn 19 = .ok (.iload_n 1, 1) := dk_27 (dk_at dksX1_edgesIn_0 19 rfl rfl)
theorem dX1_edgesIn_20 : decode cX1_edgesIn 20 = .ok (.iload_n 3, 1) := dk_29 (dk_at dksX1_edgesIn_0 20 rfl rfl)
theorem dX1_edgesIn_21 : decode cX1_edgesIn 21 = .ok (.invokestatic 235, 3) := dk_184 0 235 (dk_at dksX1_edgesIn_0 21 rfl rfl)
theorem dX1_edgesIn_24 : decode cX1_edgesIn 24 = .ok (.ifCond .eq 23, 3) := dk_153 0 23 (dk_at dksX1_edgesIn_1 0 rfl rfl)
theorem dX1_edgesIn_27 : decode cX1_edgesIn 27 = .ok (.aload_n 0, 1) := dk_42 (dk_at dksX1_edgesIn_1 3 rfl rfl)
theorem dX1_edgesIn_28 : decode cX1_edgesIn 28 = .ok (.getfield 94, 3) := dk_180 0 94 (dk_at dksX1_edgesIn_1 4 rfl rfl)
theorem dX1_edgesIn_31 : decode cX1_edgesIn 31 = .ok (.getfield 163, 3) := dk_180 0 163 (dk_at dksX1_edgesIn_1 7 rfl rfl)
theorem dX1_edgesIn_34 : decode cX1_edgesIn 34 = .ok (.getfield 217, 3) := dk_180 0 217 (dk_at dksX1_edgesIn_1 10 rfl rfl)
theorem dX1_edgesIn_37 : decode cX1_edgesIn 37 = .ok (.iload_n 3, 1) := dk_29 (dk_at dksX1_edgesIn_1 13 rfl rfl)
theorem dX1_edgesIn_38 : decode cX1_edgesIn 38 = .ok (.iaload, 1) := dk_46 (dk_at dksX1_edgesIn_1 14 rfl rfl)
theorem dX1_edgesIn_39 : decode cX1_edgesIn 39 = .ok (.iload_n 1, 1) := dk_27 (dk_at dksX1_edgesIn_1 15 rfl rfl)
theorem dX1_edgesIn_40 : decode cX1_edgesIn 40 = .ok (.iand, 1) := dk_126 (dk_at dksX1_edgesIn_1 16 rfl rfl)
theorem dX1_edgesIn_41 : decode cX1_edgesIn 41 = .ok (.invokestatic 22, 3) := dk_184 0 22 (dk_at dksX1_edgesIn_1 17 rfl rfl)
theorem dX1_edgesIn_44 : decode cX1_edgesIn 44 = .ok (.goto 4, 3) := dk_167 0 4 (dk_at dksX1_edgesIn_1 20 rfl rfl)
theorem dX1_edgesIn_47 : decode cX1_edgesIn 47 = .ok (.iconst 0, 1) := dk_3 (dk_at dksX1_edgesIn_1 23 rfl rfl)
theorem dX1_edgesIn_48 : decode cX1_edgesIn 48 = .ok (.iadd, 1) := dk_96 (dk_at dksX1_edgesIn_2 0 rfl rfl)
theorem dX1_edgesIn_49 : decode cX1_edgesIn 49 = .ok (.istore_n 2, 1) := dk_61 (dk_at dksX1_edgesIn_2 1 rfl rfl)
theorem dX1_edgesIn_50 : decode cX1_edgesIn 50 = .ok (.iinc 3 1, 3) := dk_132 3 1 (dk_at dksX1_edgesIn_2 2 rfl rfl)
theorem dX1_edgesIn_53 : decode cX1_edgesIn 53 = .ok (.goto (-49), 3) := dk_167 255 207 (dk_at dksX1_edgesIn_2 5 rfl rfl)
theorem dX1_edgesIn_56 : decode cX1_edgesIn 56 = .ok (.iload_n 2, 1) := dk_28 (dk_at dksX1_edgesIn_2 8 rfl rfl)
theorem dX1_edgesIn_57 : decode cX1_edgesIn 57 = .ok (.iconst 2, 1) := dk_5 (dk_at dksX1_edgesIn_2 9 rfl rfl)
theorem dX1_edgesIn_58 : decode cX1_edgesIn 58 = .ok (.idiv, 1) := dk_108 (dk_at dksX1_edgesIn_2 10 rfl rfl)
theorem dX1_edgesIn_59 : decode cX1_edgesIn 59 = .ok (.ireturn, 1) := dk_172 (dk_at dksX1_edgesIn_2 11 rfl rfl)
abbrev cX1_valueIf : ByteArray := prog_1_method_34_code
def yX1_valueIf : MethodName := ⟨RX1, "valueIf", "(II)I"⟩
def dkwX1_valueIf_1 : List UInt8 := [167, 0, 4, 3, 184, 1, 11, 42, 42, 7, 27, 104, 28, 96, 182, 1, 14, 182, 1, 5, 172]
abbrev dktX1_valueIf_1 : List UInt8 := dkwX1_valueIf_1 ++ []
def dkwX1_valueIf_0 : List UInt8 := [42, 27, 28, 182, 0, 223, 178, 0, 226, 42, 180, 0, 94, 27, 28, 182, 0, 230, 154, 0, 7, 4]
abbrev dktX1_valueIf_0 : List UInt8 := dkwX1_valueIf_0 ++ dktX1_valueIf_1
theorem dksX1_valueIf_0 : cX1_valueIf.data.toList.drop 0 = dktX1_valueIf_0 := by decide +kernel
theorem dksX1_valueIf_1 : cX1_valueIf.data.toList.drop 22 = dktX1_valueIf_1 := dk_seg dksX1_valueIf_0 22 rfl rfl
theorem dX1_valueIf_0 : decode cX1_valueIf 0 = .ok (.aload_n 0, 1) := dk_42 (dk_at dksX1_valueIf_0 0 rfl rfl)
theorem dX1_valueIf_1 : decode cX1_valueIf 1 = .ok (.iload_n 1, 1) := dk_27 (dk_at dksX1_valueIf_0 1 rfl rfl)
theorem dX1_valueIf_2 : decode cX1_valueIf 2 = .ok (.iload_n 2, 1) := dk_28 (dk_at dksX1_valueIf_0 2 rfl rfl)
theorem dX1_valueIf_3 : decode cX1_valueIf 3 = .ok (.invokevirtual 223, 3) := dk_182 0 223 (dk_at dksX1_valueIf_0 3 rfl rfl)
theorem dX1_valueIf_6 : decode cX1_valueIf 6 = .ok (.getstatic 226, 3) := dk_178 0 226 (dk_at dksX1_valueIf_0 6 rfl rfl)
theorem dX1_valueIf_9 : decode cX1_valueIf 9 = .ok (.aload_n 0, 1) := dk_42 (dk_at dksX1_valueIf_0 9 rfl rfl)
theorem dX1_valueIf_10 : decode cX1_valueIf 10 = .ok (.getfield 94, 3) := dk_180 0 94 (dk_at dksX1_valueIf_0 10 rfl rfl)
theorem dX1_valueIf_13 : decode cX1_valueIf 13 = .ok (.iload_n 1, 1) := dk_27 (dk_at dksX1_valueIf_0 13 rfl rfl)
theorem dX1_valueIf_14 : decode cX1_valueIf 14 = .ok (.iload_n 2, 1) := dk_28 (dk_at dksX1_valueIf_0 14 rfl rfl)
theorem dX1_valueIf_15 : decode cX1_valueIf 15 = .ok (.invokevirtual 230, 3) := dk_182 0 230 (dk_at dksX1_valueIf_0 15 rfl rfl)
theorem dX1_valueIf_18 : decode cX1_valueIf 18 = .ok (.ifCond .ne 7, 3) := dk_154 0 7 (dk_at dksX1_valueIf_0 18 rfl rfl)
theorem dX1_valueIf_21 : decode cX1_valueIf 21 = .ok (.iconst 1, 1) := dk_4 (dk_at dksX1_valueIf_0 21 rfl rfl)
theorem dX1_valueIf_22 : decode cX1_valueIf 22 = .ok (.goto 4, 3) := dk_167 0 4 (dk_at dksX1_valueIf_1 0 rfl rfl)
theorem dX1_valueIf_25 : decode cX1_valueIf 25 = .ok (.iconst 0, 1) := dk_3 (dk_at dksX1_valueIf_1 3 rfl rfl)
theorem dX1_valueIf_26 : decode cX1_valueIf 26 = .ok (.invokestatic 267, 3) := dk_184 1 11 (dk_at dksX1_valueIf_1 4 rfl rfl)
theorem dX1_valueIf_29 : decode cX1_valueIf 29 = .ok (.aload_n 0, 1) := dk_42 (dk_at dksX1_valueIf_1 7 rfl rfl)
theorem dX1_valueIf_30 : decode cX1_valueIf 30 = .ok (.aload_n 0, 1) := dk_42 (dk_at dksX1_valueIf_1 8 rfl rfl)
theorem dX1_valueIf_31 : decode cX1_valueIf 31 = .ok (.iconst 4, 1) := dk_7 (dk_at dksX1_valueIf_1 9 rfl rfl)
theorem dX1_valueIf_32 : decode cX1_valueIf 32 = .ok (.iload_n 1, 1) := dk_27 (dk_at dksX1_valueIf_1 10 rfl rfl)
theorem dX1_valueIf_33 : decode cX1_valueIf 33 = .ok (.imul, 1) := dk_104 (dk_at dksX1_valueIf_1 11 rfl rfl)
theorem dX1_valueIf_34 : decode cX1_valueIf 34 = .ok (.iload_n 2, 1) := dk_28 (dk_at dksX1_valueIf_1 12 rfl rfl)
theorem dX1_valueIf_35 : decode cX1_valueIf 35 = .ok (.iadd, 1) := dk_96 (dk_at dksX1_valueIf_1 13 rfl rfl)
theorem dX1_valueIf_36 : decode cX1_valueIf 36 = .ok (.invokevirtual 270, 3) := dk_182 1 14 (dk_at dksX1_valueIf_1 14 rfl rfl)
theorem dX1_valueIf_39 : decode cX1_valueIf 39 = .ok (.invokevirtual 261, 3) := dk_182 1 5 (dk_at dksX1_valueIf_1 17 rfl rfl)
theorem dX1_valueIf_42 : decode cX1_valueIf 42 = .ok (.ireturn, 1) := dk_172 (dk_at dksX1_valueIf_1 20 rfl rfl)
abbrev cX1_requireElement : ByteArray := prog_1_method_6_code
def yX1_requireElement : MethodName := ⟨RX1, "requireElement", "(Z)V"⟩
def dkwX1_requireElement_0 : List UInt8 := [26, 154, 0, 11, 187, 0, 19, 89, 183, 0, 21, 191, 177]
abbrev dktX1_requireElement_0 : List UInt8 := dkwX1_requireElement_0 ++ []
theorem dksX1_requireElement_0 : cX1_requireElement.data.toList.drop 0 = dktX1_requireElement_0 := by decide +kernel
theorem dX1_requireElement_0 : decode cX1_requireElement 0 = .ok (.iload_n 0, 1) := dk_26 (dk_at dksX1_requireElement_0 0 rfl rfl)
theorem dX1_requireElement_1 : decode cX1_requireElement 1 = .ok (.ifCond .ne 11, 3) := dk_154 0 11 (dk_at dksX1_requireElement_0 1 rfl rfl)
theorem dX1_requireElement_4 : decode cX1_requireElement 4 = .ok (.new 19, 3) := dk_187 0 19 (dk_at dksX1_requireElement_0 4 rfl rfl)
theorem dX1_requireElement_7 : decode cX1_requireElement 7 = .ok (.dup, 1) := dk_89 (dk_at dksX1_requireElement_0 7 rfl rfl)
theorem dX1_requireElement_8 : decode cX1_requireElement 8 = .ok (.invokespecial 21, 3) := dk_183 0 21 (dk_at dksX1_requireElement_0 8 rfl rfl)
theorem dX1_requireElement_11 : decode cX1_requireElement 11 = .ok (.athrow, 1) := dk_191 (dk_at dksX1_requireElement_0 11 rfl rfl)
theorem dX1_requireElement_12 : decode cX1_requireElement 12 = .ok (.return_, 1) := dk_177 (dk_at dksX1_requireElement_0 12 rfl rfl)
abbrev cX1_bestMove : ByteArray := prog_1_method_39_code
def yX1_bestMove : MethodName := ⟨RX1, "bestMove", "()I"⟩
def dkwX1_bestMove_1 : List UInt8 := [182, 1, 51, 172]
abbrev dktX1_bestMove_1 : List UInt8 := dkwX1_bestMove_1 ++ []
def dkwX1_bestMove_0 : List UInt8 := [42, 180, 0, 94, 182, 0, 194, 154, 0, 7, 4, 167, 0, 4, 3, 184, 1, 11, 42, 42, 180, 0, 94]
abbrev dktX1_bestMove_0 : List UInt8 := dkwX1_bestMove_0 ++ dktX1_bestMove_1
theorem dksX1_bestMove_0 : cX1_bestMove.data.toList.drop 0 = dktX1_bestMove_0 := by decide +kernel
theorem dksX1_bestMove_1 : cX1_bestMove.data.toList.drop 23 = dktX1_bestMove_1 := dk_seg dksX1_bestMove_0 23 rfl rfl
theorem dX1_bestMove_0 : decode cX1_bestMove 0 = .ok (.aload_n 0, 1) := dk_42 (dk_at dksX1_bestMove_0 0 rfl rfl)
theorem dX1_bestMove_1 : decode cX1_bestMove 1 = .ok (.getfield 94, 3) := dk_180 0 94 (dk_at dksX1_bestMove_0 1 rfl rfl)
theorem dX1_bestMove_4 : decode cX1_bestMove 4 = .ok (.invokevirtual 194, 3) := dk_182 0 194 (dk_at dksX1_bestMove_0 4 rfl rfl)
theorem dX1_bestMove_7 : decode cX1_bestMove 7 = .ok (.ifCond .ne 7, 3) := dk_154 0 7 (dk_at dksX1_bestMove_0 7 rfl rfl)
theorem dX1_bestMove_10 : decode cX1_bestMove 10 = .ok (.iconst 1, 1) := dk_4 (dk_at dksX1_bestMove_0 10 rfl rfl)
theorem dX1_bestMove_11 : decode cX1_bestMove 11 = .ok (.goto 4, 3) := dk_167 0 4 (dk_at dksX1_bestMove_0 11 rfl rfl)
theorem dX1_bestMove_14 : decode cX1_bestMove 14 = .ok (.iconst 0, 1) := dk_3 (dk_at dksX1_bestMove_0 14 rfl rfl)
theorem dX1_bestMove_15 : decode cX1_bestMove 15 = .ok (.invokestatic 267, 3) := dk_184 1 11 (dk_at dksX1_bestMove_0 15 rfl rfl)
theorem dX1_bestMove_18 : decode cX1_bestMove 18 = .ok (.aload_n 0, 1) := dk_42 (dk_at dksX1_bestMove_0 18 rfl rfl)
theorem dX1_bestMove_19 : decode cX1_bestMove 19 = .ok (.aload_n 0, 1) := dk_42 (dk_at dksX1_bestMove_0 19 rfl rfl)
theorem dX1_bestMove_20 : decode cX1_bestMove 20 = .ok (.getfield 94, 3) := dk_180 0 94 (dk_at dksX1_bestMove_0 20 rfl rfl)
theorem dX1_bestMove_23 : decode cX1_bestMove 23 = .ok (.invokevirtual 307, 3) := dk_182 1 51 (dk_at dksX1_bestMove_1 0 rfl rfl)
theorem dX1_bestMove_26 : decode cX1_bestMove 26 = .ok (.ireturn, 1) := dk_172 (dk_at dksX1_bestMove_1 3 rfl rfl)
abbrev cX1_moveFor : ByteArray := prog_1_method_38_code
def yX1_moveFor : MethodName := ⟨RX1, "moveFor", "(LColourDuel$Board;)I"⟩
def dkwX1_moveFor_1 : List UInt8 := [182, 1, 27, 182, 1, 31, 182, 1, 43, 167, 255, 238, 44, 180, 1, 48, 172]
abbrev dktX1_moveFor_1 : List UInt8 := dkwX1_moveFor_1 ++ []
def dkwX1_moveFor_0 : List UInt8 := [187, 1, 38, 89, 42, 43, 183, 1, 40, 77, 43, 182, 1, 18, 78, 45, 182, 1, 22, 153, 0, 17, 44, 45]
abbrev dktX1_moveFor_0 : List UInt8 := dkwX1_moveFor_0 ++ dktX1_moveFor_1
theorem dksX1_moveFor_0 : cX1_moveFor.data.toList.drop 0 = dktX1_moveFor_0 := by decide +kernel
theorem dksX1_moveFor_1 : cX1_moveFor.data.toList.drop 24 = dktX1_moveFor_1 := dk_seg dksX1_moveFor_0 24 rfl rfl
theorem dX1_moveFor_0 : decode cX1_moveFor 0 = .ok (.new 294, 3) := dk_187 1 38 (dk_at dksX1_moveFor_0 0 rfl rfl)
theorem dX1_moveFor_3 : decode cX1_moveFor 3 = .ok (.dup, 1) := dk_89 (dk_at dksX1_moveFor_0 3 rfl rfl)
theorem dX1_moveFor_4 : decode cX1_moveFor 4 = .ok (.aload_n 0, 1) := dk_42 (dk_at dksX1_moveFor_0 4 rfl rfl)
theorem dX1_moveFor_5 : decode cX1_moveFor 5 = .ok (.aload_n 1, 1) := dk_43 (dk_at dksX1_moveFor_0 5 rfl rfl)
theorem dX1_moveFor_6 : decode cX1_moveFor 6 = .ok (.invokespecial 296, 3) := dk_183 1 40 (dk_at dksX1_moveFor_0 6 rfl rfl)
theorem dX1_moveFor_9 : decode cX1_moveFor 9 = .ok (.astore_n 2, 1) := dk_77 (dk_at dksX1_moveFor_0 9 rfl rfl)
theorem dX1_moveFor_10 : decode cX1_moveFor 10 = .ok (.aload_n 1, 1) := dk_43 (dk_at dksX1_moveFor_0 10 rfl rfl)
theorem dX1_moveFor_11 : decode cX1_moveFor 11 = .ok (.invokevirtual 274, 3) := dk_182 1 18 (dk_at dksX1_moveFor_0 11 rfl rfl)
theorem dX1_moveFor_14 : decode cX1_moveFor 14 = .ok (.astore_n 3, 1) := dk_78 (dk_at dksX1_moveFor_0 14 rfl rfl)
theorem dX1_moveFor_15 : decode cX1_moveFor 15 = .ok (.aload_n 3, 1) := dk_45 (dk_at dksX1_moveFor_0 15 rfl rfl)
theorem dX1_moveFor_16 : decode cX1_moveFor 16 = .ok (.invokevirtual 278, 3) := dk_182 1 22 (dk_at dksX1_moveFor_0 16 rfl rfl)
theorem dX1_moveFor_19 : decode cX1_moveFor 19 = .ok (.ifCond .eq 17, 3) := dk_153 0 17 (dk_at dksX1_moveFor_0 19 rfl rfl)
theorem dX1_moveFor_22 : decode cX1_moveFor 22 = .ok (.aload_n 2, 1) := dk_44 (dk_at dksX1_moveFor_0 22 rfl rfl)
theorem dX1_moveFor_23 : decode cX1_moveFor 23 = .ok (.aload_n 3, 1) := dk_45 (dk_at dksX1_moveFor_0 23 rfl rfl)
theorem dX1_moveFor_24 : decode cX1_moveFor 24 = .ok (.invokevirtual 283, 3) := dk_182 1 27 (dk_at dksX1_moveFor_1 0 rfl rfl)
theorem dX1_moveFor_27 : decode cX1_moveFor 27 = .ok (.invokevirtual 287, 3) := dk_182 1 31 (dk_at dksX1_moveFor_1 3 rfl rfl)
theorem dX1_moveFor_30 : decode cX1_moveFor 30 = .ok (.invokevirtual 299, 3) := dk_182 1 43 (dk_at dksX1_moveFor_1 6 rfl rfl)
theorem dX1_moveFor_33 : decode cX1_moveFor 33 = .ok (.goto (-18), 3) := dk_167 255 238 (dk_at dksX1_moveFor_1 9 rfl rfl)
theorem dX1_moveFor_36 : decode cX1_moveFor 36 = .ok (.aload_n 2, 1) := dk_44 (dk_at dksX1_moveFor_1 12 rfl rfl)
theorem dX1_moveFor_37 : decode cX1_moveFor 37 = .ok (.getfield 304, 3) := dk_180 1 48 (dk_at dksX1_moveFor_1 13 rfl rfl)
theorem dX1_moveFor_40 : decode cX1_moveFor 40 = .ok (.ireturn, 1) := dk_172 (dk_at dksX1_moveFor_1 16 rfl rfl)
abbrev cX1_winningColours : ByteArray := prog_1_method_37_code
def yX1_winningColours : MethodName := ⟨RX1, "winningColours", "(I)I"⟩
def dkwX1_winningColours_3 : List UInt8 := [167, 255, 205, 29, 172]
abbrev dktX1_winningColours_3 : List UInt8 := dkwX1_winningColours_3 ++ []
def dkwX1_winningColours_2 : List UInt8 := [27, 104, 21, 4, 96, 182, 1, 34, 153, 0, 10, 4, 21, 4, 120, 167, 0, 4, 3, 128, 62, 132, 4, 1]
abbrev dktX1_winningColours_2 : List UInt8 := dkwX1_winningColours_2 ++ dktX1_winningColours_3
def dkwX1_winningColours_1 : List UInt8 := [180, 0, 94, 180, 0, 163, 180, 0, 178, 162, 0, 42, 29, 28, 21, 4, 184, 0, 235, 153, 0, 23, 42, 7]
abbrev dktX1_winningColours_1 : List UInt8 := dkwX1_winningColours_1 ++ dktX1_winningColours_2
def dkwX1_winningColours_0 : List UInt8 := [42, 27, 182, 0, 208, 42, 180, 0, 94, 27, 182, 0, 214, 61, 3, 62, 3, 54, 4, 21, 4, 42]
abbrev dktX1_winningColours_0 : List UInt8 := dkwX1_winningColours_0 ++ dktX1_winningColours_1
theorem dksX1_winningColours_0 : cX1_winningColours.data.toList.drop 0 = dktX1_winningColours_0 := by decide +kernel
theorem dksX1_winningColours_1 : cX1_winningColours.data.toList.drop 22 = dktX1_winningColours_1 := dk_seg dksX1_winningColours_0 22 rfl rfl
theorem dksX1_winningColours_2 : cX1_winningColours.data.toList.drop 46 = dktX1_winningColours_2 := dk_seg dksX1_winningColours_1 24 rfl rfl
theorem dksX1_winningColours_3 : cX1_winningColours.data.toList.drop 70 = dktX1_winningColours_3 := dk_seg dksX1_winningColours_2 24 rfl rfl
theorem dX1_winningColours_0 : decode cX1_winningColours 0 = .ok (.aload_n 0, 1) := dk_42 (dk_at dksX1_winningColours_0 0 rfl rfl)
theorem dX1_winningColours_1 : decode cX1_winningColours 1 = .ok (.iload_n 1, 1) := dk_27 (dk_at dksX1_winningColours_0 1 rfl rfl)
theorem dX1_winningColours_2 : decode cX1_winningColours 2 = .ok (.invokevirtual 208, 3) := dk_182 0 208 (dk_at dksX1_winningColours_0 2 rfl rfl)
theorem dX1_winningColours_5 : decode cX1_winningColours 5 = .ok (.aload_n 0, 1) := dk_42 (dk_at dksX1_winningColours_0 5 rfl rfl)
theorem dX1_winningColours_6 : decode cX1_winningColours 6 = .ok (.getfield 94, 3) := dk_180 0 94 (dk_at dksX1_winningColours_0 6 rfl rfl)
theorem dX1_winningColours_9 : decode cX1_winningColours 9 = .ok (.iload_n 1, 1) := dk_27 (dk_at dksX1_winningColours_0 9 rfl rfl)
theorem dX1_winningColours_10 : decode cX1_winningColours 10 = .ok (.invokevirtual 214, 3) := dk_182 0 214 (dk_at dksX1_winningColours_0 10 rfl rfl)
theorem dX1_winningColours_13 : decode cX1_winningColours 13 = .ok (.istore_n 2, 1) := dk_61 (dk_at dksX1_winningColours_0 13 rfl rfl)
theorem dX1_winningColours_14 : decode cX1_winningColours 14 = .ok (.iconst 0, 1) := dk_3 (dk_at dksX1_winningColours_0 14 rfl rfl)
theorem dX1_winningColours_15 : decode cX1_winningColours 15 = .ok (.istore_n 3, 1) := dk_62 (dk_at dksX1_winningColours_0 15 rfl rfl)
theorem dX1_winningColours_16 : decode cX1_winningColours 16 = .ok (.iconst 0, 1) := dk_3 (dk_at dksX1_winningColours_0 16 rfl rfl)
theorem dX1_winningColours_17 : decode cX1_winningColours 17 = .ok (.istore 4, 2) := dk_54 4 (dk_at dksX1_winningColours_0 17 rfl rfl)
theorem dX1_winningColours_19 : decode cX1_winningColours 19 = .ok (.iload 4, 2) := dk_21 4 (dk_at dksX1_winningColours_0 19 rfl rfl)
theorem dX1_winningColours_21 : decode cX1_winningColours 21 = .ok (.aload_n 0, 1) := dk_42 (dk_at dksX1_winningColours_0 21 rfl rfl)
theorem dX1_winningColours_22 : decode cX1_winningColours 22 = .ok (.getfield 94, 3) := dk_180 0 94 (dk_at dksX1_winningColours_1 0 rfl rfl)
theorem dX1_winningColours_25 : decode cX1_winningColours 25 = .ok (.getfield 163, 3) := dk_180 0 163 (dk_at dksX1_winningColours_1 3 rfl rfl)
theorem dX1_winningColours_28 : decode cX1_winningColours 28 = .ok (.getfield 178, 3) := dk_180 0 178 (dk_at dksX1_winningColours_1 6 rfl rfl)
theorem dX1_winningColours_31 : decode cX1_winningColours 31 = .ok (.if_icmp .ge 42, 3) := dk_162 0 42 (dk_at dksX1_winningColours_1 9 rfl rfl)
theorem dX1_winningColours_34 : decode cX1_winningColours 34 = .ok (.iload_n 3, 1) := dk_29 (dk_at dksX1_winningColours_1 12 rfl rfl)
theorem dX1_winningColours_35 : decode cX1_winningColours 35 = .ok (.iload_n 2, 1) := dk_28 (dk_at dksX1_winningColours_1 13 rfl rfl)
theorem dX1_winningColours_36 : decode cX1_winningColours 36 = .ok (.iload 4, 2) := dk_21 4 (dk_at dksX1_winningColours_1 14 rfl rfl)
theorem dX1_winningColours_38 : decode cX1_winningColours 38 = .ok (.invokestatic 235, 3) := dk_184 0 235 (dk_at dksX1_winningColours_1 16 rfl rfl)
theorem dX1_winningColours_41 : decode cX1_winningColours 41 = .ok (.ifCond .eq 23, 3) := dk_153 0 23 (dk_at dksX1_winningColours_1 19 rfl rfl)
theorem dX1_winningColours_44 : decode cX1_winningColours 44 = .ok (.aload_n 0, 1) := dk_42 (dk_at dksX1_winningColours_1 22 rfl rfl)
theorem dX1_winningColours_45 : decode cX1_winningColours 45 = .ok (.iconst 4, 1) := dk_7 (dk_at dksX1_winningColours_1 23 rfl rfl)
theorem dX1_winningColours_46 : decode cX1_winningColours 46 = .ok (.iload_n 1, 1) := dk_27 (dk_at dksX1_winningColours_2 0 rfl rfl)
theorem dX1_winningColours_47 : decode cX1_winningColours 47 = .ok (.imul, 1) := dk_104 (dk_at dksX1_winningColours_2 1 rfl rfl)
theorem dX1_winningColours_48 : decode cX1_winningColours 48 = .ok (.iload 4, 2) := dk_21 4 (dk_at dksX1_winningColours_2 2 rfl rfl)
theorem dX1_winningColours_50 : decode cX1_winningColours 50 = .ok (.iadd, 1) := dk_96 (dk_at dksX1_winningColours_2 4 rfl rfl)
theorem dX1_winningColours_51 : decode cX1_winningColours 51 = .ok (.invokevirtual 290, 3) := dk_182 1 34 (dk_at dksX1_winningColours_2 5 rfl rfl)
theorem dX1_winningColours_54 : decode cX1_winningColours 54 = .ok (.ifCond .eq 10, 3) := dk_153 0 10 (dk_at dksX1_winningColours_2 8 rfl rfl)
theorem dX1_winningColours_57 : decode cX1_winningColours 57 = .ok (.iconst 1, 1) := dk_4 (dk_at dksX1_winningColours_2 11 rfl rfl)
theorem dX1_winningColours_58 : decode cX1_winningColours 58 = .ok (.iload 4, 2) := dk_21 4 (dk_at dksX1_winningColours_2 12 rfl rfl)
theorem dX1_winningColours_60 : decode cX1_winningColours 60 = .ok (.ishl, 1) := dk_120 (dk_at dksX1_winningColours_2 14 rfl rfl)
theorem dX1_winningColours_61 : decode cX1_winningColours 61 = .ok (.goto 4, 3) := dk_167 0 4 (dk_at dksX1_winningColours_2 15 rfl rfl)
theorem dX1_winningColours_64 : decode cX1_winningColours 64 = .ok (.iconst 0, 1) := dk_3 (dk_at dksX1_winningColours_2 18 rfl rfl)
theorem dX1_winningColours_65 : decode cX1_winningColours 65 = .ok (.ior, 1) := dk_128 (dk_at dksX1_winningColours_2 19 rfl rfl)
theorem dX1_winningColours_66 : decode cX1_winningColours 66 = .ok (.istore_n 3, 1) := dk_62 (dk_at dksX1_winningColours_2 20 rfl rfl)
theorem dX1_winningColours_67 : decode cX1_winningColours 67 = .ok (.iinc 4 1, 3) := dk_132 4 1 (dk_at dksX1_winningColours_2 21 rfl rfl)
theorem dX1_winningColours_70 : decode cX1_winningColours 70 = .ok (.goto (-51), 3) := dk_167 255 205 (dk_at dksX1_winningColours_3 0 rfl rfl)
theorem dX1_winningColours_73 : decode cX1_winningColours 73 = .ok (.iload_n 3, 1) := dk_29 (dk_at dksX1_winningColours_3 3 rfl rfl)
theorem dX1_winningColours_74 : decode cX1_winningColours 74 = .ok (.ireturn, 1) := dk_172 (dk_at dksX1_winningColours_3 4 rfl rfl)
abbrev cX1_falls : ByteArray := prog_1_method_43_code
def yX1_falls : MethodName := ⟨RX1, "falls", "(I)I"⟩
def dkwX1_falls_1 : List UInt8 := [27, 182, 1, 63, 4, 27, 120, 2, 130, 126, 182, 0, 181, 172]
abbrev dktX1_falls_1 : List UInt8 := dkwX1_falls_1 ++ []
def dkwX1_falls_0 : List UInt8 := [42, 27, 182, 0, 208, 42, 27, 182, 1, 60, 184, 1, 11, 42, 180, 0, 94, 180, 0, 163, 42, 180, 0, 94]
abbrev dktX1_falls_0 : List UInt8 := dkwX1_falls_0 ++ dktX1_falls_1
theorem dksX1_falls_0 : cX1_falls.data.toList.drop 0 = dktX1_falls_0 := by decide +kernel
theorem dksX1_falls_1 : cX1_falls.data.toList.drop 24 = dktX1_falls_1 := dk_seg dksX1_falls_0 24 rfl rfl
theorem dX1_falls_0 : decode cX1_falls 0 = .ok (.aload_n 0, 1) := dk_42 (dk_at dksX1_falls_0 0 rfl rfl)
theorem dX1_falls_1 : decode cX1_falls 1 = .ok (.iload_n 1, 1) := dk_27 (dk_at dksX1_falls_0 1 rfl rfl)
theorem dX1_falls_2 : decode cX1_falls 2 = .ok (.invokevirtual 208, 3) := dk_182 0 208 (dk_at dksX1_falls_0 2 rfl rfl)
theorem dX1_falls_5 : decode cX1_falls 5 = .ok (.aload_n 0, 1) := dk_42 (dk_at dksX1_falls_0 5 rfl rfl)
theorem dX1_falls_6 : decode cX1_falls 6 = .ok (.iload_n 1, 1) := dk_27 (dk_at dksX1_falls_0 6 rfl rfl)
theorem dX1_falls_7 : decode cX1_falls 7 = .ok (.invokevirtual 316, 3) := dk_182 1 60 (dk_at dksX1_falls_0 7 rfl rfl)
theorem dX1_falls_10 : decode cX1_falls 10 = .ok (.invokestatic 267, 3) := dk_184 1 11 (dk_at dksX1_falls_0 10 rfl rfl)
theorem dX1_falls_13 : decode cX1_falls 13 = .ok (.aload_n 0, 1) := dk_42 (dk_at dksX1_falls_0 13 rfl rfl)
theorem dX1_falls_14 : decode cX1_falls 14 = .ok (.getfield 94, 3) := dk_180 0 94 (dk_at dksX1_falls_0 14 rfl rfl)
theorem dX1_falls_17 : decode cX1_falls 17 = .ok (.getfield 163, 3) := dk_180 0 163 (dk_at dksX1_falls_0 17 rfl rfl)
theorem dX1_falls_20 : decode cX1_falls 20 = .ok (.aload_n 0, 1) := dk_42 (dk_at dksX1_falls_0 20 rfl rfl)
theorem dX1_falls_21 : decode cX1_falls 21 = .ok (.getfield 94, 3) := dk_180 0 94 (dk_at dksX1_falls_0 21 rfl rfl)
theorem dX1_falls_24 : decode cX1_falls 24 = .ok (.iload_n 1, 1) := dk_27 (dk_at dksX1_falls_1 0 rfl rfl)
theorem dX1_falls_25 : decode cX1_falls 25 = .ok (.invokevirtual 319, 3) := dk_182 1 63 (dk_at dksX1_falls_1 1 rfl rfl)
theorem dX1_falls_28 : decode cX1_falls 28 = .ok (.iconst 1, 1) := dk_4 (dk_at dksX1_falls_1 4 rfl rfl)
theorem dX1_falls_29 : decode cX1_falls 29 = .ok (.iload_n 1, 1) := dk_27 (dk_at dksX1_falls_1 5 rfl rfl)
theorem dX1_falls_30 : decode cX1_falls 30 = .ok (.ishl, 1) := dk_120 (dk_at dksX1_falls_1 6 rfl rfl)
theorem dX1_falls_31 : decode cX1_falls 31 = .ok (.iconst (-1), 1) := dk_2 (dk_at dksX1_falls_1 7 rfl rfl)
theorem dX1_falls_32 : decode cX1_falls 32 = .ok (.ixor, 1) := dk_130 (dk_at dksX1_falls_1 8 rfl rfl)
theorem dX1_falls_33 : decode cX1_falls 33 = .ok (.iand, 1) := dk_126 (dk_at dksX1_falls_1 9 rfl rfl)
theorem dX1_falls_34 : decode cX1_falls 34 = .ok (.invokevirtual 181, 3) := dk_182 0 181 (dk_at dksX1_falls_1 10 rfl rfl)
theorem dX1_falls_37 : decode cX1_falls 37 = .ok (.ireturn, 1) := dk_172 (dk_at dksX1_falls_1 13 rfl rfl)
abbrev cX1_valueWithout : ByteArray := prog_1_method_44_code
def yX1_valueWithout : MethodName := ⟨RX1, "valueWithout", "(I)I"⟩
def dkwX1_valueWithout_2 : List UInt8 := [172]
abbrev dktX1_valueWithout_2 : List UInt8 := dkwX1_valueWithout_2 ++ []
def dkwX1_valueWithout_1 : List UInt8 := [42, 180, 0, 94, 42, 180, 0, 94, 182, 0, 57, 4, 27, 120, 2, 130, 126, 182, 0, 60, 184, 0, 64, 130]
abbrev dktX1_valueWithout_1 : List UInt8 := dkwX1_valueWithout_1 ++ dktX1_valueWithout_2
def dkwX1_valueWithout_0 : List UInt8 := [42, 27, 182, 0, 208, 42, 27, 182, 1, 60, 184, 1, 11, 42, 180, 0, 94, 184, 0, 53, 42, 180, 0, 28]
abbrev dktX1_valueWithout_0 : List UInt8 := dkwX1_valueWithout_0 ++ dktX1_valueWithout_1
theorem dksX1_valueWithout_0 : cX1_valueWithout.data.toList.drop 0 = dktX1_valueWithout_0 := by decide +kernel
theorem dksX1_valueWithout_1 : cX1_valueWithout.data.toList.drop 24 = dktX1_valueWithout_1 := dk_seg dksX1_valueWithout_0 24 rfl rfl
theorem dksX1_valueWithout_2 : cX1_valueWithout.data.toList.drop 48 = dktX1_valueWithout_2 := dk_seg dksX1_valueWithout_1 24 rfl rfl
theorem dX1_valueWithout_0 : decode cX1_valueWithout 0 = .ok (.aload_n 0, 1) := dk_42 (dk_at dksX1_valueWithout_0 0 rfl rfl)
theorem dX1_valueWithout_1 : decode cX1_valueWithout 1 = .ok (.iload_n 1, 1) := dk_27 (dk_at dksX1_valueWithout_0 1 rfl rfl)
theorem dX1_valueWithout_2 : decode cX1_valueWithout 2 = .ok (.invokevirtual 208, 3) := dk_182 0 208 (dk_at dksX1_valueWithout_0 2 rfl rfl)
theorem dX1_valueWithout_5 : decode cX1_valueWithout 5 = .ok (.aload_n 0, 1) := dk_42 (dk_at dksX1_valueWithout_0 5 rfl rfl)
theorem dX1_valueWithout_6 : decode cX1_valueWithout 6 = .ok (.iload_n 1, 1) := dk_27 (dk_at dksX1_valueWithout_0 6 rfl rfl)
theorem dX1_valueWithout_7 : decode cX1_valueWithout 7 = .ok (.invokevirtual 316, 3) := dk_182 1 60 (dk_at dksX1_valueWithout_0 7 rfl rfl)
theorem dX1_valueWithout_10 : decode cX1_valueWithout 10 = .ok (.invokestatic 267, 3) := dk_184 1 11 (dk_at dksX1_valueWithout_0 10 rfl rfl)
theorem dX1_valueWithout_13 : decode cX1_valueWithout 13 = .ok (.aload_n 0, 1) := dk_42 (dk_at dksX1_valueWithout_0 13 rfl rfl)
theorem dX1_valueWithout_14 : decode cX1_valueWithout 14 = .ok (.getfield 94, 3) := dk_180 0 94 (dk_at dksX1_valueWithout_0 14 rfl rfl)
theorem dX1_valueWithout_17 : decode cX1_valueWithout 17 = .ok (.invokestatic 53, 3) := dk_184 0 53 (dk_at dksX1_valueWithout_0 17 rfl rfl)
theorem dX1_valueWithout_20 : decode cX1_valueWithout 20 = .ok (.aload_n 0, 1) := dk_42 (dk_at dksX1_valueWithout_0 20 rfl rfl)
theorem dX1_valueWithout_21 : decode cX1_valueWithout 21 = .ok (.getfield 28, 3) := dk_180 0 28 (dk_at dksX1_valueWithout_0 21 rfl rfl)
theorem dX1_valueWithout_24 : decode cX1_valueWithout 24 = .ok (.aload_n 0, 1) := dk_42 (dk_at dksX1_valueWithout_1 0 rfl rfl)
theorem dX1_valueWithout_25 : decode cX1_valueWithout 25 = .ok (.getfield 94, 3) := dk_180 0 94 (dk_at dksX1_valueWithout_1 1 rfl rfl)
theorem dX1_valueWithout_28 : decode cX1_valueWithout 28 = .ok (.aload_n 0, 1) := dk_42 (dk_at dksX1_valueWithout_1 4 rfl rfl)
theorem dX1_valueWithout_29 : decode cX1_valueWithout 29 = .ok (.getfield 94, 3) := dk_180 0 94 (dk_at dksX1_valueWithout_1 5 rfl rfl)
theorem dX1_valueWithout_32 : decode cX1_valueWithout 32 = .ok (.invokevirtual 57, 3) := dk_182 0 57 (dk_at dksX1_valueWithout_1 8 rfl rfl)
theorem dX1_valueWithout_35 : decode cX1_valueWithout 35 = .ok (.iconst 1, 1) := dk_4 (dk_at dksX1_valueWithout_1 11 rfl rfl)
theorem dX1_valueWithout_36 : decode cX1_valueWithout 36 = .ok (.iload_n 1, 1) := dk_27 (dk_at dksX1_valueWithout_1 12 rfl rfl)
theorem dX1_valueWithout_37 : decode cX1_valueWithout 37 = .ok (.ishl, 1) := dk_120 (dk_at dksX1_valueWithout_1 13 rfl rfl)
theorem dX1_valueWithout_38 : decode cX1_valueWithout 38 = .ok (.iconst (-1), 1) := dk_2 (dk_at dksX1_valueWithout_1 14 rfl rfl)
theorem dX1_valueWithout_39 : decode cX1_valueWithout 39 = .ok (.ixor, 1) := dk_130 (dk_at dksX1_valueWithout_1 15 rfl rfl)
theorem dX1_valueWithout_40 : decode cX1_valueWithout 40 = .ok (.iand, 1) := dk_126 (dk_at dksX1_valueWithout_1 16 rfl rfl)
theorem dX1_valueWithout_41 : decode cX1_valueWithout 41 = .ok (.invokevirtual 60, 3) := dk_182 0 60 (dk_at dksX1_valueWithout_1 17 rfl rfl)
theorem dX1_valueWithout_44 : decode cX1_valueWithout 44 = .ok (.invokestatic 64, 3) := dk_184 0 64 (dk_at dksX1_valueWithout_1 20 rfl rfl)
theorem dX1_valueWithout_47 : decode cX1_valueWithout 47 = .ok (.ixor, 1) := dk_130 (dk_at dksX1_valueWithout_1 23 rfl rfl)
theorem dX1_valueWithout_48 : decode cX1_valueWithout 48 = .ok (.ireturn, 1) := dk_172 (dk_at dksX1_valueWithout_2 0 rfl rfl)
abbrev cX1_lay : ByteArray := prog_1_method_45_code
def yX1_lay : MethodName := ⟨RX1, "lay", "(II)I"⟩
def dkwX1_lay_2 : List UInt8 := [182, 0, 57, 182, 0, 181, 172]
abbrev dktX1_lay_2 : List UInt8 := dkwX1_lay_2 ++ []
def dkwX1_lay_1 : List UInt8 := [167, 0, 4, 3, 184, 0, 145, 42, 182, 1, 66, 78, 45, 27, 28, 182, 1, 69, 45, 180, 0, 163, 45]
abbrev dktX1_lay_1 : List UInt8 := dkwX1_lay_1 ++ dktX1_lay_2
def dkwX1_lay_0 : List UInt8 := [42, 27, 28, 182, 0, 223, 178, 0, 226, 42, 180, 0, 94, 27, 28, 182, 0, 230, 154, 0, 7, 4]
abbrev dktX1_lay_0 : List UInt8 := dkwX1_lay_0 ++ dktX1_lay_1
theorem dksX1_lay_0 : cX1_lay.data.toList.drop 0 = dktX1_lay_0 := by decide +kernel
theorem dksX1_lay_1 : cX1_lay.data.toList.drop 22 = dktX1_lay_1 := dk_seg dksX1_lay_0 22 rfl rfl
theorem dksX1_lay_2 : cX1_lay.data.toList.drop 45 = dktX1_lay_2 := dk_seg dksX1_lay_1 23 rfl rfl
theorem dX1_lay_0 : decode cX1_lay 0 = .ok (.aload_n 0, 1) := dk_42 (dk_at dksX1_lay_0 0 rfl rfl)
theorem dX1_lay_1 : decode cX1_lay 1 = .ok (.iload_n 1, 1) := dk_27 (dk_at dksX1_lay_0 1 rfl rfl)
theorem dX1_lay_2 : decode cX1_lay 2 = .ok (.iload_n 2, 1) := dk_28 (dk_at dksX1_lay_0 2 rfl rfl)
theorem dX1_lay_3 : decode cX1_lay 3 = .ok (.invokevirtual 223, 3) := dk_182 0 223 (dk_at dksX1_lay_0 3 rfl rfl)
theorem dX1_lay_6 : decode cX1_lay 6 = .ok (.getstatic 226, 3) := dk_178 0 226 (dk_at dksX1_lay_0 6 rfl rfl)
theorem dX1_lay_9 : decode cX1_lay 9 = .ok (.aload_n 0, 1) := dk_42 (dk_at dksX1_lay_0 9 rfl rfl)
theorem dX1_lay_10 : decode cX1_lay 10 = .ok (.getfield 94, 3) := dk_180 0 94 (dk_at dksX1_lay_0 10 rfl rfl)
theorem dX1_lay_13 : decode cX1_lay 13 = .ok (.iload_n 1, 1) := dk_27 (dk_at dksX1_lay_0 13 rfl rfl)
theorem dX1_lay_14 : decode cX1_lay 14 = .ok (.iload_n 2, 1) := dk_28 (dk_at dksX1_lay_0 14 rfl rfl)
theorem dX1_lay_15 : decode cX1_lay 15 = .ok (.invokevirtual 230, 3) := dk_182 0 230 (dk_at dksX1_lay_0 15 rfl rfl)
theorem dX1_lay_18 : decode cX1_lay 18 = .ok (.ifCond .ne 7, 3) := dk_154 0 7 (dk_at dksX1_lay_0 18 rfl rfl)
theorem dX1_lay_21 : decode cX1_lay 21 = .ok (.iconst 1, 1) := dk_4 (dk_at dksX1_lay_0 21 rfl rfl)
theorem dX1_lay_22 : decode cX1_lay 22 = .ok (.goto 4, 3) := dk_167 0 4 (dk_at dksX1_lay_1 0 rfl rfl)
theorem dX1_lay_25 : decode cX1_lay 25 = .ok (.iconst 0, 1) := dk_3 (dk_at dksX1_lay_1 3 rfl rfl)
theorem dX1_lay_26 : decode cX1_lay 26 = .ok (.invokestatic 145, 3) := dk_184 0 145 (dk_at dksX1_lay_1 4 rfl rfl)
theorem dX1_lay_29 : decode cX1_lay 29 = .ok (.aload_n 0, 1) := dk_42 (dk_at dksX1_lay_1 7 rfl rfl)
theorem dX1_lay_30 : decode cX1_lay 30 = .ok (.invokevirtual 322, 3) := dk_182 1 66 (dk_at dksX1_lay_1 8 rfl rfl)
theorem dX1_lay_33 : decode cX1_lay 33 = .ok (.astore_n 3, 1) := dk_78 (dk_at dksX1_lay_1 11 rfl rfl)
theorem dX1_lay_34 : decode cX1_lay 34 = .ok (.aload_n 3, 1) := dk_45 (dk_at dksX1_lay_1 12 rfl rfl)
theorem dX1_lay_35 : decode cX1_lay 35 = .ok (.iload_n 1, 1) := dk_27 (dk_at dksX1_lay_1 13 rfl rfl)
theorem dX1_lay_36 : decode cX1_lay 36 = .ok (.iload_n 2, 1) := dk_28 (dk_at dksX1_lay_1 14 rfl rfl)
theorem dX1_lay_37 : decode cX1_lay 37 = .ok (.invokevirtual 325, 3) := dk_182 1 69 (dk_at dksX1_lay_1 15 rfl rfl)
theorem dX1_lay_40 : decode cX1_lay 40 = .ok (.aload_n 3, 1) := dk_45 (dk_at dksX1_lay_1 18 rfl rfl)
theorem dX1_lay_41 : decode cX1_lay 41 = .ok (.getfield 163, 3) := dk_180 0 163 (dk_at dksX1_lay_1 19 rfl rfl)
theorem dX1_lay_44 : decode cX1_lay 44 = .ok (.aload_n 3, 1) := dk_45 (dk_at dksX1_lay_1 22 rfl rfl)
theorem dX1_lay_45 : decode cX1_lay 45 = .ok (.invokevirtual 57, 3) := dk_182 0 57 (dk_at dksX1_lay_2 0 rfl rfl)
theorem dX1_lay_48 : decode cX1_lay 48 = .ok (.invokevirtual 181, 3) := dk_182 0 181 (dk_at dksX1_lay_2 3 rfl rfl)
theorem dX1_lay_51 : decode cX1_lay 51 = .ok (.ireturn, 1) := dk_172 (dk_at dksX1_lay_2 6 rfl rfl)
abbrev cX1_changed : ByteArray := prog_1_method_18_code
def yX1_changed : MethodName := ⟨RX1, "changed", "()LColourDuel$Board;"⟩
def dkwX1_changed_0 : List UInt8 := [42, 42, 180, 0, 94, 182, 0, 102, 182, 0, 106, 42, 180, 0, 94, 176]
abbrev dktX1_changed_0 : List UInt8 := dkwX1_changed_0 ++ []
theorem dksX1_changed_0 : cX1_changed.data.toList.drop 0 = dktX1_changed_0 := by decide +kernel
theorem dX1_changed_0 : decode cX1_changed 0 = .ok (.aload_n 0, 1) := dk_42 (dk_at dksX1_changed_0 0 rfl rfl)
theorem dX1_changed_1 : decode cX1_changed 1 = .ok (.aload_n 0, 1) := dk_42 (dk_at dksX1_changed_0 1 rfl rfl)
theorem dX1_changed_2 : decode cX1_changed 2 = .ok (.getfield 94, 3) := dk_180 0 94 (dk_at dksX1_changed_0 2 rfl rfl)
theorem dX1_changed_5 : decode cX1_changed 5 = .ok (.invokevirtual 102, 3) := dk_182 0 102 (dk_at dksX1_changed_0 5 rfl rfl)
theorem dX1_changed_8 : decode cX1_changed 8 = .ok (.invokevirtual 106, 3) := dk_182 0 106 (dk_at dksX1_changed_0 8 rfl rfl)
theorem dX1_changed_11 : decode cX1_changed 11 = .ok (.aload_n 0, 1) := dk_42 (dk_at dksX1_changed_0 11 rfl rfl)
theorem dX1_changed_12 : decode cX1_changed 12 = .ok (.getfield 94, 3) := dk_180 0 94 (dk_at dksX1_changed_0 12 rfl rfl)
theorem dX1_changed_15 : decode cX1_changed 15 = .ok (.areturn, 1) := dk_176 (dk_at dksX1_changed_0 15 rfl rfl)
abbrev cX1_pass : ByteArray := prog_1_method_46_code
def yX1_pass : MethodName := ⟨RX1, "pass", "()I"⟩
def dkwX1_pass_1 : List UInt8 := [182, 1, 72, 43, 180, 0, 47, 172]
abbrev dktX1_pass_1 : List UInt8 := dkwX1_pass_1 ++ []
def dkwX1_pass_0 : List UInt8 := [42, 180, 0, 94, 180, 0, 47, 158, 0, 7, 4, 167, 0, 4, 3, 184, 0, 145, 42, 182, 1, 66, 76, 43]
abbrev dktX1_pass_0 : List UInt8 := dkwX1_pass_0 ++ dktX1_pass_1
theorem dksX1_pass_0 : cX1_pass.data.toList.drop 0 = dktX1_pass_0 := by decide +kernel
theorem dksX1_pass_1 : cX1_pass.data.toList.drop 24 = dktX1_pass_1 := dk_seg dksX1_pass_0 24 rfl rfl
theorem dX1_pass_0 : decode cX1_pass 0 = .ok (.aload_n 0, 1) := dk_42 (dk_at dksX1_pass_0 0 rfl rfl)
theorem dX1_pass_1 : decode cX1_pass 1 = .ok (.getfield 94, 3) := dk_180 0 94 (dk_at dksX1_pass_0 1 rfl rfl)
theorem dX1_pass_4 : decode cX1_pass 4 = .ok (.getfield 47, 3) := dk_180 0 47 (dk_at dksX1_pass_0 4 rfl rfl)
theorem dX1_pass_7 : decode cX1_pass 7 = .ok (.ifCond .le 7, 3) := dk_158 0 7 (dk_at dksX1_pass_0 7 rfl rfl)
theorem dX1_pass_10 : decode cX1_pass 10 = .ok (.iconst 1, 1) := dk_4 (dk_at dksX1_pass_0 10 rfl rfl)
theorem dX1_pass_11 : decode cX1_pass 11 = .ok (.goto 4, 3) := dk_167 0 4 (dk_at dksX1_pass_0 11 rfl rfl)
theorem dX1_pass_14 : decode cX1_pass 14 = .ok (.iconst 0, 1) := dk_3 (dk_at dksX1_pass_0 14 rfl rfl)
theorem dX1_pass_15 : decode cX1_pass 15 = .ok (.invokestatic 145, 3) := dk_184 0 145 (dk_at dksX1_pass_0 15 rfl rfl)
theorem dX1_pass_18 : decode cX1_pass 18 = .ok (.aload_n 0, 1) := dk_42 (dk_at dksX1_pass_0 18 rfl rfl)
theorem dX1_pass_19 : decode cX1_pass 19 = .ok (.invokevirtual 322, 3) := dk_182 1 66 (dk_at dksX1_pass_0 19 rfl rfl)
theorem dX1_pass_22 : decode cX1_pass 22 = .ok (.astore_n 1, 1) := dk_76 (dk_at dksX1_pass_0 22 rfl rfl)
theorem dX1_pass_23 : decode cX1_pass 23 = .ok (.aload_n 1, 1) := dk_43 (dk_at dksX1_pass_0 23 rfl rfl)
theorem dX1_pass_24 : decode cX1_pass 24 = .ok (.invokevirtual 328, 3) := dk_182 1 72 (dk_at dksX1_pass_1 0 rfl rfl)
theorem dX1_pass_27 : decode cX1_pass 27 = .ok (.aload_n 1, 1) := dk_43 (dk_at dksX1_pass_1 3 rfl rfl)
theorem dX1_pass_28 : decode cX1_pass 28 = .ok (.getfield 47, 3) := dk_180 0 47 (dk_at dksX1_pass_1 4 rfl rfl)
theorem dX1_pass_31 : decode cX1_pass 31 = .ok (.ireturn, 1) := dk_172 (dk_at dksX1_pass_1 7 rfl rfl)
abbrev cX1_playOut : ByteArray := prog_1_method_47_code
def yX1_playOut : MethodName := ⟨RX1, "playOut", "(I)I"⟩
def dkwX1_playOut_1 : List UInt8 := [44, 182, 0, 194, 154, 0, 18, 44, 42, 44, 182, 1, 51, 182, 1, 8, 132, 3, 1, 167, 255, 232, 29, 172]
abbrev dktX1_playOut_1 : List UInt8 := dkwX1_playOut_1 ++ []
def dkwX1_playOut_0 : List UInt8 := [27, 133, 10, 20, 1, 75, 184, 0, 1, 184, 0, 152, 42, 182, 1, 66, 77, 3, 62, 29, 27, 162, 0, 25]
abbrev dktX1_playOut_0 : List UInt8 := dkwX1_playOut_0 ++ dktX1_playOut_1
theorem dksX1_playOut_0 : cX1_playOut.data.toList.drop 0 = dktX1_playOut_0 := by decide +kernel
theorem dksX1_playOut_1 : cX1_playOut.data.toList.drop 24 = dktX1_playOut_1 := dk_seg dksX1_playOut_0 24 rfl rfl
theorem dX1_playOut_0 : decode cX1_playOut 0 = .ok (.iload_n 1, 1) := dk_27 (dk_at dksX1_playOut_0 0 rfl rfl)
theorem dX1_playOut_1 : decode cX1_playOut 1 = .ok (.i2l, 1) := dk_133 (dk_at dksX1_playOut_0 1 rfl rfl)
theorem dX1_playOut_2 : decode cX1_playOut 2 = .ok (.lconst 1, 1) := dk_10 (dk_at dksX1_playOut_0 2 rfl rfl)
theorem dX1_playOut_3 : decode cX1_playOut 3 = .ok (.ldc2_w 331, 3) := dk_20 1 75 (dk_at dksX1_playOut_0 3 rfl rfl)
theorem dX1_playOut_6 : decode cX1_playOut 6 = .ok (.invokestatic 1, 3) := dk_184 0 1 (dk_at dksX1_playOut_0 6 rfl rfl)
theorem dX1_playOut_9 : decode cX1_playOut 9 = .ok (.invokestatic 152, 3) := dk_184 0 152 (dk_at dksX1_playOut_0 9 rfl rfl)
theorem dX1_playOut_12 : decode cX1_playOut 12 = .ok (.aload_n 0, 1) := dk_42 (dk_at dksX1_playOut_0 12 rfl rfl)
theorem dX1_playOut_13 : decode cX1_playOut 13 = .ok (.invokevirtual 322, 3) := dk_182 1 66 (dk_at dksX1_playOut_0 13 rfl rfl)
theorem dX1_playOut_16 : decode cX1_playOut 16 = .ok (.astore_n 2, 1) := dk_77 (dk_at dksX1_playOut_0 16 rfl rfl)
theorem dX1_playOut_17 : decode cX1_playOut 17 = .ok (.iconst 0, 1) := dk_3 (dk_at dksX1_playOut_0 17 rfl rfl)
theorem dX1_playOut_18 : decode cX1_playOut 18 = .ok (.istore_n 3, 1) := dk_62 (dk_at dksX1_playOut_0 18 rfl rfl)
theorem dX1_playOut_19 : decode cX1_playOut 19 = .ok (.iload_n 3, 1) := dk_29 (dk_at dksX1_playOut_0 19 rfl rfl)
theorem dX1_playOut_20 : decode cX1_playOut 20 = .ok (.iload_n 1, 1) := dk_27 (dk_at dksX1_playOut_0 20 rfl rfl)
theorem dX1_playOut_21 : decode cX1_playOut 21 = .ok (.if_icmp .ge 25, 3) := dk_162 0 25 (dk_at dksX1_playOut_0 21 rfl rfl)
theorem dX1_playOut_24 : decode cX1_playOut 24 = .ok (.aload_n 2, 1) := dk_44 (dk_at dksX1_playOut_1 0 rfl rfl)
theorem dX1_playOut_25 : decode cX1_playOut 25 = .ok (.invokevirtual 194, 3) := dk_182 0 194 (dk_at dksX1_playOut_1 1 rfl rfl)
theorem dX1_playOut_28 : decode cX1_playOut 28 = .ok (.ifCond .ne 18, 3) := dk_154 0 18 (dk_at dksX1_playOut_1 4 rfl rfl)
theorem dX1_playOut_31 : decode cX1_playOut 31 = .ok (.aload_n 2, 1) := dk_44 (dk_at dksX1_playOut_1 7 rfl rfl)
theorem dX1_playOut_32 : decode cX1_playOut 32 = .ok (.aload_n 0, 1) := dk_42 (dk_at dksX1_playOut_1 8 rfl rfl)
theorem dX1_playOut_33 : decode cX1_playOut 33 = .ok (.aload_n 2, 1) := dk_44 (dk_at dksX1_playOut_1 9 rfl rfl)
theorem dX1_playOut_34 : decode cX1_playOut 34 = .ok (.invokevirtual 307, 3) := dk_182 1 51 (dk_at dksX1_playOut_1 10 rfl rfl)
theorem dX1_playOut_37 : decode cX1_playOut 37 = .ok (.invokevirtual 264, 3) := dk_182 1 8 (dk_at dksX1_playOut_1 13 rfl rfl)
theorem dX1_playOut_40 : decode cX1_playOut 40 = .ok (.iinc 3 1, 3) := dk_132 3 1 (dk_at dksX1_playOut_1 16 rfl rfl)
theorem dX1_playOut_43 : decode cX1_playOut 43 = .ok (.goto (-24), 3) := dk_167 255 232 (dk_at dksX1_playOut_1 19 rfl rfl)
theorem dX1_playOut_46 : decode cX1_playOut 46 = .ok (.iload_n 3, 1) := dk_29 (dk_at dksX1_playOut_1 22 rfl rfl)
theorem dX1_playOut_47 : decode cX1_playOut 47 = .ok (.ireturn, 1) := dk_172 (dk_at dksX1_playOut_1 23 rfl rfl)
abbrev cX1_setPasses : ByteArray := prog_1_method_48_code
def yX1_setPasses : MethodName := ⟨RX1, "setPasses", "(I)I"⟩
def dkwX1_setPasses_1 : List UInt8 := [27, 181, 0, 47, 28, 172]
abbrev dktX1_setPasses_1 : List UInt8 := dkwX1_setPasses_1 ++ []
def dkwX1_setPasses_0 : List UInt8 := [27, 133, 9, 20, 1, 77, 184, 0, 1, 184, 0, 152, 42, 180, 0, 94, 180, 0, 47, 61, 42, 182, 1, 66]
abbrev dktX1_setPasses_0 : List UInt8 := dkwX1_setPasses_0 ++ dktX1_setPasses_1
theorem dksX1_setPasses_0 : cX1_setPasses.data.toList.drop 0 = dktX1_setPasses_0 := by decide +kernel
theorem dksX1_setPasses_1 : cX1_setPasses.data.toList.drop 24 = dktX1_setPasses_1 := dk_seg dksX1_setPasses_0 24 rfl rfl
theorem dX1_setPasses_0 : decode cX1_setPasses 0 = .ok (.iload_n 1, 1) := dk_27 (dk_at dksX1_setPasses_0 0 rfl rfl)
theorem dX1_setPasses_1 : decode cX1_setPasses 1 = .ok (.i2l, 1) := dk_133 (dk_at dksX1_setPasses_0 1 rfl rfl)
theorem dX1_setPasses_2 : decode cX1_setPasses 2 = .ok (.lconst 0, 1) := dk_9 (dk_at dksX1_setPasses_0 2 rfl rfl)
theorem dX1_setPasses_3 : decode cX1_setPasses 3 = .ok (.ldc2_w 333, 3) := dk_20 1 77 (dk_at dksX1_setPasses_0 3 rfl rfl)
theorem dX1_setPasses_6 : decode cX1_setPasses 6 = .ok (.invokestatic 1, 3) := dk_184 0 1 (dk_at dksX1_setPasses_0 6 rfl rfl)
theorem dX1_setPasses_9 : decode cX1_setPasses 9 = .ok (.invokestatic 152, 3) := dk_184 0 152 (dk_at dksX1_setPasses_0 9 rfl rfl)
theorem dX1_setPasses_12 : decode cX1_setPasses 12 = .ok (.aload_n 0, 1) := dk_42 (dk_at dksX1_setPasses_0 12 rfl rfl)
theorem dX1_setPasses_13 : decode cX1_setPasses 13 = .ok (.getfield 94, 3) := dk_180 0 94 (dk_at dksX1_setPasses_0 13 rfl rfl)
theorem dX1_setPasses_16 : decode cX1_setPasses 16 = .ok (.getfield 47, 3) := dk_180 0 47 (dk_at dksX1_setPasses_0 16 rfl rfl)
theorem dX1_setPasses_19 : decode cX1_setPasses 19 = .ok (.istore_n 2, 1) := dk_61 (dk_at dksX1_setPasses_0 19 rfl rfl)
theorem dX1_setPasses_20 : decode cX1_setPasses 20 = .ok (.aload_n 0, 1) := dk_42 (dk_at dksX1_setPasses_0 20 rfl rfl)
theorem dX1_setPasses_21 : decode cX1_setPasses 21 = .ok (.invokevirtual 322, 3) := dk_182 1 66 (dk_at dksX1_setPasses_0 21 rfl rfl)
theorem dX1_setPasses_24 : decode cX1_setPasses 24 = .ok (.iload_n 1, 1) := dk_27 (dk_at dksX1_setPasses_1 0 rfl rfl)
theorem dX1_setPasses_25 : decode cX1_setPasses 25 = .ok (.putfield 47, 3) := dk_181 0 47 (dk_at dksX1_setPasses_1 1 rfl rfl)
theorem dX1_setPasses_28 : decode cX1_setPasses 28 = .ok (.iload_n 2, 1) := dk_28 (dk_at dksX1_setPasses_1 4 rfl rfl)
theorem dX1_setPasses_29 : decode cX1_setPasses 29 = .ok (.ireturn, 1) := dk_172 (dk_at dksX1_setPasses_1 5 rfl rfl)
abbrev cX1_move : ByteArray := prog_1_method_49_code
def yX1_move : MethodName := ⟨RX1, "move", "(II)I"⟩
def dkwX1_move_2 : List UInt8 := [182, 1, 83, 172]
abbrev dktX1_move_2 : List UInt8 := dkwX1_move_2 ++ []
def dkwX1_move_1 : List UInt8 := [184, 0, 1, 184, 0, 152, 42, 180, 0, 94, 180, 0, 187, 27, 185, 0, 243, 2, 0, 192, 1, 81, 28]
abbrev dktX1_move_1 : List UInt8 := dkwX1_move_1 ++ dktX1_move_2
def dkwX1_move_0 : List UInt8 := [27, 42, 180, 0, 94, 180, 0, 187, 185, 0, 191, 1, 0, 184, 0, 204, 28, 133, 9, 20, 1, 79]
abbrev dktX1_move_0 : List UInt8 := dkwX1_move_0 ++ dktX1_move_1
theorem dksX1_move_0 : cX1_move.data.toList.drop 0 = dktX1_move_0 := by decide +kernel
theorem dksX1_move_1 : cX1_move.data.toList.drop 22 = dktX1_move_1 := dk_seg dksX1_move_0 22 rfl rfl
theorem dksX1_move_2 : cX1_move.data.toList.drop 45 = dktX1_move_2 := dk_seg dksX1_move_1 23 rfl rfl
theorem dX1_move_0 : decode cX1_move 0 = .ok (.iload_n 1, 1) := dk_27 (dk_at dksX1_move_0 0 rfl rfl)
theorem dX1_move_1 : decode cX1_move 1 = .ok (.aload_n 0, 1) := dk_42 (dk_at dksX1_move_0 1 rfl rfl)
theorem dX1_move_2 : decode cX1_move 2 = .ok (.getfield 94, 3) := dk_180 0 94 (dk_at dksX1_move_0 2 rfl rfl)
theorem dX1_move_5 : decode cX1_move 5 = .ok (.getfield 187, 3) := dk_180 0 187 (dk_at dksX1_move_0 5 rfl rfl)
theorem dX1_move_8 : decode cX1_move 8 = .ok (.invokeinterface 191 1, 5) := by decide +kernel
theorem dX1_move_13 : decode cX1_move 13 = .ok (.invokestatic 204, 3) := dk_184 0 204 (dk_at dksX1_move_0 13 rfl rfl)
theorem dX1_move_16 : decode cX1_move 16 = .ok (.iload_n 2, 1) := dk_28 (dk_at dksX1_move_0 16 rfl rfl)
theorem dX1_move_17 : decode cX1_move 17 = .ok (.i2l, 1) := dk_133 (dk_at dksX1_move_0 17 rfl rfl)
theorem dX1_move_18 : decode cX1_move 18 = .ok (.lconst 0, 1) := dk_9 (dk_at dksX1_move_0 18 rfl rfl)
theorem dX1_move_19 : decode cX1_move 19 = .ok (.ldc2_w 335, 3) := dk_20 1 79 (dk_at dksX1_move_0 19 rfl rfl)
theorem dX1_move_22 : decode cX1_move 22 = .ok (.invokestatic 1, 3) := dk_184 0 1 (dk_at dksX1_move_1 0 rfl rfl)
theorem dX1_move_25 : decode cX1_move 25 = .ok (.invokestatic 152, 3) := dk_184 0 152 (dk_at dksX1_move_1 3 rfl rfl)
theorem dX1_move_28 : decode cX1_move 28 = .ok (.aload_n 0, 1) := dk_42 (dk_at dksX1_move_1 6 rfl rfl)
theorem dX1_move_29 : decode cX1_move 29 = .ok (.getfield 94, 3) := dk_180 0 94 (dk_at dksX1_move_1 7 rfl rfl)
theorem dX1_move_32 : decode cX1_move 32 = .ok (.getfield 187, 3) := dk_180 0 187 (dk_at dksX1_move_1 10 rfl rfl)
theorem dX1_move_35 : decode cX1_move 35 = .ok (.iload_n 1, 1) := dk_27 (dk_at dksX1_move_1 13 rfl rfl)
theorem dX1_move_36 : decode cX1_move 36 = .ok (.invokeinterface 243 2, 5) := by decide +kernel
theorem dX1_move_41 : decode cX1_move 41 = .ok (.checkcast 337, 3) := dk_192 1 81 (dk_at dksX1_move_1 19 rfl rfl)
theorem dX1_move_44 : decode cX1_move 44 = .ok (.iload_n 2, 1) := dk_28 (dk_at dksX1_move_1 22 rfl rfl)
theorem dX1_move_45 : decode cX1_move 45 = .ok (.invokevirtual 339, 3) := dk_182 1 83 (dk_at dksX1_move_2 0 rfl rfl)
theorem dX1_move_48 : decode cX1_move 48 = .ok (.ireturn, 1) := dk_172 (dk_at dksX1_move_2 3 rfl rfl)
abbrev cX1_account : ByteArray := prog_1_method_50_code
def yX1_account : MethodName := ⟨RX1, "account", "(II)I"⟩
def dkwX1_account_1 : List UInt8 := [27, 50, 28, 182, 1, 91, 172]
abbrev dktX1_account_1 : List UInt8 := dkwX1_account_1 ++ []
def dkwX1_account_0 : List UInt8 := [27, 5, 184, 0, 204, 28, 133, 9, 20, 1, 85, 184, 0, 1, 184, 0, 152, 42, 180, 0, 94, 180, 1, 87]
abbrev dktX1_account_0 : List UInt8 := dkwX1_account_0 ++ dktX1_account_1
theorem dksX1_account_0 : cX1_account.data.toList.drop 0 = dktX1_account_0 := by decide +kernel
theorem dksX1_account_1 : cX1_account.data.toList.drop 24 = dktX1_account_1 := dk_seg dksX1_account_0 24 rfl rfl
theorem dX1_account_0 : decode cX1_account 0 = .ok (.iload_n 1, 1) := dk_27 (dk_at dksX1_account_0 0 rfl rfl)
theorem dX1_account_1 : decode cX1_account 1 = .ok (.iconst 2, 1) := dk_5 (dk_at dksX1_account_0 1 rfl rfl)
theorem dX1_account_2 : decode cX1_account 2 = .ok (.invokestatic 204, 3) := dk_184 0 204 (dk_at dksX1_account_0 2 rfl rfl)
theorem dX1_account_5 : decode cX1_account 5 = .ok (.iload_n 2, 1) := dk_28 (dk_at dksX1_account_0 5 rfl rfl)
theorem dX1_account_6 : decode cX1_account 6 = .ok (.i2l, 1) := dk_133 (dk_at dksX1_account_0 6 rfl rfl)
theorem dX1_account_7 : decode cX1_account 7 = .ok (.lconst 0, 1) := dk_9 (dk_at dksX1_account_0 7 rfl rfl)
theorem dX1_account_8 : decode cX1_account 8 = .ok (.ldc2_w 341, 3) := dk_20 1 85 (dk_at dksX1_account_0 8 rfl rfl)
theorem dX1_account_11 : decode cX1_account 11 = .ok (.invokestatic 1, 3) := dk_184 0 1 (dk_at dksX1_account_0 11 rfl rfl)
theorem dX1_account_14 : decode cX1_account 14 = .ok (.invokestatic 152, 3) := dk_184 0 152 (dk_at dksX1_account_0 14 rfl rfl)
theorem dX1_account_17 : decode cX1_account 17 = .ok (.aload_n 0, 1) := dk_42 (dk_at dksX1_account_0 17 rfl rfl)
theorem dX1_account_18 : decode cX1_account 18 = .ok (.getfield 94, 3) := dk_180 0 94 (dk_at dksX1_account_0 18 rfl rfl)
theorem dX1_account_21 : decode cX1_account 21 = .ok (.getfield 343, 3) := dk_180 1 87 (dk_at dksX1_account_0 21 rfl rfl)
theorem dX1_account_24 : decode cX1_account 24 = .ok (.iload_n 1, 1) := dk_27 (dk_at dksX1_account_1 0 rfl rfl)
theorem dX1_account_25 : decode cX1_account 25 = .ok (.aaload, 1) := dk_50 (dk_at dksX1_account_1 1 rfl rfl)
theorem dX1_account_26 : decode cX1_account 26 = .ok (.iload_n 2, 1) := dk_28 (dk_at dksX1_account_1 2 rfl rfl)
theorem dX1_account_27 : decode cX1_account 27 = .ok (.invokevirtual 347, 3) := dk_182 1 91 (dk_at dksX1_account_1 3 rfl rfl)
theorem dX1_account_30 : decode cX1_account 30 = .ok (.ireturn, 1) := dk_172 (dk_at dksX1_account_1 6 rfl rfl)
abbrev cX1_writtenByte : ByteArray := prog_1_method_52_code
def yX1_writtenByte : MethodName := ⟨RX1, "writtenByte", "(I)I"⟩
def dkwX1_writtenByte_0 : List UInt8 := [27, 42, 180, 0, 138, 182, 1, 104, 184, 0, 204, 42, 180, 0, 138, 27, 182, 1, 106, 172]
abbrev dktX1_writtenByte_0 : List UInt8 := dkwX1_writtenByte_0 ++ []
theorem dksX1_writtenByte_0 : cX1_writtenByte.data.toList.drop 0 = dktX1_writtenByte_0 := by decide +kernel
theorem dX1_writtenByte_0 : decode cX1_writtenByte 0 = .ok (.iload_n 1, 1) := dk_27 (dk_at dksX1_writtenByte_0 0 rfl rfl)
theorem dX1_writtenByte_1 : decode cX1_writtenByte 1 = .ok (.aload_n 0, 1) := dk_42 (dk_at dksX1_writtenByte_0 1 rfl rfl)
theorem dX1_writtenByte_2 : decode cX1_writtenByte 2 = .ok (.getfield 138, 3) := dk_180 0 138 (dk_at dksX1_writtenByte_0 2 rfl rfl)
theorem dX1_writtenByte_5 : decode cX1_writtenByte 5 = .ok (.invokevirtual 360, 3) := dk_182 1 104 (dk_at dksX1_writtenByte_0 5 rfl rfl)
theorem dX1_writtenByte_8 : decode cX1_writtenByte 8 = .ok (.invokestatic 204, 3) := dk_184 0 204 (dk_at dksX1_writtenByte_0 8 rfl rfl)
theorem dX1_writtenByte_11 : decode cX1_writtenByte 11 = .ok (.aload_n 0, 1) := dk_42 (dk_at dksX1_writtenByte_0 11 rfl rfl)
theorem dX1_writtenByte_12 : decode cX1_writtenByte 12 = .ok (.getfield 138, 3) := dk_180 0 138 (dk_at dksX1_writtenByte_0 12 rfl rfl)
theorem dX1_writtenByte_15 : decode cX1_writtenByte 15 = .ok (.iload_n 1, 1) := dk_27 (dk_at dksX1_writtenByte_0 15 rfl rfl)
theorem dX1_writtenByte_16 : decode cX1_writtenByte 16 = .ok (.invokevirtual 362, 3) := dk_182 1 106 (dk_at dksX1_writtenByte_0 16 rfl rfl)
theorem dX1_writtenByte_19 : decode cX1_writtenByte 19 = .ok (.ireturn, 1) := dk_172 (dk_at dksX1_writtenByte_0 19 rfl rfl)
abbrev cX1_undo : ByteArray := prog_1_method_53_code
def yX1_undo : MethodName := ⟨RX1, "undo", "()I"⟩
def dkwX1_undo_1 : List UInt8 := [182, 1, 111, 192, 0, 48, 181, 0, 94, 42, 180, 0, 82, 182, 0, 86, 172]
abbrev dktX1_undo_1 : List UInt8 := dkwX1_undo_1 ++ []
def dkwX1_undo_0 : List UInt8 := [42, 180, 0, 82, 182, 1, 110, 154, 0, 7, 4, 167, 0, 4, 3, 184, 0, 145, 42, 42, 180, 0, 82]
abbrev dktX1_undo_0 : List UInt8 := dkwX1_undo_0 ++ dktX1_undo_1
theorem dksX1_undo_0 : cX1_undo.data.toList.drop 0 = dktX1_undo_0 := by decide +kernel
theorem dksX1_undo_1 : cX1_undo.data.toList.drop 23 = dktX1_undo_1 := dk_seg dksX1_undo_0 23 rfl rfl
theorem dX1_undo_0 : decode cX1_undo 0 = .ok (.aload_n 0, 1) := dk_42 (dk_at dksX1_undo_0 0 rfl rfl)
theorem dX1_undo_1 : decode cX1_undo 1 = .ok (.getfield 82, 3) := dk_180 0 82 (dk_at dksX1_undo_0 1 rfl rfl)
theorem dX1_undo_4 : decode cX1_undo 4 = .ok (.invokevirtual 366, 3) := dk_182 1 110 (dk_at dksX1_undo_0 4 rfl rfl)
theorem dX1_undo_7 : decode cX1_undo 7 = .ok (.ifCond .ne 7, 3) := dk_154 0 7 (dk_at dksX1_undo_0 7 rfl rfl)
theorem dX1_undo_10 : decode cX1_undo 10 = .ok (.iconst 1, 1) := dk_4 (dk_at dksX1_undo_0 10 rfl rfl)
theorem dX1_undo_11 : decode cX1_undo 11 = .ok (.goto 4, 3) := dk_167 0 4 (dk_at dksX1_undo_0 11 rfl rfl)
theorem dX1_undo_14 : decode cX1_undo 14 = .ok (.iconst 0, 1) := dk_3 (dk_at dksX1_undo_0 14 rfl rfl)
theorem dX1_undo_15 : decode cX1_undo 15 = .ok (.invokestatic 145, 3) := dk_184 0 145 (dk_at dksX1_undo_0 15 rfl rfl)
theorem dX1_undo_18 : decode cX1_undo 18 = .ok (.aload_n 0, 1) := dk_42 (dk_at dksX1_undo_0 18 rfl rfl)
theorem dX1_undo_19 : decode cX1_undo 19 = .ok (.aload_n 0, 1) := dk_42 (dk_at dksX1_undo_0 19 rfl rfl)
theorem dX1_undo_20 : decode cX1_undo 20 = .ok (.getfield 82, 3) := dk_180 0 82 (dk_at dksX1_undo_0 20 rfl rfl)
theorem dX1_undo_23 : decode cX1_undo 23 = .ok (.invokevirtual 367, 3) := dk_182 1 111 (dk_at dksX1_undo_1 0 rfl rfl)
theorem dX1_undo_26 : decode cX1_undo 26 = .ok (.checkcast 48, 3) := dk_192 0 48 (dk_at dksX1_undo_1 3 rfl rfl)
theorem dX1_undo_29 : decode cX1_undo 29 = .ok (.putfield 94, 3) := dk_181 0 94 (dk_at dksX1_undo_1 6 rfl rfl)
theorem dX1_undo_32 : decode cX1_undo 32 = .ok (.aload_n 0, 1) := dk_42 (dk_at dksX1_undo_1 9 rfl rfl)
theorem dX1_undo_33 : decode cX1_undo 33 = .ok (.getfield 82, 3) := dk_180 0 82 (dk_at dksX1_undo_1 10 rfl rfl)
theorem dX1_undo_36 : decode cX1_undo 36 = .ok (.invokevirtual 86, 3) := dk_182 0 86 (dk_at dksX1_undo_1 13 rfl rfl)
theorem dX1_undo_39 : decode cX1_undo 39 = .ok (.ireturn, 1) := dk_172 (dk_at dksX1_undo_1 16 rfl rfl)
abbrev cX1_save : ByteArray := prog_1_method_54_code
def yX1_save : MethodName := ⟨RX1, "save", "(I)I"⟩
def dkwX1_save_1 : List UInt8 := [180, 0, 187, 185, 0, 191, 1, 0, 172]
abbrev dktX1_save_1 : List UInt8 := dkwX1_save_1 ++ []
def dkwX1_save_0 : List UInt8 := [27, 5, 184, 0, 204, 42, 180, 0, 124, 27, 42, 180, 0, 94, 182, 0, 102, 83, 42, 180, 0, 94]
abbrev dktX1_save_0 : List UInt8 := dkwX1_save_0 ++ dktX1_save_1
theorem dksX1_save_0 : cX1_save.data.toList.drop 0 = dktX1_save_0 := by decide +kernel
theorem dksX1_save_1 : cX1_save.data.toList.drop 22 = dktX1_save_1 := dk_seg dksX1_save_0 22 rfl rfl
theorem dX1_save_0 : decode cX1_save 0 = .ok (.iload_n 1, 1) := dk_27 (dk_at dksX1_save_0 0 rfl rfl)
theorem dX1_save_1 : decode cX1_save 1 = .ok (.iconst 2, 1) := dk_5 (dk_at dksX1_save_0 1 rfl rfl)
theorem dX1_save_2 : decode cX1_save 2 = .ok (.invokestatic 204, 3) := dk_184 0 204 (dk_at dksX1_save_0 2 rfl rfl)
theorem dX1_save_5 : decode cX1_save 5 = .ok (.aload_n 0, 1) := dk_42 (dk_at dksX1_save_0 5 rfl rfl)
theorem dX1_save_6 : decode cX1_save 6 = .ok (.getfield 124, 3) := dk_180 0 124 (dk_at dksX1_save_0 6 rfl rfl)
theorem dX1_save_9 : decode cX1_save 9 = .ok (.iload_n 1, 1) := dk_27 (dk_at dksX1_save_0 9 rfl rfl)
theorem dX1_save_10 : decode cX1_save 10 = .ok (.aload_n 0, 1) := dk_42 (dk_at dksX1_save_0 10 rfl rfl)
theorem dX1_save_11 : decode cX1_save 11 = .ok (.getfield 94, 3) := dk_180 0 94 (dk_at dksX1_save_0 11 rfl rfl)
theorem dX1_save_14 : decode cX1_save 14 = .ok (.invokevirtual 102, 3) := dk_182 0 102 (dk_at dksX1_save_0 14 rfl rfl)
theorem dX1_save_17 : decode cX1_save 17 = .ok (.aastore, 1) := dk_83 (dk_at dksX1_save_0 17 rfl rfl)
theorem dX1_save_18 : decode cX1_save 18 = .ok (.aload_n 0, 1) := dk_42 (dk_at dksX1_save_0 18 rfl rfl)
theorem dX1_save_19 : decode cX1_save 19 = .ok (.getfield 94, 3) := dk_180 0 94 (dk_at dksX1_save_0 19 rfl rfl)
theorem dX1_save_22 : decode cX1_save 22 = .ok (.getfield 187, 3) := dk_180 0 187 (dk_at dksX1_save_1 0 rfl rfl)
theorem dX1_save_25 : decode cX1_save 25 = .ok (.invokeinterface 191 1, 5) := by decide +kernel
theorem dX1_save_30 : decode cX1_save 30 = .ok (.ireturn, 1) := dk_172 (dk_at dksX1_save_1 8 rfl rfl)
abbrev cX1_restore : ByteArray := prog_1_method_55_code
def yX1_restore : MethodName := ⟨RX1, "restore", "(I)I"⟩
def dkwX1_restore_1 : List UInt8 := [180, 0, 124, 27, 50, 182, 0, 102, 182, 0, 106, 42, 180, 0, 94, 180, 0, 187, 185, 0, 191, 1, 0, 172]
abbrev dktX1_restore_1 : List UInt8 := dkwX1_restore_1 ++ []
def dkwX1_restore_0 : List UInt8 := [27, 5, 184, 0, 204, 42, 180, 0, 124, 27, 50, 198, 0, 7, 4, 167, 0, 4, 3, 184, 0, 145, 42, 42]
abbrev dktX1_restore_0 : List UInt8 := dkwX1_restore_0 ++ dktX1_restore_1
theorem dksX1_restore_0 : cX1_restore.data.toList.drop 0 = dktX1_restore_0 := by decide +kernel
theorem dksX1_restore_1 : cX1_restore.data.toList.drop 24 = dktX1_restore_1 := dk_seg dksX1_restore_0 24 rfl rfl
theorem dX1_restore_0 : decode cX1_restore 0 = .ok (.iload_n 1, 1) := dk_27 (dk_at dksX1_restore_0 0 rfl rfl)
theorem dX1_restore_1 : decode cX1_restore 1 = .ok (.iconst 2, 1) := dk_5 (dk_at dksX1_restore_0 1 rfl rfl)
theorem dX1_restore_2 : decode cX1_restore 2 = .ok (.invokestatic 204, 3) := dk_184 0 204 (dk_at dksX1_restore_0 2 rfl rfl)
theorem dX1_restore_5 : decode cX1_restore 5 = .ok (.aload_n 0, 1) := dk_42 (dk_at dksX1_restore_0 5 rfl rfl)
theorem dX1_restore_6 : decode cX1_restore 6 = .ok (.getfield 124, 3) := dk_180 0 124 (dk_at dksX1_restore_0 6 rfl rfl)
theorem dX1_restore_9 : decode cX1_restore 9 = .ok (.iload_n 1, 1) := dk_27 (dk_at dksX1_restore_0 9 rfl rfl)
theorem dX1_restore_10 : decode cX1_restore 10 = .ok (.aaload, 1) := dk_50 (dk_at dksX1_restore_0 10 rfl rfl)
theorem dX1_restore_11 : decode cX1_restore 11 = .ok (.ifnull 7, 3) := dk_198 0 7 (dk_at dksX1_restore_0 11 rfl rfl)
theorem dX1_restore_14 : decode cX1_restore 14 = .ok (.iconst 1, 1) := dk_4 (dk_at dksX1_restore_0 14 rfl rfl)
theorem dX1_restore_15 : decode cX1_restore 15 = .ok (.goto 4, 3) := dk_167 0 4 (dk_at dksX1_restore_0 15 rfl rfl)
theorem dX1_restore_18 : decode cX1_restore 18 = .ok (.iconst 0, 1) := dk_3 (dk_at dksX1_restore_0 18 rfl rfl)
theorem dX1_restore_19 : decode cX1_restore 19 = .ok (.invokestatic 145, 3) := dk_184 0 145 (dk_at dksX1_restore_0 19 rfl rfl)
theorem dX1_restore_22 : decode cX1_restore 22 = .ok (.aload_n 0, 1) := dk_42 (dk_at dksX1_restore_0 22 rfl rfl)
theorem dX1_restore_23 : decode cX1_restore 23 = .ok (.aload_n 0, 1) := dk_42 (dk_at dksX1_restore_0 23 rfl rfl)
theorem dX1_restore_24 : decode cX1_restore 24 = .ok (.getfield 124, 3) := dk_180 0 124 (dk_at dksX1_restore_1 0 rfl rfl)
theorem dX1_restore_27 : decode cX1_restore 27 = .ok (.iload_n 1, 1) := dk_27 (dk_at dksX1_restore_1 3 rfl rfl)
theorem dX1_restore_28 : decode cX1_restore 28 = .ok (.aaload, 1) := dk_50 (dk_at dksX1_restore_1 4 rfl rfl)
theorem dX1_restore_29 : decode cX1_restore 29 = .ok (.invokevirtual 102, 3) := dk_182 0 102 (dk_at dksX1_restore_1 5 rfl rfl)
theorem dX1_restore_32 : decode cX1_restore 32 = .ok (.invokevirtual 106, 3) := dk_182 0 106 (dk_at dksX1_restore_1 8 rfl rfl)
theorem dX1_restore_35 : decode cX1_restore 35 = .ok (.aload_n 0, 1) := dk_42 (dk_at dksX1_restore_1 11 rfl rfl)
theorem dX1_restore_36 : decode cX1_restore 36 = .ok (.getfield 94, 3) := dk_180 0 94 (dk_at dksX1_restore_1 12 rfl rfl)
theorem dX1_restore_39 : decode cX1_restore 39 = .ok (.getfield 187, 3) := dk_180 0 187 (dk_at dksX1_restore_1 15 rfl rfl)
theorem dX1_restore_42 : decode cX1_restore 42 = .ok (.invokeinterface 191 1, 5) := by decide +kernel
theorem dX1_restore_47 : decode cX1_restore 47 = .ok (.ireturn, 1) := dk_172 (dk_at dksX1_restore_1 23 rfl rfl)
theorem q95 : (Jvm.Cond.initialized "ColourDuel") ∈ lw_all := lw_g (lw_at lw_m1 1 rfl) rfl
theorem q137 : (Jvm.Cond.instantiable "ColourDuel" (8 : Nat)) ∈ lw_all := lw_g (lw_at lw_m1 43 rfl) rfl
theorem q139 : (Jvm.Cond.instanceMethod ({ cls := "ColourDuel", name := "<init>", desc := "()V" } : Jvm.MethodName)) ∈ lw_all := lw_g (lw_at lw_m1 45 rfl) rfl
theorem q140 : (Jvm.Cond.code ({ cls := "ColourDuel", name := "<init>", desc := "()V" } : Jvm.MethodName) prog_1_method_19_code (1 : Nat) (Option.none : Option Jvm.ClassFile.FieldType)) ∈ lw_all := lw_g (lw_at lw_m1 46 rfl) rfl
theorem q141 : (Jvm.Cond.methodLink "ColourDuel" (110 : Nat) ({ cls := "java/lang/Object", name := "<init>", desc := "()V" } : Jvm.MethodName)) ∈ lw_all := lw_g (lw_at lw_m1 47 rfl) rfl
theorem q144 : (Jvm.Cond.classLink "ColourDuel" (42 : Nat) "ColourDuel$Search") ∈ lw_all := lw_g (lw_at lw_m1 50 rfl) rfl
theorem q146 : (Jvm.Cond.methodLink "ColourDuel" (113 : Nat) ({ cls := "ColourDuel$Search", name := "<init>", desc := "(LColourDuel;)V" } : Jvm.MethodName)) ∈ lw_all := lw_g (lw_at lw_m1 52 rfl) rfl
theorem q154 : (Jvm.Cond.static ({ cls := "ColourDuel", name := "has", desc := "(II)Z" } : Jvm.MethodName)) ∈ lw_all := lw_g (lw_at lw_m1 60 rfl) rfl
theorem q155 : (Jvm.Cond.code ({ cls := "ColourDuel", name := "has", desc := "(II)Z" } : Jvm.MethodName) prog_1_method_2_code (2 : Nat) (Option.some Jvm.ClassFile.FieldType.boolean)) ∈ lw_all := lw_g (lw_at lw_m1 61 rfl) rfl
theorem q186 : (Jvm.Cond.classLink "ColourDuel" (48 : Nat) "ColourDuel$Board") ∈ lw_all := lw_g (lw_at lw_m1 92 rfl) rfl
theorem q188 : (Jvm.Cond.methodLink "ColourDuel" (116 : Nat) ({ cls := "ColourDuel", name := "plain", desc := "()LColourDuel$Graph;" } : Jvm.MethodName)) ∈ lw_all := lw_g (lw_at lw_m1 94 rfl) rfl
theorem q189 : (Jvm.Cond.static ({ cls := "ColourDuel", name := "plain", desc := "()LColourDuel$Graph;" } : Jvm.MethodName)) ∈ lw_all := lw_g (lw_at lw_m1 95 rfl) rfl
theorem q190 : (Jvm.Cond.code ({ cls := "ColourDuel", name := "plain", desc := "()LColourDuel$Graph;" } : Jvm.MethodName) prog_1_method_16_code (1 : Nat) (Option.some (Jvm.ClassFile.FieldType.object "ColourDuel$Graph"))) ∈ lw_all := lw_g (lw_at lw_m1 96 rfl) rfl
theorem q191 : (Jvm.Cond.classLink "ColourDuel" (70 : Nat) "ColourDuel$Graph") ∈ lw_all := lw_g (lw_at lw_m1 97 rfl) rfl
theorem q193 : (Jvm.Cond.methodLink "ColourDuel" (72 : Nat) ({ cls := "ColourDuel$Graph", name := "<init>", desc := "(I)V" } : Jvm.MethodName)) ∈ lw_all := lw_g (lw_at lw_m1 99 rfl) rfl
theorem q201 : (Jvm.Cond.fieldLinkNest "ColourDuel" (178 : Nat) "ColourDuel$Graph" "colours" "I" "ColourDuel") ∈ lw_tbl := lw_at lw_m1 107 rfl
theorem q206 : (Jvm.Cond.fieldLinkNest "ColourDuel" (75 : Nat) "ColourDuel$Graph" "lists" "[I" "ColourDuel") ∈ lw_tbl := lw_at lw_m1 112 rfl
theorem q211 : (Jvm.Cond.fieldLinkNest "ColourDuel" (217 : Nat) "ColourDuel$Graph" "near" "[I" "ColourDuel") ∈ lw_tbl := lw_at lw_m1 117 rfl
theorem q217 : (Jvm.Cond.fieldLinkNest "ColourDuel" (79 : Nat) "ColourDuel$Graph" "size" "I" "ColourDuel") ∈ lw_tbl := lw_at lw_m1 123 rfl
theorem q219 : (Jvm.Cond.fieldLinkNest "ColourDuel" (175 : Nat) "ColourDuel$Graph" "edges" "I" "ColourDuel") ∈ lw_tbl := lw_at lw_m1 125 rfl
theorem q231 : (Jvm.Cond.methodLink "ColourDuel" (120 : Nat) ({ cls := "ColourDuel$Board", name := "<init>", desc := "(LColourDuel$Graph;)V" } : Jvm.MethodName)) ∈ lw_all := lw_g (lw_at lw_m1 137 rfl) rfl
theorem q612 : (Jvm.Cond.fieldLinkNest "ColourDuel" (163 : Nat) "ColourDuel$Board" "graph" "LColourDuel$Graph;" "ColourDuel") ∈ lw_tbl := lw_at lw_m3 38 rfl
theorem q615 : (Jvm.Cond.fieldLinkNest "ColourDuel" (211 : Nat) "ColourDuel$Board" "colourOf" "[I" "ColourDuel") ∈ lw_tbl := lw_at lw_m3 41 rfl
theorem q620 : (Jvm.Cond.fieldLinkNest "ColourDuel" (343 : Nat) "ColourDuel$Board" "accounts" "[LColourDuel$Account;" "ColourDuel") ∈ lw_tbl := lw_at lw_m3 46 rfl
theorem q622 : (Jvm.Cond.fieldLinkNest "ColourDuel" (187 : Nat) "ColourDuel$Board" "moves" "Ljava/util/List;" "ColourDuel") ∈ lw_tbl := lw_at lw_m3 48 rfl
theorem q626 : (Jvm.Cond.fieldLinkNest "ColourDuel" (47 : Nat) "ColourDuel$Board" "passes" "I" "ColourDuel") ∈ lw_tbl := lw_at lw_m3 52 rfl
theorem q628 : (Jvm.Cond.fieldLinkNest "ColourDuel" (184 : Nat) "ColourDuel$Board" "mover" "I" "ColourDuel") ∈ lw_tbl := lw_at lw_m3 54 rfl
theorem q644 : (Jvm.Cond.classLink "ColourDuel" (87 : Nat) "java/util/ArrayDeque") ∈ lw_all := lw_g (lw_at lw_m3 70 rfl) rfl
theorem q646 : (Jvm.Cond.methodLink "ColourDuel" (123 : Nat) ({ cls := "java/util/ArrayDeque", name := "<init>", desc := "()V" } : Jvm.MethodName)) ∈ lw_all := lw_g (lw_at lw_m3 72 rfl) rfl
theorem q662 : (Jvm.Cond.classLink "ColourDuel" (135 : Nat) "java/lang/StringBuilder") ∈ lw_all := lw_g (lw_at lw_m3 88 rfl) rfl
theorem q663 : (Jvm.Cond.methodLink "ColourDuel" (137 : Nat) ({ cls := "java/lang/StringBuilder", name := "<init>", desc := "()V" } : Jvm.MethodName)) ∈ lw_all := lw_g (lw_at lw_m3 89 rfl) rfl
theorem q664 : (Jvm.Cond.fieldLink "ColourDuel" (28 : Nat) "ColourDuel" "search" "LColourDuel$Search;") ∈ lw_all := lw_g (lw_at lw_m3 90 rfl) rfl
theorem q665 : (Jvm.Cond.fieldLink "ColourDuel" (94 : Nat) "ColourDuel" "board" "LColourDuel$Board;") ∈ lw_all := lw_g (lw_at lw_m3 91 rfl) rfl
theorem q666 : (Jvm.Cond.fieldLink "ColourDuel" (82 : Nat) "ColourDuel" "history" "Ljava/util/ArrayDeque;") ∈ lw_all := lw_g (lw_at lw_m3 92 rfl) rfl
theorem q667 : (Jvm.Cond.fieldLink "ColourDuel" (124 : Nat) "ColourDuel" "slots" "[LColourDuel$Board;") ∈ lw_all := lw_g (lw_at lw_m3 93 rfl) rfl
theorem q669 : (Jvm.Cond.fieldLink "ColourDuel" (128 : Nat) "ColourDuel" "buffer" "[B") ∈ lw_all := lw_g (lw_at lw_m3 95 rfl) rfl
theorem q670 : (Jvm.Cond.fieldLink "ColourDuel" (142 : Nat) "ColourDuel" "length" "I") ∈ lw_all := lw_g (lw_at lw_m3 96 rfl) rfl
theorem q671 : (Jvm.Cond.fieldLink "ColourDuel" (132 : Nat) "ColourDuel" "errorAt" "I") ∈ lw_all := lw_g (lw_at lw_m3 97 rfl) rfl
theorem q672 : (Jvm.Cond.fieldLink "ColourDuel" (138 : Nat) "ColourDuel" "written" "Ljava/lang/StringBuilder;") ∈ lw_all := lw_g (lw_at lw_m3 98 rfl) rfl
theorem q673 : (Jvm.Cond.laysFinal "ColourDuel" "ColourDuel" "search" "LColourDuel$Search;") ∈ lw_all := lw_g (lw_at lw_m3 99 rfl) rfl
theorem q674 : (Jvm.Cond.soleField "ColourDuel" "search") ∈ lw_all := lw_g (lw_at lw_m3 100 rfl) rfl
theorem q675 : (Jvm.Cond.lays "ColourDuel" "ColourDuel" "board" "LColourDuel$Board;") ∈ lw_all := lw_g (lw_at lw_m3 101 rfl) rfl
theorem q676 : (Jvm.Cond.soleField "ColourDuel" "board") ∈ lw_all := lw_g (lw_at lw_m3 102 rfl) rfl
theorem q677 : (Jvm.Cond.laysFinal "ColourDuel" "ColourDuel" "history" "Ljava/util/ArrayDeque;") ∈ lw_all := lw_g (lw_at lw_m3 103 rfl) rfl
theorem q678 : (Jvm.Cond.soleField "ColourDuel" "history") ∈ lw_all := lw_g (lw_at lw_m3 104 rfl) rfl
theorem q679 : (Jvm.Cond.laysFinal "ColourDuel" "ColourDuel" "slots" "[LColourDuel$Board;") ∈ lw_all := lw_g (lw_at lw_m3 105 rfl) rfl
theorem q680 : (Jvm.Cond.soleField "ColourDuel" "slots") ∈ lw_all := lw_g (lw_at lw_m3 106 rfl) rfl
theorem q681 : (Jvm.Cond.laysFinal "ColourDuel" "ColourDuel" "buffer" "[B") ∈ lw_all := lw_g (lw_at lw_m3 107 rfl) rfl
theorem q682 : (Jvm.Cond.soleField "ColourDuel" "buffer") ∈ lw_all := lw_g (lw_at lw_m3 108 rfl) rfl
theorem q683 : (Jvm.Cond.lays "ColourDuel" "ColourDuel" "length" "I") ∈ lw_all := lw_g (lw_at lw_m3 109 rfl) rfl
theorem q684 : (Jvm.Cond.soleField "ColourDuel" "length") ∈ lw_all := lw_g (lw_at lw_m3 110 rfl) rfl
theorem q685 : (Jvm.Cond.lays "ColourDuel" "ColourDuel" "errorAt" "I") ∈ lw_all := lw_g (lw_at lw_m3 111 rfl) rfl
theorem q686 : (Jvm.Cond.soleField "ColourDuel" "errorAt") ∈ lw_all := lw_g (lw_at lw_m3 112 rfl) rfl
theorem q687 : (Jvm.Cond.laysFinal "ColourDuel" "ColourDuel" "written" "Ljava/lang/StringBuilder;") ∈ lw_all := lw_g (lw_at lw_m3 113 rfl) rfl
theorem q688 : (Jvm.Cond.soleField "ColourDuel" "written") ∈ lw_all := lw_g (lw_at lw_m3 114 rfl) rfl
theorem q689 : (Jvm.Cond.superclass "ColourDuel" "java/lang/Object") ∈ lw_all := lw_g (lw_at lw_m3 115 rfl) rfl
theorem q691 : (Jvm.Cond.instanceMethod ({ cls := "ColourDuel", name := "errorPosition", desc := "()I" } : Jvm.MethodName)) ∈ lw_all := lw_g (lw_at lw_m3 117 rfl) rfl
theorem q692 : (Jvm.Cond.selects "ColourDuel" ({ cls := "ColourDuel", name := "errorPosition", desc := "()I" } : Jvm.MethodName) ({ cls := "ColourDuel", name := "errorPosition", desc := "()I" } : Jvm.MethodName)) ∈ lw_all := lw_g (lw_at lw_m3 118 rfl) rfl
theorem q693 : (Jvm.Cond.code ({ cls := "ColourDuel", name := "errorPosition", desc := "()I" } : Jvm.MethodName) prog_1_method_23_code (1 : Nat) (Option.some Jvm.ClassFile.FieldType.int)) ∈ lw_all := lw_g (lw_at lw_m3 119 rfl) rfl
theorem q695 : (Jvm.Cond.instanceMethod ({ cls := "ColourDuel", name := "value", desc := "()I" } : Jvm.MethodName)) ∈ lw_all := lw_g (lw_at lw_m3 121 rfl) rfl
theorem q696 : (Jvm.Cond.selects "ColourDuel" ({ cls := "ColourDuel", name := "value", desc := "()I" } : Jvm.MethodName) ({ cls := "ColourDuel", name := "value", desc := "()I" } : Jvm.MethodName)) ∈ lw_all := lw_g (lw_at lw_m3 122 rfl) rfl
theorem q697 : (Jvm.Cond.code ({ cls := "ColourDuel", name := "value", desc := "()I" } : Jvm.MethodName) prog_1_method_32_code (1 : Nat) (Option.some Jvm.ClassFile.FieldType.int)) ∈ lw_all := lw_g (lw_at lw_m3 123 rfl) rfl
theorem q698 : (Jvm.Cond.methodLink "ColourDuel" (261 : Nat) ({ cls := "ColourDuel", name := "valueOf", desc := "(LColourDuel$Board;)I" } : Jvm.MethodName)) ∈ lw_all := lw_g (lw_at lw_m3 124 rfl) rfl
theorem q699 : (Jvm.Cond.privateMethod ({ cls := "ColourDuel", name := "valueOf", desc := "(LColourDuel$Board;)I" } : Jvm.MethodName)) ∈ lw_tbl := lw_at lw_m3 125 rfl
theorem q700 : (Jvm.Cond.instanceMethod ({ cls := "ColourDuel", name := "valueOf", desc := "(LColourDuel$Board;)I" } : Jvm.MethodName)) ∈ lw_all := lw_g (lw_at lw_m3 126 rfl) rfl
theorem q701 : (Jvm.Cond.code ({ cls := "ColourDuel", name := "valueOf", desc := "(LColourDuel$Board;)I" } : Jvm.MethodName) prog_1_method_14_code (2 : Nat) (Option.some Jvm.ClassFile.FieldType.int)) ∈ lw_all := lw_g (lw_at lw_m3 127 rfl) rfl
theorem q702 : (Jvm.Cond.methodLink "ColourDuel" (53 : Nat) ({ cls := "ColourDuel", name := "valueOfPasses", desc := "(LColourDuel$Board;)I" } : Jvm.MethodName)) ∈ lw_all := lw_g (lw_at lw_m3 128 rfl) rfl
theorem q703 : (Jvm.Cond.static ({ cls := "ColourDuel", name := "valueOfPasses", desc := "(LColourDuel$Board;)I" } : Jvm.MethodName)) ∈ lw_all := lw_g (lw_at lw_m3 129 rfl) rfl
theorem q704 : (Jvm.Cond.code ({ cls := "ColourDuel", name := "valueOfPasses", desc := "(LColourDuel$Board;)I" } : Jvm.MethodName) prog_1_method_13_code (1 : Nat) (Option.some Jvm.ClassFile.FieldType.int)) ∈ lw_all := lw_g (lw_at lw_m3 130 rfl) rfl
theorem q705 : (Jvm.Cond.methodLink "ColourDuel" (57 : Nat) ({ cls := "ColourDuel$Board", name := "free", desc := "()I" } : Jvm.MethodName)) ∈ lw_all := lw_g (lw_at lw_m3 131 rfl) rfl
theorem q709 : (Jvm.Cond.methodLink "ColourDuel" (60 : Nat) ({ cls := "ColourDuel$Search", name := "together", desc := "(LColourDuel$Board;I)I" } : Jvm.MethodName)) ∈ lw_all := lw_g (lw_at lw_m3 135 rfl) rfl
theorem q747 : (Jvm.Cond.static ({ cls := "ColourDuel", name := "counting", desc := "(II)I" } : Jvm.MethodName)) ∈ lw_all := lw_g (lw_at lw_m3 173 rfl) rfl
theorem q748 : (Jvm.Cond.code ({ cls := "ColourDuel", name := "counting", desc := "(II)I" } : Jvm.MethodName) prog_1_method_7_code (2 : Nat) (Option.some Jvm.ClassFile.FieldType.int)) ∈ lw_all := lw_g (lw_at lw_m3 174 rfl) rfl
theorem q749 : (Jvm.Cond.methodLink "ColourDuel" (22 : Nat) ({ cls := "java/lang/Integer", name := "bitCount", desc := "(I)I" } : Jvm.MethodName)) ∈ lw_all := lw_g (lw_at lw_m3 175 rfl) rfl
theorem q782 : (Jvm.Cond.static ({ cls := "ColourDuel", name := "value", desc := "(I)I" } : Jvm.MethodName)) ∈ lw_all := lw_g (lw_at lw_m3 208 rfl) rfl
theorem q783 : (Jvm.Cond.code ({ cls := "ColourDuel", name := "value", desc := "(I)I" } : Jvm.MethodName) prog_1_method_9_code (1 : Nat) (Option.some Jvm.ClassFile.FieldType.int)) ∈ lw_all := lw_g (lw_at lw_m3 209 rfl) rfl
theorem q785 : (Jvm.Cond.static ({ cls := "ColourDuel", name := "longest", desc := "(I)I" } : Jvm.MethodName)) ∈ lw_all := lw_g (lw_at lw_m3 211 rfl) rfl
theorem q786 : (Jvm.Cond.code ({ cls := "ColourDuel", name := "longest", desc := "(I)I" } : Jvm.MethodName) prog_1_method_10_code (1 : Nat) (Option.some Jvm.ClassFile.FieldType.int)) ∈ lw_all := lw_g (lw_at lw_m3 212 rfl) rfl
theorem q788 : (Jvm.Cond.static ({ cls := "ColourDuel", name := "shortest", desc := "(I)I" } : Jvm.MethodName)) ∈ lw_all := lw_g (lw_at lw_m3 214 rfl) rfl
theorem q789 : (Jvm.Cond.code ({ cls := "ColourDuel", name := "shortest", desc := "(I)I" } : Jvm.MethodName) prog_1_method_11_code (1 : Nat) (Option.some Jvm.ClassFile.FieldType.int)) ∈ lw_all := lw_g (lw_at lw_m3 215 rfl) rfl
theorem q791 : (Jvm.Cond.static ({ cls := "ColourDuel", name := "packed", desc := "(III)I" } : Jvm.MethodName)) ∈ lw_all := lw_g (lw_at lw_m3 217 rfl) rfl
theorem q792 : (Jvm.Cond.code ({ cls := "ColourDuel", name := "packed", desc := "(III)I" } : Jvm.MethodName) prog_1_method_8_code (3 : Nat) (Option.some Jvm.ClassFile.FieldType.int)) ∈ lw_all := lw_g (lw_at lw_m3 218 rfl) rfl
theorem q796 : (Jvm.Cond.methodLink "ColourDuel" (64 : Nat) ({ cls := "ColourDuel", name := "value", desc := "(I)I" } : Jvm.MethodName)) ∈ lw_all := lw_g (lw_at lw_m3 222 rfl) rfl
theorem q798 : (Jvm.Cond.instanceMethod ({ cls := "ColourDuel", name := "winningMoves", desc := "()I" } : Jvm.MethodName)) ∈ lw_all := lw_g (lw_at lw_m3 224 rfl) rfl
theorem q799 : (Jvm.Cond.selects "ColourDuel" ({ cls := "ColourDuel", name := "winningMoves", desc := "()I" } : Jvm.MethodName) ({ cls := "ColourDuel", name := "winningMoves", desc := "()I" } : Jvm.MethodName)) ∈ lw_all := lw_g (lw_at lw_m3 225 rfl) rfl
theorem q800 : (Jvm.Cond.code ({ cls := "ColourDuel", name := "winningMoves", desc := "()I" } : Jvm.MethodName) prog_1_method_36_code (3 : Nat) (Option.some Jvm.ClassFile.FieldType.int)) ∈ lw_all := lw_g (lw_at lw_m3 226 rfl) rfl
theorem q801 : (Jvm.Cond.methodLink "ColourDuel" (274 : Nat) ({ cls := "ColourDuel$Board", name := "allMoves", desc := "()LColourDuel$Board$Moves;" } : Jvm.MethodName)) ∈ lw_all := lw_g (lw_at lw_m3 227 rfl) rfl
theorem q847 : (Jvm.Cond.methodLink "ColourDuel" (278 : Nat) ({ cls := "ColourDuel$Board$Moves", name := "hasNext", desc := "()Z" } : Jvm.MethodName)) ∈ lw_all := lw_g (lw_at lw_m4 33 rfl) rfl
theorem q851 : (Jvm.Cond.methodLink "ColourDuel" (283 : Nat) ({ cls := "ColourDuel$Board$Moves", name := "next", desc := "()Ljava/lang/Integer;" } : Jvm.MethodName)) ∈ lw_all := lw_g (lw_at lw_m4 37 rfl) rfl
theorem q875 : (Jvm.Cond.methodLink "ColourDuel" (287 : Nat) ({ cls := "java/lang/Integer", name := "intValue", desc := "()I" } : Jvm.MethodName)) ∈ lw_all := lw_g (lw_at lw_m4 61 rfl) rfl
theorem q879 : (Jvm.Cond.methodLink "ColourDuel" (290 : Nat) ({ cls := "ColourDuel", name := "wins", desc := "(I)Z" } : Jvm.MethodName)) ∈ lw_all := lw_g (lw_at lw_m4 65 rfl) rfl
theorem q880 : (Jvm.Cond.privateMethod ({ cls := "ColourDuel", name := "wins", desc := "(I)Z" } : Jvm.MethodName)) ∈ lw_tbl := lw_at lw_m4 66 rfl
theorem q881 : (Jvm.Cond.instanceMethod ({ cls := "ColourDuel", name := "wins", desc := "(I)Z" } : Jvm.MethodName)) ∈ lw_all := lw_g (lw_at lw_m4 67 rfl) rfl
theorem q882 : (Jvm.Cond.code ({ cls := "ColourDuel", name := "wins", desc := "(I)Z" } : Jvm.MethodName) prog_1_method_35_code (2 : Nat) (Option.some Jvm.ClassFile.FieldType.boolean)) ∈ lw_all := lw_g (lw_at lw_m4 68 rfl) rfl
theorem q883 : (Jvm.Cond.methodLink "ColourDuel" (270 : Nat) ({ cls := "ColourDuel", name := "behind", desc := "(I)LColourDuel$Board;" } : Jvm.MethodName)) ∈ lw_all := lw_g (lw_at lw_m4 69 rfl) rfl
theorem q884 : (Jvm.Cond.privateMethod ({ cls := "ColourDuel", name := "behind", desc := "(I)LColourDuel$Board;" } : Jvm.MethodName)) ∈ lw_tbl := lw_at lw_m4 70 rfl
theorem q885 : (Jvm.Cond.instanceMethod ({ cls := "ColourDuel", name := "behind", desc := "(I)LColourDuel$Board;" } : Jvm.MethodName)) ∈ lw_all := lw_g (lw_at lw_m4 71 rfl) rfl
theorem q886 : (Jvm.Cond.code ({ cls := "ColourDuel", name := "behind", desc := "(I)LColourDuel$Board;" } : Jvm.MethodName) prog_1_method_33_code (3 : Nat) (Option.some (Jvm.ClassFile.FieldType.object "ColourDuel$Board"))) ∈ lw_all := lw_g (lw_at lw_m4 72 rfl) rfl
theorem q887 : (Jvm.Cond.methodLink "ColourDuel" (102 : Nat) ({ cls := "ColourDuel$Board", name := "copy", desc := "()LColourDuel$Board;" } : Jvm.MethodName)) ∈ lw_all := lw_g (lw_at lw_m4 73 rfl) rfl
theorem q943 : (Jvm.Cond.selects "ColourDuel" ({ cls := "java/lang/Object", name := "getClass", desc := "()Ljava/lang/Class;" } : Jvm.MethodName) ({ cls := "java/lang/Object", name := "getClass", desc := "()Ljava/lang/Class;" } : Jvm.MethodName)) ∈ lw_all := lw_g (lw_at lw_m4 129 rfl) rfl
theorem q980 : (Jvm.Cond.methodLink "ColourDuel" (264 : Nat) ({ cls := "ColourDuel$Board", name := "makes", desc := "(I)V" } : Jvm.MethodName)) ∈ lw_all := lw_g (lw_at lw_m4 166 rfl) rfl
theorem q1042 : (Jvm.Cond.instanceMethod ({ cls := "ColourDuel", name := "longest", desc := "()I" } : Jvm.MethodName)) ∈ lw_all := lw_g (lw_at lw_m4 228 rfl) rfl
theorem q1043 : (Jvm.Cond.selects "ColourDuel" ({ cls := "ColourDuel", name := "longest", desc := "()I" } : Jvm.MethodName) ({ cls := "ColourDuel", name := "longest", desc := "()I" } : Jvm.MethodName)) ∈ lw_all := lw_g (lw_at lw_m4 229 rfl) rfl
theorem q1044 : (Jvm.Cond.code ({ cls := "ColourDuel", name := "longest", desc := "()I" } : Jvm.MethodName) prog_1_method_40_code (1 : Nat) (Option.some Jvm.ClassFile.FieldType.int)) ∈ lw_all := lw_g (lw_at lw_m4 230 rfl) rfl
theorem q1045 : (Jvm.Cond.methodLink "ColourDuel" (310 : Nat) ({ cls := "ColourDuel", name := "longestOf", desc := "(LColourDuel$Board;)I" } : Jvm.MethodName)) ∈ lw_all := lw_g (lw_at lw_m4 231 rfl) rfl
theorem q1046 : (Jvm.Cond.privateMethod ({ cls := "ColourDuel", name := "longestOf", desc := "(LColourDuel$Board;)I" } : Jvm.MethodName)) ∈ lw_tbl := lw_at lw_m4 232 rfl
theorem q1047 : (Jvm.Cond.instanceMethod ({ cls := "ColourDuel", name := "longestOf", desc := "(LColourDuel$Board;)I" } : Jvm.MethodName)) ∈ lw_all := lw_g (lw_at lw_m4 233 rfl) rfl
theorem q1048 : (Jvm.Cond.code ({ cls := "ColourDuel", name := "longestOf", desc := "(LColourDuel$Board;)I" } : Jvm.MethodName) prog_1_method_15_code (2 : Nat) (Option.some Jvm.ClassFile.FieldType.int)) ∈ lw_all := lw_g (lw_at lw_m4 234 rfl) rfl
theorem q1049 : (Jvm.Cond.methodLink "ColourDuel" (67 : Nat) ({ cls := "ColourDuel", name := "longest", desc := "(I)I" } : Jvm.MethodName)) ∈ lw_all := lw_g (lw_at lw_m4 235 rfl) rfl
theorem q1051 : (Jvm.Cond.instanceMethod ({ cls := "ColourDuel", name := "shortest", desc := "()I" } : Jvm.MethodName)) ∈ lw_all := lw_g (lw_at lw_m4 237 rfl) rfl
theorem q1052 : (Jvm.Cond.selects "ColourDuel" ({ cls := "ColourDuel", name := "shortest", desc := "()I" } : Jvm.MethodName) ({ cls := "ColourDuel", name := "shortest", desc := "()I" } : Jvm.MethodName)) ∈ lw_all := lw_g (lw_at lw_m4 238 rfl) rfl
theorem q1053 : (Jvm.Cond.code ({ cls := "ColourDuel", name := "shortest", desc := "()I" } : Jvm.MethodName) prog_1_method_41_code (1 : Nat) (Option.some Jvm.ClassFile.FieldType.int)) ∈ lw_all := lw_g (lw_at lw_m4 239 rfl) rfl
theorem q1054 : (Jvm.Cond.methodLink "ColourDuel" (258 : Nat) ({ cls := "ColourDuel", name := "shortest", desc := "(I)I" } : Jvm.MethodName)) ∈ lw_all := lw_g (lw_at lw_m5 0 rfl) rfl
theorem q1056 : (Jvm.Cond.instanceMethod ({ cls := "ColourDuel", name := "meanValue", desc := "()F" } : Jvm.MethodName)) ∈ lw_all := lw_g (lw_at lw_m5 2 rfl) rfl
theorem q1057 : (Jvm.Cond.selects "ColourDuel" ({ cls := "ColourDuel", name := "meanValue", desc := "()F" } : Jvm.MethodName) ({ cls := "ColourDuel", name := "meanValue", desc := "()F" } : Jvm.MethodName)) ∈ lw_all := lw_g (lw_at lw_m5 3 rfl) rfl
theorem q1058 : (Jvm.Cond.code ({ cls := "ColourDuel", name := "meanValue", desc := "()F" } : Jvm.MethodName) prog_1_method_42_code (4 : Nat) (Option.some Jvm.ClassFile.FieldType.float)) ∈ lw_all := lw_g (lw_at lw_m5 4 rfl) rfl
theorem q1059 : (Jvm.Cond.methodLink "ColourDuel" (239 : Nat) ({ cls := "ColourDuel$Board", name := "parts", desc := "()Ljava/util/List;" } : Jvm.MethodName)) ∈ lw_all := lw_g (lw_at lw_m5 5 rfl) rfl
theorem q1082 : (Jvm.Cond.interfaceEntry "ColourDuel" (191 : Nat)) ∈ lw_tbl := lw_at lw_m5 28 rfl
theorem q1083 : (Jvm.Cond.methodLink "ColourDuel" (191 : Nat) ({ cls := "java/util/List", name := "size", desc := "()I" } : Jvm.MethodName)) ∈ lw_all := lw_g (lw_at lw_m5 29 rfl) rfl
theorem q1091 : (Jvm.Cond.interfaceEntry "ColourDuel" (243 : Nat)) ∈ lw_tbl := lw_at lw_m5 37 rfl
theorem q1092 : (Jvm.Cond.methodLink "ColourDuel" (243 : Nat) ({ cls := "java/util/List", name := "get", desc := "(I)Ljava/lang/Object;" } : Jvm.MethodName)) ∈ lw_all := lw_g (lw_at lw_m5 38 rfl) rfl
theorem q1110 : (Jvm.Cond.classLink "ColourDuel" (33 : Nat) "ColourDuel$Part") ∈ lw_all := lw_g (lw_at lw_m5 56 rfl) rfl
theorem q1111 : (Jvm.Cond.methodLink "ColourDuel" (254 : Nat) ({ cls := "ColourDuel", name := "of", desc := "(LColourDuel$Board;LColourDuel$Part;)I" } : Jvm.MethodName)) ∈ lw_all := lw_g (lw_at lw_m5 57 rfl) rfl
theorem q1112 : (Jvm.Cond.privateMethod ({ cls := "ColourDuel", name := "of", desc := "(LColourDuel$Board;LColourDuel$Part;)I" } : Jvm.MethodName)) ∈ lw_tbl := lw_at lw_m5 58 rfl
theorem q1113 : (Jvm.Cond.instanceMethod ({ cls := "ColourDuel", name := "of", desc := "(LColourDuel$Board;LColourDuel$Part;)I" } : Jvm.MethodName)) ∈ lw_all := lw_g (lw_at lw_m5 59 rfl) rfl
theorem q1114 : (Jvm.Cond.code ({ cls := "ColourDuel", name := "of", desc := "(LColourDuel$Board;LColourDuel$Part;)I" } : Jvm.MethodName) prog_1_method_12_code (3 : Nat) (Option.some Jvm.ClassFile.FieldType.int)) ∈ lw_all := lw_g (lw_at lw_m5 60 rfl) rfl
theorem q1115 : (Jvm.Cond.methodLink "ColourDuel" (32 : Nat) ({ cls := "ColourDuel$Part", name := "set", desc := "()I" } : Jvm.MethodName)) ∈ lw_all := lw_g (lw_at lw_m5 61 rfl) rfl
theorem q1116 : (Jvm.Cond.methodLink "ColourDuel" (38 : Nat) ({ cls := "ColourDuel$Part", name := "ban", desc := "()I" } : Jvm.MethodName)) ∈ lw_all := lw_g (lw_at lw_m5 62 rfl) rfl
theorem q1120 : (Jvm.Cond.methodLink "ColourDuel" (41 : Nat) ({ cls := "ColourDuel$Search", name := "part", desc := "(LColourDuel$Board;II)I" } : Jvm.MethodName)) ∈ lw_all := lw_g (lw_at lw_m5 66 rfl) rfl
theorem q1121 : (Jvm.Cond.interfaceEntry "ColourDuel" (313 : Nat)) ∈ lw_tbl := lw_at lw_m5 67 rfl
theorem q1122 : (Jvm.Cond.methodLink "ColourDuel" (313 : Nat) ({ cls := "java/util/List", name := "isEmpty", desc := "()Z" } : Jvm.MethodName)) ∈ lw_all := lw_g (lw_at lw_m5 68 rfl) rfl
theorem q1131 : (Jvm.Cond.instanceMethod ({ cls := "ColourDuel", name := "writeBoard", desc := "()I" } : Jvm.MethodName)) ∈ lw_all := lw_g (lw_at lw_m5 77 rfl) rfl
theorem q1132 : (Jvm.Cond.selects "ColourDuel" ({ cls := "ColourDuel", name := "writeBoard", desc := "()I" } : Jvm.MethodName) ({ cls := "ColourDuel", name := "writeBoard", desc := "()I" } : Jvm.MethodName)) ∈ lw_all := lw_g (lw_at lw_m5 78 rfl) rfl
theorem q1133 : (Jvm.Cond.code ({ cls := "ColourDuel", name := "writeBoard", desc := "()I" } : Jvm.MethodName) prog_1_method_51_code (2 : Nat) (Option.some Jvm.ClassFile.FieldType.int)) ∈ lw_all := lw_g (lw_at lw_m5 79 rfl) rfl
theorem q1134 : (Jvm.Cond.methodLink "ColourDuel" (350 : Nat) ({ cls := "java/lang/StringBuilder", name := "setLength", desc := "(I)V" } : Jvm.MethodName)) ∈ lw_all := lw_g (lw_at lw_m5 80 rfl) rfl
theorem q1202 : (Jvm.Cond.methodLink "ColourDuel" (316 : Nat) ({ cls := "ColourDuel", name := "isFree", desc := "(I)Z" } : Jvm.MethodName)) ∈ lw_all := lw_g (lw_at lw_m5 148 rfl) rfl
theorem q1203 : (Jvm.Cond.privateMethod ({ cls := "ColourDuel", name := "isFree", desc := "(I)Z" } : Jvm.MethodName)) ∈ lw_tbl := lw_at lw_m5 149 rfl
theorem q1204 : (Jvm.Cond.instanceMethod ({ cls := "ColourDuel", name := "isFree", desc := "(I)Z" } : Jvm.MethodName)) ∈ lw_all := lw_g (lw_at lw_m5 150 rfl) rfl
theorem q1205 : (Jvm.Cond.code ({ cls := "ColourDuel", name := "isFree", desc := "(I)Z" } : Jvm.MethodName) prog_1_method_27_code (2 : Nat) (Option.some Jvm.ClassFile.FieldType.boolean)) ∈ lw_all := lw_g (lw_at lw_m5 151 rfl) rfl
theorem q1206 : (Jvm.Cond.methodLink "ColourDuel" (353 : Nat) ({ cls := "java/lang/StringBuilder", name := "append", desc := "(C)Ljava/lang/StringBuilder;" } : Jvm.MethodName)) ∈ lw_all := lw_g (lw_at lw_m5 152 rfl) rfl
theorem q1226 : (Jvm.Cond.methodLink "ColourDuel" (357 : Nat) ({ cls := "java/lang/StringBuilder", name := "append", desc := "(I)Ljava/lang/StringBuilder;" } : Jvm.MethodName)) ∈ lw_all := lw_g (lw_at lw_m5 172 rfl) rfl
theorem q1227 : (Jvm.Cond.methodLink "ColourDuel" (360 : Nat) ({ cls := "java/lang/StringBuilder", name := "length", desc := "()I" } : Jvm.MethodName)) ∈ lw_all := lw_g (lw_at lw_m5 173 rfl) rfl
theorem q1233 : (Jvm.Cond.instanceMethod ({ cls := "ColourDuel", name := "append", desc := "(IIIII)I" } : Jvm.MethodName)) ∈ lw_all := lw_g (lw_at lw_m5 179 rfl) rfl
theorem q1234 : (Jvm.Cond.selects "ColourDuel" ({ cls := "ColourDuel", name := "append", desc := "(IIIII)I" } : Jvm.MethodName) ({ cls := "ColourDuel", name := "append", desc := "(IIIII)I" } : Jvm.MethodName)) ∈ lw_all := lw_g (lw_at lw_m5 180 rfl) rfl
theorem q1235 : (Jvm.Cond.code ({ cls := "ColourDuel", name := "append", desc := "(IIIII)I" } : Jvm.MethodName) prog_1_method_21_code (6 : Nat) (Option.some Jvm.ClassFile.FieldType.int)) ∈ lw_all := lw_g (lw_at lw_m5 181 rfl) rfl
theorem q1236 : (Jvm.Cond.methodLink "ColourDuel" (145 : Nat) ({ cls := "ColourDuel", name := "requireState", desc := "(Z)V" } : Jvm.MethodName)) ∈ lw_all := lw_g (lw_at lw_m5 182 rfl) rfl
theorem q1237 : (Jvm.Cond.static ({ cls := "ColourDuel", name := "requireState", desc := "(Z)V" } : Jvm.MethodName)) ∈ lw_all := lw_g (lw_at lw_m5 183 rfl) rfl
theorem q1238 : (Jvm.Cond.code ({ cls := "ColourDuel", name := "requireState", desc := "(Z)V" } : Jvm.MethodName) prog_1_method_5_code (1 : Nat) (Option.none : Option Jvm.ClassFile.FieldType)) ∈ lw_all := lw_g (lw_at lw_m5 184 rfl) rfl
theorem q1239 : (Jvm.Cond.classLink "ColourDuel" (16 : Nat) "java/lang/IllegalStateException") ∈ lw_all := lw_g (lw_at lw_m5 185 rfl) rfl
theorem q1248 : (Jvm.Cond.methodLink "ColourDuel" (18 : Nat) ({ cls := "java/lang/IllegalStateException", name := "<init>", desc := "()V" } : Jvm.MethodName)) ∈ lw_all := lw_g (lw_at lw_m5 194 rfl) rfl
theorem q1260 : (Jvm.Cond.methodLink "ColourDuel" (149 : Nat) ({ cls := "ColourDuel", name := "write", desc := "(I)V" } : Jvm.MethodName)) ∈ lw_all := lw_g (lw_at lw_m5 206 rfl) rfl
theorem q1261 : (Jvm.Cond.privateMethod ({ cls := "ColourDuel", name := "write", desc := "(I)V" } : Jvm.MethodName)) ∈ lw_tbl := lw_at lw_m5 207 rfl
theorem q1262 : (Jvm.Cond.instanceMethod ({ cls := "ColourDuel", name := "write", desc := "(I)V" } : Jvm.MethodName)) ∈ lw_all := lw_g (lw_at lw_m5 208 rfl) rfl
theorem q1263 : (Jvm.Cond.code ({ cls := "ColourDuel", name := "write", desc := "(I)V" } : Jvm.MethodName) prog_1_method_20_code (3 : Nat) (Option.none : Option Jvm.ClassFile.FieldType)) ∈ lw_all := lw_g (lw_at lw_m5 209 rfl) rfl
theorem q1269 : (Jvm.Cond.instanceMethod ({ cls := "ColourDuel", name := "load", desc := "(I)I" } : Jvm.MethodName)) ∈ lw_all := lw_g (lw_at lw_m5 215 rfl) rfl
theorem q1270 : (Jvm.Cond.selects "ColourDuel" ({ cls := "ColourDuel", name := "load", desc := "(I)I" } : Jvm.MethodName) ({ cls := "ColourDuel", name := "load", desc := "(I)I" } : Jvm.MethodName)) ∈ lw_all := lw_g (lw_at lw_m5 216 rfl) rfl
theorem q1271 : (Jvm.Cond.codeWith ({ cls := "ColourDuel", name := "load", desc := "(I)I" } : Jvm.MethodName) prog_1_method_22_code (3 : Nat) (Option.some Jvm.ClassFile.FieldType.int) [((24 : Nat), (50 : Nat), (51 : Nat), (167 : Nat))]) ∈ lw_all := lw_g (lw_at lw_m5 217 rfl) rfl
theorem q1272 : (Jvm.Cond.classLink "ColourDuel" (167 : Nat) "ColourDuel$TextError") ∈ lw_all := lw_g (lw_at lw_m5 218 rfl) rfl
theorem q1273 : (Jvm.Cond.methodLink "ColourDuel" (1 : Nat) ({ cls := "ColourDuel", name := "inRange", desc := "(JJJ)Z" } : Jvm.MethodName)) ∈ lw_all := lw_g (lw_at lw_m5 219 rfl) rfl
theorem q1274 : (Jvm.Cond.static ({ cls := "ColourDuel", name := "inRange", desc := "(JJJ)Z" } : Jvm.MethodName)) ∈ lw_all := lw_g (lw_at lw_m5 220 rfl) rfl
theorem q1275 : (Jvm.Cond.code ({ cls := "ColourDuel", name := "inRange", desc := "(JJJ)Z" } : Jvm.MethodName) prog_1_method_1_code (6 : Nat) (Option.some Jvm.ClassFile.FieldType.boolean)) ∈ lw_all := lw_g (lw_at lw_m5 221 rfl) rfl
theorem q1276 : (Jvm.Cond.methodLink "ColourDuel" (152 : Nat) ({ cls := "ColourDuel", name := "requireArgument", desc := "(Z)V" } : Jvm.MethodName)) ∈ lw_all := lw_g (lw_at lw_m5 222 rfl) rfl
theorem q1277 : (Jvm.Cond.static ({ cls := "ColourDuel", name := "requireArgument", desc := "(Z)V" } : Jvm.MethodName)) ∈ lw_all := lw_g (lw_at lw_m5 223 rfl) rfl
theorem q1278 : (Jvm.Cond.code ({ cls := "ColourDuel", name := "requireArgument", desc := "(Z)V" } : Jvm.MethodName) prog_1_method_4_code (1 : Nat) (Option.none : Option Jvm.ClassFile.FieldType)) ∈ lw_all := lw_g (lw_at lw_m5 224 rfl) rfl
theorem q1279 : (Jvm.Cond.classLink "ColourDuel" (13 : Nat) "java/lang/IllegalArgumentException") ∈ lw_all := lw_g (lw_at lw_m5 225 rfl) rfl
theorem q1280 : (Jvm.Cond.methodLink "ColourDuel" (15 : Nat) ({ cls := "java/lang/IllegalArgumentException", name := "<init>", desc := "()V" } : Jvm.MethodName)) ∈ lw_all := lw_g (lw_at lw_m5 226 rfl) rfl
theorem q1284 : (Jvm.Cond.classLink "ColourDuel" (155 : Nat) "ColourDuel$Reader") ∈ lw_all := lw_g (lw_at lw_m5 230 rfl) rfl
theorem q1286 : (Jvm.Cond.methodLink "ColourDuel" (157 : Nat) ({ cls := "ColourDuel$Reader", name := "<init>", desc := "(LColourDuel;I)V" } : Jvm.MethodName)) ∈ lw_all := lw_g (lw_at lw_m5 232 rfl) rfl
theorem q1306 : (Jvm.Cond.methodLink "ColourDuel" (160 : Nat) ({ cls := "ColourDuel$Reader", name := "read", desc := "()LColourDuel$Board;" } : Jvm.MethodName)) ∈ lw_all := lw_g (lw_at lw_m6 12 rfl) rfl
theorem q1362 : (Jvm.Cond.fieldLinkNest "ColourDuel" (172 : Nat) "ColourDuel$TextError" "code" "I" "ColourDuel") ∈ lw_tbl := lw_at lw_m6 68 rfl
theorem q1364 : (Jvm.Cond.fieldLinkNest "ColourDuel" (169 : Nat) "ColourDuel$TextError" "position" "I" "ColourDuel") ∈ lw_tbl := lw_at lw_m6 70 rfl
theorem q1445 : (Jvm.Cond.methodLink "ColourDuel" (106 : Nat) ({ cls := "ColourDuel", name := "become", desc := "(LColourDuel$Board;)V" } : Jvm.MethodName)) ∈ lw_all := lw_g (lw_at lw_m6 151 rfl) rfl
theorem q1446 : (Jvm.Cond.privateMethod ({ cls := "ColourDuel", name := "become", desc := "(LColourDuel$Board;)V" } : Jvm.MethodName)) ∈ lw_tbl := lw_at lw_m6 152 rfl
theorem q1447 : (Jvm.Cond.instanceMethod ({ cls := "ColourDuel", name := "become", desc := "(LColourDuel$Board;)V" } : Jvm.MethodName)) ∈ lw_all := lw_g (lw_at lw_m6 153 rfl) rfl
theorem q1448 : (Jvm.Cond.code ({ cls := "ColourDuel", name := "become", desc := "(LColourDuel$Board;)V" } : Jvm.MethodName) prog_1_method_17_code (3 : Nat) (Option.none : Option Jvm.ClassFile.FieldType)) ∈ lw_all := lw_g (lw_at lw_m6 154 rfl) rfl
theorem q1449 : (Jvm.Cond.methodLink "ColourDuel" (86 : Nat) ({ cls := "java/util/ArrayDeque", name := "size", desc := "()I" } : Jvm.MethodName)) ∈ lw_all := lw_g (lw_at lw_m6 155 rfl) rfl
theorem q1456 : (Jvm.Cond.methodLink "ColourDuel" (90 : Nat) ({ cls := "java/util/ArrayDeque", name := "removeFirst", desc := "()Ljava/lang/Object;" } : Jvm.MethodName)) ∈ lw_all := lw_g (lw_at lw_m6 162 rfl) rfl
theorem q1485 : (Jvm.Cond.methodLink "ColourDuel" (98 : Nat) ({ cls := "java/util/ArrayDeque", name := "addLast", desc := "(Ljava/lang/Object;)V" } : Jvm.MethodName)) ∈ lw_all := lw_g (lw_at lw_m6 191 rfl) rfl
theorem q1510 : (Jvm.Cond.instanceMethod ({ cls := "ColourDuel", name := "count", desc := "(I)I" } : Jvm.MethodName)) ∈ lw_all := lw_g (lw_at lw_m6 216 rfl) rfl
theorem q1511 : (Jvm.Cond.selects "ColourDuel" ({ cls := "ColourDuel", name := "count", desc := "(I)I" } : Jvm.MethodName) ({ cls := "ColourDuel", name := "count", desc := "(I)I" } : Jvm.MethodName)) ∈ lw_all := lw_g (lw_at lw_m6 217 rfl) rfl
theorem q1512 : (Jvm.Cond.code ({ cls := "ColourDuel", name := "count", desc := "(I)I" } : Jvm.MethodName) prog_1_method_24_code (2 : Nat) (Option.some Jvm.ClassFile.FieldType.int)) ∈ lw_all := lw_g (lw_at lw_m6 218 rfl) rfl
theorem q1513 : (Jvm.Cond.methodLink "ColourDuel" (181 : Nat) ({ cls := "ColourDuel$Graph", name := "countParts", desc := "(I)I" } : Jvm.MethodName)) ∈ lw_all := lw_g (lw_at lw_m6 219 rfl) rfl
theorem q1514 : (Jvm.Cond.methodLink "ColourDuel" (194 : Nat) ({ cls := "ColourDuel$Board", name := "isOver", desc := "()Z" } : Jvm.MethodName)) ∈ lw_all := lw_g (lw_at lw_m6 220 rfl) rfl
theorem q1529 : (Jvm.Cond.methodLink "ColourDuel" (198 : Nat) ({ cls := "ColourDuel$Board", name := "pairs", desc := "(I)I" } : Jvm.MethodName)) ∈ lw_all := lw_g (lw_at lw_m6 235 rfl) rfl
theorem q1530 : (Jvm.Cond.methodLink "ColourDuel" (201 : Nat) ({ cls := "ColourDuel$Board", name := "deadVertices", desc := "()I" } : Jvm.MethodName)) ∈ lw_all := lw_g (lw_at lw_m6 236 rfl) rfl
theorem q1541 : (Jvm.Cond.instanceMethod ({ cls := "ColourDuel", name := "vertex", desc := "(II)I" } : Jvm.MethodName)) ∈ lw_all := lw_g (lw_at lw_m7 7 rfl) rfl
theorem q1542 : (Jvm.Cond.selects "ColourDuel" ({ cls := "ColourDuel", name := "vertex", desc := "(II)I" } : Jvm.MethodName) ({ cls := "ColourDuel", name := "vertex", desc := "(II)I" } : Jvm.MethodName)) ∈ lw_all := lw_g (lw_at lw_m7 8 rfl) rfl
theorem q1543 : (Jvm.Cond.code ({ cls := "ColourDuel", name := "vertex", desc := "(II)I" } : Jvm.MethodName) prog_1_method_28_code (3 : Nat) (Option.some Jvm.ClassFile.FieldType.int)) ∈ lw_all := lw_g (lw_at lw_m7 9 rfl) rfl
theorem q1544 : (Jvm.Cond.methodLink "ColourDuel" (208 : Nat) ({ cls := "ColourDuel", name := "requireVertex", desc := "(I)V" } : Jvm.MethodName)) ∈ lw_all := lw_g (lw_at lw_m7 10 rfl) rfl
theorem q1545 : (Jvm.Cond.privateMethod ({ cls := "ColourDuel", name := "requireVertex", desc := "(I)V" } : Jvm.MethodName)) ∈ lw_tbl := lw_at lw_m7 11 rfl
theorem q1546 : (Jvm.Cond.instanceMethod ({ cls := "ColourDuel", name := "requireVertex", desc := "(I)V" } : Jvm.MethodName)) ∈ lw_all := lw_g (lw_at lw_m7 12 rfl) rfl
theorem q1547 : (Jvm.Cond.code ({ cls := "ColourDuel", name := "requireVertex", desc := "(I)V" } : Jvm.MethodName) prog_1_method_25_code (2 : Nat) (Option.none : Option Jvm.ClassFile.FieldType)) ∈ lw_all := lw_g (lw_at lw_m7 13 rfl) rfl
theorem q1548 : (Jvm.Cond.methodLink "ColourDuel" (204 : Nat) ({ cls := "ColourDuel", name := "requireIndex", desc := "(II)V" } : Jvm.MethodName)) ∈ lw_all := lw_g (lw_at lw_m7 14 rfl) rfl
theorem q1549 : (Jvm.Cond.static ({ cls := "ColourDuel", name := "requireIndex", desc := "(II)V" } : Jvm.MethodName)) ∈ lw_all := lw_g (lw_at lw_m7 15 rfl) rfl
theorem q1550 : (Jvm.Cond.code ({ cls := "ColourDuel", name := "requireIndex", desc := "(II)V" } : Jvm.MethodName) prog_1_method_3_code (2 : Nat) (Option.none : Option Jvm.ClassFile.FieldType)) ∈ lw_all := lw_g (lw_at lw_m7 16 rfl) rfl
theorem q1551 : (Jvm.Cond.classLink "ColourDuel" (7 : Nat) "java/lang/IndexOutOfBoundsException") ∈ lw_all := lw_g (lw_at lw_m7 17 rfl) rfl
theorem q1560 : (Jvm.Cond.methodLink "ColourDuel" (9 : Nat) ({ cls := "java/lang/IndexOutOfBoundsException", name := "<init>", desc := "()V" } : Jvm.MethodName)) ∈ lw_all := lw_g (lw_at lw_m7 26 rfl) rfl
theorem q1566 : (Jvm.Cond.methodLink "ColourDuel" (214 : Nat) ({ cls := "ColourDuel$Board", name := "layable", desc := "(I)I" } : Jvm.MethodName)) ∈ lw_all := lw_g (lw_at lw_m7 32 rfl) rfl
theorem q1567 : (Jvm.Cond.methodLink "ColourDuel" (220 : Nat) ({ cls := "ColourDuel$Board", name := "partNumber", desc := "(I)I" } : Jvm.MethodName)) ∈ lw_all := lw_g (lw_at lw_m7 33 rfl) rfl
theorem q1580 : (Jvm.Cond.instanceMethod ({ cls := "ColourDuel", name := "reason", desc := "(II)I" } : Jvm.MethodName)) ∈ lw_all := lw_g (lw_at lw_m7 46 rfl) rfl
theorem q1581 : (Jvm.Cond.selects "ColourDuel" ({ cls := "ColourDuel", name := "reason", desc := "(II)I" } : Jvm.MethodName) ({ cls := "ColourDuel", name := "reason", desc := "(II)I" } : Jvm.MethodName)) ∈ lw_all := lw_g (lw_at lw_m7 47 rfl) rfl
theorem q1582 : (Jvm.Cond.code ({ cls := "ColourDuel", name := "reason", desc := "(II)I" } : Jvm.MethodName) prog_1_method_29_code (3 : Nat) (Option.some Jvm.ClassFile.FieldType.int)) ∈ lw_all := lw_g (lw_at lw_m7 48 rfl) rfl
theorem q1583 : (Jvm.Cond.methodLink "ColourDuel" (223 : Nat) ({ cls := "ColourDuel", name := "requirePair", desc := "(II)V" } : Jvm.MethodName)) ∈ lw_all := lw_g (lw_at lw_m7 49 rfl) rfl
theorem q1584 : (Jvm.Cond.privateMethod ({ cls := "ColourDuel", name := "requirePair", desc := "(II)V" } : Jvm.MethodName)) ∈ lw_tbl := lw_at lw_m7 50 rfl
theorem q1585 : (Jvm.Cond.instanceMethod ({ cls := "ColourDuel", name := "requirePair", desc := "(II)V" } : Jvm.MethodName)) ∈ lw_all := lw_g (lw_at lw_m7 51 rfl) rfl
theorem q1586 : (Jvm.Cond.code ({ cls := "ColourDuel", name := "requirePair", desc := "(II)V" } : Jvm.MethodName) prog_1_method_26_code (3 : Nat) (Option.none : Option Jvm.ClassFile.FieldType)) ∈ lw_all := lw_g (lw_at lw_m7 52 rfl) rfl
theorem q1587 : (Jvm.Cond.fieldLinkNest "ColourDuel" (226 : Nat) "ColourDuel$Board" "RULE" "LColourDuel$FullRule;" "ColourDuel") ∈ lw_tbl := lw_at lw_m7 53 rfl
theorem q1588 : (Jvm.Cond.methodLink "ColourDuel" (230 : Nat) ({ cls := "ColourDuel$FullRule", name := "reason", desc := "(LColourDuel$Board;II)I" } : Jvm.MethodName)) ∈ lw_all := lw_g (lw_at lw_m7 54 rfl) rfl
theorem q1593 : (Jvm.Cond.instanceMethod ({ cls := "ColourDuel", name := "part", desc := "(II)I" } : Jvm.MethodName)) ∈ lw_all := lw_g (lw_at lw_m7 59 rfl) rfl
theorem q1594 : (Jvm.Cond.selects "ColourDuel" ({ cls := "ColourDuel", name := "part", desc := "(II)I" } : Jvm.MethodName) ({ cls := "ColourDuel", name := "part", desc := "(II)I" } : Jvm.MethodName)) ∈ lw_all := lw_g (lw_at lw_m7 60 rfl) rfl
theorem q1595 : (Jvm.Cond.code ({ cls := "ColourDuel", name := "part", desc := "(II)I" } : Jvm.MethodName) prog_1_method_31_code (5 : Nat) (Option.some Jvm.ClassFile.FieldType.int)) ∈ lw_all := lw_g (lw_at lw_m7 61 rfl) rfl
theorem q1596 : (Jvm.Cond.methodLink "ColourDuel" (247 : Nat) ({ cls := "ColourDuel$Part", name := "size", desc := "()I" } : Jvm.MethodName)) ∈ lw_all := lw_g (lw_at lw_m7 62 rfl) rfl
theorem q1601 : (Jvm.Cond.methodLink "ColourDuel" (248 : Nat) ({ cls := "ColourDuel$Part", name := "least", desc := "()I" } : Jvm.MethodName)) ∈ lw_all := lw_g (lw_at lw_m7 67 rfl) rfl
theorem q1606 : (Jvm.Cond.methodLink "ColourDuel" (251 : Nat) ({ cls := "ColourDuel", name := "edgesIn", desc := "(I)I" } : Jvm.MethodName)) ∈ lw_all := lw_g (lw_at lw_m7 72 rfl) rfl
theorem q1607 : (Jvm.Cond.privateMethod ({ cls := "ColourDuel", name := "edgesIn", desc := "(I)I" } : Jvm.MethodName)) ∈ lw_tbl := lw_at lw_m7 73 rfl
theorem q1608 : (Jvm.Cond.instanceMethod ({ cls := "ColourDuel", name := "edgesIn", desc := "(I)I" } : Jvm.MethodName)) ∈ lw_all := lw_g (lw_at lw_m7 74 rfl) rfl
theorem q1609 : (Jvm.Cond.code ({ cls := "ColourDuel", name := "edgesIn", desc := "(I)I" } : Jvm.MethodName) prog_1_method_30_code (4 : Nat) (Option.some Jvm.ClassFile.FieldType.int)) ∈ lw_all := lw_g (lw_at lw_m7 75 rfl) rfl
theorem q1610 : (Jvm.Cond.methodLink "ColourDuel" (235 : Nat) ({ cls := "ColourDuel", name := "has", desc := "(II)Z" } : Jvm.MethodName)) ∈ lw_all := lw_g (lw_at lw_m7 76 rfl) rfl
theorem q1616 : (Jvm.Cond.instanceMethod ({ cls := "ColourDuel", name := "valueIf", desc := "(II)I" } : Jvm.MethodName)) ∈ lw_all := lw_g (lw_at lw_m7 82 rfl) rfl
theorem q1617 : (Jvm.Cond.selects "ColourDuel" ({ cls := "ColourDuel", name := "valueIf", desc := "(II)I" } : Jvm.MethodName) ({ cls := "ColourDuel", name := "valueIf", desc := "(II)I" } : Jvm.MethodName)) ∈ lw_all := lw_g (lw_at lw_m7 83 rfl) rfl
theorem q1618 : (Jvm.Cond.code ({ cls := "ColourDuel", name := "valueIf", desc := "(II)I" } : Jvm.MethodName) prog_1_method_34_code (3 : Nat) (Option.some Jvm.ClassFile.FieldType.int)) ∈ lw_all := lw_g (lw_at lw_m7 84 rfl) rfl
theorem q1619 : (Jvm.Cond.methodLink "ColourDuel" (267 : Nat) ({ cls := "ColourDuel", name := "requireElement", desc := "(Z)V" } : Jvm.MethodName)) ∈ lw_all := lw_g (lw_at lw_m7 85 rfl) rfl
theorem q1620 : (Jvm.Cond.static ({ cls := "ColourDuel", name := "requireElement", desc := "(Z)V" } : Jvm.MethodName)) ∈ lw_all := lw_g (lw_at lw_m7 86 rfl) rfl
theorem q1621 : (Jvm.Cond.code ({ cls := "ColourDuel", name := "requireElement", desc := "(Z)V" } : Jvm.MethodName) prog_1_method_6_code (1 : Nat) (Option.none : Option Jvm.ClassFile.FieldType)) ∈ lw_all := lw_g (lw_at lw_m7 87 rfl) rfl
theorem q1622 : (Jvm.Cond.classLink "ColourDuel" (19 : Nat) "java/util/NoSuchElementException") ∈ lw_all := lw_g (lw_at lw_m7 88 rfl) rfl
theorem q1623 : (Jvm.Cond.methodLink "ColourDuel" (21 : Nat) ({ cls := "java/util/NoSuchElementException", name := "<init>", desc := "()V" } : Jvm.MethodName)) ∈ lw_all := lw_g (lw_at lw_m7 89 rfl) rfl
theorem q1628 : (Jvm.Cond.instanceMethod ({ cls := "ColourDuel", name := "bestMove", desc := "()I" } : Jvm.MethodName)) ∈ lw_all := lw_g (lw_at lw_m7 94 rfl) rfl
theorem q1629 : (Jvm.Cond.selects "ColourDuel" ({ cls := "ColourDuel", name := "bestMove", desc := "()I" } : Jvm.MethodName) ({ cls := "ColourDuel", name := "bestMove", desc := "()I" } : Jvm.MethodName)) ∈ lw_all := lw_g (lw_at lw_m7 95 rfl) rfl
theorem q1630 : (Jvm.Cond.code ({ cls := "ColourDuel", name := "bestMove", desc := "()I" } : Jvm.MethodName) prog_1_method_39_code (1 : Nat) (Option.some Jvm.ClassFile.FieldType.int)) ∈ lw_all := lw_g (lw_at lw_m7 96 rfl) rfl
theorem q1631 : (Jvm.Cond.methodLink "ColourDuel" (307 : Nat) ({ cls := "ColourDuel", name := "moveFor", desc := "(LColourDuel$Board;)I" } : Jvm.MethodName)) ∈ lw_all := lw_g (lw_at lw_m7 97 rfl) rfl
theorem q1632 : (Jvm.Cond.privateMethod ({ cls := "ColourDuel", name := "moveFor", desc := "(LColourDuel$Board;)I" } : Jvm.MethodName)) ∈ lw_tbl := lw_at lw_m7 98 rfl
theorem q1633 : (Jvm.Cond.instanceMethod ({ cls := "ColourDuel", name := "moveFor", desc := "(LColourDuel$Board;)I" } : Jvm.MethodName)) ∈ lw_all := lw_g (lw_at lw_m7 99 rfl) rfl
theorem q1634 : (Jvm.Cond.code ({ cls := "ColourDuel", name := "moveFor", desc := "(LColourDuel$Board;)I" } : Jvm.MethodName) prog_1_method_38_code (4 : Nat) (Option.some Jvm.ClassFile.FieldType.int)) ∈ lw_all := lw_g (lw_at lw_m7 100 rfl) rfl
theorem q1635 : (Jvm.Cond.classLink "ColourDuel" (294 : Nat) "ColourDuel$1") ∈ lw_all := lw_g (lw_at lw_m7 101 rfl) rfl
theorem q1637 : (Jvm.Cond.methodLink "ColourDuel" (296 : Nat) ({ cls := "ColourDuel$1", name := "<init>", desc := "(LColourDuel;LColourDuel$Board;)V" } : Jvm.MethodName)) ∈ lw_all := lw_g (lw_at lw_m7 103 rfl) rfl
theorem q1647 : (Jvm.Cond.fieldLinkNest "ColourDuel" (304 : Nat) "ColourDuel$Rating" "best" "I" "ColourDuel") ∈ lw_tbl := lw_at lw_m7 113 rfl
theorem q1658 : (Jvm.Cond.methodLink "ColourDuel" (299 : Nat) ({ cls := "ColourDuel$Rating", name := "offer", desc := "(I)V" } : Jvm.MethodName)) ∈ lw_all := lw_g (lw_at lw_m7 124 rfl) rfl
theorem q1677 : (Jvm.Cond.instanceMethod ({ cls := "ColourDuel", name := "winningColours", desc := "(I)I" } : Jvm.MethodName)) ∈ lw_all := lw_g (lw_at lw_m7 143 rfl) rfl
theorem q1678 : (Jvm.Cond.selects "ColourDuel" ({ cls := "ColourDuel", name := "winningColours", desc := "(I)I" } : Jvm.MethodName) ({ cls := "ColourDuel", name := "winningColours", desc := "(I)I" } : Jvm.MethodName)) ∈ lw_all := lw_g (lw_at lw_m7 144 rfl) rfl
theorem q1679 : (Jvm.Cond.code ({ cls := "ColourDuel", name := "winningColours", desc := "(I)I" } : Jvm.MethodName) prog_1_method_37_code (5 : Nat) (Option.some Jvm.ClassFile.FieldType.int)) ∈ lw_all := lw_g (lw_at lw_m7 145 rfl) rfl
theorem q1684 : (Jvm.Cond.instanceMethod ({ cls := "ColourDuel", name := "falls", desc := "(I)I" } : Jvm.MethodName)) ∈ lw_all := lw_g (lw_at lw_m7 150 rfl) rfl
theorem q1685 : (Jvm.Cond.selects "ColourDuel" ({ cls := "ColourDuel", name := "falls", desc := "(I)I" } : Jvm.MethodName) ({ cls := "ColourDuel", name := "falls", desc := "(I)I" } : Jvm.MethodName)) ∈ lw_all := lw_g (lw_at lw_m7 151 rfl) rfl
theorem q1686 : (Jvm.Cond.code ({ cls := "ColourDuel", name := "falls", desc := "(I)I" } : Jvm.MethodName) prog_1_method_43_code (2 : Nat) (Option.some Jvm.ClassFile.FieldType.int)) ∈ lw_all := lw_g (lw_at lw_m7 152 rfl) rfl
theorem q1687 : (Jvm.Cond.methodLink "ColourDuel" (319 : Nat) ({ cls := "ColourDuel$Board", name := "partSet", desc := "(I)I" } : Jvm.MethodName)) ∈ lw_all := lw_g (lw_at lw_m7 153 rfl) rfl
theorem q1692 : (Jvm.Cond.instanceMethod ({ cls := "ColourDuel", name := "valueWithout", desc := "(I)I" } : Jvm.MethodName)) ∈ lw_all := lw_g (lw_at lw_m7 158 rfl) rfl
theorem q1693 : (Jvm.Cond.selects "ColourDuel" ({ cls := "ColourDuel", name := "valueWithout", desc := "(I)I" } : Jvm.MethodName) ({ cls := "ColourDuel", name := "valueWithout", desc := "(I)I" } : Jvm.MethodName)) ∈ lw_all := lw_g (lw_at lw_m7 159 rfl) rfl
theorem q1694 : (Jvm.Cond.code ({ cls := "ColourDuel", name := "valueWithout", desc := "(I)I" } : Jvm.MethodName) prog_1_method_44_code (2 : Nat) (Option.some Jvm.ClassFile.FieldType.int)) ∈ lw_all := lw_g (lw_at lw_m7 160 rfl) rfl
theorem q1699 : (Jvm.Cond.instanceMethod ({ cls := "ColourDuel", name := "lay", desc := "(II)I" } : Jvm.MethodName)) ∈ lw_all := lw_g (lw_at lw_m7 165 rfl) rfl
theorem q1700 : (Jvm.Cond.selects "ColourDuel" ({ cls := "ColourDuel", name := "lay", desc := "(II)I" } : Jvm.MethodName) ({ cls := "ColourDuel", name := "lay", desc := "(II)I" } : Jvm.MethodName)) ∈ lw_all := lw_g (lw_at lw_m7 166 rfl) rfl
theorem q1701 : (Jvm.Cond.code ({ cls := "ColourDuel", name := "lay", desc := "(II)I" } : Jvm.MethodName) prog_1_method_45_code (4 : Nat) (Option.some Jvm.ClassFile.FieldType.int)) ∈ lw_all := lw_g (lw_at lw_m7 167 rfl) rfl
theorem q1702 : (Jvm.Cond.methodLink "ColourDuel" (322 : Nat) ({ cls := "ColourDuel", name := "changed", desc := "()LColourDuel$Board;" } : Jvm.MethodName)) ∈ lw_all := lw_g (lw_at lw_m7 168 rfl) rfl
theorem q1703 : (Jvm.Cond.privateMethod ({ cls := "ColourDuel", name := "changed", desc := "()LColourDuel$Board;" } : Jvm.MethodName)) ∈ lw_tbl := lw_at lw_m7 169 rfl
theorem q1704 : (Jvm.Cond.instanceMethod ({ cls := "ColourDuel", name := "changed", desc := "()LColourDuel$Board;" } : Jvm.MethodName)) ∈ lw_all := lw_g (lw_at lw_m7 170 rfl) rfl
theorem q1705 : (Jvm.Cond.code ({ cls := "ColourDuel", name := "changed", desc := "()LColourDuel$Board;" } : Jvm.MethodName) prog_1_method_18_code (1 : Nat) (Option.some (Jvm.ClassFile.FieldType.object "ColourDuel$Board"))) ∈ lw_all := lw_g (lw_at lw_m7 171 rfl) rfl
theorem q1706 : (Jvm.Cond.methodLink "ColourDuel" (325 : Nat) ({ cls := "ColourDuel$Board", name := "lay", desc := "(II)V" } : Jvm.MethodName)) ∈ lw_all := lw_g (lw_at lw_m7 172 rfl) rfl
theorem q1711 : (Jvm.Cond.instanceMethod ({ cls := "ColourDuel", name := "pass", desc := "()I" } : Jvm.MethodName)) ∈ lw_all := lw_g (lw_at lw_m7 177 rfl) rfl
theorem q1712 : (Jvm.Cond.selects "ColourDuel" ({ cls := "ColourDuel", name := "pass", desc := "()I" } : Jvm.MethodName) ({ cls := "ColourDuel", name := "pass", desc := "()I" } : Jvm.MethodName)) ∈ lw_all := lw_g (lw_at lw_m7 178 rfl) rfl
theorem q1713 : (Jvm.Cond.code ({ cls := "ColourDuel", name := "pass", desc := "()I" } : Jvm.MethodName) prog_1_method_46_code (2 : Nat) (Option.some Jvm.ClassFile.FieldType.int)) ∈ lw_all := lw_g (lw_at lw_m7 179 rfl) rfl
theorem q1714 : (Jvm.Cond.methodLink "ColourDuel" (328 : Nat) ({ cls := "ColourDuel$Board", name := "pass", desc := "()V" } : Jvm.MethodName)) ∈ lw_all := lw_g (lw_at lw_m7 180 rfl) rfl
theorem q1719 : (Jvm.Cond.instanceMethod ({ cls := "ColourDuel", name := "playOut", desc := "(I)I" } : Jvm.MethodName)) ∈ lw_all := lw_g (lw_at lw_m7 185 rfl) rfl
theorem q1720 : (Jvm.Cond.selects "ColourDuel" ({ cls := "ColourDuel", name := "playOut", desc := "(I)I" } : Jvm.MethodName) ({ cls := "ColourDuel", name := "playOut", desc := "(I)I" } : Jvm.MethodName)) ∈ lw_all := lw_g (lw_at lw_m7 186 rfl) rfl
theorem q1721 : (Jvm.Cond.code ({ cls := "ColourDuel", name := "playOut", desc := "(I)I" } : Jvm.MethodName) prog_1_method_47_code (4 : Nat) (Option.some Jvm.ClassFile.FieldType.int)) ∈ lw_all := lw_g (lw_at lw_m7 187 rfl) rfl
theorem q1722 : (Jvm.Cond.constantLong "ColourDuel" (331 : Nat) (20 : Int64)) ∈ lw_all := lw_g (lw_at lw_m7 188 rfl) rfl
theorem q1727 : (Jvm.Cond.instanceMethod ({ cls := "ColourDuel", name := "setPasses", desc := "(I)I" } : Jvm.MethodName)) ∈ lw_all := lw_g (lw_at lw_m7 193 rfl) rfl
theorem q1728 : (Jvm.Cond.selects "ColourDuel" ({ cls := "ColourDuel", name := "setPasses", desc := "(I)I" } : Jvm.MethodName) ({ cls := "ColourDuel", name := "setPasses", desc := "(I)I" } : Jvm.MethodName)) ∈ lw_all := lw_g (lw_at lw_m7 194 rfl) rfl
theorem q1729 : (Jvm.Cond.code ({ cls := "ColourDuel", name := "setPasses", desc := "(I)I" } : Jvm.MethodName) prog_1_method_48_code (3 : Nat) (Option.some Jvm.ClassFile.FieldType.int)) ∈ lw_all := lw_g (lw_at lw_m7 195 rfl) rfl
theorem q1730 : (Jvm.Cond.constantLong "ColourDuel" (333 : Nat) (9 : Int64)) ∈ lw_all := lw_g (lw_at lw_m7 196 rfl) rfl
theorem q1735 : (Jvm.Cond.instanceMethod ({ cls := "ColourDuel", name := "move", desc := "(II)I" } : Jvm.MethodName)) ∈ lw_all := lw_g (lw_at lw_m7 201 rfl) rfl
theorem q1736 : (Jvm.Cond.selects "ColourDuel" ({ cls := "ColourDuel", name := "move", desc := "(II)I" } : Jvm.MethodName) ({ cls := "ColourDuel", name := "move", desc := "(II)I" } : Jvm.MethodName)) ∈ lw_all := lw_g (lw_at lw_m7 202 rfl) rfl
theorem q1737 : (Jvm.Cond.code ({ cls := "ColourDuel", name := "move", desc := "(II)I" } : Jvm.MethodName) prog_1_method_49_code (3 : Nat) (Option.some Jvm.ClassFile.FieldType.int)) ∈ lw_all := lw_g (lw_at lw_m7 203 rfl) rfl
theorem q1738 : (Jvm.Cond.constantLong "ColourDuel" (335 : Nat) (3 : Int64)) ∈ lw_all := lw_g (lw_at lw_m7 204 rfl) rfl
theorem q1739 : (Jvm.Cond.classLink "ColourDuel" (337 : Nat) "ColourDuel$Move") ∈ lw_all := lw_g (lw_at lw_m7 205 rfl) rfl
theorem q1740 : (Jvm.Cond.methodLink "ColourDuel" (339 : Nat) ({ cls := "ColourDuel$Move", name := "get", desc := "(I)I" } : Jvm.MethodName)) ∈ lw_all := lw_g (lw_at lw_m7 206 rfl) rfl
theorem q1748 : (Jvm.Cond.instanceMethod ({ cls := "ColourDuel", name := "account", desc := "(II)I" } : Jvm.MethodName)) ∈ lw_all := lw_g (lw_at lw_m7 214 rfl) rfl
theorem q1749 : (Jvm.Cond.selects "ColourDuel" ({ cls := "ColourDuel", name := "account", desc := "(II)I" } : Jvm.MethodName) ({ cls := "ColourDuel", name := "account", desc := "(II)I" } : Jvm.MethodName)) ∈ lw_all := lw_g (lw_at lw_m7 215 rfl) rfl
theorem q1750 : (Jvm.Cond.code ({ cls := "ColourDuel", name := "account", desc := "(II)I" } : Jvm.MethodName) prog_1_method_50_code (3 : Nat) (Option.some Jvm.ClassFile.FieldType.int)) ∈ lw_all := lw_g (lw_at lw_m7 216 rfl) rfl
theorem q1751 : (Jvm.Cond.constantLong "ColourDuel" (341 : Nat) (4 : Int64)) ∈ lw_all := lw_g (lw_at lw_m7 217 rfl) rfl
theorem q1752 : (Jvm.Cond.methodLink "ColourDuel" (347 : Nat) ({ cls := "ColourDuel$Account", name := "get", desc := "(I)I" } : Jvm.MethodName)) ∈ lw_all := lw_g (lw_at lw_m7 218 rfl) rfl
theorem q1761 : (Jvm.Cond.instanceMethod ({ cls := "ColourDuel", name := "writtenByte", desc := "(I)I" } : Jvm.MethodName)) ∈ lw_all := lw_g (lw_at lw_m7 227 rfl) rfl
theorem q1762 : (Jvm.Cond.selects "ColourDuel" ({ cls := "ColourDuel", name := "writtenByte", desc := "(I)I" } : Jvm.MethodName) ({ cls := "ColourDuel", name := "writtenByte", desc := "(I)I" } : Jvm.MethodName)) ∈ lw_all := lw_g (lw_at lw_m7 228 rfl) rfl
theorem q1763 : (Jvm.Cond.code ({ cls := "ColourDuel", name := "writtenByte", desc := "(I)I" } : Jvm.MethodName) prog_1_method_52_code (2 : Nat) (Option.some Jvm.ClassFile.FieldType.int)) ∈ lw_all := lw_g (lw_at lw_m7 229 rfl) rfl
theorem q1764 : (Jvm.Cond.methodLink "ColourDuel" (362 : Nat) ({ cls := "java/lang/StringBuilder", name := "charAt", desc := "(I)C" } : Jvm.MethodName)) ∈ lw_all := lw_g (lw_at lw_m7 230 rfl) rfl
theorem q1778 : (Jvm.Cond.instanceMethod ({ cls := "ColourDuel", name := "undo", desc := "()I" } : Jvm.MethodName)) ∈ lw_all := lw_g (lw_at lw_m8 4 rfl) rfl
theorem q1779 : (Jvm.Cond.selects "ColourDuel" ({ cls := "ColourDuel", name := "undo", desc := "()I" } : Jvm.MethodName) ({ cls := "ColourDuel", name := "undo", desc := "()I" } : Jvm.MethodName)) ∈ lw_all := lw_g (lw_at lw_m8 5 rfl) rfl
theorem q1780 : (Jvm.Cond.code ({ cls := "ColourDuel", name := "undo", desc := "()I" } : Jvm.MethodName) prog_1_method_53_code (1 : Nat) (Option.some Jvm.ClassFile.FieldType.int)) ∈ lw_all := lw_g (lw_at lw_m8 6 rfl) rfl
theorem q1781 : (Jvm.Cond.methodLink "ColourDuel" (366 : Nat) ({ cls := "java/util/ArrayDeque", name := "isEmpty", desc := "()Z" } : Jvm.MethodName)) ∈ lw_all := lw_g (lw_at lw_m8 7 rfl) rfl
theorem q1785 : (Jvm.Cond.methodLink "ColourDuel" (367 : Nat) ({ cls := "java/util/ArrayDeque", name := "removeLast", desc := "()Ljava/lang/Object;" } : Jvm.MethodName)) ∈ lw_all := lw_g (lw_at lw_m8 11 rfl) rfl
theorem q1800 : (Jvm.Cond.instanceMethod ({ cls := "ColourDuel", name := "save", desc := "(I)I" } : Jvm.MethodName)) ∈ lw_all := lw_g (lw_at lw_m8 26 rfl) rfl
theorem q1801 : (Jvm.Cond.selects "ColourDuel" ({ cls := "ColourDuel", name := "save", desc := "(I)I" } : Jvm.MethodName) ({ cls := "ColourDuel", name := "save", desc := "(I)I" } : Jvm.MethodName)) ∈ lw_all := lw_g (lw_at lw_m8 27 rfl) rfl
theorem q1802 : (Jvm.Cond.code ({ cls := "ColourDuel", name := "save", desc := "(I)I" } : Jvm.MethodName) prog_1_method_54_code (2 : Nat) (Option.some Jvm.ClassFile.FieldType.int)) ∈ lw_all := lw_g (lw_at lw_m8 28 rfl) rfl
theorem q1807 : (Jvm.Cond.instanceMethod ({ cls := "ColourDuel", name := "restore", desc := "(I)I" } : Jvm.MethodName)) ∈ lw_all := lw_g (lw_at lw_m8 33 rfl) rfl
theorem q1808 : (Jvm.Cond.selects "ColourDuel" ({ cls := "ColourDuel", name := "restore", desc := "(I)I" } : Jvm.MethodName) ({ cls := "ColourDuel", name := "restore", desc := "(I)I" } : Jvm.MethodName)) ∈ lw_all := lw_g (lw_at lw_m8 34 rfl) rfl
theorem q1809 : (Jvm.Cond.code ({ cls := "ColourDuel", name := "restore", desc := "(I)I" } : Jvm.MethodName) prog_1_method_55_code (2 : Nat) (Option.some Jvm.ClassFile.FieldType.int)) ∈ lw_all := lw_g (lw_at lw_m8 35 rfl) rfl
theorem q2253 : (Jvm.Cond.castable "ColourDuel" "java/lang/Object") ∈ lw_tbl := lw_at lw_m9 239 rfl
theorem in_X1 : ∀ w ∈ wsX10, w ∈ lw_all := lw_in wsX10 [673, 675, 677, 679, 681, 683, 685, 687] (by decide +kernel) (by decide +kernel)
