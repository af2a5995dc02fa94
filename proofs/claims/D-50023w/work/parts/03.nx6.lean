/-! ColourDuelModel -/
set_option maxRecDepth 100000
def RX6 : String := "ColourDuelModel"
def TX6 : u_T := fun k => match k with
  | 0 => ("ColourDuelModel", "a", "[I", true)
  | 1 => ("ColourDuelModel", "aside", "[I", true)
  | 2 => ("ColourDuelModel", "fresh", "[I", true)
  | 3 => ("ColourDuelModel", "kept", "[I", true)
  | 4 => ("ColourDuelModel", "slots", "[I", true)
  | 5 => ("ColourDuelModel", "isSaved", "[Z", true)
  | 6 => ("ColourDuelModel", "keptMany", "I", false)
  | 7 => ("ColourDuelModel", "thrown", "I", false)
  | 8 => ("ColourDuelModel", "buffer", "[I", true)
  | 9 => ("ColourDuelModel", "buffered", "I", false)
  | 10 => ("ColourDuelModel", "size", "I", false)
  | 11 => ("ColourDuelModel", "at", "I", false)
  | 12 => ("ColourDuelModel", "behind", "I", false)
  | 13 => ("ColourDuelModel", "kind", "I", false)
  | 14 => ("ColourDuelModel", "number", "I", false)
  | 15 => ("ColourDuelModel", "wrong", "I", false)
  | 16 => ("ColourDuelModel", "wrongAt", "I", false)
  | 17 => ("ColourDuelModel", "errorAt", "I", false)
  | 18 => ("ColourDuelModel", "known", "[I", true)
  | 19 => ("ColourDuelModel", "bansWere", "[I", true)
  | 20 => ("ColourDuelModel", "written", "[I", true)
  | _ => ("ColourDuelModel", "writtenMany", "I", false)
def tyX6 : Nat → FieldType := fun k => match k with
  | 0 => .array .int
  | 1 => .array .int
  | 2 => .array .int
  | 3 => .array .int
  | 4 => .array .int
  | 5 => .array .boolean
  | 6 => .int
  | 7 => .int
  | 8 => .array .int
  | 9 => .int
  | 10 => .int
  | 11 => .int
  | 12 => .int
  | 13 => .int
  | 14 => .int
  | 15 => .int
  | 16 => .int
  | 17 => .int
  | 18 => .array .int
  | 19 => .array .int
  | 20 => .array .int
  | _ => .int
abbrev wsX60 : List Cond := u_ws RX6 TX6 22
set_option maxRecDepth 100000 in
theorem nmX6 : ∀ a, a < 22 → ∀ b, b < 22 → a ≠ b → (TX6 a).2.1 ≠ (TX6 b).2.1 := by decide +kernel
set_option maxRecDepth 100000 in
theorem tyX6_ok : ∀ k, k < 22 → parseFieldDescriptor (TX6 k).2.2.1 = some (tyX6 k) := by decide +kernel
abbrev cX6_init : ByteArray := prog_16_method_1_code
def yX6_init : MethodName := ⟨RX6, "<init>", "()V"⟩
def dkwX6_init_4 : List UInt8 := [42, 180, 0, 7, 3, 4, 79, 42, 180, 0, 7, 4, 4, 79, 42, 180, 0, 7, 7, 4, 79, 177]
abbrev dktX6_init_4 : List UInt8 := dkwX6_init_4 ++ []
def dkwX6_init_3 : List UInt8 := [42, 18, 37, 188, 10, 181, 0, 38, 42, 16, 9, 188, 10, 181, 0, 41, 42, 16, 14, 188, 10, 181, 0, 44]
abbrev dktX6_init_3 : List UInt8 := dkwX6_init_3 ++ dktX6_init_4
def dkwX6_init_2 : List UInt8 := [181, 0, 23, 42, 5, 188, 4, 181, 0, 26, 42, 17, 1, 244, 188, 10, 181, 0, 30, 42, 2, 181, 0, 33]
abbrev dktX6_init_2 : List UInt8 := dkwX6_init_2 ++ dktX6_init_3
def dkwX6_init_1 : List UInt8 := [17, 16, 40, 188, 10, 181, 0, 16, 42, 18, 19, 188, 10, 181, 0, 20, 42, 17, 32, 80, 188, 10]
abbrev dktX6_init_1 : List UInt8 := dkwX6_init_1 ++ dktX6_init_2
def dkwX6_init_0 : List UInt8 := [42, 183, 0, 1, 42, 17, 16, 40, 188, 10, 181, 0, 7, 42, 17, 16, 40, 188, 10, 181, 0, 13, 42]
abbrev dktX6_init_0 : List UInt8 := dkwX6_init_0 ++ dktX6_init_1
theorem dksX6_init_0 : cX6_init.data.toList.drop 0 = dktX6_init_0 := by decide +kernel
theorem dksX6_init_1 : cX6_init.data.toList.drop 23 = dktX6_init_1 := dk_seg dksX6_init_0 23 rfl rfl
theorem dksX6_init_2 : cX6_init.data.toList.drop 45 = dktX6_init_2 := dk_seg dksX6_init_1 22 rfl rfl
theorem dksX6_init_3 : cX6_init.data.toList.drop 69 = dktX6_init_3 := dk_seg dksX6_init_2 24 rfl rfl
theorem dksX6_init_4 : cX6_init.data.toList.drop 93 = dktX6_init_4 := dk_seg dksX6_init_3 24 rfl rfl
theorem dX6_init_0 : decode cX6_init 0 = .ok (.aload_n 0, 1) := dk_42 (dk_at dksX6_init_0 0 rfl rfl)
theorem dX6_init_1 : decode cX6_init 1 = .ok (.invokespecial 1, 3) := dk_183 0 1 (dk_at dksX6_init_0 1 rfl rfl)
theorem dX6_init_4 : decode cX6_init 4 = .ok (.aload_n 0, 1) := dk_42 (dk_at dksX6_init_0 4 rfl rfl)
theorem dX6_init_5 : decode cX6_init 5 = .ok (.sipush 4136, 3) := dk_17 16 40 (dk_at dksX6_init_0 5 rfl rfl)
theorem dX6_init_8 : decode cX6_init 8 = .ok (.newarray .int, 2) := dk_188_10 (dk_at dksX6_init_0 8 rfl rfl)
theorem dX6_init_10 : decode cX6_init 10 = .ok (.putfield 7, 3) := dk_181 0 7 (dk_at dksX6_init_0 10 rfl rfl)
theorem dX6_init_13 : decode cX6_init 13 = .ok (.aload_n 0, 1) := dk_42 (dk_at dksX6_init_0 13 rfl rfl)
theorem dX6_init_14 : decode cX6_init 14 = .ok (.sipush 4136, 3) := dk_17 16 40 (dk_at dksX6_init_0 14 rfl rfl)
theorem dX6_init_17 : decode cX6_init 17 = .ok (.newarray .int, 2) := dk_188_10 (dk_at dksX6_init_0 17 rfl rfl)
theorem dX6_init_19 : decode cX6_init 19 = .ok (.putfield 13, 3) := dk_181 0 13 (dk_at dksX6_init_0 19 rfl rfl)
theorem dX6_init_22 : decode cX6_init 22 = .ok (.aload_n 0, 1) := dk_42 (dk_at dksX6_init_0 22 rfl rfl)
theorem dX6_init_23 : decode cX6_init 23 = .ok (.sipush 4136, 3) := dk_17 16 40 (dk_at dksX6_init_1 0 rfl rfl)
theorem dX6_init_26 : decode cX6_init 26 = .ok (.newarray .int, 2) := dk_188_10 (dk_at dksX6_init_1 3 rfl rfl)
theorem dX6_init_28 : decode cX6_init 28 = .ok (.putfield 16, 3) := dk_181 0 16 (dk_at dksX6_init_1 5 rfl rfl)
theorem dX6_init_31 : decode cX6_init 31 = .ok (.aload_n 0, 1) := dk_42 (dk_at dksX6_init_1 8 rfl rfl)
theorem dX6_init_32 : decode cX6_init 32 = .ok (.ldc 19, 2) := dk_18 19 (dk_at dksX6_init_1 9 rfl rfl)
theorem dX6_init_34 : decode cX6_init 34 = .ok (.newarray .int, 2) := dk_188_10 (dk_at dksX6_init_1 11 rfl rfl)
theorem dX6_init_36 : decode cX6_init 36 = .ok (.putfield 20, 3) := dk_181 0 20 (dk_at dksX6_init_1 13 rfl rfl)
theorem dX6_init_39 : decode cX6_init 39 = .ok (.aload_n 0, 1) := dk_42 (dk_at dksX6_init_1 16 rfl rfl)
theorem dX6_init_40 : decode cX6_init 40 = .ok (.sipush 8272, 3) := dk_17 32 80 (dk_at dksX6_init_1 17 rfl rfl)
theorem dX6_init_43 : decode cX6_init 43 = .ok (.newarray .int, 2) := dk_188_10 (dk_at dksX6_init_1 20 rfl rfl)
theorem dX6_init_45 : decode cX6_init 45 = .ok (.putfield 23, 3) := dk_181 0 23 (dk_at dksX6_init_2 0 rfl rfl)
theorem dX6_init_48 : decode cX6_init 48 = .ok (.aload_n 0, 1) := dk_42 (dk_at dksX6_init_2 3 rfl rfl)
theorem dX6_init_49 : decode cX6_init 49 = .ok (.iconst 2, 1) := dk_5 (dk_at dksX6_init_2 4 rfl rfl)
theorem dX6_init_50 : decode cX6_init 50 = .ok (.newarray .boolean, 2) := dk_188_4 (dk_at dksX6_init_2 5 rfl rfl)
theorem dX6_init_52 : decode cX6_init 52 = .ok (.putfield 26, 3) := dk_181 0 26 (dk_at dksX6_init_2 7 rfl rfl)
theorem dX6_init_55 : decode cX6_init 55 = .ok (.aload_n 0, 1) := dk_42 (dk_at dksX6_init_2 10 rfl rfl)
theorem dX6_init_56 : decode cX6_init 56 = .ok (.sipush 500, 3) := dk_17 1 244 (dk_at dksX6_init_2 11 rfl rfl)
theorem dX6_init_59 : decode cX6_init 59 = .ok (.newarray .int, 2) := dk_188_10 (dk_at dksX6_init_2 14 rfl rfl)
theorem dX6_init_61 : decode cX6_init 61 = .ok (.putfield 30, 3) := dk_181 0 30 (dk_at dksX6_init_2 16 rfl rfl)
theorem dX6_init_64 : decode cX6_init 64 = .ok (.aload_n 0, 1) := dk_42 (dk_at dksX6_init_2 19 rfl rfl)
theorem dX6_init_65 : decode cX6_init 65 = .ok (.iconst (-1), 1) := dk_2 (dk_at dksX6_init_2 20 rfl rfl)
theorem dX6_init_66 : decode cX6_init 66 = .ok (.putfield 33, 3) := dk_181 0 33 (dk_at dksX6_init_2 21 rfl rfl)
theorem dX6_init_69 : decode cX6_init 69 = .ok (.aload_n 0, 1) := dk_42 (dk_at dksX6_init_3 0 rfl rfl)
theorem dX6_init_70 : decode cX6_init 70 = .ok (.ldc 37, 2) := dk_18 37 (dk_at dksX6_init_3 1 rfl rfl)
theorem dX6_init_72 : decode cX6_init 72 = .ok (.newarray .int, 2) := dk_188_10 (dk_at dksX6_init_3 3 rfl rfl)
theorem dX6_init_74 : decode cX6_init 74 = .ok (.putfield 38, 3) := dk_181 0 38 (dk_at dksX6_init_3 5 rfl rfl)
theorem dX6_init_77 : decode cX6_init 77 = .ok (.aload_n 0, 1) := dk_42 (dk_at dksX6_init_3 8 rfl rfl)
theorem dX6_init_78 : decode cX6_init 78 = .ok (.bipush 9, 2) := dk_16 9 (dk_at dksX6_init_3 9 rfl rfl)
theorem dX6_init_80 : decode cX6_init 80 = .ok (.newarray .int, 2) := dk_188_10 (dk_at dksX6_init_3 11 rfl rfl)
theorem dX6_init_82 : decode cX6_init 82 = .ok (.putfield 41, 3) := dk_181 0 41 (dk_at dksX6_init_3 13 rfl rfl)
theorem dX6_init_85 : decode cX6_init 85 = .ok (.aload_n 0, 1) := dk_42 (dk_at dksX6_init_3 16 rfl rfl)
theorem dX6_init_86 : decode cX6_init 86 = .ok (.bipush 14, 2) := dk_16 14 (dk_at dksX6_init_3 17 rfl rfl)
theorem dX6_init_88 : decode cX6_init 88 = .ok (.newarray .int, 2) := dk_188_10 (dk_at dksX6_init_3 19 rfl rfl)
theorem dX6_init_90 : decode cX6_init 90 = .ok (.putfield 44, 3) := dk_181 0 44 (dk_at dksX6_init_3 21 rfl rfl)
theorem dX6_init_93 : decode cX6_init 93 = .ok (.aload_n 0, 1) := dk_42 (dk_at dksX6_init_4 0 rfl rfl)
theorem dX6_init_94 : decode cX6_init 94 = .ok (.getfield 7, 3) := dk_180 0 7 (dk_at dksX6_init_4 1 rfl rfl)
theorem dX6_init_97 : decode cX6_init 97 = .ok (.iconst 0, 1) := dk_3 (dk_at dksX6_init_4 4 rfl rfl)
theorem dX6_init_98 : decode cX6_init 98 = .ok (.iconst 1, 1) := dk_4 (dk_at dksX6_init_4 5 rfl rfl)
theorem dX6_init_99 : decode cX6_init 99 = .ok (.iastore, 1) := dk_79 (dk_at dksX6_init_4 6 rfl rfl)
theorem dX6_init_100 : decode cX6_init 100 = .ok (.aload_n 0, 1) := dk_42 (dk_at dksX6_init_4 7 rfl rfl)
theorem dX6_init_101 : decode cX6_init 101 = .ok (.getfield 7, 3) := dk_180 0 7 (dk_at dksX6_init_4 8 rfl rfl)
theorem dX6_init_104 : decode cX6_init 104 = .ok (.iconst 1, 1) := dk_4 (dk_at dksX6_init_4 11 rfl rfl)
theorem dX6_init_105 : decode cX6_init 105 = .ok (.iconst 1, 1) := dk_4 (dk_at dksX6_init_4 12 rfl rfl)
theorem dX6_init_106 : decode cX6_init 106 = .ok (.iastore, 1) := dk_79 (dk_at dksX6_init_4 13 rfl rfl)
theorem dX6_init_107 : decode cX6_init 107 = .ok (.aload_n 0, 1) := dk_42 (dk_at dksX6_init_4 14 rfl rfl)
theorem dX6_init_108 : decode cX6_init 108 = .ok (.getfield 7, 3) := dk_180 0 7 (dk_at dksX6_init_4 15 rfl rfl)
theorem dX6_init_111 : decode cX6_init 111 = .ok (.iconst 4, 1) := dk_7 (dk_at dksX6_init_4 18 rfl rfl)
theorem dX6_init_112 : decode cX6_init 112 = .ok (.iconst 1, 1) := dk_4 (dk_at dksX6_init_4 19 rfl rfl)
theorem dX6_init_113 : decode cX6_init 113 = .ok (.iastore, 1) := dk_79 (dk_at dksX6_init_4 20 rfl rfl)
theorem dX6_init_114 : decode cX6_init 114 = .ok (.return_, 1) := dk_177 (dk_at dksX6_init_4 21 rfl rfl)
abbrev cX6_thrown : ByteArray := prog_16_method_2_code
def yX6_thrown : MethodName := ⟨RX6, "thrown", "()I"⟩
theorem dX6_thrown_0 : decode cX6_thrown 0 = .ok (.aload_n 0, 1) := by decide +kernel
theorem dX6_thrown_1 : decode cX6_thrown 1 = .ok (.getfield 47, 3) := by decide +kernel
theorem dX6_thrown_4 : decode cX6_thrown 4 = .ok (.ireturn, 1) := by decide +kernel
abbrev cX6_undo : ByteArray := prog_16_method_6_code
def yX6_undo : MethodName := ⟨RX6, "undo", "()I"⟩
def dkwX6_undo_2 : List UInt8 := [180, 0, 50, 104, 184, 0, 53, 42, 180, 0, 50, 172]
abbrev dktX6_undo_2 : List UInt8 := dkwX6_undo_2 ++ []
def dkwX6_undo_1 : List UInt8 := [172, 42, 89, 180, 0, 50, 4, 100, 181, 0, 50, 42, 180, 0, 7, 3, 42, 180, 0, 20, 17, 16, 40, 42]
abbrev dktX6_undo_1 : List UInt8 := dkwX6_undo_1 ++ dktX6_undo_2
def dkwX6_undo_0 : List UInt8 := [42, 42, 180, 0, 50, 154, 0, 7, 4, 167, 0, 4, 3, 181, 0, 47, 42, 180, 0, 47, 158, 0, 5, 3]
abbrev dktX6_undo_0 : List UInt8 := dkwX6_undo_0 ++ dktX6_undo_1
theorem dksX6_undo_0 : cX6_undo.data.toList.drop 0 = dktX6_undo_0 := by decide +kernel
theorem dksX6_undo_1 : cX6_undo.data.toList.drop 24 = dktX6_undo_1 := dk_seg dksX6_undo_0 24 rfl rfl
theorem dksX6_undo_2 : cX6_undo.data.toList.drop 48 = dktX6_undo_2 := dk_seg dksX6_undo_1 24 rfl rfl
theorem dX6_undo_0 : decode cX6_undo 0 = .ok (.aload_n 0, 1) := dk_42 (dk_at dksX6_undo_0 0 rfl rfl)
theorem dX6_undo_1 : decode cX6_undo 1 = .ok (.aload_n 0, 1) := dk_42 (dk_at dksX6_undo_0 1 rfl rfl)
theorem dX6_undo_2 : decode cX6_undo 2 = .ok (.getfield 50, 3) := dk_180 0 50 (dk_at dksX6_undo_0 2 rfl rfl)
theorem dX6_undo_5 : decode cX6_undo 5 = .ok (.ifCond .ne 7, 3) := dk_154 0 7 (dk_at dksX6_undo_0 5 rfl rfl)
theorem dX6_undo_8 : decode cX6_undo 8 = .ok (.iconst 1, 1) := dk_4 (dk_at dksX6_undo_0 8 rfl rfl)
theorem dX6_undo_9 : decode cX6_undo 9 = .ok (.goto 4, 3) := dk_167 0 4 (dk_at dksX6_undo_0 9 rfl rfl)
theorem dX6_undo_12 : decode cX6_undo 12 = .ok (.iconst 0, 1) := dk_3 (dk_at dksX6_undo_0 12 rfl rfl)
theorem dX6_undo_13 : decode cX6_undo 13 = .ok (.putfield 47, 3) := dk_181 0 47 (dk_at dksX6_undo_0 13 rfl rfl)
theorem dX6_undo_16 : decode cX6_undo 16 = .ok (.aload_n 0, 1) := dk_42 (dk_at dksX6_undo_0 16 rfl rfl)
theorem dX6_undo_17 : decode cX6_undo 17 = .ok (.getfield 47, 3) := dk_180 0 47 (dk_at dksX6_undo_0 17 rfl rfl)
theorem dX6_undo_20 : decode cX6_undo 20 = .ok (.ifCond .le 5, 3) := dk_158 0 5 (dk_at dksX6_undo_0 20 rfl rfl)
theorem dX6_undo_23 : decode cX6_undo 23 = .ok (.iconst 0, 1) := dk_3 (dk_at dksX6_undo_0 23 rfl rfl)
theorem dX6_undo_24 : decode cX6_undo 24 = .ok (.ireturn, 1) := dk_172 (dk_at dksX6_undo_1 0 rfl rfl)
theorem dX6_undo_25 : decode cX6_undo 25 = .ok (.aload_n 0, 1) := dk_42 (dk_at dksX6_undo_1 1 rfl rfl)
theorem dX6_undo_26 : decode cX6_undo 26 = .ok (.dup, 1) := dk_89 (dk_at dksX6_undo_1 2 rfl rfl)
theorem dX6_undo_27 : decode cX6_undo 27 = .ok (.getfield 50, 3) := dk_180 0 50 (dk_at dksX6_undo_1 3 rfl rfl)
theorem dX6_undo_30 : decode cX6_undo 30 = .ok (.iconst 1, 1) := dk_4 (dk_at dksX6_undo_1 6 rfl rfl)
theorem dX6_undo_31 : decode cX6_undo 31 = .ok (.isub, 1) := dk_100 (dk_at dksX6_undo_1 7 rfl rfl)
theorem dX6_undo_32 : decode cX6_undo 32 = .ok (.putfield 50, 3) := dk_181 0 50 (dk_at dksX6_undo_1 8 rfl rfl)
theorem dX6_undo_35 : decode cX6_undo 35 = .ok (.aload_n 0, 1) := dk_42 (dk_at dksX6_undo_1 11 rfl rfl)
theorem dX6_undo_36 : decode cX6_undo 36 = .ok (.getfield 7, 3) := dk_180 0 7 (dk_at dksX6_undo_1 12 rfl rfl)
theorem dX6_undo_39 : decode cX6_undo 39 = .ok (.iconst 0, 1) := dk_3 (dk_at dksX6_undo_1 15 rfl rfl)
theorem dX6_undo_40 : decode cX6_undo 40 = .ok (.aload_n 0, 1) := dk_42 (dk_at dksX6_undo_1 16 rfl rfl)
theorem dX6_undo_41 : decode cX6_undo 41 = .ok (.getfield 20, 3) := dk_180 0 20 (dk_at dksX6_undo_1 17 rfl rfl)
theorem dX6_undo_44 : decode cX6_undo 44 = .ok (.sipush 4136, 3) := dk_17 16 40 (dk_at dksX6_undo_1 20 rfl rfl)
theorem dX6_undo_47 : decode cX6_undo 47 = .ok (.aload_n 0, 1) := dk_42 (dk_at dksX6_undo_1 23 rfl rfl)
theorem dX6_undo_48 : decode cX6_undo 48 = .ok (.getfield 50, 3) := dk_180 0 50 (dk_at dksX6_undo_2 0 rfl rfl)
theorem dX6_undo_51 : decode cX6_undo 51 = .ok (.imul, 1) := dk_104 (dk_at dksX6_undo_2 3 rfl rfl)
theorem dX6_undo_52 : decode cX6_undo 52 = .ok (.invokestatic 53, 3) := dk_184 0 53 (dk_at dksX6_undo_2 4 rfl rfl)
theorem dX6_undo_55 : decode cX6_undo 55 = .ok (.aload_n 0, 1) := dk_42 (dk_at dksX6_undo_2 7 rfl rfl)
theorem dX6_undo_56 : decode cX6_undo 56 = .ok (.getfield 50, 3) := dk_180 0 50 (dk_at dksX6_undo_2 8 rfl rfl)
theorem dX6_undo_59 : decode cX6_undo 59 = .ok (.ireturn, 1) := dk_172 (dk_at dksX6_undo_2 11 rfl rfl)
abbrev cX6_sets : ByteArray := prog_16_method_4_code
def yX6_sets : MethodName := ⟨RX6, "sets", "([II[II)V"⟩
def dkwX6_sets_1 : List UInt8 := [132, 4, 1, 167, 255, 233, 177]
abbrev dktX6_sets_1 : List UInt8 := dkwX6_sets_1 ++ []
def dkwX6_sets_0 : List UInt8 := [3, 54, 4, 21, 4, 17, 16, 40, 162, 0, 21, 42, 27, 21, 4, 96, 44, 29, 21, 4, 96, 46, 79]
abbrev dktX6_sets_0 : List UInt8 := dkwX6_sets_0 ++ dktX6_sets_1
theorem dksX6_sets_0 : cX6_sets.data.toList.drop 0 = dktX6_sets_0 := by decide +kernel
theorem dksX6_sets_1 : cX6_sets.data.toList.drop 23 = dktX6_sets_1 := dk_seg dksX6_sets_0 23 rfl rfl
theorem dX6_sets_0 : decode cX6_sets 0 = .ok (.iconst 0, 1) := dk_3 (dk_at dksX6_sets_0 0 rfl rfl)
theorem dX6_sets_1 : decode cX6_sets 1 = .ok (.istore 4, 2) := dk_54 4 (dk_at dksX6_sets_0 1 rfl rfl)
theorem dX6_sets_3 : decode cX6_sets 3 = .ok (.iload 4, 2) := dk_21 4 (dk_at dksX6_sets_0 3 rfl rfl)
theorem dX6_sets_5 : decode cX6_sets 5 = .ok (.sipush 4136, 3) := dk_17 16 40 (dk_at dksX6_sets_0 5 rfl rfl)
theorem dX6_sets_8 : decode cX6_sets 8 = .ok (.if_icmp .ge 21, 3) := dk_162 0 21 (dk_at dksX6_sets_0 8 rfl rfl)
theorem dX6_sets_11 : decode cX6_sets 11 = .ok (.aload_n 0, 1) := dk_42 (dk_at dksX6_sets_0 11 rfl rfl)
theorem dX6_sets_12 : decode cX6_sets 12 = .ok (.iload_n 1, 1) := dk_27 (dk_at dksX6_sets_0 12 rfl rfl)
theorem dX6_sets_13 : decode cX6_sets 13 = .ok (.iload 4, 2) := dk_21 4 (dk_at dksX6_sets_0 13 rfl rfl)
theorem dX6_sets_15 : decode cX6_sets 15 = .ok (.iadd, 1) := dk_96 (dk_at dksX6_sets_0 15 rfl rfl)
theorem dX6_sets_16 : decode cX6_sets 16 = .ok (.aload_n 2, 1) := dk_44 (dk_at dksX6_sets_0 16 rfl rfl)
theorem dX6_sets_17 : decode cX6_sets 17 = .ok (.iload_n 3, 1) := dk_29 (dk_at dksX6_sets_0 17 rfl rfl)
theorem dX6_sets_18 : decode cX6_sets 18 = .ok (.iload 4, 2) := dk_21 4 (dk_at dksX6_sets_0 18 rfl rfl)
theorem dX6_sets_20 : decode cX6_sets 20 = .ok (.iadd, 1) := dk_96 (dk_at dksX6_sets_0 20 rfl rfl)
theorem dX6_sets_21 : decode cX6_sets 21 = .ok (.iaload, 1) := dk_46 (dk_at dksX6_sets_0 21 rfl rfl)
theorem dX6_sets_22 : decode cX6_sets 22 = .ok (.iastore, 1) := dk_79 (dk_at dksX6_sets_0 22 rfl rfl)
theorem dX6_sets_23 : decode cX6_sets 23 = .ok (.iinc 4 1, 3) := dk_132 4 1 (dk_at dksX6_sets_1 0 rfl rfl)
theorem dX6_sets_26 : decode cX6_sets 26 = .ok (.goto (-23), 3) := dk_167 255 233 (dk_at dksX6_sets_1 3 rfl rfl)
theorem dX6_sets_29 : decode cX6_sets 29 = .ok (.return_, 1) := dk_177 (dk_at dksX6_sets_1 6 rfl rfl)
abbrev cX6_append : ByteArray := prog_16_method_7_code
def yX6_append : MethodName := ⟨RX6, "append", "(IIIII)I"⟩
def dkwX6_append_5 : List UInt8 := [180, 0, 57, 4, 96, 181, 0, 57, 132, 6, 1, 167, 255, 162, 42, 180, 0, 57, 172]
abbrev dktX6_append_5 : List UInt8 := dkwX6_append_5 ++ []
def dkwX6_append_4 : List UInt8 := [180, 0, 57, 21, 7, 16, 24, 16, 8, 21, 6, 7, 112, 104, 100, 122, 17, 0, 255, 126, 79, 42, 89]
abbrev dktX6_append_4 : List UInt8 := dkwX6_append_4 ++ dktX6_append_5
def dkwX6_append_3 : List UInt8 := [167, 0, 17, 21, 6, 16, 16, 162, 0, 8, 21, 4, 167, 0, 5, 21, 5, 54, 7, 42, 180, 0, 30, 42]
abbrev dktX6_append_3 : List UInt8 := dkwX6_append_3 ++ dktX6_append_4
def dkwX6_append_2 : List UInt8 := [27, 167, 0, 39, 21, 6, 16, 8, 162, 0, 7, 28, 167, 0, 28, 21, 6, 16, 12, 162, 0, 7, 29]
abbrev dktX6_append_2 : List UInt8 := dkwX6_append_2 ++ dktX6_append_3
def dkwX6_append_1 : List UInt8 := [180, 0, 47, 158, 0, 5, 3, 172, 3, 54, 6, 21, 6, 16, 20, 162, 0, 93, 21, 6, 7, 162, 0, 7]
abbrev dktX6_append_1 : List UInt8 := dkwX6_append_1 ++ dktX6_append_2
def dkwX6_append_0 : List UInt8 := [42, 42, 180, 0, 57, 16, 20, 96, 17, 1, 244, 164, 0, 7, 4, 167, 0, 4, 3, 181, 0, 47, 42]
abbrev dktX6_append_0 : List UInt8 := dkwX6_append_0 ++ dktX6_append_1
theorem dksX6_append_0 : cX6_append.data.toList.drop 0 = dktX6_append_0 := by decide +kernel
theorem dksX6_append_1 : cX6_append.data.toList.drop 23 = dktX6_append_1 := dk_seg dksX6_append_0 23 rfl rfl
theorem dksX6_append_2 : cX6_append.data.toList.drop 47 = dktX6_append_2 := dk_seg dksX6_append_1 24 rfl rfl
theorem dksX6_append_3 : cX6_append.data.toList.drop 70 = dktX6_append_3 := dk_seg dksX6_append_2 23 rfl rfl
theorem dksX6_append_4 : cX6_append.data.toList.drop 94 = dktX6_append_4 := dk_seg dksX6_append_3 24 rfl rfl
theorem dksX6_append_5 : cX6_append.data.toList.drop 117 = dktX6_append_5 := dk_seg dksX6_append_4 23 rfl rfl
theorem dX6_append_0 : decode cX6_append 0 = .ok (.aload_n 0, 1) := dk_42 (dk_at dksX6_append_0 0 rfl rfl)
theorem dX6_append_1 : decode cX6_append 1 = .ok (.aload_n 0, 1) := dk_42 (dk_at dksX6_append_0 1 rfl rfl)
theorem dX6_append_2 : decode cX6_append 2 = .ok (.getfield 57, 3) := dk_180 0 57 (dk_at dksX6_append_0 2 rfl rfl)
theorem dX6_append_5 : decode cX6_append 5 = .ok (.bipush 20, 2) := dk_16 20 (dk_at dksX6_append_0 5 rfl rfl)
theorem dX6_append_7 : decode cX6_append 7 = .ok (.iadd, 1) := dk_96 (dk_at dksX6_append_0 7 rfl rfl)
theorem dX6_append_8 : decode cX6_append 8 = .ok (.sipush 500, 3) := dk_17 1 244 (dk_at dksX6_append_0 8 rfl rfl)
theorem dX6_append_11 : decode cX6_append 11 = .ok (.if_icmp .le 7, 3) := dk_164 0 7 (dk_at dksX6_append_0 11 rfl rfl)
theorem dX6_append_14 : decode cX6_append 14 = .ok (.iconst 1, 1) := dk_4 (dk_at dksX6_append_0 14 rfl rfl)
theorem dX6_append_15 : decode cX6_append 15 = .ok (.goto 4, 3) := dk_167 0 4 (dk_at dksX6_append_0 15 rfl rfl)
theorem dX6_append_18 : decode cX6_append 18 = .ok (.iconst 0, 1) := dk_3 (dk_at dksX6_append_0 18 rfl rfl)
theorem dX6_append_19 : decode cX6_append 19 = .ok (.putfield 47, 3) := dk_181 0 47 (dk_at dksX6_append_0 19 rfl rfl)
theorem dX6_append_22 : decode cX6_append 22 = .ok (.aload_n 0, 1) := dk_42 (dk_at dksX6_append_0 22 rfl rfl)
theorem dX6_append_23 : decode cX6_append 23 = .ok (.getfield 47, 3) := dk_180 0 47 (dk_at dksX6_append_1 0 rfl rfl)
theorem dX6_append_26 : decode cX6_append 26 = .ok (.ifCond .le 5, 3) := dk_158 0 5 (dk_at dksX6_append_1 3 rfl rfl)
theorem dX6_append_29 : decode cX6_append 29 = .ok (.iconst 0, 1) := dk_3 (dk_at dksX6_append_1 6 rfl rfl)
theorem dX6_append_30 : decode cX6_append 30 = .ok (.ireturn, 1) := dk_172 (dk_at dksX6_append_1 7 rfl rfl)
theorem dX6_append_31 : decode cX6_append 31 = .ok (.iconst 0, 1) := dk_3 (dk_at dksX6_append_1 8 rfl rfl)
theorem dX6_append_32 : decode cX6_append 32 = .ok (.istore 6, 2) := dk_54 6 (dk_at dksX6_append_1 9 rfl rfl)
theorem dX6_append_34 : decode cX6_append 34 = .ok (.iload 6, 2) := dk_21 6 (dk_at dksX6_append_1 11 rfl rfl)
theorem dX6_append_36 : decode cX6_append 36 = .ok (.bipush 20, 2) := dk_16 20 (dk_at dksX6_append_1 13 rfl rfl)
theorem dX6_append_38 : decode cX6_append 38 = .ok (.if_icmp .ge 93, 3) := dk_162 0 93 (dk_at dksX6_append_1 15 rfl rfl)
theorem dX6_append_41 : decode cX6_append 41 = .ok (.iload 6, 2) := dk_21 6 (dk_at dksX6_append_1 18 rfl rfl)
theorem dX6_append_43 : decode cX6_append 43 = .ok (.iconst 4, 1) := dk_7 (dk_at dksX6_append_1 20 rfl rfl)
theorem dX6_append_44 : decode cX6_append 44 = .ok (.if_icmp .ge 7, 3) := dk_162 0 7 (dk_at dksX6_append_1 21 rfl rfl)
theorem dX6_append_47 : decode cX6_append 47 = .ok (.iload_n 1, 1) := dk_27 (dk_at dksX6_append_2 0 rfl rfl)
theorem dX6_append_48 : decode cX6_append 48 = .ok (.goto 39, 3) := dk_167 0 39 (dk_at dksX6_append_2 1 rfl rfl)
theorem dX6_append_51 : decode cX6_append 51 = .ok (.iload 6, 2) := dk_21 6 (dk_at dksX6_append_2 4 rfl rfl)
theorem dX6_append_53 : decode cX6_append 53 = .ok (.bipush 8, 2) := dk_16 8 (dk_at dksX6_append_2 6 rfl rfl)
theorem dX6_append_55 : decode cX6_append 55 = .ok (.if_icmp .ge 7, 3) := dk_162 0 7 (dk_at dksX6_append_2 8 rfl rfl)
theorem dX6_append_58 : decode cX6_append 58 = .ok (.iload_n 2, 1) := dk_28 (dk_at dksX6_append_2 11 rfl rfl)
theorem dX6_append_59 : decode cX6_append 59 = .ok (.goto 28, 3) := dk_167 0 28 (dk_at dksX6_append_2 12 rfl rfl)
theorem dX6_append_62 : decode cX6_append 62 = .ok (.iload 6, 2) := dk_21 6 (dk_at dksX6_append_2 15 rfl rfl)
theorem dX6_append_64 : decode cX6_append 64 = .ok (.bipush 12, 2) := dk_16 12 (dk_at dksX6_append_2 17 rfl rfl)
theorem dX6_append_66 : decode cX6_append 66 = .ok (.if_icmp .ge 7, 3) := dk_162 0 7 (dk_at dksX6_append_2 19 rfl rfl)
theorem dX6_append_69 : decode cX6_append 69 = .ok (.iload_n 3, 1) := dk_29 (dk_at dksX6_append_2 22 rfl rfl)
theorem dX6_append_70 : decode cX6_append 70 = .ok (.goto 17, 3) := dk_167 0 17 (dk_at dksX6_append_3 0 rfl rfl)
theorem dX6_append_73 : decode cX6_append 73 = .ok (.iload 6, 2) := dk_21 6 (dk_at dksX6_append_3 3 rfl rfl)
theorem dX6_append_75 : decode cX6_append 75 = .ok (.bipush 16, 2) := dk_16 16 (dk_at dksX6_append_3 5 rfl rfl)
theorem dX6_append_77 : decode cX6_append 77 = .ok (.if_icmp .ge 8, 3) := dk_162 0 8 (dk_at dksX6_append_3 7 rfl rfl)
theorem dX6_append_80 : decode cX6_append 80 = .ok (.iload 4, 2) := dk_21 4 (dk_at dksX6_append_3 10 rfl rfl)
theorem dX6_append_82 : decode cX6_append 82 = .ok (.goto 5, 3) := dk_167 0 5 (dk_at dksX6_append_3 12 rfl rfl)
theorem dX6_append_85 : decode cX6_append 85 = .ok (.iload 5, 2) := dk_21 5 (dk_at dksX6_append_3 15 rfl rfl)
theorem dX6_append_87 : decode cX6_append 87 = .ok (.istore 7, 2) := dk_54 7 (dk_at dksX6_append_3 17 rfl rfl)
theorem dX6_append_89 : decode cX6_append 89 = .ok (.aload_n 0, 1) := dk_42 (dk_at dksX6_append_3 19 rfl rfl)
theorem dX6_append_90 : decode cX6_append 90 = .ok (.getfield 30, 3) := dk_180 0 30 (dk_at dksX6_append_3 20 rfl rfl)
theorem dX6_append_93 : decode cX6_append 93 = .ok (.aload_n 0, 1) := dk_42 (dk_at dksX6_append_3 23 rfl rfl)
theorem dX6_append_94 : decode cX6_append 94 = .ok (.getfield 57, 3) := dk_180 0 57 (dk_at dksX6_append_4 0 rfl rfl)
theorem dX6_append_97 : decode cX6_append 97 = .ok (.iload 7, 2) := dk_21 7 (dk_at dksX6_append_4 3 rfl rfl)
theorem dX6_append_99 : decode cX6_append 99 = .ok (.bipush 24, 2) := dk_16 24 (dk_at dksX6_append_4 5 rfl rfl)
theorem dX6_append_101 : decode cX6_append 101 = .ok (.bipush 8, 2) := dk_16 8 (dk_at dksX6_append_4 7 rfl rfl)
theorem dX6_append_103 : decode cX6_append 103 = .ok (.iload 6, 2) := dk_21 6 (dk_at dksX6_append_4 9 rfl rfl)
theorem dX6_append_105 : decode cX6_append 105 = .ok (.iconst 4, 1) := dk_7 (dk_at dksX6_append_4 11 rfl rfl)
theorem dX6_append_106 : decode cX6_append 106 = .ok (.irem, 1) := dk_112 (dk_at dksX6_append_4 12 rfl rfl)
theorem dX6_append_107 : decode cX6_append 107 = .ok (.imul, 1) := dk_104 (dk_at dksX6_append_4 13 rfl rfl)
theorem dX6_append_108 : decode cX6_append 108 = .ok (.isub, 1) := dk_100 (dk_at dksX6_append_4 14 rfl rfl)
theorem dX6_append_109 : decode cX6_append 109 = .ok (.ishr, 1) := dk_122 (dk_at dksX6_append_4 15 rfl rfl)
theorem dX6_append_110 : decode cX6_append 110 = .ok (.sipush 255, 3) := dk_17 0 255 (dk_at dksX6_append_4 16 rfl rfl)
theorem dX6_append_113 : decode cX6_append 113 = .ok (.iand, 1) := dk_126 (dk_at dksX6_append_4 19 rfl rfl)
theorem dX6_append_114 : decode cX6_append 114 = .ok (.iastore, 1) := dk_79 (dk_at dksX6_append_4 20 rfl rfl)
theorem dX6_append_115 : decode cX6_append 115 = .ok (.aload_n 0, 1) := dk_42 (dk_at dksX6_append_4 21 rfl rfl)
theorem dX6_append_116 : decode cX6_append 116 = .ok (.dup, 1) := dk_89 (dk_at dksX6_append_4 22 rfl rfl)
theorem dX6_append_117 : decode cX6_append 117 = .ok (.getfield 57, 3) := dk_180 0 57 (dk_at dksX6_append_5 0 rfl rfl)
theorem dX6_append_120 : decode cX6_append 120 = .ok (.iconst 1, 1) := dk_4 (dk_at dksX6_append_5 3 rfl rfl)
theorem dX6_append_121 : decode cX6_append 121 = .ok (.iadd, 1) := dk_96 (dk_at dksX6_append_5 4 rfl rfl)
theorem dX6_append_122 : decode cX6_append 122 = .ok (.putfield 57, 3) := dk_181 0 57 (dk_at dksX6_append_5 5 rfl rfl)
theorem dX6_append_125 : decode cX6_append 125 = .ok (.iinc 6 1, 3) := dk_132 6 1 (dk_at dksX6_append_5 8 rfl rfl)
theorem dX6_append_128 : decode cX6_append 128 = .ok (.goto (-94), 3) := dk_167 255 162 (dk_at dksX6_append_5 11 rfl rfl)
theorem dX6_append_131 : decode cX6_append 131 = .ok (.aload_n 0, 1) := dk_42 (dk_at dksX6_append_5 14 rfl rfl)
theorem dX6_append_132 : decode cX6_append 132 = .ok (.getfield 57, 3) := dk_180 0 57 (dk_at dksX6_append_5 15 rfl rfl)
theorem dX6_append_135 : decode cX6_append 135 = .ok (.ireturn, 1) := dk_172 (dk_at dksX6_append_5 18 rfl rfl)
abbrev cX6_load : ByteArray := prog_16_method_22_code
def yX6_load : MethodName := ⟨RX6, "load", "(I)I"⟩
def dkwX6_load_7 : List UInt8 := [3, 184, 0, 53, 42, 180, 0, 7, 3, 46, 172]
abbrev dktX6_load_7 : List UInt8 := dkwX6_load_7 ++ []
def dkwX6_load_6 : List UInt8 := [180, 0, 83, 153, 0, 8, 42, 180, 0, 83, 172, 42, 182, 0, 167, 42, 180, 0, 7, 3, 42, 180, 0, 16]
abbrev dktX6_load_6 : List UInt8 := dkwX6_load_6 ++ dktX6_load_7
def dkwX6_load_5 : List UInt8 := [42, 180, 0, 7, 3, 184, 0, 53, 42, 180, 0, 7, 3, 42, 180, 0, 13, 3, 184, 0, 53, 42]
abbrev dktX6_load_5 : List UInt8 := dkwX6_load_5 ++ dktX6_load_6
def dkwX6_load_4 : List UInt8 := [42, 42, 180, 0, 83, 154, 0, 7, 2, 167, 0, 7, 42, 180, 0, 96, 181, 0, 33, 42, 180, 0, 16, 3]
abbrev dktX6_load_4 : List UInt8 := dkwX6_load_4 ++ dktX6_load_5
def dkwX6_load_3 : List UInt8 := [162, 0, 16, 42, 180, 0, 7, 28, 3, 79, 132, 2, 1, 167, 255, 239, 42, 182, 0, 103, 42, 182, 0, 164]
abbrev dktX6_load_3 : List UInt8 := dkwX6_load_3 ++ dktX6_load_4
def dkwX6_load_2 : List UInt8 := [3, 181, 0, 83, 42, 180, 0, 13, 3, 42, 180, 0, 7, 3, 184, 0, 53, 3, 61, 28, 17, 16, 40]
abbrev dktX6_load_2 : List UInt8 := dkwX6_load_2 ++ dktX6_load_3
def dkwX6_load_1 : List UInt8 := [180, 0, 47, 158, 0, 5, 3, 172, 42, 27, 181, 0, 60, 42, 3, 181, 0, 57, 42, 3, 181, 0, 63, 42]
abbrev dktX6_load_1 : List UInt8 := dkwX6_load_1 ++ dktX6_load_2
def dkwX6_load_0 : List UInt8 := [42, 27, 3, 42, 180, 0, 57, 184, 0, 76, 153, 0, 7, 3, 167, 0, 4, 4, 181, 0, 47, 42]
abbrev dktX6_load_0 : List UInt8 := dkwX6_load_0 ++ dktX6_load_1
theorem dksX6_load_0 : cX6_load.data.toList.drop 0 = dktX6_load_0 := by decide +kernel
theorem dksX6_load_1 : cX6_load.data.toList.drop 22 = dktX6_load_1 := dk_seg dksX6_load_0 22 rfl rfl
theorem dksX6_load_2 : cX6_load.data.toList.drop 46 = dktX6_load_2 := dk_seg dksX6_load_1 24 rfl rfl
theorem dksX6_load_3 : cX6_load.data.toList.drop 69 = dktX6_load_3 := dk_seg dksX6_load_2 23 rfl rfl
theorem dksX6_load_4 : cX6_load.data.toList.drop 93 = dktX6_load_4 := dk_seg dksX6_load_3 24 rfl rfl
theorem dksX6_load_5 : cX6_load.data.toList.drop 117 = dktX6_load_5 := dk_seg dksX6_load_4 24 rfl rfl
theorem dksX6_load_6 : cX6_load.data.toList.drop 139 = dktX6_load_6 := dk_seg dksX6_load_5 22 rfl rfl
theorem dksX6_load_7 : cX6_load.data.toList.drop 163 = dktX6_load_7 := dk_seg dksX6_load_6 24 rfl rfl
theorem dX6_load_0 : decode cX6_load 0 = .ok (.aload_n 0, 1) := dk_42 (dk_at dksX6_load_0 0 rfl rfl)
theorem dX6_load_1 : decode cX6_load 1 = .ok (.iload_n 1, 1) := dk_27 (dk_at dksX6_load_0 1 rfl rfl)
theorem dX6_load_2 : decode cX6_load 2 = .ok (.iconst 0, 1) := dk_3 (dk_at dksX6_load_0 2 rfl rfl)
theorem dX6_load_3 : decode cX6_load 3 = .ok (.aload_n 0, 1) := dk_42 (dk_at dksX6_load_0 3 rfl rfl)
theorem dX6_load_4 : decode cX6_load 4 = .ok (.getfield 57, 3) := dk_180 0 57 (dk_at dksX6_load_0 4 rfl rfl)
theorem dX6_load_7 : decode cX6_load 7 = .ok (.invokestatic 76, 3) := dk_184 0 76 (dk_at dksX6_load_0 7 rfl rfl)
theorem dX6_load_10 : decode cX6_load 10 = .ok (.ifCond .eq 7, 3) := dk_153 0 7 (dk_at dksX6_load_0 10 rfl rfl)
theorem dX6_load_13 : decode cX6_load 13 = .ok (.iconst 0, 1) := dk_3 (dk_at dksX6_load_0 13 rfl rfl)
theorem dX6_load_14 : decode cX6_load 14 = .ok (.goto 4, 3) := dk_167 0 4 (dk_at dksX6_load_0 14 rfl rfl)
theorem dX6_load_17 : decode cX6_load 17 = .ok (.iconst 1, 1) := dk_4 (dk_at dksX6_load_0 17 rfl rfl)
theorem dX6_load_18 : decode cX6_load 18 = .ok (.putfield 47, 3) := dk_181 0 47 (dk_at dksX6_load_0 18 rfl rfl)
theorem dX6_load_21 : decode cX6_load 21 = .ok (.aload_n 0, 1) := dk_42 (dk_at dksX6_load_0 21 rfl rfl)
theorem dX6_load_22 : decode cX6_load 22 = .ok (.getfield 47, 3) := dk_180 0 47 (dk_at dksX6_load_1 0 rfl rfl)
theorem dX6_load_25 : decode cX6_load 25 = .ok (.ifCond .le 5, 3) := dk_158 0 5 (dk_at dksX6_load_1 3 rfl rfl)
theorem dX6_load_28 : decode cX6_load 28 = .ok (.iconst 0, 1) := dk_3 (dk_at dksX6_load_1 6 rfl rfl)
theorem dX6_load_29 : decode cX6_load 29 = .ok (.ireturn, 1) := dk_172 (dk_at dksX6_load_1 7 rfl rfl)
theorem dX6_load_30 : decode cX6_load 30 = .ok (.aload_n 0, 1) := dk_42 (dk_at dksX6_load_1 8 rfl rfl)
theorem dX6_load_31 : decode cX6_load 31 = .ok (.iload_n 1, 1) := dk_27 (dk_at dksX6_load_1 9 rfl rfl)
theorem dX6_load_32 : decode cX6_load 32 = .ok (.putfield 60, 3) := dk_181 0 60 (dk_at dksX6_load_1 10 rfl rfl)
theorem dX6_load_35 : decode cX6_load 35 = .ok (.aload_n 0, 1) := dk_42 (dk_at dksX6_load_1 13 rfl rfl)
theorem dX6_load_36 : decode cX6_load 36 = .ok (.iconst 0, 1) := dk_3 (dk_at dksX6_load_1 14 rfl rfl)
theorem dX6_load_37 : decode cX6_load 37 = .ok (.putfield 57, 3) := dk_181 0 57 (dk_at dksX6_load_1 15 rfl rfl)
theorem dX6_load_40 : decode cX6_load 40 = .ok (.aload_n 0, 1) := dk_42 (dk_at dksX6_load_1 18 rfl rfl)
theorem dX6_load_41 : decode cX6_load 41 = .ok (.iconst 0, 1) := dk_3 (dk_at dksX6_load_1 19 rfl rfl)
theorem dX6_load_42 : decode cX6_load 42 = .ok (.putfield 63, 3) := dk_181 0 63 (dk_at dksX6_load_1 20 rfl rfl)
theorem dX6_load_45 : decode cX6_load 45 = .ok (.aload_n 0, 1) := dk_42 (dk_at dksX6_load_1 23 rfl rfl)
theorem dX6_load_46 : decode cX6_load 46 = .ok (.iconst 0, 1) := dk_3 (dk_at dksX6_load_2 0 rfl rfl)
theorem dX6_load_47 : decode cX6_load 47 = .ok (.putfield 83, 3) := dk_181 0 83 (dk_at dksX6_load_2 1 rfl rfl)
theorem dX6_load_50 : decode cX6_load 50 = .ok (.aload_n 0, 1) := dk_42 (dk_at dksX6_load_2 4 rfl rfl)
theorem dX6_load_51 : decode cX6_load 51 = .ok (.getfield 13, 3) := dk_180 0 13 (dk_at dksX6_load_2 5 rfl rfl)
theorem dX6_load_54 : decode cX6_load 54 = .ok (.iconst 0, 1) := dk_3 (dk_at dksX6_load_2 8 rfl rfl)
theorem dX6_load_55 : decode cX6_load 55 = .ok (.aload_n 0, 1) := dk_42 (dk_at dksX6_load_2 9 rfl rfl)
theorem dX6_load_56 : decode cX6_load 56 = .ok (.getfield 7, 3) := dk_180 0 7 (dk_at dksX6_load_2 10 rfl rfl)
theorem dX6_load_59 : decode cX6_load 59 = .ok (.iconst 0, 1) := dk_3 (dk_at dksX6_load_2 13 rfl rfl)
theorem dX6_load_60 : decode cX6_load 60 = .ok (.invokestatic 53, 3) := dk_184 0 53 (dk_at dksX6_load_2 14 rfl rfl)
theorem dX6_load_63 : decode cX6_load 63 = .ok (.iconst 0, 1) := dk_3 (dk_at dksX6_load_2 17 rfl rfl)
theorem dX6_load_64 : decode cX6_load 64 = .ok (.istore_n 2, 1) := dk_61 (dk_at dksX6_load_2 18 rfl rfl)
theorem dX6_load_65 : decode cX6_load 65 = .ok (.iload_n 2, 1) := dk_28 (dk_at dksX6_load_2 19 rfl rfl)
theorem dX6_load_66 : decode cX6_load 66 = .ok (.sipush 4136, 3) := dk_17 16 40 (dk_at dksX6_load_2 20 rfl rfl)
theorem dX6_load_69 : decode cX6_load 69 = .ok (.if_icmp .ge 16, 3) := dk_162 0 16 (dk_at dksX6_load_3 0 rfl rfl)
theorem dX6_load_72 : decode cX6_load 72 = .ok (.aload_n 0, 1) := dk_42 (dk_at dksX6_load_3 3 rfl rfl)
theorem dX6_load_73 : decode cX6_load 73 = .ok (.getfield 7, 3) := dk_180 0 7 (dk_at dksX6_load_3 4 rfl rfl)
theorem dX6_load_76 : decode cX6_load 76 = .ok (.iload_n 2, 1) := dk_28 (dk_at dksX6_load_3 7 rfl rfl)
theorem dX6_load_77 : decode cX6_load 77 = .ok (.iconst 0, 1) := dk_3 (dk_at dksX6_load_3 8 rfl rfl)
theorem dX6_load_78 : decode cX6_load 78 = .ok (.iastore, 1) := dk_79 (dk_at dksX6_load_3 9 rfl rfl)
theorem dX6_load_79 : decode cX6_load 79 = .ok (.iinc 2 1, 3) := dk_132 2 1 (dk_at dksX6_load_3 10 rfl rfl)
theorem dX6_load_82 : decode cX6_load 82 = .ok (.goto (-17), 3) := dk_167 255 239 (dk_at dksX6_load_3 13 rfl rfl)
theorem dX6_load_85 : decode cX6_load 85 = .ok (.aload_n 0, 1) := dk_42 (dk_at dksX6_load_3 16 rfl rfl)
theorem dX6_load_86 : decode cX6_load 86 = .ok (.invokevirtual 103, 3) := dk_182 0 103 (dk_at dksX6_load_3 17 rfl rfl)
theorem dX6_load_89 : decode cX6_load 89 = .ok (.aload_n 0, 1) := dk_42 (dk_at dksX6_load_3 20 rfl rfl)
theorem dX6_load_90 : decode cX6_load 90 = .ok (.invokevirtual 164, 3) := dk_182 0 164 (dk_at dksX6_load_3 21 rfl rfl)
theorem dX6_load_93 : decode cX6_load 93 = .ok (.aload_n 0, 1) := dk_42 (dk_at dksX6_load_4 0 rfl rfl)
theorem dX6_load_94 : decode cX6_load 94 = .ok (.aload_n 0, 1) := dk_42 (dk_at dksX6_load_4 1 rfl rfl)
theorem dX6_load_95 : decode cX6_load 95 = .ok (.getfield 83, 3) := dk_180 0 83 (dk_at dksX6_load_4 2 rfl rfl)
theorem dX6_load_98 : decode cX6_load 98 = .ok (.ifCond .ne 7, 3) := dk_154 0 7 (dk_at dksX6_load_4 5 rfl rfl)
theorem dX6_load_101 : decode cX6_load 101 = .ok (.iconst (-1), 1) := dk_2 (dk_at dksX6_load_4 8 rfl rfl)
theorem dX6_load_102 : decode cX6_load 102 = .ok (.goto 7, 3) := dk_167 0 7 (dk_at dksX6_load_4 9 rfl rfl)
theorem dX6_load_105 : decode cX6_load 105 = .ok (.aload_n 0, 1) := dk_42 (dk_at dksX6_load_4 12 rfl rfl)
theorem dX6_load_106 : decode cX6_load 106 = .ok (.getfield 96, 3) := dk_180 0 96 (dk_at dksX6_load_4 13 rfl rfl)
theorem dX6_load_109 : decode cX6_load 109 = .ok (.putfield 33, 3) := dk_181 0 33 (dk_at dksX6_load_4 16 rfl rfl)
theorem dX6_load_112 : decode cX6_load 112 = .ok (.aload_n 0, 1) := dk_42 (dk_at dksX6_load_4 19 rfl rfl)
theorem dX6_load_113 : decode cX6_load 113 = .ok (.getfield 16, 3) := dk_180 0 16 (dk_at dksX6_load_4 20 rfl rfl)
theorem dX6_load_116 : decode cX6_load 116 = .ok (.iconst 0, 1) := dk_3 (dk_at dksX6_load_4 23 rfl rfl)
theorem dX6_load_117 : decode cX6_load 117 = .ok (.aload_n 0, 1) := dk_42 (dk_at dksX6_load_5 0 rfl rfl)
theorem dX6_load_118 : decode cX6_load 118 = .ok (.getfield 7, 3) := dk_180 0 7 (dk_at dksX6_load_5 1 rfl rfl)
theorem dX6_load_121 : decode cX6_load 121 = .ok (.iconst 0, 1) := dk_3 (dk_at dksX6_load_5 4 rfl rfl)
theorem dX6_load_122 : decode cX6_load 122 = .ok (.invokestatic 53, 3) := dk_184 0 53 (dk_at dksX6_load_5 5 rfl rfl)
theorem dX6_load_125 : decode cX6_load 125 = .ok (.aload_n 0, 1) := dk_42 (dk_at dksX6_load_5 8 rfl rfl)
theorem dX6_load_126 : decode cX6_load 126 = .ok (.getfield 7, 3) := dk_180 0 7 (dk_at dksX6_load_5 9 rfl rfl)
theorem dX6_load_129 : decode cX6_load 129 = .ok (.iconst 0, 1) := dk_3 (dk_at dksX6_load_5 12 rfl rfl)
theorem dX6_load_130 : decode cX6_load 130 = .ok (.aload_n 0, 1) := dk_42 (dk_at dksX6_load_5 13 rfl rfl)
theorem dX6_load_131 : decode cX6_load 131 = .ok (.getfield 13, 3) := dk_180 0 13 (dk_at dksX6_load_5 14 rfl rfl)
theorem dX6_load_134 : decode cX6_load 134 = .ok (.iconst 0, 1) := dk_3 (dk_at dksX6_load_5 17 rfl rfl)
theorem dX6_load_135 : decode cX6_load 135 = .ok (.invokestatic 53, 3) := dk_184 0 53 (dk_at dksX6_load_5 18 rfl rfl)
theorem dX6_load_138 : decode cX6_load 138 = .ok (.aload_n 0, 1) := dk_42 (dk_at dksX6_load_5 21 rfl rfl)
theorem dX6_load_139 : decode cX6_load 139 = .ok (.getfield 83, 3) := dk_180 0 83 (dk_at dksX6_load_6 0 rfl rfl)
theorem dX6_load_142 : decode cX6_load 142 = .ok (.ifCond .eq 8, 3) := dk_153 0 8 (dk_at dksX6_load_6 3 rfl rfl)
theorem dX6_load_145 : decode cX6_load 145 = .ok (.aload_n 0, 1) := dk_42 (dk_at dksX6_load_6 6 rfl rfl)
theorem dX6_load_146 : decode cX6_load 146 = .ok (.getfield 83, 3) := dk_180 0 83 (dk_at dksX6_load_6 7 rfl rfl)
theorem dX6_load_149 : decode cX6_load 149 = .ok (.ireturn, 1) := dk_172 (dk_at dksX6_load_6 10 rfl rfl)
theorem dX6_load_150 : decode cX6_load 150 = .ok (.aload_n 0, 1) := dk_42 (dk_at dksX6_load_6 11 rfl rfl)
theorem dX6_load_151 : decode cX6_load 151 = .ok (.invokevirtual 167, 3) := dk_182 0 167 (dk_at dksX6_load_6 12 rfl rfl)
theorem dX6_load_154 : decode cX6_load 154 = .ok (.aload_n 0, 1) := dk_42 (dk_at dksX6_load_6 15 rfl rfl)
theorem dX6_load_155 : decode cX6_load 155 = .ok (.getfield 7, 3) := dk_180 0 7 (dk_at dksX6_load_6 16 rfl rfl)
theorem dX6_load_158 : decode cX6_load 158 = .ok (.iconst 0, 1) := dk_3 (dk_at dksX6_load_6 19 rfl rfl)
theorem dX6_load_159 : decode cX6_load 159 = .ok (.aload_n 0, 1) := dk_42 (dk_at dksX6_load_6 20 rfl rfl)
theorem dX6_load_160 : decode cX6_load 160 = .ok (.getfield 16, 3) := dk_180 0 16 (dk_at dksX6_load_6 21 rfl rfl)
theorem dX6_load_163 : decode cX6_load 163 = .ok (.iconst 0, 1) := dk_3 (dk_at dksX6_load_7 0 rfl rfl)
theorem dX6_load_164 : decode cX6_load 164 = .ok (.invokestatic 53, 3) := dk_184 0 53 (dk_at dksX6_load_7 1 rfl rfl)
theorem dX6_load_167 : decode cX6_load 167 = .ok (.aload_n 0, 1) := dk_42 (dk_at dksX6_load_7 4 rfl rfl)
theorem dX6_load_168 : decode cX6_load 168 = .ok (.getfield 7, 3) := dk_180 0 7 (dk_at dksX6_load_7 5 rfl rfl)
theorem dX6_load_171 : decode cX6_load 171 = .ok (.iconst 0, 1) := dk_3 (dk_at dksX6_load_7 8 rfl rfl)
theorem dX6_load_172 : decode cX6_load 172 = .ok (.iaload, 1) := dk_46 (dk_at dksX6_load_7 9 rfl rfl)
theorem dX6_load_173 : decode cX6_load 173 = .ok (.ireturn, 1) := dk_172 (dk_at dksX6_load_7 10 rfl rfl)
abbrev cX6_isIn : ByteArray := prog_16_method_3_code
def yX6_isIn : MethodName := ⟨RX6, "isIn", "(III)Z"⟩
def dkwX6_isIn_0 : List UInt8 := [26, 27, 161, 0, 12, 26, 28, 163, 0, 7, 4, 167, 0, 4, 3, 172]
abbrev dktX6_isIn_0 : List UInt8 := dkwX6_isIn_0 ++ []
theorem dksX6_isIn_0 : cX6_isIn.data.toList.drop 0 = dktX6_isIn_0 := by decide +kernel
theorem dX6_isIn_0 : decode cX6_isIn 0 = .ok (.iload_n 0, 1) := dk_26 (dk_at dksX6_isIn_0 0 rfl rfl)
theorem dX6_isIn_1 : decode cX6_isIn 1 = .ok (.iload_n 1, 1) := dk_27 (dk_at dksX6_isIn_0 1 rfl rfl)
theorem dX6_isIn_2 : decode cX6_isIn 2 = .ok (.if_icmp .lt 12, 3) := dk_161 0 12 (dk_at dksX6_isIn_0 2 rfl rfl)
theorem dX6_isIn_5 : decode cX6_isIn 5 = .ok (.iload_n 0, 1) := dk_26 (dk_at dksX6_isIn_0 5 rfl rfl)
theorem dX6_isIn_6 : decode cX6_isIn 6 = .ok (.iload_n 2, 1) := dk_28 (dk_at dksX6_isIn_0 6 rfl rfl)
theorem dX6_isIn_7 : decode cX6_isIn 7 = .ok (.if_icmp .gt 7, 3) := dk_163 0 7 (dk_at dksX6_isIn_0 7 rfl rfl)
theorem dX6_isIn_10 : decode cX6_isIn 10 = .ok (.iconst 1, 1) := dk_4 (dk_at dksX6_isIn_0 10 rfl rfl)
theorem dX6_isIn_11 : decode cX6_isIn 11 = .ok (.goto 4, 3) := dk_167 0 4 (dk_at dksX6_isIn_0 11 rfl rfl)
theorem dX6_isIn_14 : decode cX6_isIn 14 = .ok (.iconst 0, 1) := dk_3 (dk_at dksX6_isIn_0 14 rfl rfl)
theorem dX6_isIn_15 : decode cX6_isIn 15 = .ok (.ireturn, 1) := dk_172 (dk_at dksX6_isIn_0 15 rfl rfl)
abbrev cX6_next : ByteArray := prog_16_method_9_code
def yX6_next : MethodName := ⟨RX6, "next", "()V"⟩
def dkwX6_next_9 : List UInt8 := [42, 89, 180, 0, 63, 4, 96, 181, 0, 63, 42, 5, 181, 0, 73, 177]
abbrev dktX6_next_9 : List UInt8 := dkwX6_next_9 ++ []
def dkwX6_next_8 : List UInt8 := [181, 0, 80, 42, 89, 180, 0, 63, 4, 96, 181, 0, 63, 167, 255, 195, 42, 4, 181, 0, 73, 167, 0, 18]
abbrev dktX6_next_8 : List UInt8 := dkwX6_next_8 ++ dktX6_next_9
def dkwX6_next_7 : List UInt8 := [162, 0, 26, 42, 16, 10, 42, 180, 0, 80, 104, 42, 42, 180, 0, 63, 182, 0, 69, 96, 16, 48, 100]
abbrev dktX6_next_7 : List UInt8 := dkwX6_next_7 ++ dktX6_next_8
def dkwX6_next_6 : List UInt8 := [42, 180, 0, 63, 182, 0, 69, 16, 48, 16, 57, 184, 0, 76, 153, 0, 49, 42, 180, 0, 80, 17, 39, 16]
abbrev dktX6_next_6 : List UInt8 := dkwX6_next_6 ++ dktX6_next_7
def dkwX6_next_5 : List UInt8 := [42, 42, 180, 0, 66, 182, 0, 69, 16, 48, 16, 57, 184, 0, 76, 153, 0, 80, 42, 3, 181, 0, 80, 42]
abbrev dktX6_next_5 : List UInt8 := dkwX6_next_5 ++ dktX6_next_6
def dkwX6_next_4 : List UInt8 := [153, 0, 16, 42, 89, 180, 0, 63, 4, 96, 181, 0, 63, 167, 255, 228, 42, 3, 181, 0, 73, 167, 0, 113]
abbrev dktX6_next_4 : List UInt8 := dkwX6_next_4 ++ dktX6_next_5
def dkwX6_next_3 : List UInt8 := [16, 122, 184, 0, 76, 153, 0, 42, 42, 42, 180, 0, 63, 182, 0, 69, 16, 97, 16, 122, 184, 0, 76]
abbrev dktX6_next_3 : List UInt8 := dkwX6_next_3 ++ dktX6_next_4
def dkwX6_next_2 : List UInt8 := [180, 0, 60, 161, 0, 11, 42, 6, 181, 0, 73, 167, 0, 170, 42, 42, 180, 0, 66, 182, 0, 69, 16, 97]
abbrev dktX6_next_2 : List UInt8 := dkwX6_next_2 ++ dktX6_next_3
def dkwX6_next_1 : List UInt8 := [180, 0, 66, 4, 96, 181, 0, 66, 167, 255, 233, 42, 42, 180, 0, 66, 181, 0, 63, 42, 180, 0, 66, 42]
abbrev dktX6_next_1 : List UInt8 := dkwX6_next_1 ++ dktX6_next_2
def dkwX6_next_0 : List UInt8 := [42, 42, 180, 0, 63, 181, 0, 66, 42, 42, 180, 0, 66, 182, 0, 69, 16, 32, 160, 0, 16, 42, 89]
abbrev dktX6_next_0 : List UInt8 := dkwX6_next_0 ++ dktX6_next_1
theorem dksX6_next_0 : cX6_next.data.toList.drop 0 = dktX6_next_0 := by decide +kernel
theorem dksX6_next_1 : cX6_next.data.toList.drop 23 = dktX6_next_1 := dk_seg dksX6_next_0 23 rfl rfl
theorem dksX6_next_2 : cX6_next.data.toList.drop 47 = dktX6_next_2 := dk_seg dksX6_next_1 24 rfl rfl
theorem dksX6_next_3 : cX6_next.data.toList.drop 71 = dktX6_next_3 := dk_seg dksX6_next_2 24 rfl rfl
theorem dksX6_next_4 : cX6_next.data.toList.drop 94 = dktX6_next_4 := dk_seg dksX6_next_3 23 rfl rfl
theorem dksX6_next_5 : cX6_next.data.toList.drop 118 = dktX6_next_5 := dk_seg dksX6_next_4 24 rfl rfl
theorem dksX6_next_6 : cX6_next.data.toList.drop 142 = dktX6_next_6 := dk_seg dksX6_next_5 24 rfl rfl
theorem dksX6_next_7 : cX6_next.data.toList.drop 166 = dktX6_next_7 := dk_seg dksX6_next_6 24 rfl rfl
theorem dksX6_next_8 : cX6_next.data.toList.drop 189 = dktX6_next_8 := dk_seg dksX6_next_7 23 rfl rfl
theorem dksX6_next_9 : cX6_next.data.toList.drop 213 = dktX6_next_9 := dk_seg dksX6_next_8 24 rfl rfl
theorem dX6_next_0 : decode cX6_next 0 = .ok (.aload_n 0, 1) := dk_42 (dk_at dksX6_next_0 0 rfl rfl)
theorem dX6_next_1 : decode cX6_next 1 = .ok (.aload_n 0, 1) := dk_42 (dk_at dksX6_next_0 1 rfl rfl)
theorem dX6_next_2 : decode cX6_next 2 = .ok (.getfield 63, 3) := dk_180 0 63 (dk_at dksX6_next_0 2 rfl rfl)
theorem dX6_next_5 : decode cX6_next 5 = .ok (.putfield 66, 3) := dk_181 0 66 (dk_at dksX6_next_0 5 rfl rfl)
theorem dX6_next_8 : decode cX6_next 8 = .ok (.aload_n 0, 1) := dk_42 (dk_at dksX6_next_0 8 rfl rfl)
theorem dX6_next_9 : decode cX6_next 9 = .ok (.aload_n 0, 1) := dk_42 (dk_at dksX6_next_0 9 rfl rfl)
theorem dX6_next_10 : decode cX6_next 10 = .ok (.getfield 66, 3) := dk_180 0 66 (dk_at dksX6_next_0 10 rfl rfl)
theorem dX6_next_13 : decode cX6_next 13 = .ok (.invokevirtual 69, 3) := dk_182 0 69 (dk_at dksX6_next_0 13 rfl rfl)
theorem dX6_next_16 : decode cX6_next 16 = .ok (.bipush 32, 2) := dk_16 32 (dk_at dksX6_next_0 16 rfl rfl)
theorem dX6_next_18 : decode cX6_next 18 = .ok (.if_icmp .ne 16, 3) := dk_160 0 16 (dk_at dksX6_next_0 18 rfl rfl)
theorem dX6_next_21 : decode cX6_next 21 = .ok (.aload_n 0, 1) := dk_42 (dk_at dksX6_next_0 21 rfl rfl)
theorem dX6_next_22 : decode cX6_next 22 = .ok (.dup, 1) := dk_89 (dk_at dksX6_next_0 22 rfl rfl)
theorem dX6_next_23 : decode cX6_next 23 = .ok (.getfield 66, 3) := dk_180 0 66 (dk_at dksX6_next_1 0 rfl rfl)
theorem dX6_next_26 : decode cX6_next 26 = .ok (.iconst 1, 1) := dk_4 (dk_at dksX6_next_1 3 rfl rfl)
theorem dX6_next_27 : decode cX6_next 27 = .ok (.iadd, 1) := dk_96 (dk_at dksX6_next_1 4 rfl rfl)
theorem dX6_next_28 : decode cX6_next 28 = .ok (.putfield 66, 3) := dk_181 0 66 (dk_at dksX6_next_1 5 rfl rfl)
theorem dX6_next_31 : decode cX6_next 31 = .ok (.goto (-23), 3) := dk_167 255 233 (dk_at dksX6_next_1 8 rfl rfl)
theorem dX6_next_34 : decode cX6_next 34 = .ok (.aload_n 0, 1) := dk_42 (dk_at dksX6_next_1 11 rfl rfl)
theorem dX6_next_35 : decode cX6_next 35 = .ok (.aload_n 0, 1) := dk_42 (dk_at dksX6_next_1 12 rfl rfl)
theorem dX6_next_36 : decode cX6_next 36 = .ok (.getfield 66, 3) := dk_180 0 66 (dk_at dksX6_next_1 13 rfl rfl)
theorem dX6_next_39 : decode cX6_next 39 = .ok (.putfield 63, 3) := dk_181 0 63 (dk_at dksX6_next_1 16 rfl rfl)
theorem dX6_next_42 : decode cX6_next 42 = .ok (.aload_n 0, 1) := dk_42 (dk_at dksX6_next_1 19 rfl rfl)
theorem dX6_next_43 : decode cX6_next 43 = .ok (.getfield 66, 3) := dk_180 0 66 (dk_at dksX6_next_1 20 rfl rfl)
theorem dX6_next_46 : decode cX6_next 46 = .ok (.aload_n 0, 1) := dk_42 (dk_at dksX6_next_1 23 rfl rfl)
theorem dX6_next_47 : decode cX6_next 47 = .ok (.getfield 60, 3) := dk_180 0 60 (dk_at dksX6_next_2 0 rfl rfl)
theorem dX6_next_50 : decode cX6_next 50 = .ok (.if_icmp .lt 11, 3) := dk_161 0 11 (dk_at dksX6_next_2 3 rfl rfl)
theorem dX6_next_53 : decode cX6_next 53 = .ok (.aload_n 0, 1) := dk_42 (dk_at dksX6_next_2 6 rfl rfl)
theorem dX6_next_54 : decode cX6_next 54 = .ok (.iconst 3, 1) := dk_6 (dk_at dksX6_next_2 7 rfl rfl)
theorem dX6_next_55 : decode cX6_next 55 = .ok (.putfield 73, 3) := dk_181 0 73 (dk_at dksX6_next_2 8 rfl rfl)
theorem dX6_next_58 : decode cX6_next 58 = .ok (.goto 170, 3) := dk_167 0 170 (dk_at dksX6_next_2 11 rfl rfl)
theorem dX6_next_61 : decode cX6_next 61 = .ok (.aload_n 0, 1) := dk_42 (dk_at dksX6_next_2 14 rfl rfl)
theorem dX6_next_62 : decode cX6_next 62 = .ok (.aload_n 0, 1) := dk_42 (dk_at dksX6_next_2 15 rfl rfl)
theorem dX6_next_63 : decode cX6_next 63 = .ok (.getfield 66, 3) := dk_180 0 66 (dk_at dksX6_next_2 16 rfl rfl)
theorem dX6_next_66 : decode cX6_next 66 = .ok (.invokevirtual 69, 3) := dk_182 0 69 (dk_at dksX6_next_2 19 rfl rfl)
theorem dX6_next_69 : decode cX6_next 69 = .ok (.bipush 97, 2) := dk_16 97 (dk_at dksX6_next_2 22 rfl rfl)
theorem dX6_next_71 : decode cX6_next 71 = .ok (.bipush 122, 2) := dk_16 122 (dk_at dksX6_next_3 0 rfl rfl)
theorem dX6_next_73 : decode cX6_next 73 = .ok (.invokestatic 76, 3) := dk_184 0 76 (dk_at dksX6_next_3 2 rfl rfl)
theorem dX6_next_76 : decode cX6_next 76 = .ok (.ifCond .eq 42, 3) := dk_153 0 42 (dk_at dksX6_next_3 5 rfl rfl)
theorem dX6_next_79 : decode cX6_next 79 = .ok (.aload_n 0, 1) := dk_42 (dk_at dksX6_next_3 8 rfl rfl)
theorem dX6_next_80 : decode cX6_next 80 = .ok (.aload_n 0, 1) := dk_42 (dk_at dksX6_next_3 9 rfl rfl)
theorem dX6_next_81 : decode cX6_next 81 = .ok (.getfield 63, 3) := dk_180 0 63 (dk_at dksX6_next_3 10 rfl rfl)
theorem dX6_next_84 : decode cX6_next 84 = .ok (.invokevirtual 69, 3) := dk_182 0 69 (dk_at dksX6_next_3 13 rfl rfl)
theorem dX6_next_87 : decode cX6_next 87 = .ok (.bipush 97, 2) := dk_16 97 (dk_at dksX6_next_3 16 rfl rfl)
theorem dX6_next_89 : decode cX6_next 89 = .ok (.bipush 122, 2) := dk_16 122 (dk_at dksX6_next_3 18 rfl rfl)
theorem dX6_next_91 : decode cX6_next 91 = .ok (.invokestatic 76, 3) := dk_184 0 76 (dk_at dksX6_next_3 20 rfl rfl)
theorem dX6_next_94 : decode cX6_next 94 = .ok (.ifCond .eq 16, 3) := dk_153 0 16 (dk_at dksX6_next_4 0 rfl rfl)
theorem dX6_next_97 : decode cX6_next 97 = .ok (.aload_n 0, 1) := dk_42 (dk_at dksX6_next_4 3 rfl rfl)
theorem dX6_next_98 : decode cX6_next 98 = .ok (.dup, 1) := dk_89 (dk_at dksX6_next_4 4 rfl rfl)
theorem dX6_next_99 : decode cX6_next 99 = .ok (.getfield 63, 3) := dk_180 0 63 (dk_at dksX6_next_4 5 rfl rfl)
theorem dX6_next_102 : decode cX6_next 102 = .ok (.iconst 1, 1) := dk_4 (dk_at dksX6_next_4 8 rfl rfl)
theorem dX6_next_103 : decode cX6_next 103 = .ok (.iadd, 1) := dk_96 (dk_at dksX6_next_4 9 rfl rfl)
theorem dX6_next_104 : decode cX6_next 104 = .ok (.putfield 63, 3) := dk_181 0 63 (dk_at dksX6_next_4 10 rfl rfl)
theorem dX6_next_107 : decode cX6_next 107 = .ok (.goto (-28), 3) := dk_167 255 228 (dk_at dksX6_next_4 13 rfl rfl)
theorem dX6_next_110 : decode cX6_next 110 = .ok (.aload_n 0, 1) := dk_42 (dk_at dksX6_next_4 16 rfl rfl)
theorem dX6_next_111 : decode cX6_next 111 = .ok (.iconst 0, 1) := dk_3 (dk_at dksX6_next_4 17 rfl rfl)
theorem dX6_next_112 : decode cX6_next 112 = .ok (.putfield 73, 3) := dk_181 0 73 (dk_at dksX6_next_4 18 rfl rfl)
theorem dX6_next_115 : decode cX6_next 115 = .ok (.goto 113, 3) := dk_167 0 113 (dk_at dksX6_next_4 21 rfl rfl)
theorem dX6_next_118 : decode cX6_next 118 = .ok (.aload_n 0, 1) := dk_42 (dk_at dksX6_next_5 0 rfl rfl)
theorem dX6_next_119 : decode cX6_next 119 = .ok (.aload_n 0, 1) := dk_42 (dk_at dksX6_next_5 1 rfl rfl)
theorem dX6_next_120 : decode cX6_next 120 = .ok (.getfield 66, 3) := dk_180 0 66 (dk_at dksX6_next_5 2 rfl rfl)
theorem dX6_next_123 : decode cX6_next 123 = .ok (.invokevirtual 69, 3) := dk_182 0 69 (dk_at dksX6_next_5 5 rfl rfl)
theorem dX6_next_126 : decode cX6_next 126 = .ok (.bipush 48, 2) := dk_16 48 (dk_at dksX6_next_5 8 rfl rfl)
theorem dX6_next_128 : decode cX6_next 128 = .ok (.bipush 57, 2) := dk_16 57 (dk_at dksX6_next_5 10 rfl rfl)
theorem dX6_next_130 : decode cX6_next 130 = .ok (.invokestatic 76, 3) := dk_184 0 76 (dk_at dksX6_next_5 12 rfl rfl)
theorem dX6_next_133 : decode cX6_next 133 = .ok (.ifCond .eq 80, 3) := dk_153 0 80 (dk_at dksX6_next_5 15 rfl rfl)
theorem dX6_next_136 : decode cX6_next 136 = .ok (.aload_n 0, 1) := dk_42 (dk_at dksX6_next_5 18 rfl rfl)
theorem dX6_next_137 : decode cX6_next 137 = .ok (.iconst 0, 1) := dk_3 (dk_at dksX6_next_5 19 rfl rfl)
theorem dX6_next_138 : decode cX6_next 138 = .ok (.putfield 80, 3) := dk_181 0 80 (dk_at dksX6_next_5 20 rfl rfl)
theorem dX6_next_141 : decode cX6_next 141 = .ok (.aload_n 0, 1) := dk_42 (dk_at dksX6_next_5 23 rfl rfl)
theorem dX6_next_142 : decode cX6_next 142 = .ok (.aload_n 0, 1) := dk_42 (dk_at dksX6_next_6 0 rfl rfl)
theorem dX6_next_143 : decode cX6_next 143 = .ok (.getfield 63, 3) := dk_180 0 63 (dk_at dksX6_next_6 1 rfl rfl)
theorem dX6_next_146 : decode cX6_next 146 = .ok (.invokevirtual 69, 3) := dk_182 0 69 (dk_at dksX6_next_6 4 rfl rfl)
theorem dX6_next_149 : decode cX6_next 149 = .ok (.bipush 48, 2) := dk_16 48 (dk_at dksX6_next_6 7 rfl rfl)
theorem dX6_next_151 : decode cX6_next 151 = .ok (.bipush 57, 2) := dk_16 57 (dk_at dksX6_next_6 9 rfl rfl)
theorem dX6_next_153 : decode cX6_next 153 = .ok (.invokestatic 76, 3) := dk_184 0 76 (dk_at dksX6_next_6 11 rfl rfl)
theorem dX6_next_156 : decode cX6_next 156 = .ok (.ifCond .eq 49, 3) := dk_153 0 49 (dk_at dksX6_next_6 14 rfl rfl)
theorem dX6_next_159 : decode cX6_next 159 = .ok (.aload_n 0, 1) := dk_42 (dk_at dksX6_next_6 17 rfl rfl)
theorem dX6_next_160 : decode cX6_next 160 = .ok (.getfield 80, 3) := dk_180 0 80 (dk_at dksX6_next_6 18 rfl rfl)
theorem dX6_next_163 : decode cX6_next 163 = .ok (.sipush 10000, 3) := dk_17 39 16 (dk_at dksX6_next_6 21 rfl rfl)
theorem dX6_next_166 : decode cX6_next 166 = .ok (.if_icmp .ge 26, 3) := dk_162 0 26 (dk_at dksX6_next_7 0 rfl rfl)
theorem dX6_next_169 : decode cX6_next 169 = .ok (.aload_n 0, 1) := dk_42 (dk_at dksX6_next_7 3 rfl rfl)
theorem dX6_next_170 : decode cX6_next 170 = .ok (.bipush 10, 2) := dk_16 10 (dk_at dksX6_next_7 4 rfl rfl)
theorem dX6_next_172 : decode cX6_next 172 = .ok (.aload_n 0, 1) := dk_42 (dk_at dksX6_next_7 6 rfl rfl)
theorem dX6_next_173 : decode cX6_next 173 = .ok (.getfield 80, 3) := dk_180 0 80 (dk_at dksX6_next_7 7 rfl rfl)
theorem dX6_next_176 : decode cX6_next 176 = .ok (.imul, 1) := dk_104 (dk_at dksX6_next_7 10 rfl rfl)
theorem dX6_next_177 : decode cX6_next 177 = .ok (.aload_n 0, 1) := dk_42 (dk_at dksX6_next_7 11 rfl rfl)
theorem dX6_next_178 : decode cX6_next 178 = .ok (.aload_n 0, 1) := dk_42 (dk_at dksX6_next_7 12 rfl rfl)
theorem dX6_next_179 : decode cX6_next 179 = .ok (.getfield 63, 3) := dk_180 0 63 (dk_at dksX6_next_7 13 rfl rfl)
theorem dX6_next_182 : decode cX6_next 182 = .ok (.invokevirtual 69, 3) := dk_182 0 69 (dk_at dksX6_next_7 16 rfl rfl)
theorem dX6_next_185 : decode cX6_next 185 = .ok (.iadd, 1) := dk_96 (dk_at dksX6_next_7 19 rfl rfl)
theorem dX6_next_186 : decode cX6_next 186 = .ok (.bipush 48, 2) := dk_16 48 (dk_at dksX6_next_7 20 rfl rfl)
theorem dX6_next_188 : decode cX6_next 188 = .ok (.isub, 1) := dk_100 (dk_at dksX6_next_7 22 rfl rfl)
theorem dX6_next_189 : decode cX6_next 189 = .ok (.putfield 80, 3) := dk_181 0 80 (dk_at dksX6_next_8 0 rfl rfl)
theorem dX6_next_192 : decode cX6_next 192 = .ok (.aload_n 0, 1) := dk_42 (dk_at dksX6_next_8 3 rfl rfl)
theorem dX6_next_193 : decode cX6_next 193 = .ok (.dup, 1) := dk_89 (dk_at dksX6_next_8 4 rfl rfl)
theorem dX6_next_194 : decode cX6_next 194 = .ok (.getfield 63, 3) := dk_180 0 63 (dk_at dksX6_next_8 5 rfl rfl)
theorem dX6_next_197 : decode cX6_next 197 = .ok (.iconst 1, 1) := dk_4 (dk_at dksX6_next_8 8 rfl rfl)
theorem dX6_next_198 : decode cX6_next 198 = .ok (.iadd, 1) := dk_96 (dk_at dksX6_next_8 9 rfl rfl)
theorem dX6_next_199 : decode cX6_next 199 = .ok (.putfield 63, 3) := dk_181 0 63 (dk_at dksX6_next_8 10 rfl rfl)
theorem dX6_next_202 : decode cX6_next 202 = .ok (.goto (-61), 3) := dk_167 255 195 (dk_at dksX6_next_8 13 rfl rfl)
theorem dX6_next_205 : decode cX6_next 205 = .ok (.aload_n 0, 1) := dk_42 (dk_at dksX6_next_8 16 rfl rfl)
theorem dX6_next_206 : decode cX6_next 206 = .ok (.iconst 1, 1) := dk_4 (dk_at dksX6_next_8 17 rfl rfl)
theorem dX6_next_207 : decode cX6_next 207 = .ok (.putfield 73, 3) := dk_181 0 73 (dk_at dksX6_next_8 18 rfl rfl)
theorem dX6_next_210 : decode cX6_next 210 = .ok (.goto 18, 3) := dk_167 0 18 (dk_at dksX6_next_8 21 rfl rfl)
theorem dX6_next_213 : decode cX6_next 213 = .ok (.aload_n 0, 1) := dk_42 (dk_at dksX6_next_9 0 rfl rfl)
theorem dX6_next_214 : decode cX6_next 214 = .ok (.dup, 1) := dk_89 (dk_at dksX6_next_9 1 rfl rfl)
theorem dX6_next_215 : decode cX6_next 215 = .ok (.getfield 63, 3) := dk_180 0 63 (dk_at dksX6_next_9 2 rfl rfl)
theorem dX6_next_218 : decode cX6_next 218 = .ok (.iconst 1, 1) := dk_4 (dk_at dksX6_next_9 5 rfl rfl)
theorem dX6_next_219 : decode cX6_next 219 = .ok (.iadd, 1) := dk_96 (dk_at dksX6_next_9 6 rfl rfl)
theorem dX6_next_220 : decode cX6_next 220 = .ok (.putfield 63, 3) := dk_181 0 63 (dk_at dksX6_next_9 7 rfl rfl)
theorem dX6_next_223 : decode cX6_next 223 = .ok (.aload_n 0, 1) := dk_42 (dk_at dksX6_next_9 10 rfl rfl)
theorem dX6_next_224 : decode cX6_next 224 = .ok (.iconst 2, 1) := dk_5 (dk_at dksX6_next_9 11 rfl rfl)
theorem dX6_next_225 : decode cX6_next 225 = .ok (.putfield 73, 3) := dk_181 0 73 (dk_at dksX6_next_9 12 rfl rfl)
theorem dX6_next_228 : decode cX6_next 228 = .ok (.return_, 1) := dk_177 (dk_at dksX6_next_9 15 rfl rfl)
abbrev cX6_see : ByteArray := prog_16_method_8_code
def yX6_see : MethodName := ⟨RX6, "see", "(I)I"⟩
def dkwX6_see_0 : List UInt8 := [27, 42, 180, 0, 60, 162, 0, 12, 42, 180, 0, 30, 27, 46, 167, 0, 4, 2, 172]
abbrev dktX6_see_0 : List UInt8 := dkwX6_see_0 ++ []
theorem dksX6_see_0 : cX6_see.data.toList.drop 0 = dktX6_see_0 := by decide +kernel
theorem dX6_see_0 : decode cX6_see 0 = .ok (.iload_n 1, 1) := dk_27 (dk_at dksX6_see_0 0 rfl rfl)
theorem dX6_see_1 : decode cX6_see 1 = .ok (.aload_n 0, 1) := dk_42 (dk_at dksX6_see_0 1 rfl rfl)
theorem dX6_see_2 : decode cX6_see 2 = .ok (.getfield 60, 3) := dk_180 0 60 (dk_at dksX6_see_0 2 rfl rfl)
theorem dX6_see_5 : decode cX6_see 5 = .ok (.if_icmp .ge 12, 3) := dk_162 0 12 (dk_at dksX6_see_0 5 rfl rfl)
theorem dX6_see_8 : decode cX6_see 8 = .ok (.aload_n 0, 1) := dk_42 (dk_at dksX6_see_0 8 rfl rfl)
theorem dX6_see_9 : decode cX6_see 9 = .ok (.getfield 30, 3) := dk_180 0 30 (dk_at dksX6_see_0 9 rfl rfl)
theorem dX6_see_12 : decode cX6_see 12 = .ok (.iload_n 1, 1) := dk_27 (dk_at dksX6_see_0 12 rfl rfl)
theorem dX6_see_13 : decode cX6_see 13 = .ok (.iaload, 1) := dk_46 (dk_at dksX6_see_0 13 rfl rfl)
theorem dX6_see_14 : decode cX6_see 14 = .ok (.goto 4, 3) := dk_167 0 4 (dk_at dksX6_see_0 14 rfl rfl)
theorem dX6_see_17 : decode cX6_see 17 = .ok (.iconst (-1), 1) := dk_2 (dk_at dksX6_see_0 17 rfl rfl)
theorem dX6_see_18 : decode cX6_see 18 = .ok (.ireturn, 1) := dk_172 (dk_at dksX6_see_0 18 rfl rfl)
abbrev cX6_reads : ByteArray := prog_16_method_21_code
def yX6_reads : MethodName := ⟨RX6, "reads", "()V"⟩
def dkwX6_reads_6 : List UInt8 := [180, 0, 83, 154, 0, 17, 42, 180, 0, 73, 6, 159, 0, 9, 42, 16, 254, 182, 0, 99, 177]
abbrev dktX6_reads_6 : List UInt8 := dkwX6_reads_6 ++ []
def dkwX6_reads_5 : List UInt8 := [42, 18, 154, 182, 0, 139, 153, 0, 10, 42, 182, 0, 158, 167, 255, 225, 42, 182, 0, 161, 167, 255, 218, 42]
abbrev dktX6_reads_5 : List UInt8 := dkwX6_reads_5 ++ dktX6_reads_6
def dkwX6_reads_4 : List UInt8 := [182, 0, 151, 167, 255, 243, 42, 18, 154, 182, 0, 139, 154, 0, 12, 42, 18, 156, 182, 0, 139, 153, 0, 26]
abbrev dktX6_reads_4 : List UInt8 := dkwX6_reads_4 ++ dktX6_reads_5
def dkwX6_reads_3 : List UInt8 := [182, 0, 139, 153, 0, 10, 42, 182, 0, 146, 167, 255, 243, 42, 18, 149, 182, 0, 139, 153, 0, 10, 42]
abbrev dktX6_reads_3 : List UInt8 := dkwX6_reads_3 ++ dktX6_reads_4
def dkwX6_reads_2 : List UInt8 := [79, 42, 182, 0, 116, 42, 18, 144, 182, 0, 139, 154, 0, 9, 42, 16, 254, 182, 0, 99, 42, 18, 144]
abbrev dktX6_reads_2 : List UInt8 := dkwX6_reads_2 ++ dktX6_reads_3
def dkwX6_reads_1 : List UInt8 := [18, 143, 182, 0, 139, 153, 0, 20, 42, 182, 0, 103, 42, 180, 0, 7, 5, 42, 3, 16, 9, 182, 0, 119]
abbrev dktX6_reads_1 : List UInt8 := dkwX6_reads_1 ++ dktX6_reads_2
def dkwX6_reads_0 : List UInt8 := [42, 42, 18, 137, 182, 0, 139, 182, 0, 106, 42, 180, 0, 7, 4, 42, 4, 6, 182, 0, 119, 79, 42]
abbrev dktX6_reads_0 : List UInt8 := dkwX6_reads_0 ++ dktX6_reads_1
theorem dksX6_reads_0 : cX6_reads.data.toList.drop 0 = dktX6_reads_0 := by decide +kernel
theorem dksX6_reads_1 : cX6_reads.data.toList.drop 23 = dktX6_reads_1 := dk_seg dksX6_reads_0 23 rfl rfl
theorem dksX6_reads_2 : cX6_reads.data.toList.drop 47 = dktX6_reads_2 := dk_seg dksX6_reads_1 24 rfl rfl
theorem dksX6_reads_3 : cX6_reads.data.toList.drop 70 = dktX6_reads_3 := dk_seg dksX6_reads_2 23 rfl rfl
theorem dksX6_reads_4 : cX6_reads.data.toList.drop 93 = dktX6_reads_4 := dk_seg dksX6_reads_3 23 rfl rfl
theorem dksX6_reads_5 : cX6_reads.data.toList.drop 117 = dktX6_reads_5 := dk_seg dksX6_reads_4 24 rfl rfl
theorem dksX6_reads_6 : cX6_reads.data.toList.drop 141 = dktX6_reads_6 := dk_seg dksX6_reads_5 24 rfl rfl
theorem dX6_reads_0 : decode cX6_reads 0 = .ok (.aload_n 0, 1) := dk_42 (dk_at dksX6_reads_0 0 rfl rfl)
theorem dX6_reads_1 : decode cX6_reads 1 = .ok (.aload_n 0, 1) := dk_42 (dk_at dksX6_reads_0 1 rfl rfl)
theorem dX6_reads_2 : decode cX6_reads 2 = .ok (.ldc 137, 2) := dk_18 137 (dk_at dksX6_reads_0 2 rfl rfl)
theorem dX6_reads_4 : decode cX6_reads 4 = .ok (.invokevirtual 139, 3) := dk_182 0 139 (dk_at dksX6_reads_0 4 rfl rfl)
theorem dX6_reads_7 : decode cX6_reads 7 = .ok (.invokevirtual 106, 3) := dk_182 0 106 (dk_at dksX6_reads_0 7 rfl rfl)
theorem dX6_reads_10 : decode cX6_reads 10 = .ok (.aload_n 0, 1) := dk_42 (dk_at dksX6_reads_0 10 rfl rfl)
theorem dX6_reads_11 : decode cX6_reads 11 = .ok (.getfield 7, 3) := dk_180 0 7 (dk_at dksX6_reads_0 11 rfl rfl)
theorem dX6_reads_14 : decode cX6_reads 14 = .ok (.iconst 1, 1) := dk_4 (dk_at dksX6_reads_0 14 rfl rfl)
theorem dX6_reads_15 : decode cX6_reads 15 = .ok (.aload_n 0, 1) := dk_42 (dk_at dksX6_reads_0 15 rfl rfl)
theorem dX6_reads_16 : decode cX6_reads 16 = .ok (.iconst 1, 1) := dk_4 (dk_at dksX6_reads_0 16 rfl rfl)
theorem dX6_reads_17 : decode cX6_reads 17 = .ok (.iconst 3, 1) := dk_6 (dk_at dksX6_reads_0 17 rfl rfl)
theorem dX6_reads_18 : decode cX6_reads 18 = .ok (.invokevirtual 119, 3) := dk_182 0 119 (dk_at dksX6_reads_0 18 rfl rfl)
theorem dX6_reads_21 : decode cX6_reads 21 = .ok (.iastore, 1) := dk_79 (dk_at dksX6_reads_0 21 rfl rfl)
theorem dX6_reads_22 : decode cX6_reads 22 = .ok (.aload_n 0, 1) := dk_42 (dk_at dksX6_reads_0 22 rfl rfl)
theorem dX6_reads_23 : decode cX6_reads 23 = .ok (.ldc 143, 2) := dk_18 143 (dk_at dksX6_reads_1 0 rfl rfl)
theorem dX6_reads_25 : decode cX6_reads 25 = .ok (.invokevirtual 139, 3) := dk_182 0 139 (dk_at dksX6_reads_1 2 rfl rfl)
theorem dX6_reads_28 : decode cX6_reads 28 = .ok (.ifCond .eq 20, 3) := dk_153 0 20 (dk_at dksX6_reads_1 5 rfl rfl)
theorem dX6_reads_31 : decode cX6_reads 31 = .ok (.aload_n 0, 1) := dk_42 (dk_at dksX6_reads_1 8 rfl rfl)
theorem dX6_reads_32 : decode cX6_reads 32 = .ok (.invokevirtual 103, 3) := dk_182 0 103 (dk_at dksX6_reads_1 9 rfl rfl)
theorem dX6_reads_35 : decode cX6_reads 35 = .ok (.aload_n 0, 1) := dk_42 (dk_at dksX6_reads_1 12 rfl rfl)
theorem dX6_reads_36 : decode cX6_reads 36 = .ok (.getfield 7, 3) := dk_180 0 7 (dk_at dksX6_reads_1 13 rfl rfl)
theorem dX6_reads_39 : decode cX6_reads 39 = .ok (.iconst 2, 1) := dk_5 (dk_at dksX6_reads_1 16 rfl rfl)
theorem dX6_reads_40 : decode cX6_reads 40 = .ok (.aload_n 0, 1) := dk_42 (dk_at dksX6_reads_1 17 rfl rfl)
theorem dX6_reads_41 : decode cX6_reads 41 = .ok (.iconst 0, 1) := dk_3 (dk_at dksX6_reads_1 18 rfl rfl)
theorem dX6_reads_42 : decode cX6_reads 42 = .ok (.bipush 9, 2) := dk_16 9 (dk_at dksX6_reads_1 19 rfl rfl)
theorem dX6_reads_44 : decode cX6_reads 44 = .ok (.invokevirtual 119, 3) := dk_182 0 119 (dk_at dksX6_reads_1 21 rfl rfl)
theorem dX6_reads_47 : decode cX6_reads 47 = .ok (.iastore, 1) := dk_79 (dk_at dksX6_reads_2 0 rfl rfl)
theorem dX6_reads_48 : decode cX6_reads 48 = .ok (.aload_n 0, 1) := dk_42 (dk_at dksX6_reads_2 1 rfl rfl)
theorem dX6_reads_49 : decode cX6_reads 49 = .ok (.invokevirtual 116, 3) := dk_182 0 116 (dk_at dksX6_reads_2 2 rfl rfl)
theorem dX6_reads_52 : decode cX6_reads 52 = .ok (.aload_n 0, 1) := dk_42 (dk_at dksX6_reads_2 5 rfl rfl)
theorem dX6_reads_53 : decode cX6_reads 53 = .ok (.ldc 144, 2) := dk_18 144 (dk_at dksX6_reads_2 6 rfl rfl)
theorem dX6_reads_55 : decode cX6_reads 55 = .ok (.invokevirtual 139, 3) := dk_182 0 139 (dk_at dksX6_reads_2 8 rfl rfl)
theorem dX6_reads_58 : decode cX6_reads 58 = .ok (.ifCond .ne 9, 3) := dk_154 0 9 (dk_at dksX6_reads_2 11 rfl rfl)
theorem dX6_reads_61 : decode cX6_reads 61 = .ok (.aload_n 0, 1) := dk_42 (dk_at dksX6_reads_2 14 rfl rfl)
theorem dX6_reads_62 : decode cX6_reads 62 = .ok (.bipush (-2), 2) := dk_16 254 (dk_at dksX6_reads_2 15 rfl rfl)
theorem dX6_reads_64 : decode cX6_reads 64 = .ok (.invokevirtual 99, 3) := dk_182 0 99 (dk_at dksX6_reads_2 17 rfl rfl)
theorem dX6_reads_67 : decode cX6_reads 67 = .ok (.aload_n 0, 1) := dk_42 (dk_at dksX6_reads_2 20 rfl rfl)
theorem dX6_reads_68 : decode cX6_reads 68 = .ok (.ldc 144, 2) := dk_18 144 (dk_at dksX6_reads_2 21 rfl rfl)
theorem dX6_reads_70 : decode cX6_reads 70 = .ok (.invokevirtual 139, 3) := dk_182 0 139 (dk_at dksX6_reads_3 0 rfl rfl)
theorem dX6_reads_73 : decode cX6_reads 73 = .ok (.ifCond .eq 10, 3) := dk_153 0 10 (dk_at dksX6_reads_3 3 rfl rfl)
theorem dX6_reads_76 : decode cX6_reads 76 = .ok (.aload_n 0, 1) := dk_42 (dk_at dksX6_reads_3 6 rfl rfl)
theorem dX6_reads_77 : decode cX6_reads 77 = .ok (.invokevirtual 146, 3) := dk_182 0 146 (dk_at dksX6_reads_3 7 rfl rfl)
theorem dX6_reads_80 : decode cX6_reads 80 = .ok (.goto (-13), 3) := dk_167 255 243 (dk_at dksX6_reads_3 10 rfl rfl)
theorem dX6_reads_83 : decode cX6_reads 83 = .ok (.aload_n 0, 1) := dk_42 (dk_at dksX6_reads_3 13 rfl rfl)
theorem dX6_reads_84 : decode cX6_reads 84 = .ok (.ldc 149, 2) := dk_18 149 (dk_at dksX6_reads_3 14 rfl rfl)
theorem dX6_reads_86 : decode cX6_reads 86 = .ok (.invokevirtual 139, 3) := dk_182 0 139 (dk_at dksX6_reads_3 16 rfl rfl)
theorem dX6_reads_89 : decode cX6_reads 89 = .ok (.ifCond .eq 10, 3) := dk_153 0 10 (dk_at dksX6_reads_3 19 rfl rfl)
theorem dX6_reads_92 : decode cX6_reads 92 = .ok (.aload_n 0, 1) := dk_42 (dk_at dksX6_reads_3 22 rfl rfl)
theorem dX6_reads_93 : decode cX6_reads 93 = .ok (.invokevirtual 151, 3) := dk_182 0 151 (dk_at dksX6_reads_4 0 rfl rfl)
theorem dX6_reads_96 : decode cX6_reads 96 = .ok (.goto (-13), 3) := dk_167 255 243 (dk_at dksX6_reads_4 3 rfl rfl)
theorem dX6_reads_99 : decode cX6_reads 99 = .ok (.aload_n 0, 1) := dk_42 (dk_at dksX6_reads_4 6 rfl rfl)
theorem dX6_reads_100 : decode cX6_reads 100 = .ok (.ldc 154, 2) := dk_18 154 (dk_at dksX6_reads_4 7 rfl rfl)
theorem dX6_reads_102 : decode cX6_reads 102 = .ok (.invokevirtual 139, 3) := dk_182 0 139 (dk_at dksX6_reads_4 9 rfl rfl)
theorem dX6_reads_105 : decode cX6_reads 105 = .ok (.ifCond .ne 12, 3) := dk_154 0 12 (dk_at dksX6_reads_4 12 rfl rfl)
theorem dX6_reads_108 : decode cX6_reads 108 = .ok (.aload_n 0, 1) := dk_42 (dk_at dksX6_reads_4 15 rfl rfl)
theorem dX6_reads_109 : decode cX6_reads 109 = .ok (.ldc 156, 2) := dk_18 156 (dk_at dksX6_reads_4 16 rfl rfl)
theorem dX6_reads_111 : decode cX6_reads 111 = .ok (.invokevirtual 139, 3) := dk_182 0 139 (dk_at dksX6_reads_4 18 rfl rfl)
theorem dX6_reads_114 : decode cX6_reads 114 = .ok (.ifCond .eq 26, 3) := dk_153 0 26 (dk_at dksX6_reads_4 21 rfl rfl)
theorem dX6_reads_117 : decode cX6_reads 117 = .ok (.aload_n 0, 1) := dk_42 (dk_at dksX6_reads_5 0 rfl rfl)
theorem dX6_reads_118 : decode cX6_reads 118 = .ok (.ldc 154, 2) := dk_18 154 (dk_at dksX6_reads_5 1 rfl rfl)
theorem dX6_reads_120 : decode cX6_reads 120 = .ok (.invokevirtual 139, 3) := dk_182 0 139 (dk_at dksX6_reads_5 3 rfl rfl)
theorem dX6_reads_123 : decode cX6_reads 123 = .ok (.ifCond .eq 10, 3) := dk_153 0 10 (dk_at dksX6_reads_5 6 rfl rfl)
theorem dX6_reads_126 : decode cX6_reads 126 = .ok (.aload_n 0, 1) := dk_42 (dk_at dksX6_reads_5 9 rfl rfl)
theorem dX6_reads_127 : decode cX6_reads 127 = .ok (.invokevirtual 158, 3) := dk_182 0 158 (dk_at dksX6_reads_5 10 rfl rfl)
theorem dX6_reads_130 : decode cX6_reads 130 = .ok (.goto (-31), 3) := dk_167 255 225 (dk_at dksX6_reads_5 13 rfl rfl)
theorem dX6_reads_133 : decode cX6_reads 133 = .ok (.aload_n 0, 1) := dk_42 (dk_at dksX6_reads_5 16 rfl rfl)
theorem dX6_reads_134 : decode cX6_reads 134 = .ok (.invokevirtual 161, 3) := dk_182 0 161 (dk_at dksX6_reads_5 17 rfl rfl)
theorem dX6_reads_137 : decode cX6_reads 137 = .ok (.goto (-38), 3) := dk_167 255 218 (dk_at dksX6_reads_5 20 rfl rfl)
theorem dX6_reads_140 : decode cX6_reads 140 = .ok (.aload_n 0, 1) := dk_42 (dk_at dksX6_reads_5 23 rfl rfl)
theorem dX6_reads_141 : decode cX6_reads 141 = .ok (.getfield 83, 3) := dk_180 0 83 (dk_at dksX6_reads_6 0 rfl rfl)
theorem dX6_reads_144 : decode cX6_reads 144 = .ok (.ifCond .ne 17, 3) := dk_154 0 17 (dk_at dksX6_reads_6 3 rfl rfl)
theorem dX6_reads_147 : decode cX6_reads 147 = .ok (.aload_n 0, 1) := dk_42 (dk_at dksX6_reads_6 6 rfl rfl)
theorem dX6_reads_148 : decode cX6_reads 148 = .ok (.getfield 73, 3) := dk_180 0 73 (dk_at dksX6_reads_6 7 rfl rfl)
theorem dX6_reads_151 : decode cX6_reads 151 = .ok (.iconst 3, 1) := dk_6 (dk_at dksX6_reads_6 10 rfl rfl)
theorem dX6_reads_152 : decode cX6_reads 152 = .ok (.if_icmp .eq 9, 3) := dk_159 0 9 (dk_at dksX6_reads_6 11 rfl rfl)
theorem dX6_reads_155 : decode cX6_reads 155 = .ok (.aload_n 0, 1) := dk_42 (dk_at dksX6_reads_6 14 rfl rfl)
theorem dX6_reads_156 : decode cX6_reads 156 = .ok (.bipush (-2), 2) := dk_16 254 (dk_at dksX6_reads_6 15 rfl rfl)
theorem dX6_reads_158 : decode cX6_reads 158 = .ok (.invokevirtual 99, 3) := dk_182 0 99 (dk_at dksX6_reads_6 17 rfl rfl)
theorem dX6_reads_161 : decode cX6_reads 161 = .ok (.return_, 1) := dk_177 (dk_at dksX6_reads_6 20 rfl rfl)
abbrev cX6_isWord : ByteArray := prog_16_method_10_code
def yX6_isWord : MethodName := ⟨RX6, "isWord", "(Ljava/lang/String;)Z"⟩
def dkwX6_isWord_2 : List UInt8 := [180, 0, 66, 28, 96, 46, 43, 28, 182, 0, 92, 159, 0, 5, 3, 172, 132, 2, 1, 167, 255, 224, 4, 172]
abbrev dktX6_isWord_2 : List UInt8 := dkwX6_isWord_2 ++ []
def dkwX6_isWord_1 : List UInt8 := [182, 0, 86, 159, 0, 5, 3, 172, 3, 61, 28, 43, 182, 0, 86, 162, 0, 30, 42, 180, 0, 30, 42]
abbrev dktX6_isWord_1 : List UInt8 := dkwX6_isWord_1 ++ dktX6_isWord_2
def dkwX6_isWord_0 : List UInt8 := [42, 180, 0, 83, 154, 0, 26, 42, 180, 0, 73, 154, 0, 19, 42, 180, 0, 63, 42, 180, 0, 66, 100, 43]
abbrev dktX6_isWord_0 : List UInt8 := dkwX6_isWord_0 ++ dktX6_isWord_1
theorem dksX6_isWord_0 : cX6_isWord.data.toList.drop 0 = dktX6_isWord_0 := by decide +kernel
theorem dksX6_isWord_1 : cX6_isWord.data.toList.drop 24 = dktX6_isWord_1 := dk_seg dksX6_isWord_0 24 rfl rfl
theorem dksX6_isWord_2 : cX6_isWord.data.toList.drop 47 = dktX6_isWord_2 := dk_seg dksX6_isWord_1 23 rfl rfl
theorem dX6_isWord_0 : decode cX6_isWord 0 = .ok (.aload_n 0, 1) := dk_42 (dk_at dksX6_isWord_0 0 rfl rfl)
theorem dX6_isWord_1 : decode cX6_isWord 1 = .ok (.getfield 83, 3) := dk_180 0 83 (dk_at dksX6_isWord_0 1 rfl rfl)
theorem dX6_isWord_4 : decode cX6_isWord 4 = .ok (.ifCond .ne 26, 3) := dk_154 0 26 (dk_at dksX6_isWord_0 4 rfl rfl)
theorem dX6_isWord_7 : decode cX6_isWord 7 = .ok (.aload_n 0, 1) := dk_42 (dk_at dksX6_isWord_0 7 rfl rfl)
theorem dX6_isWord_8 : decode cX6_isWord 8 = .ok (.getfield 73, 3) := dk_180 0 73 (dk_at dksX6_isWord_0 8 rfl rfl)
theorem dX6_isWord_11 : decode cX6_isWord 11 = .ok (.ifCond .ne 19, 3) := dk_154 0 19 (dk_at dksX6_isWord_0 11 rfl rfl)
theorem dX6_isWord_14 : decode cX6_isWord 14 = .ok (.aload_n 0, 1) := dk_42 (dk_at dksX6_isWord_0 14 rfl rfl)
theorem dX6_isWord_15 : decode cX6_isWord 15 = .ok (.getfield 63, 3) := dk_180 0 63 (dk_at dksX6_isWord_0 15 rfl rfl)
theorem dX6_isWord_18 : decode cX6_isWord 18 = .ok (.aload_n 0, 1) := dk_42 (dk_at dksX6_isWord_0 18 rfl rfl)
theorem dX6_isWord_19 : decode cX6_isWord 19 = .ok (.getfield 66, 3) := dk_180 0 66 (dk_at dksX6_isWord_0 19 rfl rfl)
theorem dX6_isWord_22 : decode cX6_isWord 22 = .ok (.isub, 1) := dk_100 (dk_at dksX6_isWord_0 22 rfl rfl)
theorem dX6_isWord_23 : decode cX6_isWord 23 = .ok (.aload_n 1, 1) := dk_43 (dk_at dksX6_isWord_0 23 rfl rfl)
theorem dX6_isWord_24 : decode cX6_isWord 24 = .ok (.invokevirtual 86, 3) := dk_182 0 86 (dk_at dksX6_isWord_1 0 rfl rfl)
theorem dX6_isWord_27 : decode cX6_isWord 27 = .ok (.if_icmp .eq 5, 3) := dk_159 0 5 (dk_at dksX6_isWord_1 3 rfl rfl)
theorem dX6_isWord_30 : decode cX6_isWord 30 = .ok (.iconst 0, 1) := dk_3 (dk_at dksX6_isWord_1 6 rfl rfl)
theorem dX6_isWord_31 : decode cX6_isWord 31 = .ok (.ireturn, 1) := dk_172 (dk_at dksX6_isWord_1 7 rfl rfl)
theorem dX6_isWord_32 : decode cX6_isWord 32 = .ok (.iconst 0, 1) := dk_3 (dk_at dksX6_isWord_1 8 rfl rfl)
theorem dX6_isWord_33 : decode cX6_isWord 33 = .ok (.istore_n 2, 1) := dk_61 (dk_at dksX6_isWord_1 9 rfl rfl)
theorem dX6_isWord_34 : decode cX6_isWord 34 = .ok (.iload_n 2, 1) := dk_28 (dk_at dksX6_isWord_1 10 rfl rfl)
theorem dX6_isWord_35 : decode cX6_isWord 35 = .ok (.aload_n 1, 1) := dk_43 (dk_at dksX6_isWord_1 11 rfl rfl)
theorem dX6_isWord_36 : decode cX6_isWord 36 = .ok (.invokevirtual 86, 3) := dk_182 0 86 (dk_at dksX6_isWord_1 12 rfl rfl)
theorem dX6_isWord_39 : decode cX6_isWord 39 = .ok (.if_icmp .ge 30, 3) := dk_162 0 30 (dk_at dksX6_isWord_1 15 rfl rfl)
theorem dX6_isWord_42 : decode cX6_isWord 42 = .ok (.aload_n 0, 1) := dk_42 (dk_at dksX6_isWord_1 18 rfl rfl)
theorem dX6_isWord_43 : decode cX6_isWord 43 = .ok (.getfield 30, 3) := dk_180 0 30 (dk_at dksX6_isWord_1 19 rfl rfl)
theorem dX6_isWord_46 : decode cX6_isWord 46 = .ok (.aload_n 0, 1) := dk_42 (dk_at dksX6_isWord_1 22 rfl rfl)
theorem dX6_isWord_47 : decode cX6_isWord 47 = .ok (.getfield 66, 3) := dk_180 0 66 (dk_at dksX6_isWord_2 0 rfl rfl)
theorem dX6_isWord_50 : decode cX6_isWord 50 = .ok (.iload_n 2, 1) := dk_28 (dk_at dksX6_isWord_2 3 rfl rfl)
theorem dX6_isWord_51 : decode cX6_isWord 51 = .ok (.iadd, 1) := dk_96 (dk_at dksX6_isWord_2 4 rfl rfl)
theorem dX6_isWord_52 : decode cX6_isWord 52 = .ok (.iaload, 1) := dk_46 (dk_at dksX6_isWord_2 5 rfl rfl)
theorem dX6_isWord_53 : decode cX6_isWord 53 = .ok (.aload_n 1, 1) := dk_43 (dk_at dksX6_isWord_2 6 rfl rfl)
theorem dX6_isWord_54 : decode cX6_isWord 54 = .ok (.iload_n 2, 1) := dk_28 (dk_at dksX6_isWord_2 7 rfl rfl)
theorem dX6_isWord_55 : decode cX6_isWord 55 = .ok (.invokevirtual 92, 3) := dk_182 0 92 (dk_at dksX6_isWord_2 8 rfl rfl)
theorem dX6_isWord_58 : decode cX6_isWord 58 = .ok (.if_icmp .eq 5, 3) := dk_159 0 5 (dk_at dksX6_isWord_2 11 rfl rfl)
theorem dX6_isWord_61 : decode cX6_isWord 61 = .ok (.iconst 0, 1) := dk_3 (dk_at dksX6_isWord_2 14 rfl rfl)
theorem dX6_isWord_62 : decode cX6_isWord 62 = .ok (.ireturn, 1) := dk_172 (dk_at dksX6_isWord_2 15 rfl rfl)
theorem dX6_isWord_63 : decode cX6_isWord 63 = .ok (.iinc 2 1, 3) := dk_132 2 1 (dk_at dksX6_isWord_2 16 rfl rfl)
theorem dX6_isWord_66 : decode cX6_isWord 66 = .ok (.goto (-32), 3) := dk_167 255 224 (dk_at dksX6_isWord_2 19 rfl rfl)
theorem dX6_isWord_69 : decode cX6_isWord 69 = .ok (.iconst 1, 1) := dk_4 (dk_at dksX6_isWord_2 22 rfl rfl)
theorem dX6_isWord_70 : decode cX6_isWord 70 = .ok (.ireturn, 1) := dk_172 (dk_at dksX6_isWord_2 23 rfl rfl)
abbrev cX6_must : ByteArray := prog_16_method_12_code
def yX6_must : MethodName := ⟨RX6, "must", "(Z)V"⟩
def dkwX6_must_0 : List UInt8 := [27, 154, 0, 9, 42, 16, 254, 182, 0, 99, 42, 180, 0, 83, 154, 0, 7, 42, 182, 0, 103, 177]
abbrev dktX6_must_0 : List UInt8 := dkwX6_must_0 ++ []
theorem dksX6_must_0 : cX6_must.data.toList.drop 0 = dktX6_must_0 := by decide +kernel
theorem dX6_must_0 : decode cX6_must 0 = .ok (.iload_n 1, 1) := dk_27 (dk_at dksX6_must_0 0 rfl rfl)
theorem dX6_must_1 : decode cX6_must 1 = .ok (.ifCond .ne 9, 3) := dk_154 0 9 (dk_at dksX6_must_0 1 rfl rfl)
theorem dX6_must_4 : decode cX6_must 4 = .ok (.aload_n 0, 1) := dk_42 (dk_at dksX6_must_0 4 rfl rfl)
theorem dX6_must_5 : decode cX6_must 5 = .ok (.bipush (-2), 2) := dk_16 254 (dk_at dksX6_must_0 5 rfl rfl)
theorem dX6_must_7 : decode cX6_must 7 = .ok (.invokevirtual 99, 3) := dk_182 0 99 (dk_at dksX6_must_0 7 rfl rfl)
theorem dX6_must_10 : decode cX6_must 10 = .ok (.aload_n 0, 1) := dk_42 (dk_at dksX6_must_0 10 rfl rfl)
theorem dX6_must_11 : decode cX6_must 11 = .ok (.getfield 83, 3) := dk_180 0 83 (dk_at dksX6_must_0 11 rfl rfl)
theorem dX6_must_14 : decode cX6_must 14 = .ok (.ifCond .ne 7, 3) := dk_154 0 7 (dk_at dksX6_must_0 14 rfl rfl)
theorem dX6_must_17 : decode cX6_must 17 = .ok (.aload_n 0, 1) := dk_42 (dk_at dksX6_must_0 17 rfl rfl)
theorem dX6_must_18 : decode cX6_must 18 = .ok (.invokevirtual 103, 3) := dk_182 0 103 (dk_at dksX6_must_0 18 rfl rfl)
theorem dX6_must_21 : decode cX6_must 21 = .ok (.return_, 1) := dk_177 (dk_at dksX6_must_0 21 rfl rfl)
abbrev cX6_fails : ByteArray := prog_16_method_11_code
def yX6_fails : MethodName := ⟨RX6, "fails", "(I)V"⟩
def dkwX6_fails_0 : List UInt8 := [42, 180, 0, 83, 153, 0, 4, 177, 42, 27, 181, 0, 83, 42, 42, 180, 0, 66, 181, 0, 96, 177]
abbrev dktX6_fails_0 : List UInt8 := dkwX6_fails_0 ++ []
theorem dksX6_fails_0 : cX6_fails.data.toList.drop 0 = dktX6_fails_0 := by decide +kernel
theorem dX6_fails_0 : decode cX6_fails 0 = .ok (.aload_n 0, 1) := dk_42 (dk_at dksX6_fails_0 0 rfl rfl)
theorem dX6_fails_1 : decode cX6_fails 1 = .ok (.getfield 83, 3) := dk_180 0 83 (dk_at dksX6_fails_0 1 rfl rfl)
theorem dX6_fails_4 : decode cX6_fails 4 = .ok (.ifCond .eq 4, 3) := dk_153 0 4 (dk_at dksX6_fails_0 4 rfl rfl)
theorem dX6_fails_7 : decode cX6_fails 7 = .ok (.return_, 1) := dk_177 (dk_at dksX6_fails_0 7 rfl rfl)
theorem dX6_fails_8 : decode cX6_fails 8 = .ok (.aload_n 0, 1) := dk_42 (dk_at dksX6_fails_0 8 rfl rfl)
theorem dX6_fails_9 : decode cX6_fails 9 = .ok (.iload_n 1, 1) := dk_27 (dk_at dksX6_fails_0 9 rfl rfl)
theorem dX6_fails_10 : decode cX6_fails 10 = .ok (.putfield 83, 3) := dk_181 0 83 (dk_at dksX6_fails_0 10 rfl rfl)
theorem dX6_fails_13 : decode cX6_fails 13 = .ok (.aload_n 0, 1) := dk_42 (dk_at dksX6_fails_0 13 rfl rfl)
theorem dX6_fails_14 : decode cX6_fails 14 = .ok (.aload_n 0, 1) := dk_42 (dk_at dksX6_fails_0 14 rfl rfl)
theorem dX6_fails_15 : decode cX6_fails 15 = .ok (.getfield 66, 3) := dk_180 0 66 (dk_at dksX6_fails_0 15 rfl rfl)
theorem dX6_fails_18 : decode cX6_fails 18 = .ok (.putfield 96, 3) := dk_181 0 96 (dk_at dksX6_fails_0 18 rfl rfl)
theorem dX6_fails_21 : decode cX6_fails 21 = .ok (.return_, 1) := dk_177 (dk_at dksX6_fails_0 21 rfl rfl)
abbrev cX6_takes : ByteArray := prog_16_method_13_code
def yX6_takes : MethodName := ⟨RX6, "takes", "(II)I"⟩
def dkwX6_takes_3 : List UInt8 := [154, 0, 7, 42, 182, 0, 103, 29, 172]
abbrev dktX6_takes_3 : List UInt8 := dkwX6_takes_3 ++ []
def dkwX6_takes_2 : List UInt8 := [182, 0, 99, 42, 180, 0, 83, 154, 0, 10, 42, 180, 0, 80, 167, 0, 4, 3, 62, 42, 180, 0, 83]
abbrev dktX6_takes_2 : List UInt8 := dkwX6_takes_2 ++ dktX6_takes_3
def dkwX6_takes_1 : List UInt8 := [42, 180, 0, 83, 154, 0, 21, 42, 180, 0, 80, 27, 28, 184, 0, 76, 154, 0, 9, 42, 16, 253]
abbrev dktX6_takes_1 : List UInt8 := dkwX6_takes_1 ++ dktX6_takes_2
def dkwX6_takes_0 : List UInt8 := [42, 180, 0, 83, 154, 0, 20, 42, 180, 0, 73, 4, 159, 0, 12, 42, 16, 254, 182, 0, 99, 167, 0, 28]
abbrev dktX6_takes_0 : List UInt8 := dkwX6_takes_0 ++ dktX6_takes_1
theorem dksX6_takes_0 : cX6_takes.data.toList.drop 0 = dktX6_takes_0 := by decide +kernel
theorem dksX6_takes_1 : cX6_takes.data.toList.drop 24 = dktX6_takes_1 := dk_seg dksX6_takes_0 24 rfl rfl
theorem dksX6_takes_2 : cX6_takes.data.toList.drop 46 = dktX6_takes_2 := dk_seg dksX6_takes_1 22 rfl rfl
theorem dksX6_takes_3 : cX6_takes.data.toList.drop 69 = dktX6_takes_3 := dk_seg dksX6_takes_2 23 rfl rfl
theorem dX6_takes_0 : decode cX6_takes 0 = .ok (.aload_n 0, 1) := dk_42 (dk_at dksX6_takes_0 0 rfl rfl)
theorem dX6_takes_1 : decode cX6_takes 1 = .ok (.getfield 83, 3) := dk_180 0 83 (dk_at dksX6_takes_0 1 rfl rfl)
theorem dX6_takes_4 : decode cX6_takes 4 = .ok (.ifCond .ne 20, 3) := dk_154 0 20 (dk_at dksX6_takes_0 4 rfl rfl)
theorem dX6_takes_7 : decode cX6_takes 7 = .ok (.aload_n 0, 1) := dk_42 (dk_at dksX6_takes_0 7 rfl rfl)
theorem dX6_takes_8 : decode cX6_takes 8 = .ok (.getfield 73, 3) := dk_180 0 73 (dk_at dksX6_takes_0 8 rfl rfl)
theorem dX6_takes_11 : decode cX6_takes 11 = .ok (.iconst 1, 1) := dk_4 (dk_at dksX6_takes_0 11 rfl rfl)
theorem dX6_takes_12 : decode cX6_takes 12 = .ok (.if_icmp .eq 12, 3) := dk_159 0 12 (dk_at dksX6_takes_0 12 rfl rfl)
theorem dX6_takes_15 : decode cX6_takes 15 = .ok (.aload_n 0, 1) := dk_42 (dk_at dksX6_takes_0 15 rfl rfl)
theorem dX6_takes_16 : decode cX6_takes 16 = .ok (.bipush (-2), 2) := dk_16 254 (dk_at dksX6_takes_0 16 rfl rfl)
theorem dX6_takes_18 : decode cX6_takes 18 = .ok (.invokevirtual 99, 3) := dk_182 0 99 (dk_at dksX6_takes_0 18 rfl rfl)
theorem dX6_takes_21 : decode cX6_takes 21 = .ok (.goto 28, 3) := dk_167 0 28 (dk_at dksX6_takes_0 21 rfl rfl)
theorem dX6_takes_24 : decode cX6_takes 24 = .ok (.aload_n 0, 1) := dk_42 (dk_at dksX6_takes_1 0 rfl rfl)
theorem dX6_takes_25 : decode cX6_takes 25 = .ok (.getfield 83, 3) := dk_180 0 83 (dk_at dksX6_takes_1 1 rfl rfl)
theorem dX6_takes_28 : decode cX6_takes 28 = .ok (.ifCond .ne 21, 3) := dk_154 0 21 (dk_at dksX6_takes_1 4 rfl rfl)
theorem dX6_takes_31 : decode cX6_takes 31 = .ok (.aload_n 0, 1) := dk_42 (dk_at dksX6_takes_1 7 rfl rfl)
theorem dX6_takes_32 : decode cX6_takes 32 = .ok (.getfield 80, 3) := dk_180 0 80 (dk_at dksX6_takes_1 8 rfl rfl)
theorem dX6_takes_35 : decode cX6_takes 35 = .ok (.iload_n 1, 1) := dk_27 (dk_at dksX6_takes_1 11 rfl rfl)
theorem dX6_takes_36 : decode cX6_takes 36 = .ok (.iload_n 2, 1) := dk_28 (dk_at dksX6_takes_1 12 rfl rfl)
theorem dX6_takes_37 : decode cX6_takes 37 = .ok (.invokestatic 76, 3) := dk_184 0 76 (dk_at dksX6_takes_1 13 rfl rfl)
theorem dX6_takes_40 : decode cX6_takes 40 = .ok (.ifCond .ne 9, 3) := dk_154 0 9 (dk_at dksX6_takes_1 16 rfl rfl)
theorem dX6_takes_43 : decode cX6_takes 43 = .ok (.aload_n 0, 1) := dk_42 (dk_at dksX6_takes_1 19 rfl rfl)
theorem dX6_takes_44 : decode cX6_takes 44 = .ok (.bipush (-3), 2) := dk_16 253 (dk_at dksX6_takes_1 20 rfl rfl)
theorem dX6_takes_46 : decode cX6_takes 46 = .ok (.invokevirtual 99, 3) := dk_182 0 99 (dk_at dksX6_takes_2 0 rfl rfl)
theorem dX6_takes_49 : decode cX6_takes 49 = .ok (.aload_n 0, 1) := dk_42 (dk_at dksX6_takes_2 3 rfl rfl)
theorem dX6_takes_50 : decode cX6_takes 50 = .ok (.getfield 83, 3) := dk_180 0 83 (dk_at dksX6_takes_2 4 rfl rfl)
theorem dX6_takes_53 : decode cX6_takes 53 = .ok (.ifCond .ne 10, 3) := dk_154 0 10 (dk_at dksX6_takes_2 7 rfl rfl)
theorem dX6_takes_56 : decode cX6_takes 56 = .ok (.aload_n 0, 1) := dk_42 (dk_at dksX6_takes_2 10 rfl rfl)
theorem dX6_takes_57 : decode cX6_takes 57 = .ok (.getfield 80, 3) := dk_180 0 80 (dk_at dksX6_takes_2 11 rfl rfl)
theorem dX6_takes_60 : decode cX6_takes 60 = .ok (.goto 4, 3) := dk_167 0 4 (dk_at dksX6_takes_2 14 rfl rfl)
theorem dX6_takes_63 : decode cX6_takes 63 = .ok (.iconst 0, 1) := dk_3 (dk_at dksX6_takes_2 17 rfl rfl)
theorem dX6_takes_64 : decode cX6_takes 64 = .ok (.istore_n 3, 1) := dk_62 (dk_at dksX6_takes_2 18 rfl rfl)
theorem dX6_takes_65 : decode cX6_takes 65 = .ok (.aload_n 0, 1) := dk_42 (dk_at dksX6_takes_2 19 rfl rfl)
theorem dX6_takes_66 : decode cX6_takes 66 = .ok (.getfield 83, 3) := dk_180 0 83 (dk_at dksX6_takes_2 20 rfl rfl)
theorem dX6_takes_69 : decode cX6_takes 69 = .ok (.ifCond .ne 7, 3) := dk_154 0 7 (dk_at dksX6_takes_3 0 rfl rfl)
theorem dX6_takes_72 : decode cX6_takes 72 = .ok (.aload_n 0, 1) := dk_42 (dk_at dksX6_takes_3 3 rfl rfl)
theorem dX6_takes_73 : decode cX6_takes 73 = .ok (.invokevirtual 103, 3) := dk_182 0 103 (dk_at dksX6_takes_3 4 rfl rfl)
theorem dX6_takes_76 : decode cX6_takes 76 = .ok (.iload_n 3, 1) := dk_29 (dk_at dksX6_takes_3 7 rfl rfl)
theorem dX6_takes_77 : decode cX6_takes 77 = .ok (.ireturn, 1) := dk_172 (dk_at dksX6_takes_3 8 rfl rfl)
abbrev cX6_mustEnd : ByteArray := prog_16_method_14_code
def yX6_mustEnd : MethodName := ⟨RX6, "mustEnd", "()V"⟩
def dkwX6_mustEnd_1 : List UInt8 := [167, 0, 4, 3, 182, 0, 106, 177]
abbrev dktX6_mustEnd_1 : List UInt8 := dkwX6_mustEnd_1 ++ []
def dkwX6_mustEnd_0 : List UInt8 := [42, 42, 180, 0, 73, 5, 160, 0, 20, 42, 42, 180, 0, 66, 182, 0, 69, 16, 59, 160, 0, 7, 4]
abbrev dktX6_mustEnd_0 : List UInt8 := dkwX6_mustEnd_0 ++ dktX6_mustEnd_1
theorem dksX6_mustEnd_0 : cX6_mustEnd.data.toList.drop 0 = dktX6_mustEnd_0 := by decide +kernel
theorem dksX6_mustEnd_1 : cX6_mustEnd.data.toList.drop 23 = dktX6_mustEnd_1 := dk_seg dksX6_mustEnd_0 23 rfl rfl
theorem dX6_mustEnd_0 : decode cX6_mustEnd 0 = .ok (.aload_n 0, 1) := dk_42 (dk_at dksX6_mustEnd_0 0 rfl rfl)
theorem dX6_mustEnd_1 : decode cX6_mustEnd 1 = .ok (.aload_n 0, 1) := dk_42 (dk_at dksX6_mustEnd_0 1 rfl rfl)
theorem dX6_mustEnd_2 : decode cX6_mustEnd 2 = .ok (.getfield 73, 3) := dk_180 0 73 (dk_at dksX6_mustEnd_0 2 rfl rfl)
theorem dX6_mustEnd_5 : decode cX6_mustEnd 5 = .ok (.iconst 2, 1) := dk_5 (dk_at dksX6_mustEnd_0 5 rfl rfl)
theorem dX6_mustEnd_6 : decode cX6_mustEnd 6 = .ok (.if_icmp .ne 20, 3) := dk_160 0 20 (dk_at dksX6_mustEnd_0 6 rfl rfl)
theorem dX6_mustEnd_9 : decode cX6_mustEnd 9 = .ok (.aload_n 0, 1) := dk_42 (dk_at dksX6_mustEnd_0 9 rfl rfl)
theorem dX6_mustEnd_10 : decode cX6_mustEnd 10 = .ok (.aload_n 0, 1) := dk_42 (dk_at dksX6_mustEnd_0 10 rfl rfl)
theorem dX6_mustEnd_11 : decode cX6_mustEnd 11 = .ok (.getfield 66, 3) := dk_180 0 66 (dk_at dksX6_mustEnd_0 11 rfl rfl)
theorem dX6_mustEnd_14 : decode cX6_mustEnd 14 = .ok (.invokevirtual 69, 3) := dk_182 0 69 (dk_at dksX6_mustEnd_0 14 rfl rfl)
theorem dX6_mustEnd_17 : decode cX6_mustEnd 17 = .ok (.bipush 59, 2) := dk_16 59 (dk_at dksX6_mustEnd_0 17 rfl rfl)
theorem dX6_mustEnd_19 : decode cX6_mustEnd 19 = .ok (.if_icmp .ne 7, 3) := dk_160 0 7 (dk_at dksX6_mustEnd_0 19 rfl rfl)
theorem dX6_mustEnd_22 : decode cX6_mustEnd 22 = .ok (.iconst 1, 1) := dk_4 (dk_at dksX6_mustEnd_0 22 rfl rfl)
theorem dX6_mustEnd_23 : decode cX6_mustEnd 23 = .ok (.goto 4, 3) := dk_167 0 4 (dk_at dksX6_mustEnd_1 0 rfl rfl)
theorem dX6_mustEnd_26 : decode cX6_mustEnd 26 = .ok (.iconst 0, 1) := dk_3 (dk_at dksX6_mustEnd_1 3 rfl rfl)
theorem dX6_mustEnd_27 : decode cX6_mustEnd 27 = .ok (.invokevirtual 106, 3) := dk_182 0 106 (dk_at dksX6_mustEnd_1 4 rfl rfl)
theorem dX6_mustEnd_30 : decode cX6_mustEnd 30 = .ok (.return_, 1) := dk_177 (dk_at dksX6_mustEnd_1 7 rfl rfl)
abbrev cX6_readsVertex : ByteArray := prog_16_method_17_code
def yX6_readsVertex : MethodName := ⟨RX6, "readsVertex", "()V"⟩
def dkwX6_readsVertex_5 : List UInt8 := [46, 4, 96, 79, 177]
abbrev dktX6_readsVertex_5 : List UInt8 := dkwX6_readsVertex_5 ++ []
def dkwX6_readsVertex_4 : List UInt8 := [153, 0, 4, 177, 42, 180, 0, 7, 7, 42, 180, 0, 7, 3, 46, 96, 27, 79, 42, 180, 0, 7, 3, 92]
abbrev dktX6_readsVertex_4 : List UInt8 := dkwX6_readsVertex_4 ++ dktX6_readsVertex_5
def dkwX6_readsVertex_3 : List UInt8 := [182, 0, 99, 42, 180, 0, 83, 154, 0, 7, 42, 182, 0, 103, 42, 182, 0, 116, 42, 180, 0, 83]
abbrev dktX6_readsVertex_3 : List UInt8 := dkwX6_readsVertex_3 ++ dktX6_readsVertex_4
def dkwX6_readsVertex_2 : List UInt8 := [154, 0, 36, 42, 180, 0, 73, 154, 0, 29, 42, 182, 0, 113, 60, 27, 154, 0, 9, 42, 16, 253]
abbrev dktX6_readsVertex_2 : List UInt8 := dkwX6_readsVertex_2 ++ dktX6_readsVertex_3
def dkwX6_readsVertex_1 : List UInt8 := [182, 0, 99, 42, 4, 182, 0, 106, 4, 42, 180, 0, 7, 4, 46, 120, 4, 100, 60, 42, 180, 0, 83]
abbrev dktX6_readsVertex_1 : List UInt8 := dkwX6_readsVertex_1 ++ dktX6_readsVertex_2
def dkwX6_readsVertex_0 : List UInt8 := [42, 180, 0, 7, 3, 46, 16, 9, 159, 0, 13, 42, 182, 0, 110, 17, 78, 32, 164, 0, 9, 42, 16, 250]
abbrev dktX6_readsVertex_0 : List UInt8 := dkwX6_readsVertex_0 ++ dktX6_readsVertex_1
theorem dksX6_readsVertex_0 : cX6_readsVertex.data.toList.drop 0 = dktX6_readsVertex_0 := by decide +kernel
theorem dksX6_readsVertex_1 : cX6_readsVertex.data.toList.drop 24 = dktX6_readsVertex_1 := dk_seg dksX6_readsVertex_0 24 rfl rfl
theorem dksX6_readsVertex_2 : cX6_readsVertex.data.toList.drop 47 = dktX6_readsVertex_2 := dk_seg dksX6_readsVertex_1 23 rfl rfl
theorem dksX6_readsVertex_3 : cX6_readsVertex.data.toList.drop 69 = dktX6_readsVertex_3 := dk_seg dksX6_readsVertex_2 22 rfl rfl
theorem dksX6_readsVertex_4 : cX6_readsVertex.data.toList.drop 91 = dktX6_readsVertex_4 := dk_seg dksX6_readsVertex_3 22 rfl rfl
theorem dksX6_readsVertex_5 : cX6_readsVertex.data.toList.drop 115 = dktX6_readsVertex_5 := dk_seg dksX6_readsVertex_4 24 rfl rfl
theorem dX6_readsVertex_0 : decode cX6_readsVertex 0 = .ok (.aload_n 0, 1) := dk_42 (dk_at dksX6_readsVertex_0 0 rfl rfl)
theorem dX6_readsVertex_1 : decode cX6_readsVertex 1 = .ok (.getfield 7, 3) := dk_180 0 7 (dk_at dksX6_readsVertex_0 1 rfl rfl)
theorem dX6_readsVertex_4 : decode cX6_readsVertex 4 = .ok (.iconst 0, 1) := dk_3 (dk_at dksX6_readsVertex_0 4 rfl rfl)
theorem dX6_readsVertex_5 : decode cX6_readsVertex 5 = .ok (.iaload, 1) := dk_46 (dk_at dksX6_readsVertex_0 5 rfl rfl)
theorem dX6_readsVertex_6 : decode cX6_readsVertex 6 = .ok (.bipush 9, 2) := dk_16 9 (dk_at dksX6_readsVertex_0 6 rfl rfl)
theorem dX6_readsVertex_8 : decode cX6_readsVertex 8 = .ok (.if_icmp .eq 13, 3) := dk_159 0 13 (dk_at dksX6_readsVertex_0 8 rfl rfl)
theorem dX6_readsVertex_11 : decode cX6_readsVertex 11 = .ok (.aload_n 0, 1) := dk_42 (dk_at dksX6_readsVertex_0 11 rfl rfl)
theorem dX6_readsVertex_12 : decode cX6_readsVertex 12 = .ok (.invokevirtual 110, 3) := dk_182 0 110 (dk_at dksX6_readsVertex_0 12 rfl rfl)
theorem dX6_readsVertex_15 : decode cX6_readsVertex 15 = .ok (.sipush 20000, 3) := dk_17 78 32 (dk_at dksX6_readsVertex_0 15 rfl rfl)
theorem dX6_readsVertex_18 : decode cX6_readsVertex 18 = .ok (.if_icmp .le 9, 3) := dk_164 0 9 (dk_at dksX6_readsVertex_0 18 rfl rfl)
theorem dX6_readsVertex_21 : decode cX6_readsVertex 21 = .ok (.aload_n 0, 1) := dk_42 (dk_at dksX6_readsVertex_0 21 rfl rfl)
theorem dX6_readsVertex_22 : decode cX6_readsVertex 22 = .ok (.bipush (-6), 2) := dk_16 250 (dk_at dksX6_readsVertex_0 22 rfl rfl)
theorem dX6_readsVertex_24 : decode cX6_readsVertex 24 = .ok (.invokevirtual 99, 3) := dk_182 0 99 (dk_at dksX6_readsVertex_1 0 rfl rfl)
theorem dX6_readsVertex_27 : decode cX6_readsVertex 27 = .ok (.aload_n 0, 1) := dk_42 (dk_at dksX6_readsVertex_1 3 rfl rfl)
theorem dX6_readsVertex_28 : decode cX6_readsVertex 28 = .ok (.iconst 1, 1) := dk_4 (dk_at dksX6_readsVertex_1 4 rfl rfl)
theorem dX6_readsVertex_29 : decode cX6_readsVertex 29 = .ok (.invokevirtual 106, 3) := dk_182 0 106 (dk_at dksX6_readsVertex_1 5 rfl rfl)
theorem dX6_readsVertex_32 : decode cX6_readsVertex 32 = .ok (.iconst 1, 1) := dk_4 (dk_at dksX6_readsVertex_1 8 rfl rfl)
theorem dX6_readsVertex_33 : decode cX6_readsVertex 33 = .ok (.aload_n 0, 1) := dk_42 (dk_at dksX6_readsVertex_1 9 rfl rfl)
theorem dX6_readsVertex_34 : decode cX6_readsVertex 34 = .ok (.getfield 7, 3) := dk_180 0 7 (dk_at dksX6_readsVertex_1 10 rfl rfl)
theorem dX6_readsVertex_37 : decode cX6_readsVertex 37 = .ok (.iconst 1, 1) := dk_4 (dk_at dksX6_readsVertex_1 13 rfl rfl)
theorem dX6_readsVertex_38 : decode cX6_readsVertex 38 = .ok (.iaload, 1) := dk_46 (dk_at dksX6_readsVertex_1 14 rfl rfl)
theorem dX6_readsVertex_39 : decode cX6_readsVertex 39 = .ok (.ishl, 1) := dk_120 (dk_at dksX6_readsVertex_1 15 rfl rfl)
theorem dX6_readsVertex_40 : decode cX6_readsVertex 40 = .ok (.iconst 1, 1) := dk_4 (dk_at dksX6_readsVertex_1 16 rfl rfl)
theorem dX6_readsVertex_41 : decode cX6_readsVertex 41 = .ok (.isub, 1) := dk_100 (dk_at dksX6_readsVertex_1 17 rfl rfl)
theorem dX6_readsVertex_42 : decode cX6_readsVertex 42 = .ok (.istore_n 1, 1) := dk_60 (dk_at dksX6_readsVertex_1 18 rfl rfl)
theorem dX6_readsVertex_43 : decode cX6_readsVertex 43 = .ok (.aload_n 0, 1) := dk_42 (dk_at dksX6_readsVertex_1 19 rfl rfl)
theorem dX6_readsVertex_44 : decode cX6_readsVertex 44 = .ok (.getfield 83, 3) := dk_180 0 83 (dk_at dksX6_readsVertex_1 20 rfl rfl)
theorem dX6_readsVertex_47 : decode cX6_readsVertex 47 = .ok (.ifCond .ne 36, 3) := dk_154 0 36 (dk_at dksX6_readsVertex_2 0 rfl rfl)
theorem dX6_readsVertex_50 : decode cX6_readsVertex 50 = .ok (.aload_n 0, 1) := dk_42 (dk_at dksX6_readsVertex_2 3 rfl rfl)
theorem dX6_readsVertex_51 : decode cX6_readsVertex 51 = .ok (.getfield 73, 3) := dk_180 0 73 (dk_at dksX6_readsVertex_2 4 rfl rfl)
theorem dX6_readsVertex_54 : decode cX6_readsVertex 54 = .ok (.ifCond .ne 29, 3) := dk_154 0 29 (dk_at dksX6_readsVertex_2 7 rfl rfl)
theorem dX6_readsVertex_57 : decode cX6_readsVertex 57 = .ok (.aload_n 0, 1) := dk_42 (dk_at dksX6_readsVertex_2 10 rfl rfl)
theorem dX6_readsVertex_58 : decode cX6_readsVertex 58 = .ok (.invokevirtual 113, 3) := dk_182 0 113 (dk_at dksX6_readsVertex_2 11 rfl rfl)
theorem dX6_readsVertex_61 : decode cX6_readsVertex 61 = .ok (.istore_n 1, 1) := dk_60 (dk_at dksX6_readsVertex_2 14 rfl rfl)
theorem dX6_readsVertex_62 : decode cX6_readsVertex 62 = .ok (.iload_n 1, 1) := dk_27 (dk_at dksX6_readsVertex_2 15 rfl rfl)
theorem dX6_readsVertex_63 : decode cX6_readsVertex 63 = .ok (.ifCond .ne 9, 3) := dk_154 0 9 (dk_at dksX6_readsVertex_2 16 rfl rfl)
theorem dX6_readsVertex_66 : decode cX6_readsVertex 66 = .ok (.aload_n 0, 1) := dk_42 (dk_at dksX6_readsVertex_2 19 rfl rfl)
theorem dX6_readsVertex_67 : decode cX6_readsVertex 67 = .ok (.bipush (-3), 2) := dk_16 253 (dk_at dksX6_readsVertex_2 20 rfl rfl)
theorem dX6_readsVertex_69 : decode cX6_readsVertex 69 = .ok (.invokevirtual 99, 3) := dk_182 0 99 (dk_at dksX6_readsVertex_3 0 rfl rfl)
theorem dX6_readsVertex_72 : decode cX6_readsVertex 72 = .ok (.aload_n 0, 1) := dk_42 (dk_at dksX6_readsVertex_3 3 rfl rfl)
theorem dX6_readsVertex_73 : decode cX6_readsVertex 73 = .ok (.getfield 83, 3) := dk_180 0 83 (dk_at dksX6_readsVertex_3 4 rfl rfl)
theorem dX6_readsVertex_76 : decode cX6_readsVertex 76 = .ok (.ifCond .ne 7, 3) := dk_154 0 7 (dk_at dksX6_readsVertex_3 7 rfl rfl)
theorem dX6_readsVertex_79 : decode cX6_readsVertex 79 = .ok (.aload_n 0, 1) := dk_42 (dk_at dksX6_readsVertex_3 10 rfl rfl)
theorem dX6_readsVertex_80 : decode cX6_readsVertex 80 = .ok (.invokevirtual 103, 3) := dk_182 0 103 (dk_at dksX6_readsVertex_3 11 rfl rfl)
theorem dX6_readsVertex_83 : decode cX6_readsVertex 83 = .ok (.aload_n 0, 1) := dk_42 (dk_at dksX6_readsVertex_3 14 rfl rfl)
theorem dX6_readsVertex_84 : decode cX6_readsVertex 84 = .ok (.invokevirtual 116, 3) := dk_182 0 116 (dk_at dksX6_readsVertex_3 15 rfl rfl)
theorem dX6_readsVertex_87 : decode cX6_readsVertex 87 = .ok (.aload_n 0, 1) := dk_42 (dk_at dksX6_readsVertex_3 18 rfl rfl)
theorem dX6_readsVertex_88 : decode cX6_readsVertex 88 = .ok (.getfield 83, 3) := dk_180 0 83 (dk_at dksX6_readsVertex_3 19 rfl rfl)
theorem dX6_readsVertex_91 : decode cX6_readsVertex 91 = .ok (.ifCond .eq 4, 3) := dk_153 0 4 (dk_at dksX6_readsVertex_4 0 rfl rfl)
theorem dX6_readsVertex_94 : decode cX6_readsVertex 94 = .ok (.return_, 1) := dk_177 (dk_at dksX6_readsVertex_4 3 rfl rfl)
theorem dX6_readsVertex_95 : decode cX6_readsVertex 95 = .ok (.aload_n 0, 1) := dk_42 (dk_at dksX6_readsVertex_4 4 rfl rfl)
theorem dX6_readsVertex_96 : decode cX6_readsVertex 96 = .ok (.getfield 7, 3) := dk_180 0 7 (dk_at dksX6_readsVertex_4 5 rfl rfl)
theorem dX6_readsVertex_99 : decode cX6_readsVertex 99 = .ok (.iconst 4, 1) := dk_7 (dk_at dksX6_readsVertex_4 8 rfl rfl)
theorem dX6_readsVertex_100 : decode cX6_readsVertex 100 = .ok (.aload_n 0, 1) := dk_42 (dk_at dksX6_readsVertex_4 9 rfl rfl)
theorem dX6_readsVertex_101 : decode cX6_readsVertex 101 = .ok (.getfield 7, 3) := dk_180 0 7 (dk_at dksX6_readsVertex_4 10 rfl rfl)
theorem dX6_readsVertex_104 : decode cX6_readsVertex 104 = .ok (.iconst 0, 1) := dk_3 (dk_at dksX6_readsVertex_4 13 rfl rfl)
theorem dX6_readsVertex_105 : decode cX6_readsVertex 105 = .ok (.iaload, 1) := dk_46 (dk_at dksX6_readsVertex_4 14 rfl rfl)
theorem dX6_readsVertex_106 : decode cX6_readsVertex 106 = .ok (.iadd, 1) := dk_96 (dk_at dksX6_readsVertex_4 15 rfl rfl)
theorem dX6_readsVertex_107 : decode cX6_readsVertex 107 = .ok (.iload_n 1, 1) := dk_27 (dk_at dksX6_readsVertex_4 16 rfl rfl)
theorem dX6_readsVertex_108 : decode cX6_readsVertex 108 = .ok (.iastore, 1) := dk_79 (dk_at dksX6_readsVertex_4 17 rfl rfl)
theorem dX6_readsVertex_109 : decode cX6_readsVertex 109 = .ok (.aload_n 0, 1) := dk_42 (dk_at dksX6_readsVertex_4 18 rfl rfl)
theorem dX6_readsVertex_110 : decode cX6_readsVertex 110 = .ok (.getfield 7, 3) := dk_180 0 7 (dk_at dksX6_readsVertex_4 19 rfl rfl)
theorem dX6_readsVertex_113 : decode cX6_readsVertex 113 = .ok (.iconst 0, 1) := dk_3 (dk_at dksX6_readsVertex_4 22 rfl rfl)
theorem dX6_readsVertex_114 : decode cX6_readsVertex 114 = .ok (.dup2, 1) := dk_92 (dk_at dksX6_readsVertex_4 23 rfl rfl)
theorem dX6_readsVertex_115 : decode cX6_readsVertex 115 = .ok (.iaload, 1) := dk_46 (dk_at dksX6_readsVertex_5 0 rfl rfl)
theorem dX6_readsVertex_116 : decode cX6_readsVertex 116 = .ok (.iconst 1, 1) := dk_4 (dk_at dksX6_readsVertex_5 1 rfl rfl)
theorem dX6_readsVertex_117 : decode cX6_readsVertex 117 = .ok (.iadd, 1) := dk_96 (dk_at dksX6_readsVertex_5 2 rfl rfl)
theorem dX6_readsVertex_118 : decode cX6_readsVertex 118 = .ok (.iastore, 1) := dk_79 (dk_at dksX6_readsVertex_5 3 rfl rfl)
theorem dX6_readsVertex_119 : decode cX6_readsVertex 119 = .ok (.return_, 1) := dk_177 (dk_at dksX6_readsVertex_5 4 rfl rfl)
abbrev cX6_colouringsNext : ByteArray := prog_16_method_16_code
def yX6_colouringsNext : MethodName := ⟨RX6, "colouringsNext", "()I"⟩
def dkwX6_colouringsNext_1 : List UInt8 := [60, 132, 2, 1, 167, 255, 232, 27, 172]
abbrev dktX6_colouringsNext_1 : List UInt8 := dkwX6_colouringsNext_1 ++ []
def dkwX6_colouringsNext_0 : List UInt8 := [4, 60, 3, 61, 28, 42, 180, 0, 7, 3, 46, 163, 0, 20, 27, 42, 180, 0, 7, 4, 46, 4, 96, 104]
abbrev dktX6_colouringsNext_0 : List UInt8 := dkwX6_colouringsNext_0 ++ dktX6_colouringsNext_1
theorem dksX6_colouringsNext_0 : cX6_colouringsNext.data.toList.drop 0 = dktX6_colouringsNext_0 := by decide +kernel
theorem dksX6_colouringsNext_1 : cX6_colouringsNext.data.toList.drop 24 = dktX6_colouringsNext_1 := dk_seg dksX6_colouringsNext_0 24 rfl rfl
theorem dX6_colouringsNext_0 : decode cX6_colouringsNext 0 = .ok (.iconst 1, 1) := dk_4 (dk_at dksX6_colouringsNext_0 0 rfl rfl)
theorem dX6_colouringsNext_1 : decode cX6_colouringsNext 1 = .ok (.istore_n 1, 1) := dk_60 (dk_at dksX6_colouringsNext_0 1 rfl rfl)
theorem dX6_colouringsNext_2 : decode cX6_colouringsNext 2 = .ok (.iconst 0, 1) := dk_3 (dk_at dksX6_colouringsNext_0 2 rfl rfl)
theorem dX6_colouringsNext_3 : decode cX6_colouringsNext 3 = .ok (.istore_n 2, 1) := dk_61 (dk_at dksX6_colouringsNext_0 3 rfl rfl)
theorem dX6_colouringsNext_4 : decode cX6_colouringsNext 4 = .ok (.iload_n 2, 1) := dk_28 (dk_at dksX6_colouringsNext_0 4 rfl rfl)
theorem dX6_colouringsNext_5 : decode cX6_colouringsNext 5 = .ok (.aload_n 0, 1) := dk_42 (dk_at dksX6_colouringsNext_0 5 rfl rfl)
theorem dX6_colouringsNext_6 : decode cX6_colouringsNext 6 = .ok (.getfield 7, 3) := dk_180 0 7 (dk_at dksX6_colouringsNext_0 6 rfl rfl)
theorem dX6_colouringsNext_9 : decode cX6_colouringsNext 9 = .ok (.iconst 0, 1) := dk_3 (dk_at dksX6_colouringsNext_0 9 rfl rfl)
theorem dX6_colouringsNext_10 : decode cX6_colouringsNext 10 = .ok (.iaload, 1) := dk_46 (dk_at dksX6_colouringsNext_0 10 rfl rfl)
theorem dX6_colouringsNext_11 : decode cX6_colouringsNext 11 = .ok (.if_icmp .gt 20, 3) := dk_163 0 20 (dk_at dksX6_colouringsNext_0 11 rfl rfl)
theorem dX6_colouringsNext_14 : decode cX6_colouringsNext 14 = .ok (.iload_n 1, 1) := dk_27 (dk_at dksX6_colouringsNext_0 14 rfl rfl)
theorem dX6_colouringsNext_15 : decode cX6_colouringsNext 15 = .ok (.aload_n 0, 1) := dk_42 (dk_at dksX6_colouringsNext_0 15 rfl rfl)
theorem dX6_colouringsNext_16 : decode cX6_colouringsNext 16 = .ok (.getfield 7, 3) := dk_180 0 7 (dk_at dksX6_colouringsNext_0 16 rfl rfl)
theorem dX6_colouringsNext_19 : decode cX6_colouringsNext 19 = .ok (.iconst 1, 1) := dk_4 (dk_at dksX6_colouringsNext_0 19 rfl rfl)
theorem dX6_colouringsNext_20 : decode cX6_colouringsNext 20 = .ok (.iaload, 1) := dk_46 (dk_at dksX6_colouringsNext_0 20 rfl rfl)
theorem dX6_colouringsNext_21 : decode cX6_colouringsNext 21 = .ok (.iconst 1, 1) := dk_4 (dk_at dksX6_colouringsNext_0 21 rfl rfl)
theorem dX6_colouringsNext_22 : decode cX6_colouringsNext 22 = .ok (.iadd, 1) := dk_96 (dk_at dksX6_colouringsNext_0 22 rfl rfl)
theorem dX6_colouringsNext_23 : decode cX6_colouringsNext 23 = .ok (.imul, 1) := dk_104 (dk_at dksX6_colouringsNext_0 23 rfl rfl)
theorem dX6_colouringsNext_24 : decode cX6_colouringsNext 24 = .ok (.istore_n 1, 1) := dk_60 (dk_at dksX6_colouringsNext_1 0 rfl rfl)
theorem dX6_colouringsNext_25 : decode cX6_colouringsNext 25 = .ok (.iinc 2 1, 3) := dk_132 2 1 (dk_at dksX6_colouringsNext_1 1 rfl rfl)
theorem dX6_colouringsNext_28 : decode cX6_colouringsNext 28 = .ok (.goto (-24), 3) := dk_167 255 232 (dk_at dksX6_colouringsNext_1 4 rfl rfl)
theorem dX6_colouringsNext_31 : decode cX6_colouringsNext 31 = .ok (.iload_n 1, 1) := dk_27 (dk_at dksX6_colouringsNext_1 7 rfl rfl)
theorem dX6_colouringsNext_32 : decode cX6_colouringsNext 32 = .ok (.ireturn, 1) := dk_172 (dk_at dksX6_colouringsNext_1 8 rfl rfl)
abbrev cX6_lettersHere : ByteArray := prog_16_method_15_code
def yX6_lettersHere : MethodName := ⟨RX6, "lettersHere", "()I"⟩
def dkwX6_lettersHere_2 : List UInt8 := [29, 120, 128, 60, 132, 2, 1, 167, 255, 208, 27, 172]
abbrev dktX6_lettersHere_2 : List UInt8 := dkwX6_lettersHere_2 ++ []
def dkwX6_lettersHere_1 : List UInt8 := [62, 29, 42, 180, 0, 7, 4, 46, 162, 0, 12, 27, 29, 122, 4, 126, 4, 160, 0, 5, 3, 172, 27, 4]
abbrev dktX6_lettersHere_1 : List UInt8 := dkwX6_lettersHere_1 ++ dktX6_lettersHere_2
def dkwX6_lettersHere_0 : List UInt8 := [3, 60, 42, 180, 0, 66, 61, 28, 42, 180, 0, 63, 162, 0, 46, 42, 180, 0, 30, 28, 46, 16, 97, 100]
abbrev dktX6_lettersHere_0 : List UInt8 := dkwX6_lettersHere_0 ++ dktX6_lettersHere_1
theorem dksX6_lettersHere_0 : cX6_lettersHere.data.toList.drop 0 = dktX6_lettersHere_0 := by decide +kernel
theorem dksX6_lettersHere_1 : cX6_lettersHere.data.toList.drop 24 = dktX6_lettersHere_1 := dk_seg dksX6_lettersHere_0 24 rfl rfl
theorem dksX6_lettersHere_2 : cX6_lettersHere.data.toList.drop 48 = dktX6_lettersHere_2 := dk_seg dksX6_lettersHere_1 24 rfl rfl
theorem dX6_lettersHere_0 : decode cX6_lettersHere 0 = .ok (.iconst 0, 1) := dk_3 (dk_at dksX6_lettersHere_0 0 rfl rfl)
theorem dX6_lettersHere_1 : decode cX6_lettersHere 1 = .ok (.istore_n 1, 1) := dk_60 (dk_at dksX6_lettersHere_0 1 rfl rfl)
theorem dX6_lettersHere_2 : decode cX6_lettersHere 2 = .ok (.aload_n 0, 1) := dk_42 (dk_at dksX6_lettersHere_0 2 rfl rfl)
theorem dX6_lettersHere_3 : decode cX6_lettersHere 3 = .ok (.getfield 66, 3) := dk_180 0 66 (dk_at dksX6_lettersHere_0 3 rfl rfl)
theorem dX6_lettersHere_6 : decode cX6_lettersHere 6 = .ok (.istore_n 2, 1) := dk_61 (dk_at dksX6_lettersHere_0 6 rfl rfl)
theorem dX6_lettersHere_7 : decode cX6_lettersHere 7 = .ok (.iload_n 2, 1) := dk_28 (dk_at dksX6_lettersHere_0 7 rfl rfl)
theorem dX6_lettersHere_8 : decode cX6_lettersHere 8 = .ok (.aload_n 0, 1) := dk_42 (dk_at dksX6_lettersHere_0 8 rfl rfl)
theorem dX6_lettersHere_9 : decode cX6_lettersHere 9 = .ok (.getfield 63, 3) := dk_180 0 63 (dk_at dksX6_lettersHere_0 9 rfl rfl)
theorem dX6_lettersHere_12 : decode cX6_lettersHere 12 = .ok (.if_icmp .ge 46, 3) := dk_162 0 46 (dk_at dksX6_lettersHere_0 12 rfl rfl)
theorem dX6_lettersHere_15 : decode cX6_lettersHere 15 = .ok (.aload_n 0, 1) := dk_42 (dk_at dksX6_lettersHere_0 15 rfl rfl)
theorem dX6_lettersHere_16 : decode cX6_lettersHere 16 = .ok (.getfield 30, 3) := dk_180 0 30 (dk_at dksX6_lettersHere_0 16 rfl rfl)
theorem dX6_lettersHere_19 : decode cX6_lettersHere 19 = .ok (.iload_n 2, 1) := dk_28 (dk_at dksX6_lettersHere_0 19 rfl rfl)
theorem dX6_lettersHere_20 : decode cX6_lettersHere 20 = .ok (.iaload, 1) := dk_46 (dk_at dksX6_lettersHere_0 20 rfl rfl)
theorem dX6_lettersHere_21 : decode cX6_lettersHere 21 = .ok (.bipush 97, 2) := dk_16 97 (dk_at dksX6_lettersHere_0 21 rfl rfl)
theorem dX6_lettersHere_23 : decode cX6_lettersHere 23 = .ok (.isub, 1) := dk_100 (dk_at dksX6_lettersHere_0 23 rfl rfl)
theorem dX6_lettersHere_24 : decode cX6_lettersHere 24 = .ok (.istore_n 3, 1) := dk_62 (dk_at dksX6_lettersHere_1 0 rfl rfl)
theorem dX6_lettersHere_25 : decode cX6_lettersHere 25 = .ok (.iload_n 3, 1) := dk_29 (dk_at dksX6_lettersHere_1 1 rfl rfl)
theorem dX6_lettersHere_26 : decode cX6_lettersHere 26 = .ok (.aload_n 0, 1) := dk_42 (dk_at dksX6_lettersHere_1 2 rfl rfl)
theorem dX6_lettersHere_27 : decode cX6_lettersHere 27 = .ok (.getfield 7, 3) := dk_180 0 7 (dk_at dksX6_lettersHere_1 3 rfl rfl)
theorem dX6_lettersHere_30 : decode cX6_lettersHere 30 = .ok (.iconst 1, 1) := dk_4 (dk_at dksX6_lettersHere_1 6 rfl rfl)
theorem dX6_lettersHere_31 : decode cX6_lettersHere 31 = .ok (.iaload, 1) := dk_46 (dk_at dksX6_lettersHere_1 7 rfl rfl)
theorem dX6_lettersHere_32 : decode cX6_lettersHere 32 = .ok (.if_icmp .ge 12, 3) := dk_162 0 12 (dk_at dksX6_lettersHere_1 8 rfl rfl)
theorem dX6_lettersHere_35 : decode cX6_lettersHere 35 = .ok (.iload_n 1, 1) := dk_27 (dk_at dksX6_lettersHere_1 11 rfl rfl)
theorem dX6_lettersHere_36 : decode cX6_lettersHere 36 = .ok (.iload_n 3, 1) := dk_29 (dk_at dksX6_lettersHere_1 12 rfl rfl)
theorem dX6_lettersHere_37 : decode cX6_lettersHere 37 = .ok (.ishr, 1) := dk_122 (dk_at dksX6_lettersHere_1 13 rfl rfl)
theorem dX6_lettersHere_38 : decode cX6_lettersHere 38 = .ok (.iconst 1, 1) := dk_4 (dk_at dksX6_lettersHere_1 14 rfl rfl)
theorem dX6_lettersHere_39 : decode cX6_lettersHere 39 = .ok (.iand, 1) := dk_126 (dk_at dksX6_lettersHere_1 15 rfl rfl)
theorem dX6_lettersHere_40 : decode cX6_lettersHere 40 = .ok (.iconst 1, 1) := dk_4 (dk_at dksX6_lettersHere_1 16 rfl rfl)
theorem dX6_lettersHere_41 : decode cX6_lettersHere 41 = .ok (.if_icmp .ne 5, 3) := dk_160 0 5 (dk_at dksX6_lettersHere_1 17 rfl rfl)
theorem dX6_lettersHere_44 : decode cX6_lettersHere 44 = .ok (.iconst 0, 1) := dk_3 (dk_at dksX6_lettersHere_1 20 rfl rfl)
theorem dX6_lettersHere_45 : decode cX6_lettersHere 45 = .ok (.ireturn, 1) := dk_172 (dk_at dksX6_lettersHere_1 21 rfl rfl)
theorem dX6_lettersHere_46 : decode cX6_lettersHere 46 = .ok (.iload_n 1, 1) := dk_27 (dk_at dksX6_lettersHere_1 22 rfl rfl)
theorem dX6_lettersHere_47 : decode cX6_lettersHere 47 = .ok (.iconst 1, 1) := dk_4 (dk_at dksX6_lettersHere_1 23 rfl rfl)
theorem dX6_lettersHere_48 : decode cX6_lettersHere 48 = .ok (.iload_n 3, 1) := dk_29 (dk_at dksX6_lettersHere_2 0 rfl rfl)
theorem dX6_lettersHere_49 : decode cX6_lettersHere 49 = .ok (.ishl, 1) := dk_120 (dk_at dksX6_lettersHere_2 1 rfl rfl)
theorem dX6_lettersHere_50 : decode cX6_lettersHere 50 = .ok (.ior, 1) := dk_128 (dk_at dksX6_lettersHere_2 2 rfl rfl)
theorem dX6_lettersHere_51 : decode cX6_lettersHere 51 = .ok (.istore_n 1, 1) := dk_60 (dk_at dksX6_lettersHere_2 3 rfl rfl)
theorem dX6_lettersHere_52 : decode cX6_lettersHere 52 = .ok (.iinc 2 1, 3) := dk_132 2 1 (dk_at dksX6_lettersHere_2 4 rfl rfl)
theorem dX6_lettersHere_55 : decode cX6_lettersHere 55 = .ok (.goto (-48), 3) := dk_167 255 208 (dk_at dksX6_lettersHere_2 7 rfl rfl)
theorem dX6_lettersHere_58 : decode cX6_lettersHere 58 = .ok (.iload_n 1, 1) := dk_27 (dk_at dksX6_lettersHere_2 10 rfl rfl)
theorem dX6_lettersHere_59 : decode cX6_lettersHere 59 = .ok (.ireturn, 1) := dk_172 (dk_at dksX6_lettersHere_2 11 rfl rfl)
abbrev cX6_readsEdge : ByteArray := prog_16_method_18_code
def yX6_readsEdge : MethodName := ⟨RX6, "readsEdge", "()V"⟩
def dkwX6_readsEdge_6 : List UInt8 := [180, 0, 7, 16, 13, 28, 96, 92, 46, 4, 27, 120, 128, 79, 177]
abbrev dktX6_readsEdge_6 : List UInt8 := dkwX6_readsEdge_6 ++ []
def dkwX6_readsEdge_5 : List UInt8 := [180, 0, 83, 153, 0, 4, 177, 42, 180, 0, 7, 16, 13, 27, 96, 92, 46, 4, 28, 120, 128, 79, 42]
abbrev dktX6_readsEdge_5 : List UInt8 := dkwX6_readsEdge_5 ++ dktX6_readsEdge_6
def dkwX6_readsEdge_4 : List UInt8 := [182, 0, 99, 42, 3, 42, 180, 0, 7, 3, 46, 4, 100, 182, 0, 119, 61, 42, 182, 0, 116, 42]
abbrev dktX6_readsEdge_4 : List UInt8 := dkwX6_readsEdge_4 ++ dktX6_readsEdge_5
def dkwX6_readsEdge_3 : List UInt8 := [180, 0, 7, 3, 46, 162, 0, 21, 42, 27, 42, 180, 0, 80, 182, 0, 123, 153, 0, 9, 42, 16, 252]
abbrev dktX6_readsEdge_3 : List UInt8 := dkwX6_readsEdge_3 ++ dktX6_readsEdge_4
def dkwX6_readsEdge_2 : List UInt8 := [182, 0, 99, 42, 180, 0, 83, 154, 0, 42, 42, 180, 0, 73, 4, 160, 0, 34, 42, 180, 0, 80, 42]
abbrev dktX6_readsEdge_2 : List UInt8 := dkwX6_readsEdge_2 ++ dktX6_readsEdge_3
def dkwX6_readsEdge_1 : List UInt8 := [154, 0, 25, 42, 180, 0, 73, 4, 160, 0, 17, 42, 180, 0, 80, 27, 160, 0, 9, 42, 16, 253]
abbrev dktX6_readsEdge_1 : List UInt8 := dkwX6_readsEdge_1 ++ dktX6_readsEdge_2
def dkwX6_readsEdge_0 : List UInt8 := [42, 4, 182, 0, 106, 42, 3, 42, 180, 0, 7, 3, 46, 4, 100, 182, 0, 119, 60, 42, 180, 0, 83]
abbrev dktX6_readsEdge_0 : List UInt8 := dkwX6_readsEdge_0 ++ dktX6_readsEdge_1
theorem dksX6_readsEdge_0 : cX6_readsEdge.data.toList.drop 0 = dktX6_readsEdge_0 := by decide +kernel
theorem dksX6_readsEdge_1 : cX6_readsEdge.data.toList.drop 23 = dktX6_readsEdge_1 := dk_seg dksX6_readsEdge_0 23 rfl rfl
theorem dksX6_readsEdge_2 : cX6_readsEdge.data.toList.drop 45 = dktX6_readsEdge_2 := dk_seg dksX6_readsEdge_1 22 rfl rfl
theorem dksX6_readsEdge_3 : cX6_readsEdge.data.toList.drop 68 = dktX6_readsEdge_3 := dk_seg dksX6_readsEdge_2 23 rfl rfl
theorem dksX6_readsEdge_4 : cX6_readsEdge.data.toList.drop 91 = dktX6_readsEdge_4 := dk_seg dksX6_readsEdge_3 23 rfl rfl
theorem dksX6_readsEdge_5 : cX6_readsEdge.data.toList.drop 113 = dktX6_readsEdge_5 := dk_seg dksX6_readsEdge_4 22 rfl rfl
theorem dksX6_readsEdge_6 : cX6_readsEdge.data.toList.drop 136 = dktX6_readsEdge_6 := dk_seg dksX6_readsEdge_5 23 rfl rfl
theorem dX6_readsEdge_0 : decode cX6_readsEdge 0 = .ok (.aload_n 0, 1) := dk_42 (dk_at dksX6_readsEdge_0 0 rfl rfl)
theorem dX6_readsEdge_1 : decode cX6_readsEdge 1 = .ok (.iconst 1, 1) := dk_4 (dk_at dksX6_readsEdge_0 1 rfl rfl)
theorem dX6_readsEdge_2 : decode cX6_readsEdge 2 = .ok (.invokevirtual 106, 3) := dk_182 0 106 (dk_at dksX6_readsEdge_0 2 rfl rfl)
theorem dX6_readsEdge_5 : decode cX6_readsEdge 5 = .ok (.aload_n 0, 1) := dk_42 (dk_at dksX6_readsEdge_0 5 rfl rfl)
theorem dX6_readsEdge_6 : decode cX6_readsEdge 6 = .ok (.iconst 0, 1) := dk_3 (dk_at dksX6_readsEdge_0 6 rfl rfl)
theorem dX6_readsEdge_7 : decode cX6_readsEdge 7 = .ok (.aload_n 0, 1) := dk_42 (dk_at dksX6_readsEdge_0 7 rfl rfl)
theorem dX6_readsEdge_8 : decode cX6_readsEdge 8 = .ok (.getfield 7, 3) := dk_180 0 7 (dk_at dksX6_readsEdge_0 8 rfl rfl)
theorem dX6_readsEdge_11 : decode cX6_readsEdge 11 = .ok (.iconst 0, 1) := dk_3 (dk_at dksX6_readsEdge_0 11 rfl rfl)
theorem dX6_readsEdge_12 : decode cX6_readsEdge 12 = .ok (.iaload, 1) := dk_46 (dk_at dksX6_readsEdge_0 12 rfl rfl)
theorem dX6_readsEdge_13 : decode cX6_readsEdge 13 = .ok (.iconst 1, 1) := dk_4 (dk_at dksX6_readsEdge_0 13 rfl rfl)
theorem dX6_readsEdge_14 : decode cX6_readsEdge 14 = .ok (.isub, 1) := dk_100 (dk_at dksX6_readsEdge_0 14 rfl rfl)
theorem dX6_readsEdge_15 : decode cX6_readsEdge 15 = .ok (.invokevirtual 119, 3) := dk_182 0 119 (dk_at dksX6_readsEdge_0 15 rfl rfl)
theorem dX6_readsEdge_18 : decode cX6_readsEdge 18 = .ok (.istore_n 1, 1) := dk_60 (dk_at dksX6_readsEdge_0 18 rfl rfl)
theorem dX6_readsEdge_19 : decode cX6_readsEdge 19 = .ok (.aload_n 0, 1) := dk_42 (dk_at dksX6_readsEdge_0 19 rfl rfl)
theorem dX6_readsEdge_20 : decode cX6_readsEdge 20 = .ok (.getfield 83, 3) := dk_180 0 83 (dk_at dksX6_readsEdge_0 20 rfl rfl)
theorem dX6_readsEdge_23 : decode cX6_readsEdge 23 = .ok (.ifCond .ne 25, 3) := dk_154 0 25 (dk_at dksX6_readsEdge_1 0 rfl rfl)
theorem dX6_readsEdge_26 : decode cX6_readsEdge 26 = .ok (.aload_n 0, 1) := dk_42 (dk_at dksX6_readsEdge_1 3 rfl rfl)
theorem dX6_readsEdge_27 : decode cX6_readsEdge 27 = .ok (.getfield 73, 3) := dk_180 0 73 (dk_at dksX6_readsEdge_1 4 rfl rfl)
theorem dX6_readsEdge_30 : decode cX6_readsEdge 30 = .ok (.iconst 1, 1) := dk_4 (dk_at dksX6_readsEdge_1 7 rfl rfl)
theorem dX6_readsEdge_31 : decode cX6_readsEdge 31 = .ok (.if_icmp .ne 17, 3) := dk_160 0 17 (dk_at dksX6_readsEdge_1 8 rfl rfl)
theorem dX6_readsEdge_34 : decode cX6_readsEdge 34 = .ok (.aload_n 0, 1) := dk_42 (dk_at dksX6_readsEdge_1 11 rfl rfl)
theorem dX6_readsEdge_35 : decode cX6_readsEdge 35 = .ok (.getfield 80, 3) := dk_180 0 80 (dk_at dksX6_readsEdge_1 12 rfl rfl)
theorem dX6_readsEdge_38 : decode cX6_readsEdge 38 = .ok (.iload_n 1, 1) := dk_27 (dk_at dksX6_readsEdge_1 15 rfl rfl)
theorem dX6_readsEdge_39 : decode cX6_readsEdge 39 = .ok (.if_icmp .ne 9, 3) := dk_160 0 9 (dk_at dksX6_readsEdge_1 16 rfl rfl)
theorem dX6_readsEdge_42 : decode cX6_readsEdge 42 = .ok (.aload_n 0, 1) := dk_42 (dk_at dksX6_readsEdge_1 19 rfl rfl)
theorem dX6_readsEdge_43 : decode cX6_readsEdge 43 = .ok (.bipush (-3), 2) := dk_16 253 (dk_at dksX6_readsEdge_1 20 rfl rfl)
theorem dX6_readsEdge_45 : decode cX6_readsEdge 45 = .ok (.invokevirtual 99, 3) := dk_182 0 99 (dk_at dksX6_readsEdge_2 0 rfl rfl)
theorem dX6_readsEdge_48 : decode cX6_readsEdge 48 = .ok (.aload_n 0, 1) := dk_42 (dk_at dksX6_readsEdge_2 3 rfl rfl)
theorem dX6_readsEdge_49 : decode cX6_readsEdge 49 = .ok (.getfield 83, 3) := dk_180 0 83 (dk_at dksX6_readsEdge_2 4 rfl rfl)
theorem dX6_readsEdge_52 : decode cX6_readsEdge 52 = .ok (.ifCond .ne 42, 3) := dk_154 0 42 (dk_at dksX6_readsEdge_2 7 rfl rfl)
theorem dX6_readsEdge_55 : decode cX6_readsEdge 55 = .ok (.aload_n 0, 1) := dk_42 (dk_at dksX6_readsEdge_2 10 rfl rfl)
theorem dX6_readsEdge_56 : decode cX6_readsEdge 56 = .ok (.getfield 73, 3) := dk_180 0 73 (dk_at dksX6_readsEdge_2 11 rfl rfl)
theorem dX6_readsEdge_59 : decode cX6_readsEdge 59 = .ok (.iconst 1, 1) := dk_4 (dk_at dksX6_readsEdge_2 14 rfl rfl)
theorem dX6_readsEdge_60 : decode cX6_readsEdge 60 = .ok (.if_icmp .ne 34, 3) := dk_160 0 34 (dk_at dksX6_readsEdge_2 15 rfl rfl)
theorem dX6_readsEdge_63 : decode cX6_readsEdge 63 = .ok (.aload_n 0, 1) := dk_42 (dk_at dksX6_readsEdge_2 18 rfl rfl)
theorem dX6_readsEdge_64 : decode cX6_readsEdge 64 = .ok (.getfield 80, 3) := dk_180 0 80 (dk_at dksX6_readsEdge_2 19 rfl rfl)
theorem dX6_readsEdge_67 : decode cX6_readsEdge 67 = .ok (.aload_n 0, 1) := dk_42 (dk_at dksX6_readsEdge_2 22 rfl rfl)
theorem dX6_readsEdge_68 : decode cX6_readsEdge 68 = .ok (.getfield 7, 3) := dk_180 0 7 (dk_at dksX6_readsEdge_3 0 rfl rfl)
theorem dX6_readsEdge_71 : decode cX6_readsEdge 71 = .ok (.iconst 0, 1) := dk_3 (dk_at dksX6_readsEdge_3 3 rfl rfl)
theorem dX6_readsEdge_72 : decode cX6_readsEdge 72 = .ok (.iaload, 1) := dk_46 (dk_at dksX6_readsEdge_3 4 rfl rfl)
theorem dX6_readsEdge_73 : decode cX6_readsEdge 73 = .ok (.if_icmp .ge 21, 3) := dk_162 0 21 (dk_at dksX6_readsEdge_3 5 rfl rfl)
theorem dX6_readsEdge_76 : decode cX6_readsEdge 76 = .ok (.aload_n 0, 1) := dk_42 (dk_at dksX6_readsEdge_3 8 rfl rfl)
theorem dX6_readsEdge_77 : decode cX6_readsEdge 77 = .ok (.iload_n 1, 1) := dk_27 (dk_at dksX6_readsEdge_3 9 rfl rfl)
theorem dX6_readsEdge_78 : decode cX6_readsEdge 78 = .ok (.aload_n 0, 1) := dk_42 (dk_at dksX6_readsEdge_3 10 rfl rfl)
theorem dX6_readsEdge_79 : decode cX6_readsEdge 79 = .ok (.getfield 80, 3) := dk_180 0 80 (dk_at dksX6_readsEdge_3 11 rfl rfl)
theorem dX6_readsEdge_82 : decode cX6_readsEdge 82 = .ok (.invokevirtual 123, 3) := dk_182 0 123 (dk_at dksX6_readsEdge_3 14 rfl rfl)
theorem dX6_readsEdge_85 : decode cX6_readsEdge 85 = .ok (.ifCond .eq 9, 3) := dk_153 0 9 (dk_at dksX6_readsEdge_3 17 rfl rfl)
theorem dX6_readsEdge_88 : decode cX6_readsEdge 88 = .ok (.aload_n 0, 1) := dk_42 (dk_at dksX6_readsEdge_3 20 rfl rfl)
theorem dX6_readsEdge_89 : decode cX6_readsEdge 89 = .ok (.bipush (-4), 2) := dk_16 252 (dk_at dksX6_readsEdge_3 21 rfl rfl)
theorem dX6_readsEdge_91 : decode cX6_readsEdge 91 = .ok (.invokevirtual 99, 3) := dk_182 0 99 (dk_at dksX6_readsEdge_4 0 rfl rfl)
theorem dX6_readsEdge_94 : decode cX6_readsEdge 94 = .ok (.aload_n 0, 1) := dk_42 (dk_at dksX6_readsEdge_4 3 rfl rfl)
theorem dX6_readsEdge_95 : decode cX6_readsEdge 95 = .ok (.iconst 0, 1) := dk_3 (dk_at dksX6_readsEdge_4 4 rfl rfl)
theorem dX6_readsEdge_96 : decode cX6_readsEdge 96 = .ok (.aload_n 0, 1) := dk_42 (dk_at dksX6_readsEdge_4 5 rfl rfl)
theorem dX6_readsEdge_97 : decode cX6_readsEdge 97 = .ok (.getfield 7, 3) := dk_180 0 7 (dk_at dksX6_readsEdge_4 6 rfl rfl)
theorem dX6_readsEdge_100 : decode cX6_readsEdge 100 = .ok (.iconst 0, 1) := dk_3 (dk_at dksX6_readsEdge_4 9 rfl rfl)
theorem dX6_readsEdge_101 : decode cX6_readsEdge 101 = .ok (.iaload, 1) := dk_46 (dk_at dksX6_readsEdge_4 10 rfl rfl)
theorem dX6_readsEdge_102 : decode cX6_readsEdge 102 = .ok (.iconst 1, 1) := dk_4 (dk_at dksX6_readsEdge_4 11 rfl rfl)
theorem dX6_readsEdge_103 : decode cX6_readsEdge 103 = .ok (.isub, 1) := dk_100 (dk_at dksX6_readsEdge_4 12 rfl rfl)
theorem dX6_readsEdge_104 : decode cX6_readsEdge 104 = .ok (.invokevirtual 119, 3) := dk_182 0 119 (dk_at dksX6_readsEdge_4 13 rfl rfl)
theorem dX6_readsEdge_107 : decode cX6_readsEdge 107 = .ok (.istore_n 2, 1) := dk_61 (dk_at dksX6_readsEdge_4 16 rfl rfl)
theorem dX6_readsEdge_108 : decode cX6_readsEdge 108 = .ok (.aload_n 0, 1) := dk_42 (dk_at dksX6_readsEdge_4 17 rfl rfl)
theorem dX6_readsEdge_109 : decode cX6_readsEdge 109 = .ok (.invokevirtual 116, 3) := dk_182 0 116 (dk_at dksX6_readsEdge_4 18 rfl rfl)
theorem dX6_readsEdge_112 : decode cX6_readsEdge 112 = .ok (.aload_n 0, 1) := dk_42 (dk_at dksX6_readsEdge_4 21 rfl rfl)
theorem dX6_readsEdge_113 : decode cX6_readsEdge 113 = .ok (.getfield 83, 3) := dk_180 0 83 (dk_at dksX6_readsEdge_5 0 rfl rfl)
theorem dX6_readsEdge_116 : decode cX6_readsEdge 116 = .ok (.ifCond .eq 4, 3) := dk_153 0 4 (dk_at dksX6_readsEdge_5 3 rfl rfl)
theorem dX6_readsEdge_119 : decode cX6_readsEdge 119 = .ok (.return_, 1) := dk_177 (dk_at dksX6_readsEdge_5 6 rfl rfl)
theorem dX6_readsEdge_120 : decode cX6_readsEdge 120 = .ok (.aload_n 0, 1) := dk_42 (dk_at dksX6_readsEdge_5 7 rfl rfl)
theorem dX6_readsEdge_121 : decode cX6_readsEdge 121 = .ok (.getfield 7, 3) := dk_180 0 7 (dk_at dksX6_readsEdge_5 8 rfl rfl)
theorem dX6_readsEdge_124 : decode cX6_readsEdge 124 = .ok (.bipush 13, 2) := dk_16 13 (dk_at dksX6_readsEdge_5 11 rfl rfl)
theorem dX6_readsEdge_126 : decode cX6_readsEdge 126 = .ok (.iload_n 1, 1) := dk_27 (dk_at dksX6_readsEdge_5 13 rfl rfl)
theorem dX6_readsEdge_127 : decode cX6_readsEdge 127 = .ok (.iadd, 1) := dk_96 (dk_at dksX6_readsEdge_5 14 rfl rfl)
theorem dX6_readsEdge_128 : decode cX6_readsEdge 128 = .ok (.dup2, 1) := dk_92 (dk_at dksX6_readsEdge_5 15 rfl rfl)
theorem dX6_readsEdge_129 : decode cX6_readsEdge 129 = .ok (.iaload, 1) := dk_46 (dk_at dksX6_readsEdge_5 16 rfl rfl)
theorem dX6_readsEdge_130 : decode cX6_readsEdge 130 = .ok (.iconst 1, 1) := dk_4 (dk_at dksX6_readsEdge_5 17 rfl rfl)
theorem dX6_readsEdge_131 : decode cX6_readsEdge 131 = .ok (.iload_n 2, 1) := dk_28 (dk_at dksX6_readsEdge_5 18 rfl rfl)
theorem dX6_readsEdge_132 : decode cX6_readsEdge 132 = .ok (.ishl, 1) := dk_120 (dk_at dksX6_readsEdge_5 19 rfl rfl)
theorem dX6_readsEdge_133 : decode cX6_readsEdge 133 = .ok (.ior, 1) := dk_128 (dk_at dksX6_readsEdge_5 20 rfl rfl)
theorem dX6_readsEdge_134 : decode cX6_readsEdge 134 = .ok (.iastore, 1) := dk_79 (dk_at dksX6_readsEdge_5 21 rfl rfl)
theorem dX6_readsEdge_135 : decode cX6_readsEdge 135 = .ok (.aload_n 0, 1) := dk_42 (dk_at dksX6_readsEdge_5 22 rfl rfl)
theorem dX6_readsEdge_136 : decode cX6_readsEdge 136 = .ok (.getfield 7, 3) := dk_180 0 7 (dk_at dksX6_readsEdge_6 0 rfl rfl)
theorem dX6_readsEdge_139 : decode cX6_readsEdge 139 = .ok (.bipush 13, 2) := dk_16 13 (dk_at dksX6_readsEdge_6 3 rfl rfl)
theorem dX6_readsEdge_141 : decode cX6_readsEdge 141 = .ok (.iload_n 2, 1) := dk_28 (dk_at dksX6_readsEdge_6 5 rfl rfl)
theorem dX6_readsEdge_142 : decode cX6_readsEdge 142 = .ok (.iadd, 1) := dk_96 (dk_at dksX6_readsEdge_6 6 rfl rfl)
theorem dX6_readsEdge_143 : decode cX6_readsEdge 143 = .ok (.dup2, 1) := dk_92 (dk_at dksX6_readsEdge_6 7 rfl rfl)
theorem dX6_readsEdge_144 : decode cX6_readsEdge 144 = .ok (.iaload, 1) := dk_46 (dk_at dksX6_readsEdge_6 8 rfl rfl)
theorem dX6_readsEdge_145 : decode cX6_readsEdge 145 = .ok (.iconst 1, 1) := dk_4 (dk_at dksX6_readsEdge_6 9 rfl rfl)
theorem dX6_readsEdge_146 : decode cX6_readsEdge 146 = .ok (.iload_n 1, 1) := dk_27 (dk_at dksX6_readsEdge_6 10 rfl rfl)
theorem dX6_readsEdge_147 : decode cX6_readsEdge 147 = .ok (.ishl, 1) := dk_120 (dk_at dksX6_readsEdge_6 11 rfl rfl)
theorem dX6_readsEdge_148 : decode cX6_readsEdge 148 = .ok (.ior, 1) := dk_128 (dk_at dksX6_readsEdge_6 12 rfl rfl)
theorem dX6_readsEdge_149 : decode cX6_readsEdge 149 = .ok (.iastore, 1) := dk_79 (dk_at dksX6_readsEdge_6 13 rfl rfl)
theorem dX6_readsEdge_150 : decode cX6_readsEdge 150 = .ok (.return_, 1) := dk_177 (dk_at dksX6_readsEdge_6 14 rfl rfl)
abbrev cX6_areNext : ByteArray := prog_16_method_24_code
def yX6_areNext : MethodName := ⟨RX6, "areNext", "(II)Z"⟩
def dkwX6_areNext_0 : List UInt8 := [42, 180, 0, 7, 16, 13, 27, 96, 46, 28, 122, 4, 126, 4, 160, 0, 7, 4, 167, 0, 4, 3, 172]
abbrev dktX6_areNext_0 : List UInt8 := dkwX6_areNext_0 ++ []
theorem dksX6_areNext_0 : cX6_areNext.data.toList.drop 0 = dktX6_areNext_0 := by decide +kernel
theorem dX6_areNext_0 : decode cX6_areNext 0 = .ok (.aload_n 0, 1) := dk_42 (dk_at dksX6_areNext_0 0 rfl rfl)
theorem dX6_areNext_1 : decode cX6_areNext 1 = .ok (.getfield 7, 3) := dk_180 0 7 (dk_at dksX6_areNext_0 1 rfl rfl)
theorem dX6_areNext_4 : decode cX6_areNext 4 = .ok (.bipush 13, 2) := dk_16 13 (dk_at dksX6_areNext_0 4 rfl rfl)
theorem dX6_areNext_6 : decode cX6_areNext 6 = .ok (.iload_n 1, 1) := dk_27 (dk_at dksX6_areNext_0 6 rfl rfl)
theorem dX6_areNext_7 : decode cX6_areNext 7 = .ok (.iadd, 1) := dk_96 (dk_at dksX6_areNext_0 7 rfl rfl)
theorem dX6_areNext_8 : decode cX6_areNext 8 = .ok (.iaload, 1) := dk_46 (dk_at dksX6_areNext_0 8 rfl rfl)
theorem dX6_areNext_9 : decode cX6_areNext 9 = .ok (.iload_n 2, 1) := dk_28 (dk_at dksX6_areNext_0 9 rfl rfl)
theorem dX6_areNext_10 : decode cX6_areNext 10 = .ok (.ishr, 1) := dk_122 (dk_at dksX6_areNext_0 10 rfl rfl)
theorem dX6_areNext_11 : decode cX6_areNext 11 = .ok (.iconst 1, 1) := dk_4 (dk_at dksX6_areNext_0 11 rfl rfl)
theorem dX6_areNext_12 : decode cX6_areNext 12 = .ok (.iand, 1) := dk_126 (dk_at dksX6_areNext_0 12 rfl rfl)
theorem dX6_areNext_13 : decode cX6_areNext 13 = .ok (.iconst 1, 1) := dk_4 (dk_at dksX6_areNext_0 13 rfl rfl)
theorem dX6_areNext_14 : decode cX6_areNext 14 = .ok (.if_icmp .ne 7, 3) := dk_160 0 7 (dk_at dksX6_areNext_0 14 rfl rfl)
theorem dX6_areNext_17 : decode cX6_areNext 17 = .ok (.iconst 1, 1) := dk_4 (dk_at dksX6_areNext_0 17 rfl rfl)
theorem dX6_areNext_18 : decode cX6_areNext 18 = .ok (.goto 4, 3) := dk_167 0 4 (dk_at dksX6_areNext_0 18 rfl rfl)
theorem dX6_areNext_21 : decode cX6_areNext 21 = .ok (.iconst 0, 1) := dk_3 (dk_at dksX6_areNext_0 21 rfl rfl)
theorem dX6_areNext_22 : decode cX6_areNext 22 = .ok (.ireturn, 1) := dk_172 (dk_at dksX6_areNext_0 22 rfl rfl)
abbrev cX6_readsLay : ByteArray := prog_16_method_19_code
def yX6_readsLay : MethodName := ⟨RX6, "readsLay", "()V"⟩
def dkwX6_readsLay_6 : List UInt8 := [182, 0, 116, 177]
abbrev dktX6_readsLay_6 : List UInt8 := dkwX6_readsLay_6 ++ []
def dkwX6_readsLay_5 : List UInt8 := [182, 0, 99, 42, 180, 0, 83, 154, 0, 9, 42, 27, 29, 182, 0, 130, 42, 4, 182, 0, 106, 42]
abbrev dktX6_readsLay_5 : List UInt8 := dkwX6_readsLay_5 ++ dktX6_readsLay_6
def dkwX6_readsLay_4 : List UInt8 := [182, 0, 99, 42, 180, 0, 83, 154, 0, 18, 42, 27, 29, 182, 0, 127, 158, 0, 9, 42, 16, 251]
abbrev dktX6_readsLay_4 : List UInt8 := dkwX6_readsLay_4 ++ dktX6_readsLay_5
def dkwX6_readsLay_3 : List UInt8 := [167, 0, 13, 28, 7, 160, 0, 7, 5, 167, 0, 4, 2, 62, 29, 2, 160, 0, 9, 42, 16, 253]
abbrev dktX6_readsLay_3 : List UInt8 := dkwX6_readsLay_3 ++ dktX6_readsLay_4
def dkwX6_readsLay_2 : List UInt8 := [182, 0, 113, 167, 0, 4, 3, 61, 28, 4, 160, 0, 7, 3, 167, 0, 22, 28, 5, 160, 0, 7, 4]
abbrev dktX6_readsLay_2 : List UInt8 := dkwX6_readsLay_2 ++ dktX6_readsLay_3
def dkwX6_readsLay_1 : List UInt8 := [154, 0, 16, 42, 180, 0, 73, 153, 0, 9, 42, 16, 254, 182, 0, 99, 42, 180, 0, 83, 154, 0, 10, 42]
abbrev dktX6_readsLay_1 : List UInt8 := dkwX6_readsLay_1 ++ dktX6_readsLay_2
def dkwX6_readsLay_0 : List UInt8 := [42, 4, 182, 0, 106, 42, 3, 42, 180, 0, 7, 3, 46, 4, 100, 182, 0, 119, 60, 42, 180, 0, 83]
abbrev dktX6_readsLay_0 : List UInt8 := dkwX6_readsLay_0 ++ dktX6_readsLay_1
theorem dksX6_readsLay_0 : cX6_readsLay.data.toList.drop 0 = dktX6_readsLay_0 := by decide +kernel
theorem dksX6_readsLay_1 : cX6_readsLay.data.toList.drop 23 = dktX6_readsLay_1 := dk_seg dksX6_readsLay_0 23 rfl rfl
theorem dksX6_readsLay_2 : cX6_readsLay.data.toList.drop 47 = dktX6_readsLay_2 := dk_seg dksX6_readsLay_1 24 rfl rfl
theorem dksX6_readsLay_3 : cX6_readsLay.data.toList.drop 70 = dktX6_readsLay_3 := dk_seg dksX6_readsLay_2 23 rfl rfl
theorem dksX6_readsLay_4 : cX6_readsLay.data.toList.drop 92 = dktX6_readsLay_4 := dk_seg dksX6_readsLay_3 22 rfl rfl
theorem dksX6_readsLay_5 : cX6_readsLay.data.toList.drop 114 = dktX6_readsLay_5 := dk_seg dksX6_readsLay_4 22 rfl rfl
theorem dksX6_readsLay_6 : cX6_readsLay.data.toList.drop 136 = dktX6_readsLay_6 := dk_seg dksX6_readsLay_5 22 rfl rfl
theorem dX6_readsLay_0 : decode cX6_readsLay 0 = .ok (.aload_n 0, 1) := dk_42 (dk_at dksX6_readsLay_0 0 rfl rfl)
theorem dX6_readsLay_1 : decode cX6_readsLay 1 = .ok (.iconst 1, 1) := dk_4 (dk_at dksX6_readsLay_0 1 rfl rfl)
theorem dX6_readsLay_2 : decode cX6_readsLay 2 = .ok (.invokevirtual 106, 3) := dk_182 0 106 (dk_at dksX6_readsLay_0 2 rfl rfl)
theorem dX6_readsLay_5 : decode cX6_readsLay 5 = .ok (.aload_n 0, 1) := dk_42 (dk_at dksX6_readsLay_0 5 rfl rfl)
theorem dX6_readsLay_6 : decode cX6_readsLay 6 = .ok (.iconst 0, 1) := dk_3 (dk_at dksX6_readsLay_0 6 rfl rfl)
theorem dX6_readsLay_7 : decode cX6_readsLay 7 = .ok (.aload_n 0, 1) := dk_42 (dk_at dksX6_readsLay_0 7 rfl rfl)
theorem dX6_readsLay_8 : decode cX6_readsLay 8 = .ok (.getfield 7, 3) := dk_180 0 7 (dk_at dksX6_readsLay_0 8 rfl rfl)
theorem dX6_readsLay_11 : decode cX6_readsLay 11 = .ok (.iconst 0, 1) := dk_3 (dk_at dksX6_readsLay_0 11 rfl rfl)
theorem dX6_readsLay_12 : decode cX6_readsLay 12 = .ok (.iaload, 1) := dk_46 (dk_at dksX6_readsLay_0 12 rfl rfl)
theorem dX6_readsLay_13 : decode cX6_readsLay 13 = .ok (.iconst 1, 1) := dk_4 (dk_at dksX6_readsLay_0 13 rfl rfl)
theorem dX6_readsLay_14 : decode cX6_readsLay 14 = .ok (.isub, 1) := dk_100 (dk_at dksX6_readsLay_0 14 rfl rfl)
theorem dX6_readsLay_15 : decode cX6_readsLay 15 = .ok (.invokevirtual 119, 3) := dk_182 0 119 (dk_at dksX6_readsLay_0 15 rfl rfl)
theorem dX6_readsLay_18 : decode cX6_readsLay 18 = .ok (.istore_n 1, 1) := dk_60 (dk_at dksX6_readsLay_0 18 rfl rfl)
theorem dX6_readsLay_19 : decode cX6_readsLay 19 = .ok (.aload_n 0, 1) := dk_42 (dk_at dksX6_readsLay_0 19 rfl rfl)
theorem dX6_readsLay_20 : decode cX6_readsLay 20 = .ok (.getfield 83, 3) := dk_180 0 83 (dk_at dksX6_readsLay_0 20 rfl rfl)
theorem dX6_readsLay_23 : decode cX6_readsLay 23 = .ok (.ifCond .ne 16, 3) := dk_154 0 16 (dk_at dksX6_readsLay_1 0 rfl rfl)
theorem dX6_readsLay_26 : decode cX6_readsLay 26 = .ok (.aload_n 0, 1) := dk_42 (dk_at dksX6_readsLay_1 3 rfl rfl)
theorem dX6_readsLay_27 : decode cX6_readsLay 27 = .ok (.getfield 73, 3) := dk_180 0 73 (dk_at dksX6_readsLay_1 4 rfl rfl)
theorem dX6_readsLay_30 : decode cX6_readsLay 30 = .ok (.ifCond .eq 9, 3) := dk_153 0 9 (dk_at dksX6_readsLay_1 7 rfl rfl)
theorem dX6_readsLay_33 : decode cX6_readsLay 33 = .ok (.aload_n 0, 1) := dk_42 (dk_at dksX6_readsLay_1 10 rfl rfl)
theorem dX6_readsLay_34 : decode cX6_readsLay 34 = .ok (.bipush (-2), 2) := dk_16 254 (dk_at dksX6_readsLay_1 11 rfl rfl)
theorem dX6_readsLay_36 : decode cX6_readsLay 36 = .ok (.invokevirtual 99, 3) := dk_182 0 99 (dk_at dksX6_readsLay_1 13 rfl rfl)
theorem dX6_readsLay_39 : decode cX6_readsLay 39 = .ok (.aload_n 0, 1) := dk_42 (dk_at dksX6_readsLay_1 16 rfl rfl)
theorem dX6_readsLay_40 : decode cX6_readsLay 40 = .ok (.getfield 83, 3) := dk_180 0 83 (dk_at dksX6_readsLay_1 17 rfl rfl)
theorem dX6_readsLay_43 : decode cX6_readsLay 43 = .ok (.ifCond .ne 10, 3) := dk_154 0 10 (dk_at dksX6_readsLay_1 20 rfl rfl)
theorem dX6_readsLay_46 : decode cX6_readsLay 46 = .ok (.aload_n 0, 1) := dk_42 (dk_at dksX6_readsLay_1 23 rfl rfl)
theorem dX6_readsLay_47 : decode cX6_readsLay 47 = .ok (.invokevirtual 113, 3) := dk_182 0 113 (dk_at dksX6_readsLay_2 0 rfl rfl)
theorem dX6_readsLay_50 : decode cX6_readsLay 50 = .ok (.goto 4, 3) := dk_167 0 4 (dk_at dksX6_readsLay_2 3 rfl rfl)
theorem dX6_readsLay_53 : decode cX6_readsLay 53 = .ok (.iconst 0, 1) := dk_3 (dk_at dksX6_readsLay_2 6 rfl rfl)
theorem dX6_readsLay_54 : decode cX6_readsLay 54 = .ok (.istore_n 2, 1) := dk_61 (dk_at dksX6_readsLay_2 7 rfl rfl)
theorem dX6_readsLay_55 : decode cX6_readsLay 55 = .ok (.iload_n 2, 1) := dk_28 (dk_at dksX6_readsLay_2 8 rfl rfl)
theorem dX6_readsLay_56 : decode cX6_readsLay 56 = .ok (.iconst 1, 1) := dk_4 (dk_at dksX6_readsLay_2 9 rfl rfl)
theorem dX6_readsLay_57 : decode cX6_readsLay 57 = .ok (.if_icmp .ne 7, 3) := dk_160 0 7 (dk_at dksX6_readsLay_2 10 rfl rfl)
theorem dX6_readsLay_60 : decode cX6_readsLay 60 = .ok (.iconst 0, 1) := dk_3 (dk_at dksX6_readsLay_2 13 rfl rfl)
theorem dX6_readsLay_61 : decode cX6_readsLay 61 = .ok (.goto 22, 3) := dk_167 0 22 (dk_at dksX6_readsLay_2 14 rfl rfl)
theorem dX6_readsLay_64 : decode cX6_readsLay 64 = .ok (.iload_n 2, 1) := dk_28 (dk_at dksX6_readsLay_2 17 rfl rfl)
theorem dX6_readsLay_65 : decode cX6_readsLay 65 = .ok (.iconst 2, 1) := dk_5 (dk_at dksX6_readsLay_2 18 rfl rfl)
theorem dX6_readsLay_66 : decode cX6_readsLay 66 = .ok (.if_icmp .ne 7, 3) := dk_160 0 7 (dk_at dksX6_readsLay_2 19 rfl rfl)
theorem dX6_readsLay_69 : decode cX6_readsLay 69 = .ok (.iconst 1, 1) := dk_4 (dk_at dksX6_readsLay_2 22 rfl rfl)
theorem dX6_readsLay_70 : decode cX6_readsLay 70 = .ok (.goto 13, 3) := dk_167 0 13 (dk_at dksX6_readsLay_3 0 rfl rfl)
theorem dX6_readsLay_73 : decode cX6_readsLay 73 = .ok (.iload_n 2, 1) := dk_28 (dk_at dksX6_readsLay_3 3 rfl rfl)
theorem dX6_readsLay_74 : decode cX6_readsLay 74 = .ok (.iconst 4, 1) := dk_7 (dk_at dksX6_readsLay_3 4 rfl rfl)
theorem dX6_readsLay_75 : decode cX6_readsLay 75 = .ok (.if_icmp .ne 7, 3) := dk_160 0 7 (dk_at dksX6_readsLay_3 5 rfl rfl)
theorem dX6_readsLay_78 : decode cX6_readsLay 78 = .ok (.iconst 2, 1) := dk_5 (dk_at dksX6_readsLay_3 8 rfl rfl)
theorem dX6_readsLay_79 : decode cX6_readsLay 79 = .ok (.goto 4, 3) := dk_167 0 4 (dk_at dksX6_readsLay_3 9 rfl rfl)
theorem dX6_readsLay_82 : decode cX6_readsLay 82 = .ok (.iconst (-1), 1) := dk_2 (dk_at dksX6_readsLay_3 12 rfl rfl)
theorem dX6_readsLay_83 : decode cX6_readsLay 83 = .ok (.istore_n 3, 1) := dk_62 (dk_at dksX6_readsLay_3 13 rfl rfl)
theorem dX6_readsLay_84 : decode cX6_readsLay 84 = .ok (.iload_n 3, 1) := dk_29 (dk_at dksX6_readsLay_3 14 rfl rfl)
theorem dX6_readsLay_85 : decode cX6_readsLay 85 = .ok (.iconst (-1), 1) := dk_2 (dk_at dksX6_readsLay_3 15 rfl rfl)
theorem dX6_readsLay_86 : decode cX6_readsLay 86 = .ok (.if_icmp .ne 9, 3) := dk_160 0 9 (dk_at dksX6_readsLay_3 16 rfl rfl)
theorem dX6_readsLay_89 : decode cX6_readsLay 89 = .ok (.aload_n 0, 1) := dk_42 (dk_at dksX6_readsLay_3 19 rfl rfl)
theorem dX6_readsLay_90 : decode cX6_readsLay 90 = .ok (.bipush (-3), 2) := dk_16 253 (dk_at dksX6_readsLay_3 20 rfl rfl)
theorem dX6_readsLay_92 : decode cX6_readsLay 92 = .ok (.invokevirtual 99, 3) := dk_182 0 99 (dk_at dksX6_readsLay_4 0 rfl rfl)
theorem dX6_readsLay_95 : decode cX6_readsLay 95 = .ok (.aload_n 0, 1) := dk_42 (dk_at dksX6_readsLay_4 3 rfl rfl)
theorem dX6_readsLay_96 : decode cX6_readsLay 96 = .ok (.getfield 83, 3) := dk_180 0 83 (dk_at dksX6_readsLay_4 4 rfl rfl)
theorem dX6_readsLay_99 : decode cX6_readsLay 99 = .ok (.ifCond .ne 18, 3) := dk_154 0 18 (dk_at dksX6_readsLay_4 7 rfl rfl)
theorem dX6_readsLay_102 : decode cX6_readsLay 102 = .ok (.aload_n 0, 1) := dk_42 (dk_at dksX6_readsLay_4 10 rfl rfl)
theorem dX6_readsLay_103 : decode cX6_readsLay 103 = .ok (.iload_n 1, 1) := dk_27 (dk_at dksX6_readsLay_4 11 rfl rfl)
theorem dX6_readsLay_104 : decode cX6_readsLay 104 = .ok (.iload_n 3, 1) := dk_29 (dk_at dksX6_readsLay_4 12 rfl rfl)
theorem dX6_readsLay_105 : decode cX6_readsLay 105 = .ok (.invokevirtual 127, 3) := dk_182 0 127 (dk_at dksX6_readsLay_4 13 rfl rfl)
theorem dX6_readsLay_108 : decode cX6_readsLay 108 = .ok (.ifCond .le 9, 3) := dk_158 0 9 (dk_at dksX6_readsLay_4 16 rfl rfl)
theorem dX6_readsLay_111 : decode cX6_readsLay 111 = .ok (.aload_n 0, 1) := dk_42 (dk_at dksX6_readsLay_4 19 rfl rfl)
theorem dX6_readsLay_112 : decode cX6_readsLay 112 = .ok (.bipush (-5), 2) := dk_16 251 (dk_at dksX6_readsLay_4 20 rfl rfl)
theorem dX6_readsLay_114 : decode cX6_readsLay 114 = .ok (.invokevirtual 99, 3) := dk_182 0 99 (dk_at dksX6_readsLay_5 0 rfl rfl)
theorem dX6_readsLay_117 : decode cX6_readsLay 117 = .ok (.aload_n 0, 1) := dk_42 (dk_at dksX6_readsLay_5 3 rfl rfl)
theorem dX6_readsLay_118 : decode cX6_readsLay 118 = .ok (.getfield 83, 3) := dk_180 0 83 (dk_at dksX6_readsLay_5 4 rfl rfl)
theorem dX6_readsLay_121 : decode cX6_readsLay 121 = .ok (.ifCond .ne 9, 3) := dk_154 0 9 (dk_at dksX6_readsLay_5 7 rfl rfl)
theorem dX6_readsLay_124 : decode cX6_readsLay 124 = .ok (.aload_n 0, 1) := dk_42 (dk_at dksX6_readsLay_5 10 rfl rfl)
theorem dX6_readsLay_125 : decode cX6_readsLay 125 = .ok (.iload_n 1, 1) := dk_27 (dk_at dksX6_readsLay_5 11 rfl rfl)
theorem dX6_readsLay_126 : decode cX6_readsLay 126 = .ok (.iload_n 3, 1) := dk_29 (dk_at dksX6_readsLay_5 12 rfl rfl)
theorem dX6_readsLay_127 : decode cX6_readsLay 127 = .ok (.invokevirtual 130, 3) := dk_182 0 130 (dk_at dksX6_readsLay_5 13 rfl rfl)
theorem dX6_readsLay_130 : decode cX6_readsLay 130 = .ok (.aload_n 0, 1) := dk_42 (dk_at dksX6_readsLay_5 16 rfl rfl)
theorem dX6_readsLay_131 : decode cX6_readsLay 131 = .ok (.iconst 1, 1) := dk_4 (dk_at dksX6_readsLay_5 17 rfl rfl)
theorem dX6_readsLay_132 : decode cX6_readsLay 132 = .ok (.invokevirtual 106, 3) := dk_182 0 106 (dk_at dksX6_readsLay_5 18 rfl rfl)
theorem dX6_readsLay_135 : decode cX6_readsLay 135 = .ok (.aload_n 0, 1) := dk_42 (dk_at dksX6_readsLay_5 21 rfl rfl)
theorem dX6_readsLay_136 : decode cX6_readsLay 136 = .ok (.invokevirtual 116, 3) := dk_182 0 116 (dk_at dksX6_readsLay_6 0 rfl rfl)
theorem dX6_readsLay_139 : decode cX6_readsLay 139 = .ok (.return_, 1) := dk_177 (dk_at dksX6_readsLay_6 3 rfl rfl)
abbrev cX6_whyNot : ByteArray := prog_16_method_38_code
def yX6_whyNot : MethodName := ⟨RX6, "whyNot", "(II)I"⟩
def dkwX6_whyNot_2 : List UInt8 := [182, 0, 199, 28, 122, 4, 126, 4, 160, 0, 7, 3, 167, 0, 4, 7, 172]
abbrev dktX6_whyNot_2 : List UInt8 := dkwX6_whyNot_2 ++ []
def dkwX6_whyNot_1 : List UInt8 := [154, 0, 5, 5, 172, 42, 27, 182, 0, 186, 28, 122, 4, 126, 4, 160, 0, 5, 6, 172, 42, 27]
abbrev dktX6_whyNot_1 : List UInt8 := dkwX6_whyNot_1 ++ dktX6_whyNot_2
def dkwX6_whyNot_0 : List UInt8 := [42, 27, 182, 0, 170, 154, 0, 5, 4, 172, 42, 180, 0, 7, 7, 27, 96, 46, 28, 122, 4, 126]
abbrev dktX6_whyNot_0 : List UInt8 := dkwX6_whyNot_0 ++ dktX6_whyNot_1
theorem dksX6_whyNot_0 : cX6_whyNot.data.toList.drop 0 = dktX6_whyNot_0 := by decide +kernel
theorem dksX6_whyNot_1 : cX6_whyNot.data.toList.drop 22 = dktX6_whyNot_1 := dk_seg dksX6_whyNot_0 22 rfl rfl
theorem dksX6_whyNot_2 : cX6_whyNot.data.toList.drop 44 = dktX6_whyNot_2 := dk_seg dksX6_whyNot_1 22 rfl rfl
theorem dX6_whyNot_0 : decode cX6_whyNot 0 = .ok (.aload_n 0, 1) := dk_42 (dk_at dksX6_whyNot_0 0 rfl rfl)
theorem dX6_whyNot_1 : decode cX6_whyNot 1 = .ok (.iload_n 1, 1) := dk_27 (dk_at dksX6_whyNot_0 1 rfl rfl)
theorem dX6_whyNot_2 : decode cX6_whyNot 2 = .ok (.invokevirtual 170, 3) := dk_182 0 170 (dk_at dksX6_whyNot_0 2 rfl rfl)
theorem dX6_whyNot_5 : decode cX6_whyNot 5 = .ok (.ifCond .ne 5, 3) := dk_154 0 5 (dk_at dksX6_whyNot_0 5 rfl rfl)
theorem dX6_whyNot_8 : decode cX6_whyNot 8 = .ok (.iconst 1, 1) := dk_4 (dk_at dksX6_whyNot_0 8 rfl rfl)
theorem dX6_whyNot_9 : decode cX6_whyNot 9 = .ok (.ireturn, 1) := dk_172 (dk_at dksX6_whyNot_0 9 rfl rfl)
theorem dX6_whyNot_10 : decode cX6_whyNot 10 = .ok (.aload_n 0, 1) := dk_42 (dk_at dksX6_whyNot_0 10 rfl rfl)
theorem dX6_whyNot_11 : decode cX6_whyNot 11 = .ok (.getfield 7, 3) := dk_180 0 7 (dk_at dksX6_whyNot_0 11 rfl rfl)
theorem dX6_whyNot_14 : decode cX6_whyNot 14 = .ok (.iconst 4, 1) := dk_7 (dk_at dksX6_whyNot_0 14 rfl rfl)
theorem dX6_whyNot_15 : decode cX6_whyNot 15 = .ok (.iload_n 1, 1) := dk_27 (dk_at dksX6_whyNot_0 15 rfl rfl)
theorem dX6_whyNot_16 : decode cX6_whyNot 16 = .ok (.iadd, 1) := dk_96 (dk_at dksX6_whyNot_0 16 rfl rfl)
theorem dX6_whyNot_17 : decode cX6_whyNot 17 = .ok (.iaload, 1) := dk_46 (dk_at dksX6_whyNot_0 17 rfl rfl)
theorem dX6_whyNot_18 : decode cX6_whyNot 18 = .ok (.iload_n 2, 1) := dk_28 (dk_at dksX6_whyNot_0 18 rfl rfl)
theorem dX6_whyNot_19 : decode cX6_whyNot 19 = .ok (.ishr, 1) := dk_122 (dk_at dksX6_whyNot_0 19 rfl rfl)
theorem dX6_whyNot_20 : decode cX6_whyNot 20 = .ok (.iconst 1, 1) := dk_4 (dk_at dksX6_whyNot_0 20 rfl rfl)
theorem dX6_whyNot_21 : decode cX6_whyNot 21 = .ok (.iand, 1) := dk_126 (dk_at dksX6_whyNot_0 21 rfl rfl)
theorem dX6_whyNot_22 : decode cX6_whyNot 22 = .ok (.ifCond .ne 5, 3) := dk_154 0 5 (dk_at dksX6_whyNot_1 0 rfl rfl)
theorem dX6_whyNot_25 : decode cX6_whyNot 25 = .ok (.iconst 2, 1) := dk_5 (dk_at dksX6_whyNot_1 3 rfl rfl)
theorem dX6_whyNot_26 : decode cX6_whyNot 26 = .ok (.ireturn, 1) := dk_172 (dk_at dksX6_whyNot_1 4 rfl rfl)
theorem dX6_whyNot_27 : decode cX6_whyNot 27 = .ok (.aload_n 0, 1) := dk_42 (dk_at dksX6_whyNot_1 5 rfl rfl)
theorem dX6_whyNot_28 : decode cX6_whyNot 28 = .ok (.iload_n 1, 1) := dk_27 (dk_at dksX6_whyNot_1 6 rfl rfl)
theorem dX6_whyNot_29 : decode cX6_whyNot 29 = .ok (.invokevirtual 186, 3) := dk_182 0 186 (dk_at dksX6_whyNot_1 7 rfl rfl)
theorem dX6_whyNot_32 : decode cX6_whyNot 32 = .ok (.iload_n 2, 1) := dk_28 (dk_at dksX6_whyNot_1 10 rfl rfl)
theorem dX6_whyNot_33 : decode cX6_whyNot 33 = .ok (.ishr, 1) := dk_122 (dk_at dksX6_whyNot_1 11 rfl rfl)
theorem dX6_whyNot_34 : decode cX6_whyNot 34 = .ok (.iconst 1, 1) := dk_4 (dk_at dksX6_whyNot_1 12 rfl rfl)
theorem dX6_whyNot_35 : decode cX6_whyNot 35 = .ok (.iand, 1) := dk_126 (dk_at dksX6_whyNot_1 13 rfl rfl)
theorem dX6_whyNot_36 : decode cX6_whyNot 36 = .ok (.iconst 1, 1) := dk_4 (dk_at dksX6_whyNot_1 14 rfl rfl)
theorem dX6_whyNot_37 : decode cX6_whyNot 37 = .ok (.if_icmp .ne 5, 3) := dk_160 0 5 (dk_at dksX6_whyNot_1 15 rfl rfl)
theorem dX6_whyNot_40 : decode cX6_whyNot 40 = .ok (.iconst 3, 1) := dk_6 (dk_at dksX6_whyNot_1 18 rfl rfl)
theorem dX6_whyNot_41 : decode cX6_whyNot 41 = .ok (.ireturn, 1) := dk_172 (dk_at dksX6_whyNot_1 19 rfl rfl)
theorem dX6_whyNot_42 : decode cX6_whyNot 42 = .ok (.aload_n 0, 1) := dk_42 (dk_at dksX6_whyNot_1 20 rfl rfl)
theorem dX6_whyNot_43 : decode cX6_whyNot 43 = .ok (.iload_n 1, 1) := dk_27 (dk_at dksX6_whyNot_1 21 rfl rfl)
theorem dX6_whyNot_44 : decode cX6_whyNot 44 = .ok (.invokevirtual 199, 3) := dk_182 0 199 (dk_at dksX6_whyNot_2 0 rfl rfl)
theorem dX6_whyNot_47 : decode cX6_whyNot 47 = .ok (.iload_n 2, 1) := dk_28 (dk_at dksX6_whyNot_2 3 rfl rfl)
theorem dX6_whyNot_48 : decode cX6_whyNot 48 = .ok (.ishr, 1) := dk_122 (dk_at dksX6_whyNot_2 4 rfl rfl)
theorem dX6_whyNot_49 : decode cX6_whyNot 49 = .ok (.iconst 1, 1) := dk_4 (dk_at dksX6_whyNot_2 5 rfl rfl)
theorem dX6_whyNot_50 : decode cX6_whyNot 50 = .ok (.iand, 1) := dk_126 (dk_at dksX6_whyNot_2 6 rfl rfl)
theorem dX6_whyNot_51 : decode cX6_whyNot 51 = .ok (.iconst 1, 1) := dk_4 (dk_at dksX6_whyNot_2 7 rfl rfl)
theorem dX6_whyNot_52 : decode cX6_whyNot 52 = .ok (.if_icmp .ne 7, 3) := dk_160 0 7 (dk_at dksX6_whyNot_2 8 rfl rfl)
theorem dX6_whyNot_55 : decode cX6_whyNot 55 = .ok (.iconst 0, 1) := dk_3 (dk_at dksX6_whyNot_2 11 rfl rfl)
theorem dX6_whyNot_56 : decode cX6_whyNot 56 = .ok (.goto 4, 3) := dk_167 0 4 (dk_at dksX6_whyNot_2 12 rfl rfl)
theorem dX6_whyNot_59 : decode cX6_whyNot 59 = .ok (.iconst 4, 1) := dk_7 (dk_at dksX6_whyNot_2 15 rfl rfl)
theorem dX6_whyNot_60 : decode cX6_whyNot 60 = .ok (.ireturn, 1) := dk_172 (dk_at dksX6_whyNot_2 16 rfl rfl)
abbrev cX6_isFree : ByteArray := prog_16_method_26_code
def yX6_isFree : MethodName := ⟨RX6, "isFree", "(I)Z"⟩
def dkwX6_isFree_0 : List UInt8 := [42, 180, 0, 7, 16, 22, 27, 96, 46, 154, 0, 7, 4, 167, 0, 4, 3, 172]
abbrev dktX6_isFree_0 : List UInt8 := dkwX6_isFree_0 ++ []
theorem dksX6_isFree_0 : cX6_isFree.data.toList.drop 0 = dktX6_isFree_0 := by decide +kernel
theorem dX6_isFree_0 : decode cX6_isFree 0 = .ok (.aload_n 0, 1) := dk_42 (dk_at dksX6_isFree_0 0 rfl rfl)
theorem dX6_isFree_1 : decode cX6_isFree 1 = .ok (.getfield 7, 3) := dk_180 0 7 (dk_at dksX6_isFree_0 1 rfl rfl)
theorem dX6_isFree_4 : decode cX6_isFree 4 = .ok (.bipush 22, 2) := dk_16 22 (dk_at dksX6_isFree_0 4 rfl rfl)
theorem dX6_isFree_6 : decode cX6_isFree 6 = .ok (.iload_n 1, 1) := dk_27 (dk_at dksX6_isFree_0 6 rfl rfl)
theorem dX6_isFree_7 : decode cX6_isFree 7 = .ok (.iadd, 1) := dk_96 (dk_at dksX6_isFree_0 7 rfl rfl)
theorem dX6_isFree_8 : decode cX6_isFree 8 = .ok (.iaload, 1) := dk_46 (dk_at dksX6_isFree_0 8 rfl rfl)
theorem dX6_isFree_9 : decode cX6_isFree 9 = .ok (.ifCond .ne 7, 3) := dk_154 0 7 (dk_at dksX6_isFree_0 9 rfl rfl)
theorem dX6_isFree_12 : decode cX6_isFree 12 = .ok (.iconst 1, 1) := dk_4 (dk_at dksX6_isFree_0 12 rfl rfl)
theorem dX6_isFree_13 : decode cX6_isFree 13 = .ok (.goto 4, 3) := dk_167 0 4 (dk_at dksX6_isFree_0 13 rfl rfl)
theorem dX6_isFree_16 : decode cX6_isFree 16 = .ok (.iconst 0, 1) := dk_3 (dk_at dksX6_isFree_0 16 rfl rfl)
theorem dX6_isFree_17 : decode cX6_isFree 17 = .ok (.ireturn, 1) := dk_172 (dk_at dksX6_isFree_0 17 rfl rfl)
abbrev cX6_around : ByteArray := prog_16_method_34_code
def yX6_around : MethodName := ⟨RX6, "around", "(I)I"⟩
def dkwX6_around_2 : List UInt8 := [172]
abbrev dktX6_around_2 : List UInt8 := dkwX6_around_2 ++ []
def dkwX6_around_1 : List UInt8 := [29, 182, 0, 170, 154, 0, 13, 28, 4, 42, 29, 182, 0, 183, 120, 128, 61, 132, 3, 1, 167, 255, 216, 28]
abbrev dktX6_around_1 : List UInt8 := dkwX6_around_1 ++ dktX6_around_2
def dkwX6_around_0 : List UInt8 := [3, 61, 3, 62, 29, 42, 180, 0, 7, 3, 46, 162, 0, 36, 42, 27, 29, 182, 0, 123, 153, 0, 21, 42]
abbrev dktX6_around_0 : List UInt8 := dkwX6_around_0 ++ dktX6_around_1
theorem dksX6_around_0 : cX6_around.data.toList.drop 0 = dktX6_around_0 := by decide +kernel
theorem dksX6_around_1 : cX6_around.data.toList.drop 24 = dktX6_around_1 := dk_seg dksX6_around_0 24 rfl rfl
theorem dksX6_around_2 : cX6_around.data.toList.drop 48 = dktX6_around_2 := dk_seg dksX6_around_1 24 rfl rfl
theorem dX6_around_0 : decode cX6_around 0 = .ok (.iconst 0, 1) := dk_3 (dk_at dksX6_around_0 0 rfl rfl)
theorem dX6_around_1 : decode cX6_around 1 = .ok (.istore_n 2, 1) := dk_61 (dk_at dksX6_around_0 1 rfl rfl)
theorem dX6_around_2 : decode cX6_around 2 = .ok (.iconst 0, 1) := dk_3 (dk_at dksX6_around_0 2 rfl rfl)
theorem dX6_around_3 : decode cX6_around 3 = .ok (.istore_n 3, 1) := dk_62 (dk_at dksX6_around_0 3 rfl rfl)
theorem dX6_around_4 : decode cX6_around 4 = .ok (.iload_n 3, 1) := dk_29 (dk_at dksX6_around_0 4 rfl rfl)
theorem dX6_around_5 : decode cX6_around 5 = .ok (.aload_n 0, 1) := dk_42 (dk_at dksX6_around_0 5 rfl rfl)
theorem dX6_around_6 : decode cX6_around 6 = .ok (.getfield 7, 3) := dk_180 0 7 (dk_at dksX6_around_0 6 rfl rfl)
theorem dX6_around_9 : decode cX6_around 9 = .ok (.iconst 0, 1) := dk_3 (dk_at dksX6_around_0 9 rfl rfl)
theorem dX6_around_10 : decode cX6_around 10 = .ok (.iaload, 1) := dk_46 (dk_at dksX6_around_0 10 rfl rfl)
theorem dX6_around_11 : decode cX6_around 11 = .ok (.if_icmp .ge 36, 3) := dk_162 0 36 (dk_at dksX6_around_0 11 rfl rfl)
theorem dX6_around_14 : decode cX6_around 14 = .ok (.aload_n 0, 1) := dk_42 (dk_at dksX6_around_0 14 rfl rfl)
theorem dX6_around_15 : decode cX6_around 15 = .ok (.iload_n 1, 1) := dk_27 (dk_at dksX6_around_0 15 rfl rfl)
theorem dX6_around_16 : decode cX6_around 16 = .ok (.iload_n 3, 1) := dk_29 (dk_at dksX6_around_0 16 rfl rfl)
theorem dX6_around_17 : decode cX6_around 17 = .ok (.invokevirtual 123, 3) := dk_182 0 123 (dk_at dksX6_around_0 17 rfl rfl)
theorem dX6_around_20 : decode cX6_around 20 = .ok (.ifCond .eq 21, 3) := dk_153 0 21 (dk_at dksX6_around_0 20 rfl rfl)
theorem dX6_around_23 : decode cX6_around 23 = .ok (.aload_n 0, 1) := dk_42 (dk_at dksX6_around_0 23 rfl rfl)
theorem dX6_around_24 : decode cX6_around 24 = .ok (.iload_n 3, 1) := dk_29 (dk_at dksX6_around_1 0 rfl rfl)
theorem dX6_around_25 : decode cX6_around 25 = .ok (.invokevirtual 170, 3) := dk_182 0 170 (dk_at dksX6_around_1 1 rfl rfl)
theorem dX6_around_28 : decode cX6_around 28 = .ok (.ifCond .ne 13, 3) := dk_154 0 13 (dk_at dksX6_around_1 4 rfl rfl)
theorem dX6_around_31 : decode cX6_around 31 = .ok (.iload_n 2, 1) := dk_28 (dk_at dksX6_around_1 7 rfl rfl)
theorem dX6_around_32 : decode cX6_around 32 = .ok (.iconst 1, 1) := dk_4 (dk_at dksX6_around_1 8 rfl rfl)
theorem dX6_around_33 : decode cX6_around 33 = .ok (.aload_n 0, 1) := dk_42 (dk_at dksX6_around_1 9 rfl rfl)
theorem dX6_around_34 : decode cX6_around 34 = .ok (.iload_n 3, 1) := dk_29 (dk_at dksX6_around_1 10 rfl rfl)
theorem dX6_around_35 : decode cX6_around 35 = .ok (.invokevirtual 183, 3) := dk_182 0 183 (dk_at dksX6_around_1 11 rfl rfl)
theorem dX6_around_38 : decode cX6_around 38 = .ok (.ishl, 1) := dk_120 (dk_at dksX6_around_1 14 rfl rfl)
theorem dX6_around_39 : decode cX6_around 39 = .ok (.ior, 1) := dk_128 (dk_at dksX6_around_1 15 rfl rfl)
theorem dX6_around_40 : decode cX6_around 40 = .ok (.istore_n 2, 1) := dk_61 (dk_at dksX6_around_1 16 rfl rfl)
theorem dX6_around_41 : decode cX6_around 41 = .ok (.iinc 3 1, 3) := dk_132 3 1 (dk_at dksX6_around_1 17 rfl rfl)
theorem dX6_around_44 : decode cX6_around 44 = .ok (.goto (-40), 3) := dk_167 255 216 (dk_at dksX6_around_1 20 rfl rfl)
theorem dX6_around_47 : decode cX6_around 47 = .ok (.iload_n 2, 1) := dk_28 (dk_at dksX6_around_1 23 rfl rfl)
theorem dX6_around_48 : decode cX6_around 48 = .ok (.ireturn, 1) := dk_172 (dk_at dksX6_around_2 0 rfl rfl)
abbrev cX6_colourOf : ByteArray := prog_16_method_25_code
def yX6_colourOf : MethodName := ⟨RX6, "colourOf", "(I)I"⟩
def dkwX6_colourOf_0 : List UInt8 := [42, 180, 0, 7, 16, 22, 27, 96, 46, 4, 100, 172]
abbrev dktX6_colourOf_0 : List UInt8 := dkwX6_colourOf_0 ++ []
theorem dksX6_colourOf_0 : cX6_colourOf.data.toList.drop 0 = dktX6_colourOf_0 := by decide +kernel
theorem dX6_colourOf_0 : decode cX6_colourOf 0 = .ok (.aload_n 0, 1) := dk_42 (dk_at dksX6_colourOf_0 0 rfl rfl)
theorem dX6_colourOf_1 : decode cX6_colourOf 1 = .ok (.getfield 7, 3) := dk_180 0 7 (dk_at dksX6_colourOf_0 1 rfl rfl)
theorem dX6_colourOf_4 : decode cX6_colourOf 4 = .ok (.bipush 22, 2) := dk_16 22 (dk_at dksX6_colourOf_0 4 rfl rfl)
theorem dX6_colourOf_6 : decode cX6_colourOf 6 = .ok (.iload_n 1, 1) := dk_27 (dk_at dksX6_colourOf_0 6 rfl rfl)
theorem dX6_colourOf_7 : decode cX6_colourOf 7 = .ok (.iadd, 1) := dk_96 (dk_at dksX6_colourOf_0 7 rfl rfl)
theorem dX6_colourOf_8 : decode cX6_colourOf 8 = .ok (.iaload, 1) := dk_46 (dk_at dksX6_colourOf_0 8 rfl rfl)
theorem dX6_colourOf_9 : decode cX6_colourOf 9 = .ok (.iconst 1, 1) := dk_4 (dk_at dksX6_colourOf_0 9 rfl rfl)
theorem dX6_colourOf_10 : decode cX6_colourOf 10 = .ok (.isub, 1) := dk_100 (dk_at dksX6_colourOf_0 10 rfl rfl)
theorem dX6_colourOf_11 : decode cX6_colourOf 11 = .ok (.ireturn, 1) := dk_172 (dk_at dksX6_colourOf_0 11 rfl rfl)
abbrev cX6_colours : ByteArray := prog_16_method_37_code
def yX6_colours : MethodName := ⟨RX6, "colours", "(I)I"⟩
def dkwX6_colours_1 : List UInt8 := [182, 0, 195, 167, 0, 4, 3, 172]
abbrev dktX6_colours_1 : List UInt8 := dkwX6_colours_1 ++ []
def dkwX6_colours_0 : List UInt8 := [42, 27, 182, 0, 170, 153, 0, 25, 42, 27, 42, 27, 42, 182, 0, 180, 182, 0, 177, 42, 27, 182, 0, 192]
abbrev dktX6_colours_0 : List UInt8 := dkwX6_colours_0 ++ dktX6_colours_1
theorem dksX6_colours_0 : cX6_colours.data.toList.drop 0 = dktX6_colours_0 := by decide +kernel
theorem dksX6_colours_1 : cX6_colours.data.toList.drop 24 = dktX6_colours_1 := dk_seg dksX6_colours_0 24 rfl rfl
theorem dX6_colours_0 : decode cX6_colours 0 = .ok (.aload_n 0, 1) := dk_42 (dk_at dksX6_colours_0 0 rfl rfl)
theorem dX6_colours_1 : decode cX6_colours 1 = .ok (.iload_n 1, 1) := dk_27 (dk_at dksX6_colours_0 1 rfl rfl)
theorem dX6_colours_2 : decode cX6_colours 2 = .ok (.invokevirtual 170, 3) := dk_182 0 170 (dk_at dksX6_colours_0 2 rfl rfl)
theorem dX6_colours_5 : decode cX6_colours 5 = .ok (.ifCond .eq 25, 3) := dk_153 0 25 (dk_at dksX6_colours_0 5 rfl rfl)
theorem dX6_colours_8 : decode cX6_colours 8 = .ok (.aload_n 0, 1) := dk_42 (dk_at dksX6_colours_0 8 rfl rfl)
theorem dX6_colours_9 : decode cX6_colours 9 = .ok (.iload_n 1, 1) := dk_27 (dk_at dksX6_colours_0 9 rfl rfl)
theorem dX6_colours_10 : decode cX6_colours 10 = .ok (.aload_n 0, 1) := dk_42 (dk_at dksX6_colours_0 10 rfl rfl)
theorem dX6_colours_11 : decode cX6_colours 11 = .ok (.iload_n 1, 1) := dk_27 (dk_at dksX6_colours_0 11 rfl rfl)
theorem dX6_colours_12 : decode cX6_colours 12 = .ok (.aload_n 0, 1) := dk_42 (dk_at dksX6_colours_0 12 rfl rfl)
theorem dX6_colours_13 : decode cX6_colours 13 = .ok (.invokevirtual 180, 3) := dk_182 0 180 (dk_at dksX6_colours_0 13 rfl rfl)
theorem dX6_colours_16 : decode cX6_colours 16 = .ok (.invokevirtual 177, 3) := dk_182 0 177 (dk_at dksX6_colours_0 16 rfl rfl)
theorem dX6_colours_19 : decode cX6_colours 19 = .ok (.aload_n 0, 1) := dk_42 (dk_at dksX6_colours_0 19 rfl rfl)
theorem dX6_colours_20 : decode cX6_colours 20 = .ok (.iload_n 1, 1) := dk_27 (dk_at dksX6_colours_0 20 rfl rfl)
theorem dX6_colours_21 : decode cX6_colours 21 = .ok (.invokevirtual 192, 3) := dk_182 0 192 (dk_at dksX6_colours_0 21 rfl rfl)
theorem dX6_colours_24 : decode cX6_colours 24 = .ok (.invokevirtual 195, 3) := dk_182 0 195 (dk_at dksX6_colours_1 0 rfl rfl)
theorem dX6_colours_27 : decode cX6_colours 27 = .ok (.goto 4, 3) := dk_167 0 4 (dk_at dksX6_colours_1 3 rfl rfl)
theorem dX6_colours_30 : decode cX6_colours 30 = .ok (.iconst 0, 1) := dk_3 (dk_at dksX6_colours_1 6 rfl rfl)
theorem dX6_colours_31 : decode cX6_colours 31 = .ok (.ireturn, 1) := dk_172 (dk_at dksX6_colours_1 7 rfl rfl)
abbrev cX6_freeSet : ByteArray := prog_16_method_27_code
def yX6_freeSet : MethodName := ⟨RX6, "freeSet", "()I"⟩
def dkwX6_freeSet_1 : List UInt8 := [28, 120, 167, 0, 4, 3, 128, 60, 132, 2, 1, 167, 255, 225, 27, 172]
abbrev dktX6_freeSet_1 : List UInt8 := dkwX6_freeSet_1 ++ []
def dkwX6_freeSet_0 : List UInt8 := [3, 60, 3, 61, 28, 42, 180, 0, 7, 3, 46, 162, 0, 27, 27, 42, 28, 182, 0, 170, 153, 0, 9, 4]
abbrev dktX6_freeSet_0 : List UInt8 := dkwX6_freeSet_0 ++ dktX6_freeSet_1
theorem dksX6_freeSet_0 : cX6_freeSet.data.toList.drop 0 = dktX6_freeSet_0 := by decide +kernel
theorem dksX6_freeSet_1 : cX6_freeSet.data.toList.drop 24 = dktX6_freeSet_1 := dk_seg dksX6_freeSet_0 24 rfl rfl
theorem dX6_freeSet_0 : decode cX6_freeSet 0 = .ok (.iconst 0, 1) := dk_3 (dk_at dksX6_freeSet_0 0 rfl rfl)
theorem dX6_freeSet_1 : decode cX6_freeSet 1 = .ok (.istore_n 1, 1) := dk_60 (dk_at dksX6_freeSet_0 1 rfl rfl)
theorem dX6_freeSet_2 : decode cX6_freeSet 2 = .ok (.iconst 0, 1) := dk_3 (dk_at dksX6_freeSet_0 2 rfl rfl)
theorem dX6_freeSet_3 : decode cX6_freeSet 3 = .ok (.istore_n 2, 1) := dk_61 (dk_at dksX6_freeSet_0 3 rfl rfl)
theorem dX6_freeSet_4 : decode cX6_freeSet 4 = .ok (.iload_n 2, 1) := dk_28 (dk_at dksX6_freeSet_0 4 rfl rfl)
theorem dX6_freeSet_5 : decode cX6_freeSet 5 = .ok (.aload_n 0, 1) := dk_42 (dk_at dksX6_freeSet_0 5 rfl rfl)
theorem dX6_freeSet_6 : decode cX6_freeSet 6 = .ok (.getfield 7, 3) := dk_180 0 7 (dk_at dksX6_freeSet_0 6 rfl rfl)
theorem dX6_freeSet_9 : decode cX6_freeSet 9 = .ok (.iconst 0, 1) := dk_3 (dk_at dksX6_freeSet_0 9 rfl rfl)
theorem dX6_freeSet_10 : decode cX6_freeSet 10 = .ok (.iaload, 1) := dk_46 (dk_at dksX6_freeSet_0 10 rfl rfl)
theorem dX6_freeSet_11 : decode cX6_freeSet 11 = .ok (.if_icmp .ge 27, 3) := dk_162 0 27 (dk_at dksX6_freeSet_0 11 rfl rfl)
theorem dX6_freeSet_14 : decode cX6_freeSet 14 = .ok (.iload_n 1, 1) := dk_27 (dk_at dksX6_freeSet_0 14 rfl rfl)
theorem dX6_freeSet_15 : decode cX6_freeSet 15 = .ok (.aload_n 0, 1) := dk_42 (dk_at dksX6_freeSet_0 15 rfl rfl)
theorem dX6_freeSet_16 : decode cX6_freeSet 16 = .ok (.iload_n 2, 1) := dk_28 (dk_at dksX6_freeSet_0 16 rfl rfl)
theorem dX6_freeSet_17 : decode cX6_freeSet 17 = .ok (.invokevirtual 170, 3) := dk_182 0 170 (dk_at dksX6_freeSet_0 17 rfl rfl)
theorem dX6_freeSet_20 : decode cX6_freeSet 20 = .ok (.ifCond .eq 9, 3) := dk_153 0 9 (dk_at dksX6_freeSet_0 20 rfl rfl)
theorem dX6_freeSet_23 : decode cX6_freeSet 23 = .ok (.iconst 1, 1) := dk_4 (dk_at dksX6_freeSet_0 23 rfl rfl)
theorem dX6_freeSet_24 : decode cX6_freeSet 24 = .ok (.iload_n 2, 1) := dk_28 (dk_at dksX6_freeSet_1 0 rfl rfl)
theorem dX6_freeSet_25 : decode cX6_freeSet 25 = .ok (.ishl, 1) := dk_120 (dk_at dksX6_freeSet_1 1 rfl rfl)
theorem dX6_freeSet_26 : decode cX6_freeSet 26 = .ok (.goto 4, 3) := dk_167 0 4 (dk_at dksX6_freeSet_1 2 rfl rfl)
theorem dX6_freeSet_29 : decode cX6_freeSet 29 = .ok (.iconst 0, 1) := dk_3 (dk_at dksX6_freeSet_1 5 rfl rfl)
theorem dX6_freeSet_30 : decode cX6_freeSet 30 = .ok (.ior, 1) := dk_128 (dk_at dksX6_freeSet_1 6 rfl rfl)
theorem dX6_freeSet_31 : decode cX6_freeSet 31 = .ok (.istore_n 1, 1) := dk_60 (dk_at dksX6_freeSet_1 7 rfl rfl)
theorem dX6_freeSet_32 : decode cX6_freeSet 32 = .ok (.iinc 2 1, 3) := dk_132 2 1 (dk_at dksX6_freeSet_1 8 rfl rfl)
theorem dX6_freeSet_35 : decode cX6_freeSet 35 = .ok (.goto (-31), 3) := dk_167 255 225 (dk_at dksX6_freeSet_1 11 rfl rfl)
theorem dX6_freeSet_38 : decode cX6_freeSet 38 = .ok (.iload_n 1, 1) := dk_27 (dk_at dksX6_freeSet_1 14 rfl rfl)
theorem dX6_freeSet_39 : decode cX6_freeSet 39 = .ok (.ireturn, 1) := dk_172 (dk_at dksX6_freeSet_1 15 rfl rfl)
abbrev cX6_reached : ByteArray := prog_16_method_30_code
def yX6_reached : MethodName := ⟨RX6, "reached", "(II)I"⟩
def dkwX6_reached_3 : List UInt8 := [172]
abbrev dktX6_reached_3 : List UInt8 := dkwX6_reached_3 ++ []
def dkwX6_reached_2 : List UInt8 := [16, 13, 21, 5, 96, 46, 28, 126, 167, 0, 4, 3, 128, 62, 132, 5, 1, 167, 255, 212, 167, 255, 197, 29]
abbrev dktX6_reached_2 : List UInt8 := dkwX6_reached_2 ++ dktX6_reached_3
def dkwX6_reached_1 : List UInt8 := [180, 0, 7, 3, 46, 162, 0, 39, 29, 21, 4, 21, 5, 122, 4, 126, 4, 160, 0, 18, 42, 180, 0, 7]
abbrev dktX6_reached_1 : List UInt8 := dkwX6_reached_1 ++ dktX6_reached_2
def dkwX6_reached_0 : List UInt8 := [4, 27, 120, 62, 3, 54, 4, 29, 21, 4, 159, 0, 59, 29, 54, 4, 3, 54, 5, 21, 5, 42]
abbrev dktX6_reached_0 : List UInt8 := dkwX6_reached_0 ++ dktX6_reached_1
theorem dksX6_reached_0 : cX6_reached.data.toList.drop 0 = dktX6_reached_0 := by decide +kernel
theorem dksX6_reached_1 : cX6_reached.data.toList.drop 22 = dktX6_reached_1 := dk_seg dksX6_reached_0 22 rfl rfl
theorem dksX6_reached_2 : cX6_reached.data.toList.drop 46 = dktX6_reached_2 := dk_seg dksX6_reached_1 24 rfl rfl
theorem dksX6_reached_3 : cX6_reached.data.toList.drop 70 = dktX6_reached_3 := dk_seg dksX6_reached_2 24 rfl rfl
theorem dX6_reached_0 : decode cX6_reached 0 = .ok (.iconst 1, 1) := dk_4 (dk_at dksX6_reached_0 0 rfl rfl)
theorem dX6_reached_1 : decode cX6_reached 1 = .ok (.iload_n 1, 1) := dk_27 (dk_at dksX6_reached_0 1 rfl rfl)
theorem dX6_reached_2 : decode cX6_reached 2 = .ok (.ishl, 1) := dk_120 (dk_at dksX6_reached_0 2 rfl rfl)
theorem dX6_reached_3 : decode cX6_reached 3 = .ok (.istore_n 3, 1) := dk_62 (dk_at dksX6_reached_0 3 rfl rfl)
theorem dX6_reached_4 : decode cX6_reached 4 = .ok (.iconst 0, 1) := dk_3 (dk_at dksX6_reached_0 4 rfl rfl)
theorem dX6_reached_5 : decode cX6_reached 5 = .ok (.istore 4, 2) := dk_54 4 (dk_at dksX6_reached_0 5 rfl rfl)
theorem dX6_reached_7 : decode cX6_reached 7 = .ok (.iload_n 3, 1) := dk_29 (dk_at dksX6_reached_0 7 rfl rfl)
theorem dX6_reached_8 : decode cX6_reached 8 = .ok (.iload 4, 2) := dk_21 4 (dk_at dksX6_reached_0 8 rfl rfl)
theorem dX6_reached_10 : decode cX6_reached 10 = .ok (.if_icmp .eq 59, 3) := dk_159 0 59 (dk_at dksX6_reached_0 10 rfl rfl)
theorem dX6_reached_13 : decode cX6_reached 13 = .ok (.iload_n 3, 1) := dk_29 (dk_at dksX6_reached_0 13 rfl rfl)
theorem dX6_reached_14 : decode cX6_reached 14 = .ok (.istore 4, 2) := dk_54 4 (dk_at dksX6_reached_0 14 rfl rfl)
theorem dX6_reached_16 : decode cX6_reached 16 = .ok (.iconst 0, 1) := dk_3 (dk_at dksX6_reached_0 16 rfl rfl)
theorem dX6_reached_17 : decode cX6_reached 17 = .ok (.istore 5, 2) := dk_54 5 (dk_at dksX6_reached_0 17 rfl rfl)
theorem dX6_reached_19 : decode cX6_reached 19 = .ok (.iload 5, 2) := dk_21 5 (dk_at dksX6_reached_0 19 rfl rfl)
theorem dX6_reached_21 : decode cX6_reached 21 = .ok (.aload_n 0, 1) := dk_42 (dk_at dksX6_reached_0 21 rfl rfl)
theorem dX6_reached_22 : decode cX6_reached 22 = .ok (.getfield 7, 3) := dk_180 0 7 (dk_at dksX6_reached_1 0 rfl rfl)
theorem dX6_reached_25 : decode cX6_reached 25 = .ok (.iconst 0, 1) := dk_3 (dk_at dksX6_reached_1 3 rfl rfl)
theorem dX6_reached_26 : decode cX6_reached 26 = .ok (.iaload, 1) := dk_46 (dk_at dksX6_reached_1 4 rfl rfl)
theorem dX6_reached_27 : decode cX6_reached 27 = .ok (.if_icmp .ge 39, 3) := dk_162 0 39 (dk_at dksX6_reached_1 5 rfl rfl)
theorem dX6_reached_30 : decode cX6_reached 30 = .ok (.iload_n 3, 1) := dk_29 (dk_at dksX6_reached_1 8 rfl rfl)
theorem dX6_reached_31 : decode cX6_reached 31 = .ok (.iload 4, 2) := dk_21 4 (dk_at dksX6_reached_1 9 rfl rfl)
theorem dX6_reached_33 : decode cX6_reached 33 = .ok (.iload 5, 2) := dk_21 5 (dk_at dksX6_reached_1 11 rfl rfl)
theorem dX6_reached_35 : decode cX6_reached 35 = .ok (.ishr, 1) := dk_122 (dk_at dksX6_reached_1 13 rfl rfl)
theorem dX6_reached_36 : decode cX6_reached 36 = .ok (.iconst 1, 1) := dk_4 (dk_at dksX6_reached_1 14 rfl rfl)
theorem dX6_reached_37 : decode cX6_reached 37 = .ok (.iand, 1) := dk_126 (dk_at dksX6_reached_1 15 rfl rfl)
theorem dX6_reached_38 : decode cX6_reached 38 = .ok (.iconst 1, 1) := dk_4 (dk_at dksX6_reached_1 16 rfl rfl)
theorem dX6_reached_39 : decode cX6_reached 39 = .ok (.if_icmp .ne 18, 3) := dk_160 0 18 (dk_at dksX6_reached_1 17 rfl rfl)
theorem dX6_reached_42 : decode cX6_reached 42 = .ok (.aload_n 0, 1) := dk_42 (dk_at dksX6_reached_1 20 rfl rfl)
theorem dX6_reached_43 : decode cX6_reached 43 = .ok (.getfield 7, 3) := dk_180 0 7 (dk_at dksX6_reached_1 21 rfl rfl)
theorem dX6_reached_46 : decode cX6_reached 46 = .ok (.bipush 13, 2) := dk_16 13 (dk_at dksX6_reached_2 0 rfl rfl)
theorem dX6_reached_48 : decode cX6_reached 48 = .ok (.iload 5, 2) := dk_21 5 (dk_at dksX6_reached_2 2 rfl rfl)
theorem dX6_reached_50 : decode cX6_reached 50 = .ok (.iadd, 1) := dk_96 (dk_at dksX6_reached_2 4 rfl rfl)
theorem dX6_reached_51 : decode cX6_reached 51 = .ok (.iaload, 1) := dk_46 (dk_at dksX6_reached_2 5 rfl rfl)
theorem dX6_reached_52 : decode cX6_reached 52 = .ok (.iload_n 2, 1) := dk_28 (dk_at dksX6_reached_2 6 rfl rfl)
theorem dX6_reached_53 : decode cX6_reached 53 = .ok (.iand, 1) := dk_126 (dk_at dksX6_reached_2 7 rfl rfl)
theorem dX6_reached_54 : decode cX6_reached 54 = .ok (.goto 4, 3) := dk_167 0 4 (dk_at dksX6_reached_2 8 rfl rfl)
theorem dX6_reached_57 : decode cX6_reached 57 = .ok (.iconst 0, 1) := dk_3 (dk_at dksX6_reached_2 11 rfl rfl)
theorem dX6_reached_58 : decode cX6_reached 58 = .ok (.ior, 1) := dk_128 (dk_at dksX6_reached_2 12 rfl rfl)
theorem dX6_reached_59 : decode cX6_reached 59 = .ok (.istore_n 3, 1) := dk_62 (dk_at dksX6_reached_2 13 rfl rfl)
theorem dX6_reached_60 : decode cX6_reached 60 = .ok (.iinc 5 1, 3) := dk_132 5 1 (dk_at dksX6_reached_2 14 rfl rfl)
theorem dX6_reached_63 : decode cX6_reached 63 = .ok (.goto (-44), 3) := dk_167 255 212 (dk_at dksX6_reached_2 17 rfl rfl)
theorem dX6_reached_66 : decode cX6_reached 66 = .ok (.goto (-59), 3) := dk_167 255 197 (dk_at dksX6_reached_2 20 rfl rfl)
theorem dX6_reached_69 : decode cX6_reached 69 = .ok (.iload_n 3, 1) := dk_29 (dk_at dksX6_reached_2 23 rfl rfl)
theorem dX6_reached_70 : decode cX6_reached 70 = .ok (.ireturn, 1) := dk_172 (dk_at dksX6_reached_3 0 rfl rfl)
abbrev cX6_banOf : ByteArray := prog_16_method_36_code
def yX6_banOf : MethodName := ⟨RX6, "banOf", "(I)I"⟩
def dkwX6_banOf_0 : List UInt8 := [42, 180, 0, 7, 16, 31, 27, 96, 46, 4, 100, 172]
abbrev dktX6_banOf_0 : List UInt8 := dkwX6_banOf_0 ++ []
theorem dksX6_banOf_0 : cX6_banOf.data.toList.drop 0 = dktX6_banOf_0 := by decide +kernel
theorem dX6_banOf_0 : decode cX6_banOf 0 = .ok (.aload_n 0, 1) := dk_42 (dk_at dksX6_banOf_0 0 rfl rfl)
theorem dX6_banOf_1 : decode cX6_banOf 1 = .ok (.getfield 7, 3) := dk_180 0 7 (dk_at dksX6_banOf_0 1 rfl rfl)
theorem dX6_banOf_4 : decode cX6_banOf 4 = .ok (.bipush 31, 2) := dk_16 31 (dk_at dksX6_banOf_0 4 rfl rfl)
theorem dX6_banOf_6 : decode cX6_banOf 6 = .ok (.iload_n 1, 1) := dk_27 (dk_at dksX6_banOf_0 6 rfl rfl)
theorem dX6_banOf_7 : decode cX6_banOf 7 = .ok (.iadd, 1) := dk_96 (dk_at dksX6_banOf_0 7 rfl rfl)
theorem dX6_banOf_8 : decode cX6_banOf 8 = .ok (.iaload, 1) := dk_46 (dk_at dksX6_banOf_0 8 rfl rfl)
theorem dX6_banOf_9 : decode cX6_banOf 9 = .ok (.iconst 1, 1) := dk_4 (dk_at dksX6_banOf_0 9 rfl rfl)
theorem dX6_banOf_10 : decode cX6_banOf 10 = .ok (.isub, 1) := dk_100 (dk_at dksX6_banOf_0 10 rfl rfl)
theorem dX6_banOf_11 : decode cX6_banOf 11 = .ok (.ireturn, 1) := dk_172 (dk_at dksX6_banOf_0 11 rfl rfl)
abbrev cX6_canLay : ByteArray := prog_16_method_35_code
def yX6_canLay : MethodName := ⟨RX6, "canLay", "(III)I"⟩
def dkwX6_canLay_1 : List UInt8 := [184, 0, 189, 4, 160, 0, 8, 21, 4, 167, 0, 11, 21, 4, 4, 29, 120, 2, 130, 126, 172]
abbrev dktX6_canLay_1 : List UInt8 := dkwX6_canLay_1 ++ []
def dkwX6_canLay_0 : List UInt8 := [42, 180, 0, 7, 7, 27, 96, 46, 42, 27, 182, 0, 186, 2, 130, 126, 54, 4, 29, 2, 159, 0, 11, 28]
abbrev dktX6_canLay_0 : List UInt8 := dkwX6_canLay_0 ++ dktX6_canLay_1
theorem dksX6_canLay_0 : cX6_canLay.data.toList.drop 0 = dktX6_canLay_0 := by decide +kernel
theorem dksX6_canLay_1 : cX6_canLay.data.toList.drop 24 = dktX6_canLay_1 := dk_seg dksX6_canLay_0 24 rfl rfl
theorem dX6_canLay_0 : decode cX6_canLay 0 = .ok (.aload_n 0, 1) := dk_42 (dk_at dksX6_canLay_0 0 rfl rfl)
theorem dX6_canLay_1 : decode cX6_canLay 1 = .ok (.getfield 7, 3) := dk_180 0 7 (dk_at dksX6_canLay_0 1 rfl rfl)
theorem dX6_canLay_4 : decode cX6_canLay 4 = .ok (.iconst 4, 1) := dk_7 (dk_at dksX6_canLay_0 4 rfl rfl)
theorem dX6_canLay_5 : decode cX6_canLay 5 = .ok (.iload_n 1, 1) := dk_27 (dk_at dksX6_canLay_0 5 rfl rfl)
theorem dX6_canLay_6 : decode cX6_canLay 6 = .ok (.iadd, 1) := dk_96 (dk_at dksX6_canLay_0 6 rfl rfl)
theorem dX6_canLay_7 : decode cX6_canLay 7 = .ok (.iaload, 1) := dk_46 (dk_at dksX6_canLay_0 7 rfl rfl)
theorem dX6_canLay_8 : decode cX6_canLay 8 = .ok (.aload_n 0, 1) := dk_42 (dk_at dksX6_canLay_0 8 rfl rfl)
theorem dX6_canLay_9 : decode cX6_canLay 9 = .ok (.iload_n 1, 1) := dk_27 (dk_at dksX6_canLay_0 9 rfl rfl)
theorem dX6_canLay_10 : decode cX6_canLay 10 = .ok (.invokevirtual 186, 3) := dk_182 0 186 (dk_at dksX6_canLay_0 10 rfl rfl)
theorem dX6_canLay_13 : decode cX6_canLay 13 = .ok (.iconst (-1), 1) := dk_2 (dk_at dksX6_canLay_0 13 rfl rfl)
theorem dX6_canLay_14 : decode cX6_canLay 14 = .ok (.ixor, 1) := dk_130 (dk_at dksX6_canLay_0 14 rfl rfl)
theorem dX6_canLay_15 : decode cX6_canLay 15 = .ok (.iand, 1) := dk_126 (dk_at dksX6_canLay_0 15 rfl rfl)
theorem dX6_canLay_16 : decode cX6_canLay 16 = .ok (.istore 4, 2) := dk_54 4 (dk_at dksX6_canLay_0 16 rfl rfl)
theorem dX6_canLay_18 : decode cX6_canLay 18 = .ok (.iload_n 3, 1) := dk_29 (dk_at dksX6_canLay_0 18 rfl rfl)
theorem dX6_canLay_19 : decode cX6_canLay 19 = .ok (.iconst (-1), 1) := dk_2 (dk_at dksX6_canLay_0 19 rfl rfl)
theorem dX6_canLay_20 : decode cX6_canLay 20 = .ok (.if_icmp .eq 11, 3) := dk_159 0 11 (dk_at dksX6_canLay_0 20 rfl rfl)
theorem dX6_canLay_23 : decode cX6_canLay 23 = .ok (.iload_n 2, 1) := dk_28 (dk_at dksX6_canLay_0 23 rfl rfl)
theorem dX6_canLay_24 : decode cX6_canLay 24 = .ok (.invokestatic 189, 3) := dk_184 0 189 (dk_at dksX6_canLay_1 0 rfl rfl)
theorem dX6_canLay_27 : decode cX6_canLay 27 = .ok (.iconst 1, 1) := dk_4 (dk_at dksX6_canLay_1 3 rfl rfl)
theorem dX6_canLay_28 : decode cX6_canLay 28 = .ok (.if_icmp .ne 8, 3) := dk_160 0 8 (dk_at dksX6_canLay_1 4 rfl rfl)
theorem dX6_canLay_31 : decode cX6_canLay 31 = .ok (.iload 4, 2) := dk_21 4 (dk_at dksX6_canLay_1 7 rfl rfl)
theorem dX6_canLay_33 : decode cX6_canLay 33 = .ok (.goto 11, 3) := dk_167 0 11 (dk_at dksX6_canLay_1 9 rfl rfl)
theorem dX6_canLay_36 : decode cX6_canLay 36 = .ok (.iload 4, 2) := dk_21 4 (dk_at dksX6_canLay_1 12 rfl rfl)
theorem dX6_canLay_38 : decode cX6_canLay 38 = .ok (.iconst 1, 1) := dk_4 (dk_at dksX6_canLay_1 14 rfl rfl)
theorem dX6_canLay_39 : decode cX6_canLay 39 = .ok (.iload_n 3, 1) := dk_29 (dk_at dksX6_canLay_1 15 rfl rfl)
theorem dX6_canLay_40 : decode cX6_canLay 40 = .ok (.ishl, 1) := dk_120 (dk_at dksX6_canLay_1 16 rfl rfl)
theorem dX6_canLay_41 : decode cX6_canLay 41 = .ok (.iconst (-1), 1) := dk_2 (dk_at dksX6_canLay_1 17 rfl rfl)
theorem dX6_canLay_42 : decode cX6_canLay 42 = .ok (.ixor, 1) := dk_130 (dk_at dksX6_canLay_1 18 rfl rfl)
theorem dX6_canLay_43 : decode cX6_canLay 43 = .ok (.iand, 1) := dk_126 (dk_at dksX6_canLay_1 19 rfl rfl)
theorem dX6_canLay_44 : decode cX6_canLay 44 = .ok (.ireturn, 1) := dk_172 (dk_at dksX6_canLay_1 20 rfl rfl)
abbrev cX6_bits : ByteArray := prog_16_method_28_code
def yX6_bits : MethodName := ⟨RX6, "bits", "(I)I"⟩
def dkwX6_bits_0 : List UInt8 := [3, 60, 26, 61, 28, 158, 0, 15, 132, 1, 1, 28, 28, 4, 100, 126, 61, 167, 255, 243, 27, 172]
abbrev dktX6_bits_0 : List UInt8 := dkwX6_bits_0 ++ []
theorem dksX6_bits_0 : cX6_bits.data.toList.drop 0 = dktX6_bits_0 := by decide +kernel
theorem dX6_bits_0 : decode cX6_bits 0 = .ok (.iconst 0, 1) := dk_3 (dk_at dksX6_bits_0 0 rfl rfl)
theorem dX6_bits_1 : decode cX6_bits 1 = .ok (.istore_n 1, 1) := dk_60 (dk_at dksX6_bits_0 1 rfl rfl)
theorem dX6_bits_2 : decode cX6_bits 2 = .ok (.iload_n 0, 1) := dk_26 (dk_at dksX6_bits_0 2 rfl rfl)
theorem dX6_bits_3 : decode cX6_bits 3 = .ok (.istore_n 2, 1) := dk_61 (dk_at dksX6_bits_0 3 rfl rfl)
theorem dX6_bits_4 : decode cX6_bits 4 = .ok (.iload_n 2, 1) := dk_28 (dk_at dksX6_bits_0 4 rfl rfl)
theorem dX6_bits_5 : decode cX6_bits 5 = .ok (.ifCond .le 15, 3) := dk_158 0 15 (dk_at dksX6_bits_0 5 rfl rfl)
theorem dX6_bits_8 : decode cX6_bits 8 = .ok (.iinc 1 1, 3) := dk_132 1 1 (dk_at dksX6_bits_0 8 rfl rfl)
theorem dX6_bits_11 : decode cX6_bits 11 = .ok (.iload_n 2, 1) := dk_28 (dk_at dksX6_bits_0 11 rfl rfl)
theorem dX6_bits_12 : decode cX6_bits 12 = .ok (.iload_n 2, 1) := dk_28 (dk_at dksX6_bits_0 12 rfl rfl)
theorem dX6_bits_13 : decode cX6_bits 13 = .ok (.iconst 1, 1) := dk_4 (dk_at dksX6_bits_0 13 rfl rfl)
theorem dX6_bits_14 : decode cX6_bits 14 = .ok (.isub, 1) := dk_100 (dk_at dksX6_bits_0 14 rfl rfl)
theorem dX6_bits_15 : decode cX6_bits 15 = .ok (.iand, 1) := dk_126 (dk_at dksX6_bits_0 15 rfl rfl)
theorem dX6_bits_16 : decode cX6_bits 16 = .ok (.istore_n 2, 1) := dk_61 (dk_at dksX6_bits_0 16 rfl rfl)
theorem dX6_bits_17 : decode cX6_bits 17 = .ok (.goto (-13), 3) := dk_167 255 243 (dk_at dksX6_bits_0 17 rfl rfl)
theorem dX6_bits_20 : decode cX6_bits 20 = .ok (.iload_n 1, 1) := dk_27 (dk_at dksX6_bits_0 20 rfl rfl)
theorem dX6_bits_21 : decode cX6_bits 21 = .ok (.ireturn, 1) := dk_172 (dk_at dksX6_bits_0 21 rfl rfl)
abbrev cX6_lays : ByteArray := prog_16_method_73_code
def yX6_lays : MethodName := ⟨RX6, "lays", "(II)V"⟩
def dkwX6_lays_3 : List UInt8 := [27, 120, 2, 130, 126, 182, 0, 207, 182, 1, 12, 177]
abbrev dktX6_lays_3 : List UInt8 := dkwX6_lays_3 ++ []
def dkwX6_lays_2 : List UInt8 := [132, 4, 1, 167, 255, 219, 42, 180, 0, 7, 16, 22, 27, 96, 28, 4, 96, 79, 42, 27, 28, 42, 29, 4]
abbrev dktX6_lays_2 : List UInt8 := dkwX6_lays_2 ++ dktX6_lays_3
def dkwX6_lays_1 : List UInt8 := [29, 21, 4, 122, 4, 126, 4, 160, 0, 16, 42, 180, 0, 7, 16, 31, 21, 4, 96, 28, 4, 96, 79]
abbrev dktX6_lays_1 : List UInt8 := dkwX6_lays_1 ++ dktX6_lays_2
def dkwX6_lays_0 : List UInt8 := [42, 27, 42, 182, 0, 180, 182, 0, 177, 62, 3, 54, 4, 21, 4, 42, 180, 0, 7, 3, 46, 162, 0, 32]
abbrev dktX6_lays_0 : List UInt8 := dkwX6_lays_0 ++ dktX6_lays_1
theorem dksX6_lays_0 : cX6_lays.data.toList.drop 0 = dktX6_lays_0 := by decide +kernel
theorem dksX6_lays_1 : cX6_lays.data.toList.drop 24 = dktX6_lays_1 := dk_seg dksX6_lays_0 24 rfl rfl
theorem dksX6_lays_2 : cX6_lays.data.toList.drop 47 = dktX6_lays_2 := dk_seg dksX6_lays_1 23 rfl rfl
theorem dksX6_lays_3 : cX6_lays.data.toList.drop 71 = dktX6_lays_3 := dk_seg dksX6_lays_2 24 rfl rfl
theorem dX6_lays_0 : decode cX6_lays 0 = .ok (.aload_n 0, 1) := dk_42 (dk_at dksX6_lays_0 0 rfl rfl)
theorem dX6_lays_1 : decode cX6_lays 1 = .ok (.iload_n 1, 1) := dk_27 (dk_at dksX6_lays_0 1 rfl rfl)
theorem dX6_lays_2 : decode cX6_lays 2 = .ok (.aload_n 0, 1) := dk_42 (dk_at dksX6_lays_0 2 rfl rfl)
theorem dX6_lays_3 : decode cX6_lays 3 = .ok (.invokevirtual 180, 3) := dk_182 0 180 (dk_at dksX6_lays_0 3 rfl rfl)
theorem dX6_lays_6 : decode cX6_lays 6 = .ok (.invokevirtual 177, 3) := dk_182 0 177 (dk_at dksX6_lays_0 6 rfl rfl)
theorem dX6_lays_9 : decode cX6_lays 9 = .ok (.istore_n 3, 1) := dk_62 (dk_at dksX6_lays_0 9 rfl rfl)
theorem dX6_lays_10 : decode cX6_lays 10 = .ok (.iconst 0, 1) := dk_3 (dk_at dksX6_lays_0 10 rfl rfl)
theorem dX6_lays_11 : decode cX6_lays 11 = .ok (.istore 4, 2) := dk_54 4 (dk_at dksX6_lays_0 11 rfl rfl)
theorem dX6_lays_13 : decode cX6_lays 13 = .ok (.iload 4, 2) := dk_21 4 (dk_at dksX6_lays_0 13 rfl rfl)
theorem dX6_lays_15 : decode cX6_lays 15 = .ok (.aload_n 0, 1) := dk_42 (dk_at dksX6_lays_0 15 rfl rfl)
theorem dX6_lays_16 : decode cX6_lays 16 = .ok (.getfield 7, 3) := dk_180 0 7 (dk_at dksX6_lays_0 16 rfl rfl)
theorem dX6_lays_19 : decode cX6_lays 19 = .ok (.iconst 0, 1) := dk_3 (dk_at dksX6_lays_0 19 rfl rfl)
theorem dX6_lays_20 : decode cX6_lays 20 = .ok (.iaload, 1) := dk_46 (dk_at dksX6_lays_0 20 rfl rfl)
theorem dX6_lays_21 : decode cX6_lays 21 = .ok (.if_icmp .ge 32, 3) := dk_162 0 32 (dk_at dksX6_lays_0 21 rfl rfl)
theorem dX6_lays_24 : decode cX6_lays 24 = .ok (.iload_n 3, 1) := dk_29 (dk_at dksX6_lays_1 0 rfl rfl)
theorem dX6_lays_25 : decode cX6_lays 25 = .ok (.iload 4, 2) := dk_21 4 (dk_at dksX6_lays_1 1 rfl rfl)
theorem dX6_lays_27 : decode cX6_lays 27 = .ok (.ishr, 1) := dk_122 (dk_at dksX6_lays_1 3 rfl rfl)
theorem dX6_lays_28 : decode cX6_lays 28 = .ok (.iconst 1, 1) := dk_4 (dk_at dksX6_lays_1 4 rfl rfl)
theorem dX6_lays_29 : decode cX6_lays 29 = .ok (.iand, 1) := dk_126 (dk_at dksX6_lays_1 5 rfl rfl)
theorem dX6_lays_30 : decode cX6_lays 30 = .ok (.iconst 1, 1) := dk_4 (dk_at dksX6_lays_1 6 rfl rfl)
theorem dX6_lays_31 : decode cX6_lays 31 = .ok (.if_icmp .ne 16, 3) := dk_160 0 16 (dk_at dksX6_lays_1 7 rfl rfl)
theorem dX6_lays_34 : decode cX6_lays 34 = .ok (.aload_n 0, 1) := dk_42 (dk_at dksX6_lays_1 10 rfl rfl)
theorem dX6_lays_35 : decode cX6_lays 35 = .ok (.getfield 7, 3) := dk_180 0 7 (dk_at dksX6_lays_1 11 rfl rfl)
theorem dX6_lays_38 : decode cX6_lays 38 = .ok (.bipush 31, 2) := dk_16 31 (dk_at dksX6_lays_1 14 rfl rfl)
theorem dX6_lays_40 : decode cX6_lays 40 = .ok (.iload 4, 2) := dk_21 4 (dk_at dksX6_lays_1 16 rfl rfl)
theorem dX6_lays_42 : decode cX6_lays 42 = .ok (.iadd, 1) := dk_96 (dk_at dksX6_lays_1 18 rfl rfl)
theorem dX6_lays_43 : decode cX6_lays 43 = .ok (.iload_n 2, 1) := dk_28 (dk_at dksX6_lays_1 19 rfl rfl)
theorem dX6_lays_44 : decode cX6_lays 44 = .ok (.iconst 1, 1) := dk_4 (dk_at dksX6_lays_1 20 rfl rfl)
theorem dX6_lays_45 : decode cX6_lays 45 = .ok (.iadd, 1) := dk_96 (dk_at dksX6_lays_1 21 rfl rfl)
theorem dX6_lays_46 : decode cX6_lays 46 = .ok (.iastore, 1) := dk_79 (dk_at dksX6_lays_1 22 rfl rfl)
theorem dX6_lays_47 : decode cX6_lays 47 = .ok (.iinc 4 1, 3) := dk_132 4 1 (dk_at dksX6_lays_2 0 rfl rfl)
theorem dX6_lays_50 : decode cX6_lays 50 = .ok (.goto (-37), 3) := dk_167 255 219 (dk_at dksX6_lays_2 3 rfl rfl)
theorem dX6_lays_53 : decode cX6_lays 53 = .ok (.aload_n 0, 1) := dk_42 (dk_at dksX6_lays_2 6 rfl rfl)
theorem dX6_lays_54 : decode cX6_lays 54 = .ok (.getfield 7, 3) := dk_180 0 7 (dk_at dksX6_lays_2 7 rfl rfl)
theorem dX6_lays_57 : decode cX6_lays 57 = .ok (.bipush 22, 2) := dk_16 22 (dk_at dksX6_lays_2 10 rfl rfl)
theorem dX6_lays_59 : decode cX6_lays 59 = .ok (.iload_n 1, 1) := dk_27 (dk_at dksX6_lays_2 12 rfl rfl)
theorem dX6_lays_60 : decode cX6_lays 60 = .ok (.iadd, 1) := dk_96 (dk_at dksX6_lays_2 13 rfl rfl)
theorem dX6_lays_61 : decode cX6_lays 61 = .ok (.iload_n 2, 1) := dk_28 (dk_at dksX6_lays_2 14 rfl rfl)
theorem dX6_lays_62 : decode cX6_lays 62 = .ok (.iconst 1, 1) := dk_4 (dk_at dksX6_lays_2 15 rfl rfl)
theorem dX6_lays_63 : decode cX6_lays 63 = .ok (.iadd, 1) := dk_96 (dk_at dksX6_lays_2 16 rfl rfl)
theorem dX6_lays_64 : decode cX6_lays 64 = .ok (.iastore, 1) := dk_79 (dk_at dksX6_lays_2 17 rfl rfl)
theorem dX6_lays_65 : decode cX6_lays 65 = .ok (.aload_n 0, 1) := dk_42 (dk_at dksX6_lays_2 18 rfl rfl)
theorem dX6_lays_66 : decode cX6_lays 66 = .ok (.iload_n 1, 1) := dk_27 (dk_at dksX6_lays_2 19 rfl rfl)
theorem dX6_lays_67 : decode cX6_lays 67 = .ok (.iload_n 2, 1) := dk_28 (dk_at dksX6_lays_2 20 rfl rfl)
theorem dX6_lays_68 : decode cX6_lays 68 = .ok (.aload_n 0, 1) := dk_42 (dk_at dksX6_lays_2 21 rfl rfl)
theorem dX6_lays_69 : decode cX6_lays 69 = .ok (.iload_n 3, 1) := dk_29 (dk_at dksX6_lays_2 22 rfl rfl)
theorem dX6_lays_70 : decode cX6_lays 70 = .ok (.iconst 1, 1) := dk_4 (dk_at dksX6_lays_2 23 rfl rfl)
theorem dX6_lays_71 : decode cX6_lays 71 = .ok (.iload_n 1, 1) := dk_27 (dk_at dksX6_lays_3 0 rfl rfl)
theorem dX6_lays_72 : decode cX6_lays 72 = .ok (.ishl, 1) := dk_120 (dk_at dksX6_lays_3 1 rfl rfl)
theorem dX6_lays_73 : decode cX6_lays 73 = .ok (.iconst (-1), 1) := dk_2 (dk_at dksX6_lays_3 2 rfl rfl)
theorem dX6_lays_74 : decode cX6_lays 74 = .ok (.ixor, 1) := dk_130 (dk_at dksX6_lays_3 3 rfl rfl)
theorem dX6_lays_75 : decode cX6_lays 75 = .ok (.iand, 1) := dk_126 (dk_at dksX6_lays_3 4 rfl rfl)
theorem dX6_lays_76 : decode cX6_lays 76 = .ok (.invokevirtual 207, 3) := dk_182 0 207 (dk_at dksX6_lays_3 5 rfl rfl)
theorem dX6_lays_79 : decode cX6_lays 79 = .ok (.invokevirtual 268, 3) := dk_182 1 12 (dk_at dksX6_lays_3 8 rfl rfl)
theorem dX6_lays_82 : decode cX6_lays 82 = .ok (.return_, 1) := dk_177 (dk_at dksX6_lays_3 11 rfl rfl)
abbrev cX6_partsIn : ByteArray := prog_16_method_31_code
def yX6_partsIn : MethodName := ⟨RX6, "partsIn", "(I)I"⟩
def dkwX6_partsIn_1 : List UInt8 := [62, 167, 255, 235, 28, 172]
abbrev dktX6_partsIn_1 : List UInt8 := dkwX6_partsIn_1 ++ []
def dkwX6_partsIn_0 : List UInt8 := [3, 61, 27, 62, 29, 158, 0, 23, 132, 2, 1, 29, 42, 29, 184, 0, 174, 27, 182, 0, 177, 2, 130, 126]
abbrev dktX6_partsIn_0 : List UInt8 := dkwX6_partsIn_0 ++ dktX6_partsIn_1
theorem dksX6_partsIn_0 : cX6_partsIn.data.toList.drop 0 = dktX6_partsIn_0 := by decide +kernel
theorem dksX6_partsIn_1 : cX6_partsIn.data.toList.drop 24 = dktX6_partsIn_1 := dk_seg dksX6_partsIn_0 24 rfl rfl
theorem dX6_partsIn_0 : decode cX6_partsIn 0 = .ok (.iconst 0, 1) := dk_3 (dk_at dksX6_partsIn_0 0 rfl rfl)
theorem dX6_partsIn_1 : decode cX6_partsIn 1 = .ok (.istore_n 2, 1) := dk_61 (dk_at dksX6_partsIn_0 1 rfl rfl)
theorem dX6_partsIn_2 : decode cX6_partsIn 2 = .ok (.iload_n 1, 1) := dk_27 (dk_at dksX6_partsIn_0 2 rfl rfl)
theorem dX6_partsIn_3 : decode cX6_partsIn 3 = .ok (.istore_n 3, 1) := dk_62 (dk_at dksX6_partsIn_0 3 rfl rfl)
theorem dX6_partsIn_4 : decode cX6_partsIn 4 = .ok (.iload_n 3, 1) := dk_29 (dk_at dksX6_partsIn_0 4 rfl rfl)
theorem dX6_partsIn_5 : decode cX6_partsIn 5 = .ok (.ifCond .le 23, 3) := dk_158 0 23 (dk_at dksX6_partsIn_0 5 rfl rfl)
theorem dX6_partsIn_8 : decode cX6_partsIn 8 = .ok (.iinc 2 1, 3) := dk_132 2 1 (dk_at dksX6_partsIn_0 8 rfl rfl)
theorem dX6_partsIn_11 : decode cX6_partsIn 11 = .ok (.iload_n 3, 1) := dk_29 (dk_at dksX6_partsIn_0 11 rfl rfl)
theorem dX6_partsIn_12 : decode cX6_partsIn 12 = .ok (.aload_n 0, 1) := dk_42 (dk_at dksX6_partsIn_0 12 rfl rfl)
theorem dX6_partsIn_13 : decode cX6_partsIn 13 = .ok (.iload_n 3, 1) := dk_29 (dk_at dksX6_partsIn_0 13 rfl rfl)
theorem dX6_partsIn_14 : decode cX6_partsIn 14 = .ok (.invokestatic 174, 3) := dk_184 0 174 (dk_at dksX6_partsIn_0 14 rfl rfl)
theorem dX6_partsIn_17 : decode cX6_partsIn 17 = .ok (.iload_n 1, 1) := dk_27 (dk_at dksX6_partsIn_0 17 rfl rfl)
theorem dX6_partsIn_18 : decode cX6_partsIn 18 = .ok (.invokevirtual 177, 3) := dk_182 0 177 (dk_at dksX6_partsIn_0 18 rfl rfl)
theorem dX6_partsIn_21 : decode cX6_partsIn 21 = .ok (.iconst (-1), 1) := dk_2 (dk_at dksX6_partsIn_0 21 rfl rfl)
theorem dX6_partsIn_22 : decode cX6_partsIn 22 = .ok (.ixor, 1) := dk_130 (dk_at dksX6_partsIn_0 22 rfl rfl)
theorem dX6_partsIn_23 : decode cX6_partsIn 23 = .ok (.iand, 1) := dk_126 (dk_at dksX6_partsIn_0 23 rfl rfl)
theorem dX6_partsIn_24 : decode cX6_partsIn 24 = .ok (.istore_n 3, 1) := dk_62 (dk_at dksX6_partsIn_1 0 rfl rfl)
theorem dX6_partsIn_25 : decode cX6_partsIn 25 = .ok (.goto (-21), 3) := dk_167 255 235 (dk_at dksX6_partsIn_1 1 rfl rfl)
theorem dX6_partsIn_28 : decode cX6_partsIn 28 = .ok (.iload_n 2, 1) := dk_28 (dk_at dksX6_partsIn_1 4 rfl rfl)
theorem dX6_partsIn_29 : decode cX6_partsIn 29 = .ok (.ireturn, 1) := dk_172 (dk_at dksX6_partsIn_1 5 rfl rfl)
abbrev cX6_lowest : ByteArray := prog_16_method_29_code
def yX6_lowest : MethodName := ⟨RX6, "lowest", "(I)I"⟩
def dkwX6_lowest_0 : List UInt8 := [3, 60, 26, 27, 122, 4, 126, 154, 0, 9, 132, 1, 1, 167, 255, 245, 27, 172]
abbrev dktX6_lowest_0 : List UInt8 := dkwX6_lowest_0 ++ []
theorem dksX6_lowest_0 : cX6_lowest.data.toList.drop 0 = dktX6_lowest_0 := by decide +kernel
theorem dX6_lowest_0 : decode cX6_lowest 0 = .ok (.iconst 0, 1) := dk_3 (dk_at dksX6_lowest_0 0 rfl rfl)
theorem dX6_lowest_1 : decode cX6_lowest 1 = .ok (.istore_n 1, 1) := dk_60 (dk_at dksX6_lowest_0 1 rfl rfl)
theorem dX6_lowest_2 : decode cX6_lowest 2 = .ok (.iload_n 0, 1) := dk_26 (dk_at dksX6_lowest_0 2 rfl rfl)
theorem dX6_lowest_3 : decode cX6_lowest 3 = .ok (.iload_n 1, 1) := dk_27 (dk_at dksX6_lowest_0 3 rfl rfl)
theorem dX6_lowest_4 : decode cX6_lowest 4 = .ok (.ishr, 1) := dk_122 (dk_at dksX6_lowest_0 4 rfl rfl)
theorem dX6_lowest_5 : decode cX6_lowest 5 = .ok (.iconst 1, 1) := dk_4 (dk_at dksX6_lowest_0 5 rfl rfl)
theorem dX6_lowest_6 : decode cX6_lowest 6 = .ok (.iand, 1) := dk_126 (dk_at dksX6_lowest_0 6 rfl rfl)
theorem dX6_lowest_7 : decode cX6_lowest 7 = .ok (.ifCond .ne 9, 3) := dk_154 0 9 (dk_at dksX6_lowest_0 7 rfl rfl)
theorem dX6_lowest_10 : decode cX6_lowest 10 = .ok (.iinc 1 1, 3) := dk_132 1 1 (dk_at dksX6_lowest_0 10 rfl rfl)
theorem dX6_lowest_13 : decode cX6_lowest 13 = .ok (.goto (-11), 3) := dk_167 255 245 (dk_at dksX6_lowest_0 13 rfl rfl)
theorem dX6_lowest_16 : decode cX6_lowest 16 = .ok (.iload_n 1, 1) := dk_27 (dk_at dksX6_lowest_0 16 rfl rfl)
theorem dX6_lowest_17 : decode cX6_lowest 17 = .ok (.ireturn, 1) := dk_172 (dk_at dksX6_lowest_0 17 rfl rfl)
abbrev cX6_notes : ByteArray := prog_16_method_72_code
def yX6_notes : MethodName := ⟨RX6, "notes", "(III)V"⟩
def dkwX6_notes_2 : List UInt8 := [120, 128, 79, 42, 180, 0, 7, 6, 92, 46, 4, 96, 79, 177]
abbrev dktX6_notes_2 : List UInt8 := dkwX6_notes_2 ++ []
def dkwX6_notes_1 : List UInt8 := [182, 0, 210, 27, 4, 96, 4, 120, 128, 28, 4, 96, 8, 120, 128, 21, 4, 16, 7, 120, 128, 29, 16, 11]
abbrev dktX6_notes_1 : List UInt8 := dkwX6_notes_1 ++ dktX6_notes_2
def dkwX6_notes_0 : List UInt8 := [42, 42, 182, 0, 180, 182, 0, 207, 54, 4, 42, 180, 0, 7, 16, 40, 42, 180, 0, 7, 6, 46, 96, 42]
abbrev dktX6_notes_0 : List UInt8 := dkwX6_notes_0 ++ dktX6_notes_1
theorem dksX6_notes_0 : cX6_notes.data.toList.drop 0 = dktX6_notes_0 := by decide +kernel
theorem dksX6_notes_1 : cX6_notes.data.toList.drop 24 = dktX6_notes_1 := dk_seg dksX6_notes_0 24 rfl rfl
theorem dksX6_notes_2 : cX6_notes.data.toList.drop 48 = dktX6_notes_2 := dk_seg dksX6_notes_1 24 rfl rfl
theorem dX6_notes_0 : decode cX6_notes 0 = .ok (.aload_n 0, 1) := dk_42 (dk_at dksX6_notes_0 0 rfl rfl)
theorem dX6_notes_1 : decode cX6_notes 1 = .ok (.aload_n 0, 1) := dk_42 (dk_at dksX6_notes_0 1 rfl rfl)
theorem dX6_notes_2 : decode cX6_notes 2 = .ok (.invokevirtual 180, 3) := dk_182 0 180 (dk_at dksX6_notes_0 2 rfl rfl)
theorem dX6_notes_5 : decode cX6_notes 5 = .ok (.invokevirtual 207, 3) := dk_182 0 207 (dk_at dksX6_notes_0 5 rfl rfl)
theorem dX6_notes_8 : decode cX6_notes 8 = .ok (.istore 4, 2) := dk_54 4 (dk_at dksX6_notes_0 8 rfl rfl)
theorem dX6_notes_10 : decode cX6_notes 10 = .ok (.aload_n 0, 1) := dk_42 (dk_at dksX6_notes_0 10 rfl rfl)
theorem dX6_notes_11 : decode cX6_notes 11 = .ok (.getfield 7, 3) := dk_180 0 7 (dk_at dksX6_notes_0 11 rfl rfl)
theorem dX6_notes_14 : decode cX6_notes 14 = .ok (.bipush 40, 2) := dk_16 40 (dk_at dksX6_notes_0 14 rfl rfl)
theorem dX6_notes_16 : decode cX6_notes 16 = .ok (.aload_n 0, 1) := dk_42 (dk_at dksX6_notes_0 16 rfl rfl)
theorem dX6_notes_17 : decode cX6_notes 17 = .ok (.getfield 7, 3) := dk_180 0 7 (dk_at dksX6_notes_0 17 rfl rfl)
theorem dX6_notes_20 : decode cX6_notes 20 = .ok (.iconst 3, 1) := dk_6 (dk_at dksX6_notes_0 20 rfl rfl)
theorem dX6_notes_21 : decode cX6_notes 21 = .ok (.iaload, 1) := dk_46 (dk_at dksX6_notes_0 21 rfl rfl)
theorem dX6_notes_22 : decode cX6_notes 22 = .ok (.iadd, 1) := dk_96 (dk_at dksX6_notes_0 22 rfl rfl)
theorem dX6_notes_23 : decode cX6_notes 23 = .ok (.aload_n 0, 1) := dk_42 (dk_at dksX6_notes_0 23 rfl rfl)
theorem dX6_notes_24 : decode cX6_notes 24 = .ok (.invokevirtual 210, 3) := dk_182 0 210 (dk_at dksX6_notes_1 0 rfl rfl)
theorem dX6_notes_27 : decode cX6_notes 27 = .ok (.iload_n 1, 1) := dk_27 (dk_at dksX6_notes_1 3 rfl rfl)
theorem dX6_notes_28 : decode cX6_notes 28 = .ok (.iconst 1, 1) := dk_4 (dk_at dksX6_notes_1 4 rfl rfl)
theorem dX6_notes_29 : decode cX6_notes 29 = .ok (.iadd, 1) := dk_96 (dk_at dksX6_notes_1 5 rfl rfl)
theorem dX6_notes_30 : decode cX6_notes 30 = .ok (.iconst 1, 1) := dk_4 (dk_at dksX6_notes_1 6 rfl rfl)
theorem dX6_notes_31 : decode cX6_notes 31 = .ok (.ishl, 1) := dk_120 (dk_at dksX6_notes_1 7 rfl rfl)
theorem dX6_notes_32 : decode cX6_notes 32 = .ok (.ior, 1) := dk_128 (dk_at dksX6_notes_1 8 rfl rfl)
theorem dX6_notes_33 : decode cX6_notes 33 = .ok (.iload_n 2, 1) := dk_28 (dk_at dksX6_notes_1 9 rfl rfl)
theorem dX6_notes_34 : decode cX6_notes 34 = .ok (.iconst 1, 1) := dk_4 (dk_at dksX6_notes_1 10 rfl rfl)
theorem dX6_notes_35 : decode cX6_notes 35 = .ok (.iadd, 1) := dk_96 (dk_at dksX6_notes_1 11 rfl rfl)
theorem dX6_notes_36 : decode cX6_notes 36 = .ok (.iconst 5, 1) := dk_8 (dk_at dksX6_notes_1 12 rfl rfl)
theorem dX6_notes_37 : decode cX6_notes 37 = .ok (.ishl, 1) := dk_120 (dk_at dksX6_notes_1 13 rfl rfl)
theorem dX6_notes_38 : decode cX6_notes 38 = .ok (.ior, 1) := dk_128 (dk_at dksX6_notes_1 14 rfl rfl)
theorem dX6_notes_39 : decode cX6_notes 39 = .ok (.iload 4, 2) := dk_21 4 (dk_at dksX6_notes_1 15 rfl rfl)
theorem dX6_notes_41 : decode cX6_notes 41 = .ok (.bipush 7, 2) := dk_16 7 (dk_at dksX6_notes_1 17 rfl rfl)
theorem dX6_notes_43 : decode cX6_notes 43 = .ok (.ishl, 1) := dk_120 (dk_at dksX6_notes_1 19 rfl rfl)
theorem dX6_notes_44 : decode cX6_notes 44 = .ok (.ior, 1) := dk_128 (dk_at dksX6_notes_1 20 rfl rfl)
theorem dX6_notes_45 : decode cX6_notes 45 = .ok (.iload_n 3, 1) := dk_29 (dk_at dksX6_notes_1 21 rfl rfl)
theorem dX6_notes_46 : decode cX6_notes 46 = .ok (.bipush 11, 2) := dk_16 11 (dk_at dksX6_notes_1 22 rfl rfl)
theorem dX6_notes_48 : decode cX6_notes 48 = .ok (.ishl, 1) := dk_120 (dk_at dksX6_notes_2 0 rfl rfl)
theorem dX6_notes_49 : decode cX6_notes 49 = .ok (.ior, 1) := dk_128 (dk_at dksX6_notes_2 1 rfl rfl)
theorem dX6_notes_50 : decode cX6_notes 50 = .ok (.iastore, 1) := dk_79 (dk_at dksX6_notes_2 2 rfl rfl)
theorem dX6_notes_51 : decode cX6_notes 51 = .ok (.aload_n 0, 1) := dk_42 (dk_at dksX6_notes_2 3 rfl rfl)
theorem dX6_notes_52 : decode cX6_notes 52 = .ok (.getfield 7, 3) := dk_180 0 7 (dk_at dksX6_notes_2 4 rfl rfl)
theorem dX6_notes_55 : decode cX6_notes 55 = .ok (.iconst 3, 1) := dk_6 (dk_at dksX6_notes_2 7 rfl rfl)
theorem dX6_notes_56 : decode cX6_notes 56 = .ok (.dup2, 1) := dk_92 (dk_at dksX6_notes_2 8 rfl rfl)
theorem dX6_notes_57 : decode cX6_notes 57 = .ok (.iaload, 1) := dk_46 (dk_at dksX6_notes_2 9 rfl rfl)
theorem dX6_notes_58 : decode cX6_notes 58 = .ok (.iconst 1, 1) := dk_4 (dk_at dksX6_notes_2 10 rfl rfl)
theorem dX6_notes_59 : decode cX6_notes 59 = .ok (.iadd, 1) := dk_96 (dk_at dksX6_notes_2 11 rfl rfl)
theorem dX6_notes_60 : decode cX6_notes 60 = .ok (.iastore, 1) := dk_79 (dk_at dksX6_notes_2 12 rfl rfl)
theorem dX6_notes_61 : decode cX6_notes 61 = .ok (.return_, 1) := dk_177 (dk_at dksX6_notes_2 13 rfl rfl)
abbrev cX6_turn : ByteArray := prog_16_method_41_code
def yX6_turn : MethodName := ⟨RX6, "turn", "()I"⟩
def dkwX6_turn_0 : List UInt8 := [42, 180, 0, 7, 6, 46, 5, 112, 172]
abbrev dktX6_turn_0 : List UInt8 := dkwX6_turn_0 ++ []
theorem dksX6_turn_0 : cX6_turn.data.toList.drop 0 = dktX6_turn_0 := by decide +kernel
theorem dX6_turn_0 : decode cX6_turn 0 = .ok (.aload_n 0, 1) := dk_42 (dk_at dksX6_turn_0 0 rfl rfl)
theorem dX6_turn_1 : decode cX6_turn 1 = .ok (.getfield 7, 3) := dk_180 0 7 (dk_at dksX6_turn_0 1 rfl rfl)
theorem dX6_turn_4 : decode cX6_turn 4 = .ok (.iconst 3, 1) := dk_6 (dk_at dksX6_turn_0 4 rfl rfl)
theorem dX6_turn_5 : decode cX6_turn 5 = .ok (.iaload, 1) := dk_46 (dk_at dksX6_turn_0 5 rfl rfl)
theorem dX6_turn_6 : decode cX6_turn 6 = .ok (.iconst 2, 1) := dk_5 (dk_at dksX6_turn_0 6 rfl rfl)
theorem dX6_turn_7 : decode cX6_turn 7 = .ok (.irem, 1) := dk_112 (dk_at dksX6_turn_0 7 rfl rfl)
theorem dX6_turn_8 : decode cX6_turn 8 = .ok (.ireturn, 1) := dk_172 (dk_at dksX6_turn_0 8 rfl rfl)
abbrev cX6_readsPass : ByteArray := prog_16_method_20_code
def yX6_readsPass : MethodName := ⟨RX6, "readsPass", "()V"⟩
def dkwX6_readsPass_1 : List UInt8 := [182, 0, 134, 42, 4, 182, 0, 106, 42, 182, 0, 116, 177]
abbrev dktX6_readsPass_1 : List UInt8 := dkwX6_readsPass_1 ++ []
def dkwX6_readsPass_0 : List UInt8 := [42, 180, 0, 7, 5, 46, 154, 0, 9, 42, 16, 251, 182, 0, 99, 42, 180, 0, 83, 154, 0, 7, 42]
abbrev dktX6_readsPass_0 : List UInt8 := dkwX6_readsPass_0 ++ dktX6_readsPass_1
theorem dksX6_readsPass_0 : cX6_readsPass.data.toList.drop 0 = dktX6_readsPass_0 := by decide +kernel
theorem dksX6_readsPass_1 : cX6_readsPass.data.toList.drop 23 = dktX6_readsPass_1 := dk_seg dksX6_readsPass_0 23 rfl rfl
theorem dX6_readsPass_0 : decode cX6_readsPass 0 = .ok (.aload_n 0, 1) := dk_42 (dk_at dksX6_readsPass_0 0 rfl rfl)
theorem dX6_readsPass_1 : decode cX6_readsPass 1 = .ok (.getfield 7, 3) := dk_180 0 7 (dk_at dksX6_readsPass_0 1 rfl rfl)
theorem dX6_readsPass_4 : decode cX6_readsPass 4 = .ok (.iconst 2, 1) := dk_5 (dk_at dksX6_readsPass_0 4 rfl rfl)
theorem dX6_readsPass_5 : decode cX6_readsPass 5 = .ok (.iaload, 1) := dk_46 (dk_at dksX6_readsPass_0 5 rfl rfl)
theorem dX6_readsPass_6 : decode cX6_readsPass 6 = .ok (.ifCond .ne 9, 3) := dk_154 0 9 (dk_at dksX6_readsPass_0 6 rfl rfl)
theorem dX6_readsPass_9 : decode cX6_readsPass 9 = .ok (.aload_n 0, 1) := dk_42 (dk_at dksX6_readsPass_0 9 rfl rfl)
theorem dX6_readsPass_10 : decode cX6_readsPass 10 = .ok (.bipush (-5), 2) := dk_16 251 (dk_at dksX6_readsPass_0 10 rfl rfl)
theorem dX6_readsPass_12 : decode cX6_readsPass 12 = .ok (.invokevirtual 99, 3) := dk_182 0 99 (dk_at dksX6_readsPass_0 12 rfl rfl)
theorem dX6_readsPass_15 : decode cX6_readsPass 15 = .ok (.aload_n 0, 1) := dk_42 (dk_at dksX6_readsPass_0 15 rfl rfl)
theorem dX6_readsPass_16 : decode cX6_readsPass 16 = .ok (.getfield 83, 3) := dk_180 0 83 (dk_at dksX6_readsPass_0 16 rfl rfl)
theorem dX6_readsPass_19 : decode cX6_readsPass 19 = .ok (.ifCond .ne 7, 3) := dk_154 0 7 (dk_at dksX6_readsPass_0 19 rfl rfl)
theorem dX6_readsPass_22 : decode cX6_readsPass 22 = .ok (.aload_n 0, 1) := dk_42 (dk_at dksX6_readsPass_0 22 rfl rfl)
theorem dX6_readsPass_23 : decode cX6_readsPass 23 = .ok (.invokevirtual 134, 3) := dk_182 0 134 (dk_at dksX6_readsPass_1 0 rfl rfl)
theorem dX6_readsPass_26 : decode cX6_readsPass 26 = .ok (.aload_n 0, 1) := dk_42 (dk_at dksX6_readsPass_1 3 rfl rfl)
theorem dX6_readsPass_27 : decode cX6_readsPass 27 = .ok (.iconst 1, 1) := dk_4 (dk_at dksX6_readsPass_1 4 rfl rfl)
theorem dX6_readsPass_28 : decode cX6_readsPass 28 = .ok (.invokevirtual 106, 3) := dk_182 0 106 (dk_at dksX6_readsPass_1 5 rfl rfl)
theorem dX6_readsPass_31 : decode cX6_readsPass 31 = .ok (.aload_n 0, 1) := dk_42 (dk_at dksX6_readsPass_1 8 rfl rfl)
theorem dX6_readsPass_32 : decode cX6_readsPass 32 = .ok (.invokevirtual 116, 3) := dk_182 0 116 (dk_at dksX6_readsPass_1 9 rfl rfl)
theorem dX6_readsPass_35 : decode cX6_readsPass 35 = .ok (.return_, 1) := dk_177 (dk_at dksX6_readsPass_1 12 rfl rfl)
abbrev cX6_passes : ByteArray := prog_16_method_74_code
def yX6_passes : MethodName := ⟨RX6, "passes", "()V"⟩
def dkwX6_passes_0 : List UInt8 := [42, 180, 0, 7, 5, 92, 46, 4, 100, 79, 42, 2, 2, 3, 182, 1, 12, 177]
abbrev dktX6_passes_0 : List UInt8 := dkwX6_passes_0 ++ []
theorem dksX6_passes_0 : cX6_passes.data.toList.drop 0 = dktX6_passes_0 := by decide +kernel
theorem dX6_passes_0 : decode cX6_passes 0 = .ok (.aload_n 0, 1) := dk_42 (dk_at dksX6_passes_0 0 rfl rfl)
theorem dX6_passes_1 : decode cX6_passes 1 = .ok (.getfield 7, 3) := dk_180 0 7 (dk_at dksX6_passes_0 1 rfl rfl)
theorem dX6_passes_4 : decode cX6_passes 4 = .ok (.iconst 2, 1) := dk_5 (dk_at dksX6_passes_0 4 rfl rfl)
theorem dX6_passes_5 : decode cX6_passes 5 = .ok (.dup2, 1) := dk_92 (dk_at dksX6_passes_0 5 rfl rfl)
theorem dX6_passes_6 : decode cX6_passes 6 = .ok (.iaload, 1) := dk_46 (dk_at dksX6_passes_0 6 rfl rfl)
theorem dX6_passes_7 : decode cX6_passes 7 = .ok (.iconst 1, 1) := dk_4 (dk_at dksX6_passes_0 7 rfl rfl)
theorem dX6_passes_8 : decode cX6_passes 8 = .ok (.isub, 1) := dk_100 (dk_at dksX6_passes_0 8 rfl rfl)
theorem dX6_passes_9 : decode cX6_passes 9 = .ok (.iastore, 1) := dk_79 (dk_at dksX6_passes_0 9 rfl rfl)
theorem dX6_passes_10 : decode cX6_passes 10 = .ok (.aload_n 0, 1) := dk_42 (dk_at dksX6_passes_0 10 rfl rfl)
theorem dX6_passes_11 : decode cX6_passes 11 = .ok (.iconst (-1), 1) := dk_2 (dk_at dksX6_passes_0 11 rfl rfl)
theorem dX6_passes_12 : decode cX6_passes 12 = .ok (.iconst (-1), 1) := dk_2 (dk_at dksX6_passes_0 12 rfl rfl)
theorem dX6_passes_13 : decode cX6_passes 13 = .ok (.iconst 0, 1) := dk_3 (dk_at dksX6_passes_0 13 rfl rfl)
theorem dX6_passes_14 : decode cX6_passes 14 = .ok (.invokevirtual 268, 3) := dk_182 1 12 (dk_at dksX6_passes_0 14 rfl rfl)
theorem dX6_passes_17 : decode cX6_passes 17 = .ok (.return_, 1) := dk_177 (dk_at dksX6_passes_0 17 rfl rfl)
abbrev cX6_keeps : ByteArray := prog_16_method_5_code
def yX6_keeps : MethodName := ⟨RX6, "keeps", "()V"⟩
def dkwX6_keeps_3 : List UInt8 := [89, 180, 0, 50, 4, 96, 181, 0, 50, 177]
abbrev dktX6_keeps_3 : List UInt8 := dkwX6_keeps_3 ++ []
def dkwX6_keeps_2 : List UInt8 := [181, 0, 50, 42, 180, 0, 20, 17, 16, 40, 42, 180, 0, 50, 104, 42, 180, 0, 7, 3, 184, 0, 53, 42]
abbrev dktX6_keeps_2 : List UInt8 := dkwX6_keeps_2 ++ dktX6_keeps_3
def dkwX6_keeps_1 : List UInt8 := [180, 0, 20, 27, 17, 16, 40, 96, 46, 79, 132, 1, 1, 167, 255, 230, 42, 89, 180, 0, 50, 4, 100]
abbrev dktX6_keeps_1 : List UInt8 := dkwX6_keeps_1 ++ dktX6_keeps_2
def dkwX6_keeps_0 : List UInt8 := [42, 180, 0, 50, 16, 8, 160, 0, 44, 3, 60, 27, 17, 113, 24, 162, 0, 25, 42, 180, 0, 20, 27, 42]
abbrev dktX6_keeps_0 : List UInt8 := dkwX6_keeps_0 ++ dktX6_keeps_1
theorem dksX6_keeps_0 : cX6_keeps.data.toList.drop 0 = dktX6_keeps_0 := by decide +kernel
theorem dksX6_keeps_1 : cX6_keeps.data.toList.drop 24 = dktX6_keeps_1 := dk_seg dksX6_keeps_0 24 rfl rfl
theorem dksX6_keeps_2 : cX6_keeps.data.toList.drop 47 = dktX6_keeps_2 := dk_seg dksX6_keeps_1 23 rfl rfl
theorem dksX6_keeps_3 : cX6_keeps.data.toList.drop 71 = dktX6_keeps_3 := dk_seg dksX6_keeps_2 24 rfl rfl
theorem dX6_keeps_0 : decode cX6_keeps 0 = .ok (.aload_n 0, 1) := dk_42 (dk_at dksX6_keeps_0 0 rfl rfl)
theorem dX6_keeps_1 : decode cX6_keeps 1 = .ok (.getfield 50, 3) := dk_180 0 50 (dk_at dksX6_keeps_0 1 rfl rfl)
theorem dX6_keeps_4 : decode cX6_keeps 4 = .ok (.bipush 8, 2) := dk_16 8 (dk_at dksX6_keeps_0 4 rfl rfl)
theorem dX6_keeps_6 : decode cX6_keeps 6 = .ok (.if_icmp .ne 44, 3) := dk_160 0 44 (dk_at dksX6_keeps_0 6 rfl rfl)
theorem dX6_keeps_9 : decode cX6_keeps 9 = .ok (.iconst 0, 1) := dk_3 (dk_at dksX6_keeps_0 9 rfl rfl)
theorem dX6_keeps_10 : decode cX6_keeps 10 = .ok (.istore_n 1, 1) := dk_60 (dk_at dksX6_keeps_0 10 rfl rfl)
theorem dX6_keeps_11 : decode cX6_keeps 11 = .ok (.iload_n 1, 1) := dk_27 (dk_at dksX6_keeps_0 11 rfl rfl)
theorem dX6_keeps_12 : decode cX6_keeps 12 = .ok (.sipush 28952, 3) := dk_17 113 24 (dk_at dksX6_keeps_0 12 rfl rfl)
theorem dX6_keeps_15 : decode cX6_keeps 15 = .ok (.if_icmp .ge 25, 3) := dk_162 0 25 (dk_at dksX6_keeps_0 15 rfl rfl)
theorem dX6_keeps_18 : decode cX6_keeps 18 = .ok (.aload_n 0, 1) := dk_42 (dk_at dksX6_keeps_0 18 rfl rfl)
theorem dX6_keeps_19 : decode cX6_keeps 19 = .ok (.getfield 20, 3) := dk_180 0 20 (dk_at dksX6_keeps_0 19 rfl rfl)
theorem dX6_keeps_22 : decode cX6_keeps 22 = .ok (.iload_n 1, 1) := dk_27 (dk_at dksX6_keeps_0 22 rfl rfl)
theorem dX6_keeps_23 : decode cX6_keeps 23 = .ok (.aload_n 0, 1) := dk_42 (dk_at dksX6_keeps_0 23 rfl rfl)
theorem dX6_keeps_24 : decode cX6_keeps 24 = .ok (.getfield 20, 3) := dk_180 0 20 (dk_at dksX6_keeps_1 0 rfl rfl)
theorem dX6_keeps_27 : decode cX6_keeps 27 = .ok (.iload_n 1, 1) := dk_27 (dk_at dksX6_keeps_1 3 rfl rfl)
theorem dX6_keeps_28 : decode cX6_keeps 28 = .ok (.sipush 4136, 3) := dk_17 16 40 (dk_at dksX6_keeps_1 4 rfl rfl)
theorem dX6_keeps_31 : decode cX6_keeps 31 = .ok (.iadd, 1) := dk_96 (dk_at dksX6_keeps_1 7 rfl rfl)
theorem dX6_keeps_32 : decode cX6_keeps 32 = .ok (.iaload, 1) := dk_46 (dk_at dksX6_keeps_1 8 rfl rfl)
theorem dX6_keeps_33 : decode cX6_keeps 33 = .ok (.iastore, 1) := dk_79 (dk_at dksX6_keeps_1 9 rfl rfl)
theorem dX6_keeps_34 : decode cX6_keeps 34 = .ok (.iinc 1 1, 3) := dk_132 1 1 (dk_at dksX6_keeps_1 10 rfl rfl)
theorem dX6_keeps_37 : decode cX6_keeps 37 = .ok (.goto (-26), 3) := dk_167 255 230 (dk_at dksX6_keeps_1 13 rfl rfl)
theorem dX6_keeps_40 : decode cX6_keeps 40 = .ok (.aload_n 0, 1) := dk_42 (dk_at dksX6_keeps_1 16 rfl rfl)
theorem dX6_keeps_41 : decode cX6_keeps 41 = .ok (.dup, 1) := dk_89 (dk_at dksX6_keeps_1 17 rfl rfl)
theorem dX6_keeps_42 : decode cX6_keeps 42 = .ok (.getfield 50, 3) := dk_180 0 50 (dk_at dksX6_keeps_1 18 rfl rfl)
theorem dX6_keeps_45 : decode cX6_keeps 45 = .ok (.iconst 1, 1) := dk_4 (dk_at dksX6_keeps_1 21 rfl rfl)
theorem dX6_keeps_46 : decode cX6_keeps 46 = .ok (.isub, 1) := dk_100 (dk_at dksX6_keeps_1 22 rfl rfl)
theorem dX6_keeps_47 : decode cX6_keeps 47 = .ok (.putfield 50, 3) := dk_181 0 50 (dk_at dksX6_keeps_2 0 rfl rfl)
theorem dX6_keeps_50 : decode cX6_keeps 50 = .ok (.aload_n 0, 1) := dk_42 (dk_at dksX6_keeps_2 3 rfl rfl)
theorem dX6_keeps_51 : decode cX6_keeps 51 = .ok (.getfield 20, 3) := dk_180 0 20 (dk_at dksX6_keeps_2 4 rfl rfl)
theorem dX6_keeps_54 : decode cX6_keeps 54 = .ok (.sipush 4136, 3) := dk_17 16 40 (dk_at dksX6_keeps_2 7 rfl rfl)
theorem dX6_keeps_57 : decode cX6_keeps 57 = .ok (.aload_n 0, 1) := dk_42 (dk_at dksX6_keeps_2 10 rfl rfl)
theorem dX6_keeps_58 : decode cX6_keeps 58 = .ok (.getfield 50, 3) := dk_180 0 50 (dk_at dksX6_keeps_2 11 rfl rfl)
theorem dX6_keeps_61 : decode cX6_keeps 61 = .ok (.imul, 1) := dk_104 (dk_at dksX6_keeps_2 14 rfl rfl)
theorem dX6_keeps_62 : decode cX6_keeps 62 = .ok (.aload_n 0, 1) := dk_42 (dk_at dksX6_keeps_2 15 rfl rfl)
theorem dX6_keeps_63 : decode cX6_keeps 63 = .ok (.getfield 7, 3) := dk_180 0 7 (dk_at dksX6_keeps_2 16 rfl rfl)
theorem dX6_keeps_66 : decode cX6_keeps 66 = .ok (.iconst 0, 1) := dk_3 (dk_at dksX6_keeps_2 19 rfl rfl)
theorem dX6_keeps_67 : decode cX6_keeps 67 = .ok (.invokestatic 53, 3) := dk_184 0 53 (dk_at dksX6_keeps_2 20 rfl rfl)
theorem dX6_keeps_70 : decode cX6_keeps 70 = .ok (.aload_n 0, 1) := dk_42 (dk_at dksX6_keeps_2 23 rfl rfl)
theorem dX6_keeps_71 : decode cX6_keeps 71 = .ok (.dup, 1) := dk_89 (dk_at dksX6_keeps_3 0 rfl rfl)
theorem dX6_keeps_72 : decode cX6_keeps 72 = .ok (.getfield 50, 3) := dk_180 0 50 (dk_at dksX6_keeps_3 1 rfl rfl)
theorem dX6_keeps_75 : decode cX6_keeps 75 = .ok (.iconst 1, 1) := dk_4 (dk_at dksX6_keeps_3 4 rfl rfl)
theorem dX6_keeps_76 : decode cX6_keeps 76 = .ok (.iadd, 1) := dk_96 (dk_at dksX6_keeps_3 5 rfl rfl)
theorem dX6_keeps_77 : decode cX6_keeps 77 = .ok (.putfield 50, 3) := dk_181 0 50 (dk_at dksX6_keeps_3 6 rfl rfl)
theorem dX6_keeps_80 : decode cX6_keeps 80 = .ok (.return_, 1) := dk_177 (dk_at dksX6_keeps_3 9 rfl rfl)
abbrev cX6_errorPosition : ByteArray := prog_16_method_23_code
def yX6_errorPosition : MethodName := ⟨RX6, "errorPosition", "()I"⟩
def dkwX6_errorPosition_0 : List UInt8 := [42, 3, 181, 0, 47, 42, 180, 0, 33, 172]
abbrev dktX6_errorPosition_0 : List UInt8 := dkwX6_errorPosition_0 ++ []
theorem dksX6_errorPosition_0 : cX6_errorPosition.data.toList.drop 0 = dktX6_errorPosition_0 := by decide +kernel
theorem dX6_errorPosition_0 : decode cX6_errorPosition 0 = .ok (.aload_n 0, 1) := dk_42 (dk_at dksX6_errorPosition_0 0 rfl rfl)
theorem dX6_errorPosition_1 : decode cX6_errorPosition 1 = .ok (.iconst 0, 1) := dk_3 (dk_at dksX6_errorPosition_0 1 rfl rfl)
theorem dX6_errorPosition_2 : decode cX6_errorPosition 2 = .ok (.putfield 47, 3) := dk_181 0 47 (dk_at dksX6_errorPosition_0 2 rfl rfl)
theorem dX6_errorPosition_5 : decode cX6_errorPosition 5 = .ok (.aload_n 0, 1) := dk_42 (dk_at dksX6_errorPosition_0 5 rfl rfl)
theorem dX6_errorPosition_6 : decode cX6_errorPosition 6 = .ok (.getfield 33, 3) := dk_180 0 33 (dk_at dksX6_errorPosition_0 6 rfl rfl)
theorem dX6_errorPosition_9 : decode cX6_errorPosition 9 = .ok (.ireturn, 1) := dk_172 (dk_at dksX6_errorPosition_0 9 rfl rfl)
abbrev cX6_count : ByteArray := prog_16_method_44_code
def yX6_count : MethodName := ⟨RX6, "count", "(I)I"⟩
def dkwX6_count_7 : List UInt8 := [167, 0, 4, 2, 172, 42, 182, 0, 201, 172, 42, 182, 0, 217, 172, 42, 180, 0, 7, 5, 46, 5, 112, 172]
abbrev dktX6_count_7 : List UInt8 := dkwX6_count_7 ++ []
def dkwX6_count_6 : List UInt8 := [153, 0, 7, 4, 167, 0, 4, 3, 172, 42, 182, 0, 213, 153, 0, 12, 4, 42, 182, 0, 210, 100]
abbrev dktX6_count_6 : List UInt8 := dkwX6_count_6 ++ dktX6_count_7
def dkwX6_count_5 : List UInt8 := [182, 0, 180, 182, 0, 207, 172, 42, 182, 0, 210, 172, 42, 180, 0, 7, 6, 46, 172, 42, 182, 0, 213]
abbrev dktX6_count_5 : List UInt8 := dkwX6_count_5 ++ dktX6_count_6
def dkwX6_count_4 : List UInt8 := [180, 0, 7, 4, 46, 172, 42, 180, 0, 7, 5, 46, 172, 42, 182, 0, 180, 184, 0, 189, 172, 42, 42]
abbrev dktX6_count_4 : List UInt8 := dkwX6_count_4 ++ dktX6_count_5
def dkwX6_count_3 : List UInt8 := [42, 180, 0, 7, 3, 46, 172, 42, 4, 42, 180, 0, 7, 3, 46, 120, 4, 100, 182, 0, 204, 172, 42]
abbrev dktX6_count_3 : List UInt8 := dkwX6_count_3 ++ dktX6_count_4
def dkwX6_count_2 : List UInt8 := [170, 0, 0, 0, 0, 0, 169, 0, 0, 0, 0, 0, 0, 0, 11, 0, 0, 0, 63, 0, 0, 0, 70, 0, 0, 0, 85, 0, 0, 0, 92, 0, 0, 0, 99, 0, 0, 0, 107, 0, 0, 0, 116, 0, 0, 0, 121, 0, 0, 0, 128, 0, 0, 0, 141, 0, 0, 0, 159, 0, 0, 0, 164]
abbrev dktX6_count_2 : List UInt8 := dkwX6_count_2 ++ dktX6_count_3
def dkwX6_count_1 : List UInt8 := [158, 0, 5, 3, 172, 27]
abbrev dktX6_count_1 : List UInt8 := dkwX6_count_1 ++ dktX6_count_2
def dkwX6_count_0 : List UInt8 := [42, 27, 3, 16, 12, 184, 0, 76, 153, 0, 7, 3, 167, 0, 4, 4, 181, 0, 47, 42, 180, 0, 47]
abbrev dktX6_count_0 : List UInt8 := dkwX6_count_0 ++ dktX6_count_1
theorem dksX6_count_0 : cX6_count.data.toList.drop 0 = dktX6_count_0 := by decide +kernel
theorem dksX6_count_1 : cX6_count.data.toList.drop 23 = dktX6_count_1 := dk_seg dksX6_count_0 23 rfl rfl
theorem dksX6_count_2 : cX6_count.data.toList.drop 29 = dktX6_count_2 := dk_seg dksX6_count_1 6 rfl rfl
theorem dksX6_count_3 : cX6_count.data.toList.drop 92 = dktX6_count_3 := dk_seg dksX6_count_2 63 rfl rfl
theorem dksX6_count_4 : cX6_count.data.toList.drop 115 = dktX6_count_4 := dk_seg dksX6_count_3 23 rfl rfl
theorem dksX6_count_5 : cX6_count.data.toList.drop 138 = dktX6_count_5 := dk_seg dksX6_count_4 23 rfl rfl
theorem dksX6_count_6 : cX6_count.data.toList.drop 161 = dktX6_count_6 := dk_seg dksX6_count_5 23 rfl rfl
theorem dksX6_count_7 : cX6_count.data.toList.drop 183 = dktX6_count_7 := dk_seg dksX6_count_6 22 rfl rfl
theorem dX6_count_0 : decode cX6_count 0 = .ok (.aload_n 0, 1) := dk_42 (dk_at dksX6_count_0 0 rfl rfl)
theorem dX6_count_1 : decode cX6_count 1 = .ok (.iload_n 1, 1) := dk_27 (dk_at dksX6_count_0 1 rfl rfl)
theorem dX6_count_2 : decode cX6_count 2 = .ok (.iconst 0, 1) := dk_3 (dk_at dksX6_count_0 2 rfl rfl)
theorem dX6_count_3 : decode cX6_count 3 = .ok (.bipush 12, 2) := dk_16 12 (dk_at dksX6_count_0 3 rfl rfl)
theorem dX6_count_5 : decode cX6_count 5 = .ok (.invokestatic 76, 3) := dk_184 0 76 (dk_at dksX6_count_0 5 rfl rfl)
theorem dX6_count_8 : decode cX6_count 8 = .ok (.ifCond .eq 7, 3) := dk_153 0 7 (dk_at dksX6_count_0 8 rfl rfl)
theorem dX6_count_11 : decode cX6_count 11 = .ok (.iconst 0, 1) := dk_3 (dk_at dksX6_count_0 11 rfl rfl)
theorem dX6_count_12 : decode cX6_count 12 = .ok (.goto 4, 3) := dk_167 0 4 (dk_at dksX6_count_0 12 rfl rfl)
theorem dX6_count_15 : decode cX6_count 15 = .ok (.iconst 1, 1) := dk_4 (dk_at dksX6_count_0 15 rfl rfl)
theorem dX6_count_16 : decode cX6_count 16 = .ok (.putfield 47, 3) := dk_181 0 47 (dk_at dksX6_count_0 16 rfl rfl)
theorem dX6_count_19 : decode cX6_count 19 = .ok (.aload_n 0, 1) := dk_42 (dk_at dksX6_count_0 19 rfl rfl)
theorem dX6_count_20 : decode cX6_count 20 = .ok (.getfield 47, 3) := dk_180 0 47 (dk_at dksX6_count_0 20 rfl rfl)
theorem dX6_count_23 : decode cX6_count 23 = .ok (.ifCond .le 5, 3) := dk_158 0 5 (dk_at dksX6_count_1 0 rfl rfl)
theorem dX6_count_26 : decode cX6_count 26 = .ok (.iconst 0, 1) := dk_3 (dk_at dksX6_count_1 3 rfl rfl)
theorem dX6_count_27 : decode cX6_count 27 = .ok (.ireturn, 1) := dk_172 (dk_at dksX6_count_1 4 rfl rfl)
theorem dX6_count_28 : decode cX6_count 28 = .ok (.iload_n 1, 1) := dk_27 (dk_at dksX6_count_1 5 rfl rfl)
theorem dX6_count_29 : decode cX6_count 29 = .ok (.tableswitch 169 0 11 #[63, 70, 85, 92, 99, 107, 116, 121, 128, 141, 159, 164], 63) := by decide +kernel
theorem dX6_count_92 : decode cX6_count 92 = .ok (.aload_n 0, 1) := dk_42 (dk_at dksX6_count_3 0 rfl rfl)
theorem dX6_count_93 : decode cX6_count 93 = .ok (.getfield 7, 3) := dk_180 0 7 (dk_at dksX6_count_3 1 rfl rfl)
theorem dX6_count_96 : decode cX6_count 96 = .ok (.iconst 0, 1) := dk_3 (dk_at dksX6_count_3 4 rfl rfl)
theorem dX6_count_97 : decode cX6_count 97 = .ok (.iaload, 1) := dk_46 (dk_at dksX6_count_3 5 rfl rfl)
theorem dX6_count_98 : decode cX6_count 98 = .ok (.ireturn, 1) := dk_172 (dk_at dksX6_count_3 6 rfl rfl)
theorem dX6_count_99 : decode cX6_count 99 = .ok (.aload_n 0, 1) := dk_42 (dk_at dksX6_count_3 7 rfl rfl)
theorem dX6_count_100 : decode cX6_count 100 = .ok (.iconst 1, 1) := dk_4 (dk_at dksX6_count_3 8 rfl rfl)
theorem dX6_count_101 : decode cX6_count 101 = .ok (.aload_n 0, 1) := dk_42 (dk_at dksX6_count_3 9 rfl rfl)
theorem dX6_count_102 : decode cX6_count 102 = .ok (.getfield 7, 3) := dk_180 0 7 (dk_at dksX6_count_3 10 rfl rfl)
theorem dX6_count_105 : decode cX6_count 105 = .ok (.iconst 0, 1) := dk_3 (dk_at dksX6_count_3 13 rfl rfl)
theorem dX6_count_106 : decode cX6_count 106 = .ok (.iaload, 1) := dk_46 (dk_at dksX6_count_3 14 rfl rfl)
theorem dX6_count_107 : decode cX6_count 107 = .ok (.ishl, 1) := dk_120 (dk_at dksX6_count_3 15 rfl rfl)
theorem dX6_count_108 : decode cX6_count 108 = .ok (.iconst 1, 1) := dk_4 (dk_at dksX6_count_3 16 rfl rfl)
theorem dX6_count_109 : decode cX6_count 109 = .ok (.isub, 1) := dk_100 (dk_at dksX6_count_3 17 rfl rfl)
theorem dX6_count_110 : decode cX6_count 110 = .ok (.invokevirtual 204, 3) := dk_182 0 204 (dk_at dksX6_count_3 18 rfl rfl)
theorem dX6_count_113 : decode cX6_count 113 = .ok (.ireturn, 1) := dk_172 (dk_at dksX6_count_3 21 rfl rfl)
theorem dX6_count_114 : decode cX6_count 114 = .ok (.aload_n 0, 1) := dk_42 (dk_at dksX6_count_3 22 rfl rfl)
theorem dX6_count_115 : decode cX6_count 115 = .ok (.getfield 7, 3) := dk_180 0 7 (dk_at dksX6_count_4 0 rfl rfl)
theorem dX6_count_118 : decode cX6_count 118 = .ok (.iconst 1, 1) := dk_4 (dk_at dksX6_count_4 3 rfl rfl)
theorem dX6_count_119 : decode cX6_count 119 = .ok (.iaload, 1) := dk_46 (dk_at dksX6_count_4 4 rfl rfl)
theorem dX6_count_120 : decode cX6_count 120 = .ok (.ireturn, 1) := dk_172 (dk_at dksX6_count_4 5 rfl rfl)
theorem dX6_count_121 : decode cX6_count 121 = .ok (.aload_n 0, 1) := dk_42 (dk_at dksX6_count_4 6 rfl rfl)
theorem dX6_count_122 : decode cX6_count 122 = .ok (.getfield 7, 3) := dk_180 0 7 (dk_at dksX6_count_4 7 rfl rfl)
theorem dX6_count_125 : decode cX6_count 125 = .ok (.iconst 2, 1) := dk_5 (dk_at dksX6_count_4 10 rfl rfl)
theorem dX6_count_126 : decode cX6_count 126 = .ok (.iaload, 1) := dk_46 (dk_at dksX6_count_4 11 rfl rfl)
theorem dX6_count_127 : decode cX6_count 127 = .ok (.ireturn, 1) := dk_172 (dk_at dksX6_count_4 12 rfl rfl)
theorem dX6_count_128 : decode cX6_count 128 = .ok (.aload_n 0, 1) := dk_42 (dk_at dksX6_count_4 13 rfl rfl)
theorem dX6_count_129 : decode cX6_count 129 = .ok (.invokevirtual 180, 3) := dk_182 0 180 (dk_at dksX6_count_4 14 rfl rfl)
theorem dX6_count_132 : decode cX6_count 132 = .ok (.invokestatic 189, 3) := dk_184 0 189 (dk_at dksX6_count_4 17 rfl rfl)
theorem dX6_count_135 : decode cX6_count 135 = .ok (.ireturn, 1) := dk_172 (dk_at dksX6_count_4 20 rfl rfl)
theorem dX6_count_136 : decode cX6_count 136 = .ok (.aload_n 0, 1) := dk_42 (dk_at dksX6_count_4 21 rfl rfl)
theorem dX6_count_137 : decode cX6_count 137 = .ok (.aload_n 0, 1) := dk_42 (dk_at dksX6_count_4 22 rfl rfl)
theorem dX6_count_138 : decode cX6_count 138 = .ok (.invokevirtual 180, 3) := dk_182 0 180 (dk_at dksX6_count_5 0 rfl rfl)
theorem dX6_count_141 : decode cX6_count 141 = .ok (.invokevirtual 207, 3) := dk_182 0 207 (dk_at dksX6_count_5 3 rfl rfl)
theorem dX6_count_144 : decode cX6_count 144 = .ok (.ireturn, 1) := dk_172 (dk_at dksX6_count_5 6 rfl rfl)
theorem dX6_count_145 : decode cX6_count 145 = .ok (.aload_n 0, 1) := dk_42 (dk_at dksX6_count_5 7 rfl rfl)
theorem dX6_count_146 : decode cX6_count 146 = .ok (.invokevirtual 210, 3) := dk_182 0 210 (dk_at dksX6_count_5 8 rfl rfl)
theorem dX6_count_149 : decode cX6_count 149 = .ok (.ireturn, 1) := dk_172 (dk_at dksX6_count_5 11 rfl rfl)
theorem dX6_count_150 : decode cX6_count 150 = .ok (.aload_n 0, 1) := dk_42 (dk_at dksX6_count_5 12 rfl rfl)
theorem dX6_count_151 : decode cX6_count 151 = .ok (.getfield 7, 3) := dk_180 0 7 (dk_at dksX6_count_5 13 rfl rfl)
theorem dX6_count_154 : decode cX6_count 154 = .ok (.iconst 3, 1) := dk_6 (dk_at dksX6_count_5 16 rfl rfl)
theorem dX6_count_155 : decode cX6_count 155 = .ok (.iaload, 1) := dk_46 (dk_at dksX6_count_5 17 rfl rfl)
theorem dX6_count_156 : decode cX6_count 156 = .ok (.ireturn, 1) := dk_172 (dk_at dksX6_count_5 18 rfl rfl)
theorem dX6_count_157 : decode cX6_count 157 = .ok (.aload_n 0, 1) := dk_42 (dk_at dksX6_count_5 19 rfl rfl)
theorem dX6_count_158 : decode cX6_count 158 = .ok (.invokevirtual 213, 3) := dk_182 0 213 (dk_at dksX6_count_5 20 rfl rfl)
theorem dX6_count_161 : decode cX6_count 161 = .ok (.ifCond .eq 7, 3) := dk_153 0 7 (dk_at dksX6_count_6 0 rfl rfl)
theorem dX6_count_164 : decode cX6_count 164 = .ok (.iconst 1, 1) := dk_4 (dk_at dksX6_count_6 3 rfl rfl)
theorem dX6_count_165 : decode cX6_count 165 = .ok (.goto 4, 3) := dk_167 0 4 (dk_at dksX6_count_6 4 rfl rfl)
theorem dX6_count_168 : decode cX6_count 168 = .ok (.iconst 0, 1) := dk_3 (dk_at dksX6_count_6 7 rfl rfl)
theorem dX6_count_169 : decode cX6_count 169 = .ok (.ireturn, 1) := dk_172 (dk_at dksX6_count_6 8 rfl rfl)
theorem dX6_count_170 : decode cX6_count 170 = .ok (.aload_n 0, 1) := dk_42 (dk_at dksX6_count_6 9 rfl rfl)
theorem dX6_count_171 : decode cX6_count 171 = .ok (.invokevirtual 213, 3) := dk_182 0 213 (dk_at dksX6_count_6 10 rfl rfl)
theorem dX6_count_174 : decode cX6_count 174 = .ok (.ifCond .eq 12, 3) := dk_153 0 12 (dk_at dksX6_count_6 13 rfl rfl)
theorem dX6_count_177 : decode cX6_count 177 = .ok (.iconst 1, 1) := dk_4 (dk_at dksX6_count_6 16 rfl rfl)
theorem dX6_count_178 : decode cX6_count 178 = .ok (.aload_n 0, 1) := dk_42 (dk_at dksX6_count_6 17 rfl rfl)
theorem dX6_count_179 : decode cX6_count 179 = .ok (.invokevirtual 210, 3) := dk_182 0 210 (dk_at dksX6_count_6 18 rfl rfl)
theorem dX6_count_182 : decode cX6_count 182 = .ok (.isub, 1) := dk_100 (dk_at dksX6_count_6 21 rfl rfl)
theorem dX6_count_183 : decode cX6_count 183 = .ok (.goto 4, 3) := dk_167 0 4 (dk_at dksX6_count_7 0 rfl rfl)
theorem dX6_count_186 : decode cX6_count 186 = .ok (.iconst (-1), 1) := dk_2 (dk_at dksX6_count_7 3 rfl rfl)
theorem dX6_count_187 : decode cX6_count 187 = .ok (.ireturn, 1) := dk_172 (dk_at dksX6_count_7 4 rfl rfl)
theorem dX6_count_188 : decode cX6_count 188 = .ok (.aload_n 0, 1) := dk_42 (dk_at dksX6_count_7 5 rfl rfl)
theorem dX6_count_189 : decode cX6_count 189 = .ok (.invokevirtual 201, 3) := dk_182 0 201 (dk_at dksX6_count_7 6 rfl rfl)
theorem dX6_count_192 : decode cX6_count 192 = .ok (.ireturn, 1) := dk_172 (dk_at dksX6_count_7 9 rfl rfl)
theorem dX6_count_193 : decode cX6_count 193 = .ok (.aload_n 0, 1) := dk_42 (dk_at dksX6_count_7 10 rfl rfl)
theorem dX6_count_194 : decode cX6_count 194 = .ok (.invokevirtual 217, 3) := dk_182 0 217 (dk_at dksX6_count_7 11 rfl rfl)
theorem dX6_count_197 : decode cX6_count 197 = .ok (.ireturn, 1) := dk_172 (dk_at dksX6_count_7 14 rfl rfl)
theorem dX6_count_198 : decode cX6_count 198 = .ok (.aload_n 0, 1) := dk_42 (dk_at dksX6_count_7 15 rfl rfl)
theorem dX6_count_199 : decode cX6_count 199 = .ok (.getfield 7, 3) := dk_180 0 7 (dk_at dksX6_count_7 16 rfl rfl)
theorem dX6_count_202 : decode cX6_count 202 = .ok (.iconst 2, 1) := dk_5 (dk_at dksX6_count_7 19 rfl rfl)
theorem dX6_count_203 : decode cX6_count 203 = .ok (.iaload, 1) := dk_46 (dk_at dksX6_count_7 20 rfl rfl)
theorem dX6_count_204 : decode cX6_count 204 = .ok (.iconst 2, 1) := dk_5 (dk_at dksX6_count_7 21 rfl rfl)
theorem dX6_count_205 : decode cX6_count 205 = .ok (.irem, 1) := dk_112 (dk_at dksX6_count_7 22 rfl rfl)
theorem dX6_count_206 : decode cX6_count 206 = .ok (.ireturn, 1) := dk_172 (dk_at dksX6_count_7 23 rfl rfl)
abbrev cX6_edgesIn : ByteArray := prog_16_method_43_code
def yX6_edgesIn : MethodName := ⟨RX6, "edgesIn", "(I)I"⟩
def dkwX6_edgesIn_2 : List UInt8 := [167, 255, 213, 28, 5, 108, 172]
abbrev dktX6_edgesIn_2 : List UInt8 := dkwX6_edgesIn_2 ++ []
def dkwX6_edgesIn_1 : List UInt8 := [42, 180, 0, 7, 16, 13, 29, 96, 46, 27, 126, 184, 0, 189, 167, 0, 4, 3, 96, 61, 132, 3, 1]
abbrev dktX6_edgesIn_1 : List UInt8 := dkwX6_edgesIn_1 ++ dktX6_edgesIn_2
def dkwX6_edgesIn_0 : List UInt8 := [3, 61, 3, 62, 29, 42, 180, 0, 7, 3, 46, 162, 0, 39, 28, 27, 29, 122, 4, 126, 4, 160, 0, 20]
abbrev dktX6_edgesIn_0 : List UInt8 := dkwX6_edgesIn_0 ++ dktX6_edgesIn_1
theorem dksX6_edgesIn_0 : cX6_edgesIn.data.toList.drop 0 = dktX6_edgesIn_0 := by decide +kernel
theorem dksX6_edgesIn_1 : cX6_edgesIn.data.toList.drop 24 = dktX6_edgesIn_1 := dk_seg dksX6_edgesIn_0 24 rfl rfl
theorem dksX6_edgesIn_2 : cX6_edgesIn.data.toList.drop 47 = dktX6_edgesIn_2 := dk_seg dksX6_edgesIn_1 23 rfl rfl
theorem dX6_edgesIn_0 : decode cX6_edgesIn 0 = .ok (.iconst 0, 1) := dk_3 (dk_at dksX6_edgesIn_0 0 rfl rfl)
theorem dX6_edgesIn_1 : decode cX6_edgesIn 1 = .ok (.istore_n 2, 1) := dk_61 (dk_at dksX6_edgesIn_0 1 rfl rfl)
theorem dX6_edgesIn_2 : decode cX6_edgesIn 2 = .ok (.iconst 0, 1) := dk_3 (dk_at dksX6_edgesIn_0 2 rfl rfl)
theorem dX6_edgesIn_3 : decode cX6_edgesIn 3 = .ok (.istore_n 3, 1) := dk_62 (dk_at dksX6_edgesIn_0 3 rfl rfl)
theorem dX6_edgesIn_4 : decode cX6_edgesIn 4 = .ok (.iload_n 3, 1) := dk_29 (dk_at dksX6_edgesIn_0 4 rfl rfl)
theorem dX6_edgesIn_5 : decode cX6_edgesIn 5 = .ok (.aload_n 0, 1) := dk_42 (dk_at dksX6_edgesIn_0 5 rfl rfl)
theorem dX6_edgesIn_6 : decode cX6_edgesIn 6 = .ok (.getfield 7, 3) := dk_180 0 7 (dk_at dksX6_edgesIn_0 6 rfl rfl)
theorem dX6_edgesIn_9 : decode cX6_edgesIn 9 = .ok (.iconst 0, 1) := dk_3 (dk_at dksX6_edgesIn_0 9 rfl rfl)
theorem dX6_edgesIn_10 : decode cX6_edgesIn 10 = .ok (.iaload, 1) := dk_46 (dk_at dksX6_edgesIn_0 10 rfl rfl)
theorem dX6_edgesIn_11 : decode cX6_edgesIn 11 = .ok (.if_icmp .ge 39, 3) := dk_162 0 39 (dk_at dksX6_edgesIn_0 11 rfl rfl)
theorem dX6_edgesIn_14 : decode cX6_edgesIn 14 = .ok (.iload_n 2, 1) := dk_28 (dk_at dksX6_edgesIn_0 14 rfl rfl)
theorem dX6_edgesIn_15 : decode cX6_edgesIn 15 = .ok (.iload_n 1, 1) := dk_27 (dk_at dksX6_edgesIn_0 15 rfl rfl)
theorem dX6_edgesIn_16 : decode cX6_edgesIn 16 = .ok (.iload_n 3, 1) := dk_29 (dk_at dksX6_edgesIn_0 16 rfl rfl)
theorem dX6_edgesIn_17 : decode cX6_edgesIn 17 = .ok (.ishr, 1) := dk_122 (dk_at dksX6_edgesIn_0 17 rfl rfl)
theorem dX6_edgesIn_18 : decode cX6_edgesIn 18 = .ok (.iconst 1, 1) := dk_4 (dk_at dksX6_edgesIn_0 18 rfl rfl)
theorem dX6_edgesIn_19 : decode cX6_edgesIn 19 = .ok (.iand, 1) := dk_126 (dk_at dksX6_edgesIn_0 19 rfl rfl)
theorem dX6_edgesIn_20 : decode cX6_edgesIn 20 = .ok (.iconst 1, 1) := dk_4 (dk_at dksX6_edgesIn_0 20 rfl rfl)
theorem dX6_edgesIn_21 : decode cX6_edgesIn 21 = .ok (.if_icmp .ne 20, 3) := dk_160 0 20 (dk_at dksX6_edgesIn_0 21 rfl rfl)
theorem dX6_edgesIn_24 : decode cX6_edgesIn 24 = .ok (.aload_n 0, 1) := dk_42 (dk_at dksX6_edgesIn_1 0 rfl rfl)
theorem dX6_edgesIn_25 : decode cX6_edgesIn 25 = .ok (.getfield 7, 3) := dk_180 0 7 (dk_at dksX6_edgesIn_1 1 rfl rfl)
theorem dX6_edgesIn_28 : decode cX6_edgesIn 28 = .ok (.bipush 13, 2) := dk_16 13 (dk_at dksX6_edgesIn_1 4 rfl rfl)
theorem dX6_edgesIn_30 : decode cX6_edgesIn 30 = .ok (.iload_n 3, 1) := dk_29 (dk_at dksX6_edgesIn_1 6 rfl rfl)
theorem dX6_edgesIn_31 : decode cX6_edgesIn 31 = .ok (.iadd, 1) := dk_96 (dk_at dksX6_edgesIn_1 7 rfl rfl)
theorem dX6_edgesIn_32 : decode cX6_edgesIn 32 = .ok (.iaload, 1) := dk_46 (dk_at dksX6_edgesIn_1 8 rfl rfl)
theorem dX6_edgesIn_33 : decode cX6_edgesIn 33 = .ok (.iload_n 1, 1) := dk_27 (dk_at dksX6_edgesIn_1 9 rfl rfl)
theorem dX6_edgesIn_34 : decode cX6_edgesIn 34 = .ok (.iand, 1) := dk_126 (dk_at dksX6_edgesIn_1 10 rfl rfl)
theorem dX6_edgesIn_35 : decode cX6_edgesIn 35 = .ok (.invokestatic 189, 3) := dk_184 0 189 (dk_at dksX6_edgesIn_1 11 rfl rfl)
theorem dX6_edgesIn_38 : decode cX6_edgesIn 38 = .ok (.goto 4, 3) := dk_167 0 4 (dk_at dksX6_edgesIn_1 14 rfl rfl)
theorem dX6_edgesIn_41 : decode cX6_edgesIn 41 = .ok (.iconst 0, 1) := dk_3 (dk_at dksX6_edgesIn_1 17 rfl rfl)
theorem dX6_edgesIn_42 : decode cX6_edgesIn 42 = .ok (.iadd, 1) := dk_96 (dk_at dksX6_edgesIn_1 18 rfl rfl)
theorem dX6_edgesIn_43 : decode cX6_edgesIn 43 = .ok (.istore_n 2, 1) := dk_61 (dk_at dksX6_edgesIn_1 19 rfl rfl)
theorem dX6_edgesIn_44 : decode cX6_edgesIn 44 = .ok (.iinc 3 1, 3) := dk_132 3 1 (dk_at dksX6_edgesIn_1 20 rfl rfl)
theorem dX6_edgesIn_47 : decode cX6_edgesIn 47 = .ok (.goto (-43), 3) := dk_167 255 213 (dk_at dksX6_edgesIn_2 0 rfl rfl)
theorem dX6_edgesIn_50 : decode cX6_edgesIn 50 = .ok (.iload_n 2, 1) := dk_28 (dk_at dksX6_edgesIn_2 3 rfl rfl)
theorem dX6_edgesIn_51 : decode cX6_edgesIn 51 = .ok (.iconst 2, 1) := dk_5 (dk_at dksX6_edgesIn_2 4 rfl rfl)
theorem dX6_edgesIn_52 : decode cX6_edgesIn 52 = .ok (.idiv, 1) := dk_108 (dk_at dksX6_edgesIn_2 5 rfl rfl)
theorem dX6_edgesIn_53 : decode cX6_edgesIn 53 = .ok (.ireturn, 1) := dk_172 (dk_at dksX6_edgesIn_2 6 rfl rfl)
abbrev cX6_isOver : ByteArray := prog_16_method_40_code
def yX6_isOver : MethodName := ⟨RX6, "isOver", "()Z"⟩
def dkwX6_isOver_0 : List UInt8 := [42, 182, 0, 201, 154, 0, 16, 42, 180, 0, 7, 5, 46, 154, 0, 7, 4, 167, 0, 4, 3, 172]
abbrev dktX6_isOver_0 : List UInt8 := dkwX6_isOver_0 ++ []
theorem dksX6_isOver_0 : cX6_isOver.data.toList.drop 0 = dktX6_isOver_0 := by decide +kernel
theorem dX6_isOver_0 : decode cX6_isOver 0 = .ok (.aload_n 0, 1) := dk_42 (dk_at dksX6_isOver_0 0 rfl rfl)
theorem dX6_isOver_1 : decode cX6_isOver 1 = .ok (.invokevirtual 201, 3) := dk_182 0 201 (dk_at dksX6_isOver_0 1 rfl rfl)
theorem dX6_isOver_4 : decode cX6_isOver 4 = .ok (.ifCond .ne 16, 3) := dk_154 0 16 (dk_at dksX6_isOver_0 4 rfl rfl)
theorem dX6_isOver_7 : decode cX6_isOver 7 = .ok (.aload_n 0, 1) := dk_42 (dk_at dksX6_isOver_0 7 rfl rfl)
theorem dX6_isOver_8 : decode cX6_isOver 8 = .ok (.getfield 7, 3) := dk_180 0 7 (dk_at dksX6_isOver_0 8 rfl rfl)
theorem dX6_isOver_11 : decode cX6_isOver 11 = .ok (.iconst 2, 1) := dk_5 (dk_at dksX6_isOver_0 11 rfl rfl)
theorem dX6_isOver_12 : decode cX6_isOver 12 = .ok (.iaload, 1) := dk_46 (dk_at dksX6_isOver_0 12 rfl rfl)
theorem dX6_isOver_13 : decode cX6_isOver 13 = .ok (.ifCond .ne 7, 3) := dk_154 0 7 (dk_at dksX6_isOver_0 13 rfl rfl)
theorem dX6_isOver_16 : decode cX6_isOver 16 = .ok (.iconst 1, 1) := dk_4 (dk_at dksX6_isOver_0 16 rfl rfl)
theorem dX6_isOver_17 : decode cX6_isOver 17 = .ok (.goto 4, 3) := dk_167 0 4 (dk_at dksX6_isOver_0 17 rfl rfl)
theorem dX6_isOver_20 : decode cX6_isOver 20 = .ok (.iconst 0, 1) := dk_3 (dk_at dksX6_isOver_0 20 rfl rfl)
theorem dX6_isOver_21 : decode cX6_isOver 21 = .ok (.ireturn, 1) := dk_172 (dk_at dksX6_isOver_0 21 rfl rfl)
abbrev cX6_pairs : ByteArray := prog_16_method_39_code
def yX6_pairs : MethodName := ⟨RX6, "pairs", "()I"⟩
def dkwX6_pairs_1 : List UInt8 := [60, 132, 2, 1, 167, 255, 232, 27, 172]
abbrev dktX6_pairs_1 : List UInt8 := dkwX6_pairs_1 ++ []
def dkwX6_pairs_0 : List UInt8 := [3, 60, 3, 61, 28, 42, 180, 0, 7, 3, 46, 162, 0, 20, 27, 42, 28, 182, 0, 199, 184, 0, 189, 96]
abbrev dktX6_pairs_0 : List UInt8 := dkwX6_pairs_0 ++ dktX6_pairs_1
theorem dksX6_pairs_0 : cX6_pairs.data.toList.drop 0 = dktX6_pairs_0 := by decide +kernel
theorem dksX6_pairs_1 : cX6_pairs.data.toList.drop 24 = dktX6_pairs_1 := dk_seg dksX6_pairs_0 24 rfl rfl
theorem dX6_pairs_0 : decode cX6_pairs 0 = .ok (.iconst 0, 1) := dk_3 (dk_at dksX6_pairs_0 0 rfl rfl)
theorem dX6_pairs_1 : decode cX6_pairs 1 = .ok (.istore_n 1, 1) := dk_60 (dk_at dksX6_pairs_0 1 rfl rfl)
theorem dX6_pairs_2 : decode cX6_pairs 2 = .ok (.iconst 0, 1) := dk_3 (dk_at dksX6_pairs_0 2 rfl rfl)
theorem dX6_pairs_3 : decode cX6_pairs 3 = .ok (.istore_n 2, 1) := dk_61 (dk_at dksX6_pairs_0 3 rfl rfl)
theorem dX6_pairs_4 : decode cX6_pairs 4 = .ok (.iload_n 2, 1) := dk_28 (dk_at dksX6_pairs_0 4 rfl rfl)
theorem dX6_pairs_5 : decode cX6_pairs 5 = .ok (.aload_n 0, 1) := dk_42 (dk_at dksX6_pairs_0 5 rfl rfl)
theorem dX6_pairs_6 : decode cX6_pairs 6 = .ok (.getfield 7, 3) := dk_180 0 7 (dk_at dksX6_pairs_0 6 rfl rfl)
theorem dX6_pairs_9 : decode cX6_pairs 9 = .ok (.iconst 0, 1) := dk_3 (dk_at dksX6_pairs_0 9 rfl rfl)
theorem dX6_pairs_10 : decode cX6_pairs 10 = .ok (.iaload, 1) := dk_46 (dk_at dksX6_pairs_0 10 rfl rfl)
theorem dX6_pairs_11 : decode cX6_pairs 11 = .ok (.if_icmp .ge 20, 3) := dk_162 0 20 (dk_at dksX6_pairs_0 11 rfl rfl)
theorem dX6_pairs_14 : decode cX6_pairs 14 = .ok (.iload_n 1, 1) := dk_27 (dk_at dksX6_pairs_0 14 rfl rfl)
theorem dX6_pairs_15 : decode cX6_pairs 15 = .ok (.aload_n 0, 1) := dk_42 (dk_at dksX6_pairs_0 15 rfl rfl)
theorem dX6_pairs_16 : decode cX6_pairs 16 = .ok (.iload_n 2, 1) := dk_28 (dk_at dksX6_pairs_0 16 rfl rfl)
theorem dX6_pairs_17 : decode cX6_pairs 17 = .ok (.invokevirtual 199, 3) := dk_182 0 199 (dk_at dksX6_pairs_0 17 rfl rfl)
theorem dX6_pairs_20 : decode cX6_pairs 20 = .ok (.invokestatic 189, 3) := dk_184 0 189 (dk_at dksX6_pairs_0 20 rfl rfl)
theorem dX6_pairs_23 : decode cX6_pairs 23 = .ok (.iadd, 1) := dk_96 (dk_at dksX6_pairs_0 23 rfl rfl)
theorem dX6_pairs_24 : decode cX6_pairs 24 = .ok (.istore_n 1, 1) := dk_60 (dk_at dksX6_pairs_1 0 rfl rfl)
theorem dX6_pairs_25 : decode cX6_pairs 25 = .ok (.iinc 2 1, 3) := dk_132 2 1 (dk_at dksX6_pairs_1 1 rfl rfl)
theorem dX6_pairs_28 : decode cX6_pairs 28 = .ok (.goto (-24), 3) := dk_167 255 232 (dk_at dksX6_pairs_1 4 rfl rfl)
theorem dX6_pairs_31 : decode cX6_pairs 31 = .ok (.iload_n 1, 1) := dk_27 (dk_at dksX6_pairs_1 7 rfl rfl)
theorem dX6_pairs_32 : decode cX6_pairs 32 = .ok (.ireturn, 1) := dk_172 (dk_at dksX6_pairs_1 8 rfl rfl)
abbrev cX6_stuck : ByteArray := prog_16_method_42_code
def yX6_stuck : MethodName := ⟨RX6, "stuck", "()I"⟩
def dkwX6_stuck_1 : List UInt8 := [28, 182, 0, 199, 154, 0, 7, 4, 167, 0, 4, 3, 96, 60, 132, 2, 1, 167, 255, 219, 27, 172]
abbrev dktX6_stuck_1 : List UInt8 := dkwX6_stuck_1 ++ []
def dkwX6_stuck_0 : List UInt8 := [3, 60, 3, 61, 28, 42, 180, 0, 7, 3, 46, 162, 0, 33, 27, 42, 28, 182, 0, 170, 153, 0, 15, 42]
abbrev dktX6_stuck_0 : List UInt8 := dkwX6_stuck_0 ++ dktX6_stuck_1
theorem dksX6_stuck_0 : cX6_stuck.data.toList.drop 0 = dktX6_stuck_0 := by decide +kernel
theorem dksX6_stuck_1 : cX6_stuck.data.toList.drop 24 = dktX6_stuck_1 := dk_seg dksX6_stuck_0 24 rfl rfl
theorem dX6_stuck_0 : decode cX6_stuck 0 = .ok (.iconst 0, 1) := dk_3 (dk_at dksX6_stuck_0 0 rfl rfl)
theorem dX6_stuck_1 : decode cX6_stuck 1 = .ok (.istore_n 1, 1) := dk_60 (dk_at dksX6_stuck_0 1 rfl rfl)
theorem dX6_stuck_2 : decode cX6_stuck 2 = .ok (.iconst 0, 1) := dk_3 (dk_at dksX6_stuck_0 2 rfl rfl)
theorem dX6_stuck_3 : decode cX6_stuck 3 = .ok (.istore_n 2, 1) := dk_61 (dk_at dksX6_stuck_0 3 rfl rfl)
theorem dX6_stuck_4 : decode cX6_stuck 4 = .ok (.iload_n 2, 1) := dk_28 (dk_at dksX6_stuck_0 4 rfl rfl)
theorem dX6_stuck_5 : decode cX6_stuck 5 = .ok (.aload_n 0, 1) := dk_42 (dk_at dksX6_stuck_0 5 rfl rfl)
theorem dX6_stuck_6 : decode cX6_stuck 6 = .ok (.getfield 7, 3) := dk_180 0 7 (dk_at dksX6_stuck_0 6 rfl rfl)
theorem dX6_stuck_9 : decode cX6_stuck 9 = .ok (.iconst 0, 1) := dk_3 (dk_at dksX6_stuck_0 9 rfl rfl)
theorem dX6_stuck_10 : decode cX6_stuck 10 = .ok (.iaload, 1) := dk_46 (dk_at dksX6_stuck_0 10 rfl rfl)
theorem dX6_stuck_11 : decode cX6_stuck 11 = .ok (.if_icmp .ge 33, 3) := dk_162 0 33 (dk_at dksX6_stuck_0 11 rfl rfl)
theorem dX6_stuck_14 : decode cX6_stuck 14 = .ok (.iload_n 1, 1) := dk_27 (dk_at dksX6_stuck_0 14 rfl rfl)
theorem dX6_stuck_15 : decode cX6_stuck 15 = .ok (.aload_n 0, 1) := dk_42 (dk_at dksX6_stuck_0 15 rfl rfl)
theorem dX6_stuck_16 : decode cX6_stuck 16 = .ok (.iload_n 2, 1) := dk_28 (dk_at dksX6_stuck_0 16 rfl rfl)
theorem dX6_stuck_17 : decode cX6_stuck 17 = .ok (.invokevirtual 170, 3) := dk_182 0 170 (dk_at dksX6_stuck_0 17 rfl rfl)
theorem dX6_stuck_20 : decode cX6_stuck 20 = .ok (.ifCond .eq 15, 3) := dk_153 0 15 (dk_at dksX6_stuck_0 20 rfl rfl)
theorem dX6_stuck_23 : decode cX6_stuck 23 = .ok (.aload_n 0, 1) := dk_42 (dk_at dksX6_stuck_0 23 rfl rfl)
theorem dX6_stuck_24 : decode cX6_stuck 24 = .ok (.iload_n 2, 1) := dk_28 (dk_at dksX6_stuck_1 0 rfl rfl)
theorem dX6_stuck_25 : decode cX6_stuck 25 = .ok (.invokevirtual 199, 3) := dk_182 0 199 (dk_at dksX6_stuck_1 1 rfl rfl)
theorem dX6_stuck_28 : decode cX6_stuck 28 = .ok (.ifCond .ne 7, 3) := dk_154 0 7 (dk_at dksX6_stuck_1 4 rfl rfl)
theorem dX6_stuck_31 : decode cX6_stuck 31 = .ok (.iconst 1, 1) := dk_4 (dk_at dksX6_stuck_1 7 rfl rfl)
theorem dX6_stuck_32 : decode cX6_stuck 32 = .ok (.goto 4, 3) := dk_167 0 4 (dk_at dksX6_stuck_1 8 rfl rfl)
theorem dX6_stuck_35 : decode cX6_stuck 35 = .ok (.iconst 0, 1) := dk_3 (dk_at dksX6_stuck_1 11 rfl rfl)
theorem dX6_stuck_36 : decode cX6_stuck 36 = .ok (.iadd, 1) := dk_96 (dk_at dksX6_stuck_1 12 rfl rfl)
theorem dX6_stuck_37 : decode cX6_stuck 37 = .ok (.istore_n 1, 1) := dk_60 (dk_at dksX6_stuck_1 13 rfl rfl)
theorem dX6_stuck_38 : decode cX6_stuck 38 = .ok (.iinc 2 1, 3) := dk_132 2 1 (dk_at dksX6_stuck_1 14 rfl rfl)
theorem dX6_stuck_41 : decode cX6_stuck 41 = .ok (.goto (-37), 3) := dk_167 255 219 (dk_at dksX6_stuck_1 17 rfl rfl)
theorem dX6_stuck_44 : decode cX6_stuck 44 = .ok (.iload_n 1, 1) := dk_27 (dk_at dksX6_stuck_1 20 rfl rfl)
theorem dX6_stuck_45 : decode cX6_stuck 45 = .ok (.ireturn, 1) := dk_172 (dk_at dksX6_stuck_1 21 rfl rfl)
abbrev cX6_vertex : ByteArray := prog_16_method_47_code
def yX6_vertex : MethodName := ⟨RX6, "vertex", "(II)I"⟩
def dkwX6_vertex_6 : List UInt8 := [184, 0, 189, 172]
abbrev dktX6_vertex_6 : List UInt8 := dkwX6_vertex_6 ++ []
def dkwX6_vertex_5 : List UInt8 := [182, 0, 223, 167, 0, 4, 2, 172, 42, 180, 0, 7, 16, 13, 27, 96, 46, 42, 182, 0, 180, 126]
abbrev dktX6_vertex_5 : List UInt8 := dkwX6_vertex_5 ++ dktX6_vertex_6
def dkwX6_vertex_4 : List UInt8 := [180, 0, 7, 16, 13, 27, 96, 46, 184, 0, 189, 172, 42, 27, 182, 0, 170, 153, 0, 11, 42, 27]
abbrev dktX6_vertex_4 : List UInt8 := dkwX6_vertex_4 ++ dktX6_vertex_5
def dkwX6_vertex_3 : List UInt8 := [42, 27, 182, 0, 183, 172, 42, 180, 0, 7, 7, 27, 96, 46, 172, 42, 27, 182, 0, 199, 172, 42]
abbrev dktX6_vertex_3 : List UInt8 := dkwX6_vertex_3 ++ dktX6_vertex_4
def dkwX6_vertex_2 : List UInt8 := [170, 0, 0, 0, 0, 0, 0, 88, 0, 0, 0, 0, 0, 0, 0, 4, 0, 0, 0, 36, 0, 0, 0, 42, 0, 0, 0, 51, 0, 0, 0, 57, 0, 0, 0, 70]
abbrev dktX6_vertex_2 : List UInt8 := dkwX6_vertex_2 ++ dktX6_vertex_3
def dkwX6_vertex_1 : List UInt8 := [167, 0, 4, 5, 181, 0, 47, 42, 180, 0, 47, 158, 0, 5, 3, 172, 28]
abbrev dktX6_vertex_1 : List UInt8 := dkwX6_vertex_1 ++ dktX6_vertex_2
def dkwX6_vertex_0 : List UInt8 := [42, 42, 27, 182, 0, 220, 154, 0, 7, 4, 167, 0, 17, 28, 3, 8, 184, 0, 76, 153, 0, 7, 3]
abbrev dktX6_vertex_0 : List UInt8 := dkwX6_vertex_0 ++ dktX6_vertex_1
theorem dksX6_vertex_0 : cX6_vertex.data.toList.drop 0 = dktX6_vertex_0 := by decide +kernel
theorem dksX6_vertex_1 : cX6_vertex.data.toList.drop 23 = dktX6_vertex_1 := dk_seg dksX6_vertex_0 23 rfl rfl
theorem dksX6_vertex_2 : cX6_vertex.data.toList.drop 40 = dktX6_vertex_2 := dk_seg dksX6_vertex_1 17 rfl rfl
theorem dksX6_vertex_3 : cX6_vertex.data.toList.drop 76 = dktX6_vertex_3 := dk_seg dksX6_vertex_2 36 rfl rfl
theorem dksX6_vertex_4 : cX6_vertex.data.toList.drop 98 = dktX6_vertex_4 := dk_seg dksX6_vertex_3 22 rfl rfl
theorem dksX6_vertex_5 : cX6_vertex.data.toList.drop 120 = dktX6_vertex_5 := dk_seg dksX6_vertex_4 22 rfl rfl
theorem dksX6_vertex_6 : cX6_vertex.data.toList.drop 142 = dktX6_vertex_6 := dk_seg dksX6_vertex_5 22 rfl rfl
theorem dX6_vertex_0 : decode cX6_vertex 0 = .ok (.aload_n 0, 1) := dk_42 (dk_at dksX6_vertex_0 0 rfl rfl)
theorem dX6_vertex_1 : decode cX6_vertex 1 = .ok (.aload_n 0, 1) := dk_42 (dk_at dksX6_vertex_0 1 rfl rfl)
theorem dX6_vertex_2 : decode cX6_vertex 2 = .ok (.iload_n 1, 1) := dk_27 (dk_at dksX6_vertex_0 2 rfl rfl)
theorem dX6_vertex_3 : decode cX6_vertex 3 = .ok (.invokevirtual 220, 3) := dk_182 0 220 (dk_at dksX6_vertex_0 3 rfl rfl)
theorem dX6_vertex_6 : decode cX6_vertex 6 = .ok (.ifCond .ne 7, 3) := dk_154 0 7 (dk_at dksX6_vertex_0 6 rfl rfl)
theorem dX6_vertex_9 : decode cX6_vertex 9 = .ok (.iconst 1, 1) := dk_4 (dk_at dksX6_vertex_0 9 rfl rfl)
theorem dX6_vertex_10 : decode cX6_vertex 10 = .ok (.goto 17, 3) := dk_167 0 17 (dk_at dksX6_vertex_0 10 rfl rfl)
theorem dX6_vertex_13 : decode cX6_vertex 13 = .ok (.iload_n 2, 1) := dk_28 (dk_at dksX6_vertex_0 13 rfl rfl)
theorem dX6_vertex_14 : decode cX6_vertex 14 = .ok (.iconst 0, 1) := dk_3 (dk_at dksX6_vertex_0 14 rfl rfl)
theorem dX6_vertex_15 : decode cX6_vertex 15 = .ok (.iconst 5, 1) := dk_8 (dk_at dksX6_vertex_0 15 rfl rfl)
theorem dX6_vertex_16 : decode cX6_vertex 16 = .ok (.invokestatic 76, 3) := dk_184 0 76 (dk_at dksX6_vertex_0 16 rfl rfl)
theorem dX6_vertex_19 : decode cX6_vertex 19 = .ok (.ifCond .eq 7, 3) := dk_153 0 7 (dk_at dksX6_vertex_0 19 rfl rfl)
theorem dX6_vertex_22 : decode cX6_vertex 22 = .ok (.iconst 0, 1) := dk_3 (dk_at dksX6_vertex_0 22 rfl rfl)
theorem dX6_vertex_23 : decode cX6_vertex 23 = .ok (.goto 4, 3) := dk_167 0 4 (dk_at dksX6_vertex_1 0 rfl rfl)
theorem dX6_vertex_26 : decode cX6_vertex 26 = .ok (.iconst 2, 1) := dk_5 (dk_at dksX6_vertex_1 3 rfl rfl)
theorem dX6_vertex_27 : decode cX6_vertex 27 = .ok (.putfield 47, 3) := dk_181 0 47 (dk_at dksX6_vertex_1 4 rfl rfl)
theorem dX6_vertex_30 : decode cX6_vertex 30 = .ok (.aload_n 0, 1) := dk_42 (dk_at dksX6_vertex_1 7 rfl rfl)
theorem dX6_vertex_31 : decode cX6_vertex 31 = .ok (.getfield 47, 3) := dk_180 0 47 (dk_at dksX6_vertex_1 8 rfl rfl)
theorem dX6_vertex_34 : decode cX6_vertex 34 = .ok (.ifCond .le 5, 3) := dk_158 0 5 (dk_at dksX6_vertex_1 11 rfl rfl)
theorem dX6_vertex_37 : decode cX6_vertex 37 = .ok (.iconst 0, 1) := dk_3 (dk_at dksX6_vertex_1 14 rfl rfl)
theorem dX6_vertex_38 : decode cX6_vertex 38 = .ok (.ireturn, 1) := dk_172 (dk_at dksX6_vertex_1 15 rfl rfl)
theorem dX6_vertex_39 : decode cX6_vertex 39 = .ok (.iload_n 2, 1) := dk_28 (dk_at dksX6_vertex_1 16 rfl rfl)
theorem dX6_vertex_40 : decode cX6_vertex 40 = .ok (.tableswitch 88 0 4 #[36, 42, 51, 57, 70], 36) := by decide +kernel
theorem dX6_vertex_76 : decode cX6_vertex 76 = .ok (.aload_n 0, 1) := dk_42 (dk_at dksX6_vertex_3 0 rfl rfl)
theorem dX6_vertex_77 : decode cX6_vertex 77 = .ok (.iload_n 1, 1) := dk_27 (dk_at dksX6_vertex_3 1 rfl rfl)
theorem dX6_vertex_78 : decode cX6_vertex 78 = .ok (.invokevirtual 183, 3) := dk_182 0 183 (dk_at dksX6_vertex_3 2 rfl rfl)
theorem dX6_vertex_81 : decode cX6_vertex 81 = .ok (.ireturn, 1) := dk_172 (dk_at dksX6_vertex_3 5 rfl rfl)
theorem dX6_vertex_82 : decode cX6_vertex 82 = .ok (.aload_n 0, 1) := dk_42 (dk_at dksX6_vertex_3 6 rfl rfl)
theorem dX6_vertex_83 : decode cX6_vertex 83 = .ok (.getfield 7, 3) := dk_180 0 7 (dk_at dksX6_vertex_3 7 rfl rfl)
theorem dX6_vertex_86 : decode cX6_vertex 86 = .ok (.iconst 4, 1) := dk_7 (dk_at dksX6_vertex_3 10 rfl rfl)
theorem dX6_vertex_87 : decode cX6_vertex 87 = .ok (.iload_n 1, 1) := dk_27 (dk_at dksX6_vertex_3 11 rfl rfl)
theorem dX6_vertex_88 : decode cX6_vertex 88 = .ok (.iadd, 1) := dk_96 (dk_at dksX6_vertex_3 12 rfl rfl)
theorem dX6_vertex_89 : decode cX6_vertex 89 = .ok (.iaload, 1) := dk_46 (dk_at dksX6_vertex_3 13 rfl rfl)
theorem dX6_vertex_90 : decode cX6_vertex 90 = .ok (.ireturn, 1) := dk_172 (dk_at dksX6_vertex_3 14 rfl rfl)
theorem dX6_vertex_91 : decode cX6_vertex 91 = .ok (.aload_n 0, 1) := dk_42 (dk_at dksX6_vertex_3 15 rfl rfl)
theorem dX6_vertex_92 : decode cX6_vertex 92 = .ok (.iload_n 1, 1) := dk_27 (dk_at dksX6_vertex_3 16 rfl rfl)
theorem dX6_vertex_93 : decode cX6_vertex 93 = .ok (.invokevirtual 199, 3) := dk_182 0 199 (dk_at dksX6_vertex_3 17 rfl rfl)
theorem dX6_vertex_96 : decode cX6_vertex 96 = .ok (.ireturn, 1) := dk_172 (dk_at dksX6_vertex_3 20 rfl rfl)
theorem dX6_vertex_97 : decode cX6_vertex 97 = .ok (.aload_n 0, 1) := dk_42 (dk_at dksX6_vertex_3 21 rfl rfl)
theorem dX6_vertex_98 : decode cX6_vertex 98 = .ok (.getfield 7, 3) := dk_180 0 7 (dk_at dksX6_vertex_4 0 rfl rfl)
theorem dX6_vertex_101 : decode cX6_vertex 101 = .ok (.bipush 13, 2) := dk_16 13 (dk_at dksX6_vertex_4 3 rfl rfl)
theorem dX6_vertex_103 : decode cX6_vertex 103 = .ok (.iload_n 1, 1) := dk_27 (dk_at dksX6_vertex_4 5 rfl rfl)
theorem dX6_vertex_104 : decode cX6_vertex 104 = .ok (.iadd, 1) := dk_96 (dk_at dksX6_vertex_4 6 rfl rfl)
theorem dX6_vertex_105 : decode cX6_vertex 105 = .ok (.iaload, 1) := dk_46 (dk_at dksX6_vertex_4 7 rfl rfl)
theorem dX6_vertex_106 : decode cX6_vertex 106 = .ok (.invokestatic 189, 3) := dk_184 0 189 (dk_at dksX6_vertex_4 8 rfl rfl)
theorem dX6_vertex_109 : decode cX6_vertex 109 = .ok (.ireturn, 1) := dk_172 (dk_at dksX6_vertex_4 11 rfl rfl)
theorem dX6_vertex_110 : decode cX6_vertex 110 = .ok (.aload_n 0, 1) := dk_42 (dk_at dksX6_vertex_4 12 rfl rfl)
theorem dX6_vertex_111 : decode cX6_vertex 111 = .ok (.iload_n 1, 1) := dk_27 (dk_at dksX6_vertex_4 13 rfl rfl)
theorem dX6_vertex_112 : decode cX6_vertex 112 = .ok (.invokevirtual 170, 3) := dk_182 0 170 (dk_at dksX6_vertex_4 14 rfl rfl)
theorem dX6_vertex_115 : decode cX6_vertex 115 = .ok (.ifCond .eq 11, 3) := dk_153 0 11 (dk_at dksX6_vertex_4 17 rfl rfl)
theorem dX6_vertex_118 : decode cX6_vertex 118 = .ok (.aload_n 0, 1) := dk_42 (dk_at dksX6_vertex_4 20 rfl rfl)
theorem dX6_vertex_119 : decode cX6_vertex 119 = .ok (.iload_n 1, 1) := dk_27 (dk_at dksX6_vertex_4 21 rfl rfl)
theorem dX6_vertex_120 : decode cX6_vertex 120 = .ok (.invokevirtual 223, 3) := dk_182 0 223 (dk_at dksX6_vertex_5 0 rfl rfl)
theorem dX6_vertex_123 : decode cX6_vertex 123 = .ok (.goto 4, 3) := dk_167 0 4 (dk_at dksX6_vertex_5 3 rfl rfl)
theorem dX6_vertex_126 : decode cX6_vertex 126 = .ok (.iconst (-1), 1) := dk_2 (dk_at dksX6_vertex_5 6 rfl rfl)
theorem dX6_vertex_127 : decode cX6_vertex 127 = .ok (.ireturn, 1) := dk_172 (dk_at dksX6_vertex_5 7 rfl rfl)
theorem dX6_vertex_128 : decode cX6_vertex 128 = .ok (.aload_n 0, 1) := dk_42 (dk_at dksX6_vertex_5 8 rfl rfl)
theorem dX6_vertex_129 : decode cX6_vertex 129 = .ok (.getfield 7, 3) := dk_180 0 7 (dk_at dksX6_vertex_5 9 rfl rfl)
theorem dX6_vertex_132 : decode cX6_vertex 132 = .ok (.bipush 13, 2) := dk_16 13 (dk_at dksX6_vertex_5 12 rfl rfl)
theorem dX6_vertex_134 : decode cX6_vertex 134 = .ok (.iload_n 1, 1) := dk_27 (dk_at dksX6_vertex_5 14 rfl rfl)
theorem dX6_vertex_135 : decode cX6_vertex 135 = .ok (.iadd, 1) := dk_96 (dk_at dksX6_vertex_5 15 rfl rfl)
theorem dX6_vertex_136 : decode cX6_vertex 136 = .ok (.iaload, 1) := dk_46 (dk_at dksX6_vertex_5 16 rfl rfl)
theorem dX6_vertex_137 : decode cX6_vertex 137 = .ok (.aload_n 0, 1) := dk_42 (dk_at dksX6_vertex_5 17 rfl rfl)
theorem dX6_vertex_138 : decode cX6_vertex 138 = .ok (.invokevirtual 180, 3) := dk_182 0 180 (dk_at dksX6_vertex_5 18 rfl rfl)
theorem dX6_vertex_141 : decode cX6_vertex 141 = .ok (.iand, 1) := dk_126 (dk_at dksX6_vertex_5 21 rfl rfl)
theorem dX6_vertex_142 : decode cX6_vertex 142 = .ok (.invokestatic 189, 3) := dk_184 0 189 (dk_at dksX6_vertex_6 0 rfl rfl)
theorem dX6_vertex_145 : decode cX6_vertex 145 = .ok (.ireturn, 1) := dk_172 (dk_at dksX6_vertex_6 3 rfl rfl)
abbrev cX6_isVertex : ByteArray := prog_16_method_45_code
def yX6_isVertex : MethodName := ⟨RX6, "isVertex", "(I)Z"⟩
def dkwX6_isVertex_0 : List UInt8 := [27, 3, 42, 180, 0, 7, 3, 46, 4, 100, 184, 0, 76, 172]
abbrev dktX6_isVertex_0 : List UInt8 := dkwX6_isVertex_0 ++ []
theorem dksX6_isVertex_0 : cX6_isVertex.data.toList.drop 0 = dktX6_isVertex_0 := by decide +kernel
theorem dX6_isVertex_0 : decode cX6_isVertex 0 = .ok (.iload_n 1, 1) := dk_27 (dk_at dksX6_isVertex_0 0 rfl rfl)
theorem dX6_isVertex_1 : decode cX6_isVertex 1 = .ok (.iconst 0, 1) := dk_3 (dk_at dksX6_isVertex_0 1 rfl rfl)
theorem dX6_isVertex_2 : decode cX6_isVertex 2 = .ok (.aload_n 0, 1) := dk_42 (dk_at dksX6_isVertex_0 2 rfl rfl)
theorem dX6_isVertex_3 : decode cX6_isVertex 3 = .ok (.getfield 7, 3) := dk_180 0 7 (dk_at dksX6_isVertex_0 3 rfl rfl)
theorem dX6_isVertex_6 : decode cX6_isVertex 6 = .ok (.iconst 0, 1) := dk_3 (dk_at dksX6_isVertex_0 6 rfl rfl)
theorem dX6_isVertex_7 : decode cX6_isVertex 7 = .ok (.iaload, 1) := dk_46 (dk_at dksX6_isVertex_0 7 rfl rfl)
theorem dX6_isVertex_8 : decode cX6_isVertex 8 = .ok (.iconst 1, 1) := dk_4 (dk_at dksX6_isVertex_0 8 rfl rfl)
theorem dX6_isVertex_9 : decode cX6_isVertex 9 = .ok (.isub, 1) := dk_100 (dk_at dksX6_isVertex_0 9 rfl rfl)
theorem dX6_isVertex_10 : decode cX6_isVertex 10 = .ok (.invokestatic 76, 3) := dk_184 0 76 (dk_at dksX6_isVertex_0 10 rfl rfl)
theorem dX6_isVertex_13 : decode cX6_isVertex 13 = .ok (.ireturn, 1) := dk_172 (dk_at dksX6_isVertex_0 13 rfl rfl)
abbrev cX6_partOf : ByteArray := prog_16_method_33_code
def yX6_partOf : MethodName := ⟨RX6, "partOf", "(I)I"⟩
def dkwX6_partOf_2 : List UInt8 := [167, 255, 219, 29, 172]
abbrev dktX6_partOf_2 : List UInt8 := dkwX6_partOf_2 ++ []
def dkwX6_partOf_1 : List UInt8 := [154, 0, 26, 21, 4, 42, 21, 4, 184, 0, 174, 28, 182, 0, 177, 2, 130, 126, 54, 4, 132, 3, 1]
abbrev dktX6_partOf_1 : List UInt8 := dkwX6_partOf_1 ++ dktX6_partOf_2
def dkwX6_partOf_0 : List UInt8 := [42, 182, 0, 180, 61, 3, 62, 28, 54, 4, 42, 21, 4, 184, 0, 174, 28, 182, 0, 177, 27, 122, 4, 126]
abbrev dktX6_partOf_0 : List UInt8 := dkwX6_partOf_0 ++ dktX6_partOf_1
theorem dksX6_partOf_0 : cX6_partOf.data.toList.drop 0 = dktX6_partOf_0 := by decide +kernel
theorem dksX6_partOf_1 : cX6_partOf.data.toList.drop 24 = dktX6_partOf_1 := dk_seg dksX6_partOf_0 24 rfl rfl
theorem dksX6_partOf_2 : cX6_partOf.data.toList.drop 47 = dktX6_partOf_2 := dk_seg dksX6_partOf_1 23 rfl rfl
theorem dX6_partOf_0 : decode cX6_partOf 0 = .ok (.aload_n 0, 1) := dk_42 (dk_at dksX6_partOf_0 0 rfl rfl)
theorem dX6_partOf_1 : decode cX6_partOf 1 = .ok (.invokevirtual 180, 3) := dk_182 0 180 (dk_at dksX6_partOf_0 1 rfl rfl)
theorem dX6_partOf_4 : decode cX6_partOf 4 = .ok (.istore_n 2, 1) := dk_61 (dk_at dksX6_partOf_0 4 rfl rfl)
theorem dX6_partOf_5 : decode cX6_partOf 5 = .ok (.iconst 0, 1) := dk_3 (dk_at dksX6_partOf_0 5 rfl rfl)
theorem dX6_partOf_6 : decode cX6_partOf 6 = .ok (.istore_n 3, 1) := dk_62 (dk_at dksX6_partOf_0 6 rfl rfl)
theorem dX6_partOf_7 : decode cX6_partOf 7 = .ok (.iload_n 2, 1) := dk_28 (dk_at dksX6_partOf_0 7 rfl rfl)
theorem dX6_partOf_8 : decode cX6_partOf 8 = .ok (.istore 4, 2) := dk_54 4 (dk_at dksX6_partOf_0 8 rfl rfl)
theorem dX6_partOf_10 : decode cX6_partOf 10 = .ok (.aload_n 0, 1) := dk_42 (dk_at dksX6_partOf_0 10 rfl rfl)
theorem dX6_partOf_11 : decode cX6_partOf 11 = .ok (.iload 4, 2) := dk_21 4 (dk_at dksX6_partOf_0 11 rfl rfl)
theorem dX6_partOf_13 : decode cX6_partOf 13 = .ok (.invokestatic 174, 3) := dk_184 0 174 (dk_at dksX6_partOf_0 13 rfl rfl)
theorem dX6_partOf_16 : decode cX6_partOf 16 = .ok (.iload_n 2, 1) := dk_28 (dk_at dksX6_partOf_0 16 rfl rfl)
theorem dX6_partOf_17 : decode cX6_partOf 17 = .ok (.invokevirtual 177, 3) := dk_182 0 177 (dk_at dksX6_partOf_0 17 rfl rfl)
theorem dX6_partOf_20 : decode cX6_partOf 20 = .ok (.iload_n 1, 1) := dk_27 (dk_at dksX6_partOf_0 20 rfl rfl)
theorem dX6_partOf_21 : decode cX6_partOf 21 = .ok (.ishr, 1) := dk_122 (dk_at dksX6_partOf_0 21 rfl rfl)
theorem dX6_partOf_22 : decode cX6_partOf 22 = .ok (.iconst 1, 1) := dk_4 (dk_at dksX6_partOf_0 22 rfl rfl)
theorem dX6_partOf_23 : decode cX6_partOf 23 = .ok (.iand, 1) := dk_126 (dk_at dksX6_partOf_0 23 rfl rfl)
theorem dX6_partOf_24 : decode cX6_partOf 24 = .ok (.ifCond .ne 26, 3) := dk_154 0 26 (dk_at dksX6_partOf_1 0 rfl rfl)
theorem dX6_partOf_27 : decode cX6_partOf 27 = .ok (.iload 4, 2) := dk_21 4 (dk_at dksX6_partOf_1 3 rfl rfl)
theorem dX6_partOf_29 : decode cX6_partOf 29 = .ok (.aload_n 0, 1) := dk_42 (dk_at dksX6_partOf_1 5 rfl rfl)
theorem dX6_partOf_30 : decode cX6_partOf 30 = .ok (.iload 4, 2) := dk_21 4 (dk_at dksX6_partOf_1 6 rfl rfl)
theorem dX6_partOf_32 : decode cX6_partOf 32 = .ok (.invokestatic 174, 3) := dk_184 0 174 (dk_at dksX6_partOf_1 8 rfl rfl)
theorem dX6_partOf_35 : decode cX6_partOf 35 = .ok (.iload_n 2, 1) := dk_28 (dk_at dksX6_partOf_1 11 rfl rfl)
theorem dX6_partOf_36 : decode cX6_partOf 36 = .ok (.invokevirtual 177, 3) := dk_182 0 177 (dk_at dksX6_partOf_1 12 rfl rfl)
theorem dX6_partOf_39 : decode cX6_partOf 39 = .ok (.iconst (-1), 1) := dk_2 (dk_at dksX6_partOf_1 15 rfl rfl)
theorem dX6_partOf_40 : decode cX6_partOf 40 = .ok (.ixor, 1) := dk_130 (dk_at dksX6_partOf_1 16 rfl rfl)
theorem dX6_partOf_41 : decode cX6_partOf 41 = .ok (.iand, 1) := dk_126 (dk_at dksX6_partOf_1 17 rfl rfl)
theorem dX6_partOf_42 : decode cX6_partOf 42 = .ok (.istore 4, 2) := dk_54 4 (dk_at dksX6_partOf_1 18 rfl rfl)
theorem dX6_partOf_44 : decode cX6_partOf 44 = .ok (.iinc 3 1, 3) := dk_132 3 1 (dk_at dksX6_partOf_1 20 rfl rfl)
theorem dX6_partOf_47 : decode cX6_partOf 47 = .ok (.goto (-37), 3) := dk_167 255 219 (dk_at dksX6_partOf_2 0 rfl rfl)
theorem dX6_partOf_50 : decode cX6_partOf 50 = .ok (.iload_n 3, 1) := dk_29 (dk_at dksX6_partOf_2 3 rfl rfl)
theorem dX6_partOf_51 : decode cX6_partOf 51 = .ok (.ireturn, 1) := dk_172 (dk_at dksX6_partOf_2 4 rfl rfl)
abbrev cX6_reason : ByteArray := prog_16_method_48_code
def yX6_reason : MethodName := ⟨RX6, "reason", "(II)I"⟩
def dkwX6_reason_1 : List UInt8 := [181, 0, 47, 42, 180, 0, 47, 158, 0, 7, 3, 167, 0, 9, 42, 27, 28, 182, 0, 127, 172]
abbrev dktX6_reason_1 : List UInt8 := dkwX6_reason_1 ++ []
def dkwX6_reason_0 : List UInt8 := [42, 42, 27, 182, 0, 220, 153, 0, 15, 42, 28, 182, 0, 226, 153, 0, 7, 3, 167, 0, 4, 4]
abbrev dktX6_reason_0 : List UInt8 := dkwX6_reason_0 ++ dktX6_reason_1
theorem dksX6_reason_0 : cX6_reason.data.toList.drop 0 = dktX6_reason_0 := by decide +kernel
theorem dksX6_reason_1 : cX6_reason.data.toList.drop 22 = dktX6_reason_1 := dk_seg dksX6_reason_0 22 rfl rfl
theorem dX6_reason_0 : decode cX6_reason 0 = .ok (.aload_n 0, 1) := dk_42 (dk_at dksX6_reason_0 0 rfl rfl)
theorem dX6_reason_1 : decode cX6_reason 1 = .ok (.aload_n 0, 1) := dk_42 (dk_at dksX6_reason_0 1 rfl rfl)
theorem dX6_reason_2 : decode cX6_reason 2 = .ok (.iload_n 1, 1) := dk_27 (dk_at dksX6_reason_0 2 rfl rfl)
theorem dX6_reason_3 : decode cX6_reason 3 = .ok (.invokevirtual 220, 3) := dk_182 0 220 (dk_at dksX6_reason_0 3 rfl rfl)
theorem dX6_reason_6 : decode cX6_reason 6 = .ok (.ifCond .eq 15, 3) := dk_153 0 15 (dk_at dksX6_reason_0 6 rfl rfl)
theorem dX6_reason_9 : decode cX6_reason 9 = .ok (.aload_n 0, 1) := dk_42 (dk_at dksX6_reason_0 9 rfl rfl)
theorem dX6_reason_10 : decode cX6_reason 10 = .ok (.iload_n 2, 1) := dk_28 (dk_at dksX6_reason_0 10 rfl rfl)
theorem dX6_reason_11 : decode cX6_reason 11 = .ok (.invokevirtual 226, 3) := dk_182 0 226 (dk_at dksX6_reason_0 11 rfl rfl)
theorem dX6_reason_14 : decode cX6_reason 14 = .ok (.ifCond .eq 7, 3) := dk_153 0 7 (dk_at dksX6_reason_0 14 rfl rfl)
theorem dX6_reason_17 : decode cX6_reason 17 = .ok (.iconst 0, 1) := dk_3 (dk_at dksX6_reason_0 17 rfl rfl)
theorem dX6_reason_18 : decode cX6_reason 18 = .ok (.goto 4, 3) := dk_167 0 4 (dk_at dksX6_reason_0 18 rfl rfl)
theorem dX6_reason_21 : decode cX6_reason 21 = .ok (.iconst 1, 1) := dk_4 (dk_at dksX6_reason_0 21 rfl rfl)
theorem dX6_reason_22 : decode cX6_reason 22 = .ok (.putfield 47, 3) := dk_181 0 47 (dk_at dksX6_reason_1 0 rfl rfl)
theorem dX6_reason_25 : decode cX6_reason 25 = .ok (.aload_n 0, 1) := dk_42 (dk_at dksX6_reason_1 3 rfl rfl)
theorem dX6_reason_26 : decode cX6_reason 26 = .ok (.getfield 47, 3) := dk_180 0 47 (dk_at dksX6_reason_1 4 rfl rfl)
theorem dX6_reason_29 : decode cX6_reason 29 = .ok (.ifCond .le 7, 3) := dk_158 0 7 (dk_at dksX6_reason_1 7 rfl rfl)
theorem dX6_reason_32 : decode cX6_reason 32 = .ok (.iconst 0, 1) := dk_3 (dk_at dksX6_reason_1 10 rfl rfl)
theorem dX6_reason_33 : decode cX6_reason 33 = .ok (.goto 9, 3) := dk_167 0 9 (dk_at dksX6_reason_1 11 rfl rfl)
theorem dX6_reason_36 : decode cX6_reason 36 = .ok (.aload_n 0, 1) := dk_42 (dk_at dksX6_reason_1 14 rfl rfl)
theorem dX6_reason_37 : decode cX6_reason 37 = .ok (.iload_n 1, 1) := dk_27 (dk_at dksX6_reason_1 15 rfl rfl)
theorem dX6_reason_38 : decode cX6_reason 38 = .ok (.iload_n 2, 1) := dk_28 (dk_at dksX6_reason_1 16 rfl rfl)
theorem dX6_reason_39 : decode cX6_reason 39 = .ok (.invokevirtual 127, 3) := dk_182 0 127 (dk_at dksX6_reason_1 17 rfl rfl)
theorem dX6_reason_42 : decode cX6_reason 42 = .ok (.ireturn, 1) := dk_172 (dk_at dksX6_reason_1 20 rfl rfl)
abbrev cX6_isColour : ByteArray := prog_16_method_46_code
def yX6_isColour : MethodName := ⟨RX6, "isColour", "(I)Z"⟩
def dkwX6_isColour_0 : List UInt8 := [27, 3, 42, 180, 0, 7, 4, 46, 4, 100, 184, 0, 76, 172]
abbrev dktX6_isColour_0 : List UInt8 := dkwX6_isColour_0 ++ []
theorem dksX6_isColour_0 : cX6_isColour.data.toList.drop 0 = dktX6_isColour_0 := by decide +kernel
theorem dX6_isColour_0 : decode cX6_isColour 0 = .ok (.iload_n 1, 1) := dk_27 (dk_at dksX6_isColour_0 0 rfl rfl)
theorem dX6_isColour_1 : decode cX6_isColour 1 = .ok (.iconst 0, 1) := dk_3 (dk_at dksX6_isColour_0 1 rfl rfl)
theorem dX6_isColour_2 : decode cX6_isColour 2 = .ok (.aload_n 0, 1) := dk_42 (dk_at dksX6_isColour_0 2 rfl rfl)
theorem dX6_isColour_3 : decode cX6_isColour 3 = .ok (.getfield 7, 3) := dk_180 0 7 (dk_at dksX6_isColour_0 3 rfl rfl)
theorem dX6_isColour_6 : decode cX6_isColour 6 = .ok (.iconst 1, 1) := dk_4 (dk_at dksX6_isColour_0 6 rfl rfl)
theorem dX6_isColour_7 : decode cX6_isColour 7 = .ok (.iaload, 1) := dk_46 (dk_at dksX6_isColour_0 7 rfl rfl)
theorem dX6_isColour_8 : decode cX6_isColour 8 = .ok (.iconst 1, 1) := dk_4 (dk_at dksX6_isColour_0 8 rfl rfl)
theorem dX6_isColour_9 : decode cX6_isColour 9 = .ok (.isub, 1) := dk_100 (dk_at dksX6_isColour_0 9 rfl rfl)
theorem dX6_isColour_10 : decode cX6_isColour 10 = .ok (.invokestatic 76, 3) := dk_184 0 76 (dk_at dksX6_isColour_0 10 rfl rfl)
theorem dX6_isColour_13 : decode cX6_isColour 13 = .ok (.ireturn, 1) := dk_172 (dk_at dksX6_isColour_0 13 rfl rfl)
abbrev cX6_part : ByteArray := prog_16_method_58_code
def yX6_part : MethodName := ⟨RX6, "part", "(II)I"⟩
def dkwX6_part_5 : List UInt8 := [172, 42, 29, 21, 4, 28, 182, 0, 250, 172]
abbrev dktX6_part_5 : List UInt8 := dkwX6_part_5 ++ []
def dkwX6_part_4 : List UInt8 := [29, 184, 0, 189, 172, 29, 184, 0, 174, 172, 21, 4, 172, 42, 29, 182, 0, 204, 172, 42, 29, 182, 0, 247]
abbrev dktX6_part_4 : List UInt8 := dkwX6_part_4 ++ dktX6_part_5
def dkwX6_part_3 : List UInt8 := [170, 0, 0, 0, 0, 0, 60, 0, 0, 0, 0, 0, 0, 0, 4, 0, 0, 0, 35, 0, 0, 0, 40, 0, 0, 0, 45, 0, 0, 0, 48, 0, 0, 0, 54]
abbrev dktX6_part_3 : List UInt8 := dkwX6_part_3 ++ dktX6_part_4
def dkwX6_part_2 : List UInt8 := [3, 172, 42, 29, 184, 0, 174, 182, 0, 192, 54, 4, 28]
abbrev dktX6_part_2 : List UInt8 := dkwX6_part_2 ++ dktX6_part_3
def dkwX6_part_1 : List UInt8 := [3, 16, 7, 184, 0, 76, 153, 0, 7, 3, 167, 0, 4, 5, 181, 0, 47, 42, 180, 0, 47, 158, 0, 5]
abbrev dktX6_part_1 : List UInt8 := dkwX6_part_1 ++ dktX6_part_2
def dkwX6_part_0 : List UInt8 := [27, 156, 0, 7, 3, 167, 0, 8, 42, 27, 182, 0, 244, 62, 42, 29, 154, 0, 7, 4, 167, 0, 18, 28]
abbrev dktX6_part_0 : List UInt8 := dkwX6_part_0 ++ dktX6_part_1
theorem dksX6_part_0 : cX6_part.data.toList.drop 0 = dktX6_part_0 := by decide +kernel
theorem dksX6_part_1 : cX6_part.data.toList.drop 24 = dktX6_part_1 := dk_seg dksX6_part_0 24 rfl rfl
theorem dksX6_part_2 : cX6_part.data.toList.drop 48 = dktX6_part_2 := dk_seg dksX6_part_1 24 rfl rfl
theorem dksX6_part_3 : cX6_part.data.toList.drop 61 = dktX6_part_3 := dk_seg dksX6_part_2 13 rfl rfl
theorem dksX6_part_4 : cX6_part.data.toList.drop 96 = dktX6_part_4 := dk_seg dksX6_part_3 35 rfl rfl
theorem dksX6_part_5 : cX6_part.data.toList.drop 120 = dktX6_part_5 := dk_seg dksX6_part_4 24 rfl rfl
theorem dX6_part_0 : decode cX6_part 0 = .ok (.iload_n 1, 1) := dk_27 (dk_at dksX6_part_0 0 rfl rfl)
theorem dX6_part_1 : decode cX6_part 1 = .ok (.ifCond .ge 7, 3) := dk_156 0 7 (dk_at dksX6_part_0 1 rfl rfl)
theorem dX6_part_4 : decode cX6_part 4 = .ok (.iconst 0, 1) := dk_3 (dk_at dksX6_part_0 4 rfl rfl)
theorem dX6_part_5 : decode cX6_part 5 = .ok (.goto 8, 3) := dk_167 0 8 (dk_at dksX6_part_0 5 rfl rfl)
theorem dX6_part_8 : decode cX6_part 8 = .ok (.aload_n 0, 1) := dk_42 (dk_at dksX6_part_0 8 rfl rfl)
theorem dX6_part_9 : decode cX6_part 9 = .ok (.iload_n 1, 1) := dk_27 (dk_at dksX6_part_0 9 rfl rfl)
theorem dX6_part_10 : decode cX6_part 10 = .ok (.invokevirtual 244, 3) := dk_182 0 244 (dk_at dksX6_part_0 10 rfl rfl)
theorem dX6_part_13 : decode cX6_part 13 = .ok (.istore_n 3, 1) := dk_62 (dk_at dksX6_part_0 13 rfl rfl)
theorem dX6_part_14 : decode cX6_part 14 = .ok (.aload_n 0, 1) := dk_42 (dk_at dksX6_part_0 14 rfl rfl)
theorem dX6_part_15 : decode cX6_part 15 = .ok (.iload_n 3, 1) := dk_29 (dk_at dksX6_part_0 15 rfl rfl)
theorem dX6_part_16 : decode cX6_part 16 = .ok (.ifCond .ne 7, 3) := dk_154 0 7 (dk_at dksX6_part_0 16 rfl rfl)
theorem dX6_part_19 : decode cX6_part 19 = .ok (.iconst 1, 1) := dk_4 (dk_at dksX6_part_0 19 rfl rfl)
theorem dX6_part_20 : decode cX6_part 20 = .ok (.goto 18, 3) := dk_167 0 18 (dk_at dksX6_part_0 20 rfl rfl)
theorem dX6_part_23 : decode cX6_part 23 = .ok (.iload_n 2, 1) := dk_28 (dk_at dksX6_part_0 23 rfl rfl)
theorem dX6_part_24 : decode cX6_part 24 = .ok (.iconst 0, 1) := dk_3 (dk_at dksX6_part_1 0 rfl rfl)
theorem dX6_part_25 : decode cX6_part 25 = .ok (.bipush 7, 2) := dk_16 7 (dk_at dksX6_part_1 1 rfl rfl)
theorem dX6_part_27 : decode cX6_part 27 = .ok (.invokestatic 76, 3) := dk_184 0 76 (dk_at dksX6_part_1 3 rfl rfl)
theorem dX6_part_30 : decode cX6_part 30 = .ok (.ifCond .eq 7, 3) := dk_153 0 7 (dk_at dksX6_part_1 6 rfl rfl)
theorem dX6_part_33 : decode cX6_part 33 = .ok (.iconst 0, 1) := dk_3 (dk_at dksX6_part_1 9 rfl rfl)
theorem dX6_part_34 : decode cX6_part 34 = .ok (.goto 4, 3) := dk_167 0 4 (dk_at dksX6_part_1 10 rfl rfl)
theorem dX6_part_37 : decode cX6_part 37 = .ok (.iconst 2, 1) := dk_5 (dk_at dksX6_part_1 13 rfl rfl)
theorem dX6_part_38 : decode cX6_part 38 = .ok (.putfield 47, 3) := dk_181 0 47 (dk_at dksX6_part_1 14 rfl rfl)
theorem dX6_part_41 : decode cX6_part 41 = .ok (.aload_n 0, 1) := dk_42 (dk_at dksX6_part_1 17 rfl rfl)
theorem dX6_part_42 : decode cX6_part 42 = .ok (.getfield 47, 3) := dk_180 0 47 (dk_at dksX6_part_1 18 rfl rfl)
theorem dX6_part_45 : decode cX6_part 45 = .ok (.ifCond .le 5, 3) := dk_158 0 5 (dk_at dksX6_part_1 21 rfl rfl)
theorem dX6_part_48 : decode cX6_part 48 = .ok (.iconst 0, 1) := dk_3 (dk_at dksX6_part_2 0 rfl rfl)
theorem dX6_part_49 : decode cX6_part 49 = .ok (.ireturn, 1) := dk_172 (dk_at dksX6_part_2 1 rfl rfl)
theorem dX6_part_50 : decode cX6_part 50 = .ok (.aload_n 0, 1) := dk_42 (dk_at dksX6_part_2 2 rfl rfl)
theorem dX6_part_51 : decode cX6_part 51 = .ok (.iload_n 3, 1) := dk_29 (dk_at dksX6_part_2 3 rfl rfl)
theorem dX6_part_52 : decode cX6_part 52 = .ok (.invokestatic 174, 3) := dk_184 0 174 (dk_at dksX6_part_2 4 rfl rfl)
theorem dX6_part_55 : decode cX6_part 55 = .ok (.invokevirtual 192, 3) := dk_182 0 192 (dk_at dksX6_part_2 7 rfl rfl)
theorem dX6_part_58 : decode cX6_part 58 = .ok (.istore 4, 2) := dk_54 4 (dk_at dksX6_part_2 10 rfl rfl)
theorem dX6_part_60 : decode cX6_part 60 = .ok (.iload_n 2, 1) := dk_28 (dk_at dksX6_part_2 12 rfl rfl)
theorem dX6_part_61 : decode cX6_part 61 = .ok (.tableswitch 60 0 4 #[35, 40, 45, 48, 54], 35) := by decide +kernel
theorem dX6_part_96 : decode cX6_part 96 = .ok (.iload_n 3, 1) := dk_29 (dk_at dksX6_part_4 0 rfl rfl)
theorem dX6_part_97 : decode cX6_part 97 = .ok (.invokestatic 189, 3) := dk_184 0 189 (dk_at dksX6_part_4 1 rfl rfl)
theorem dX6_part_100 : decode cX6_part 100 = .ok (.ireturn, 1) := dk_172 (dk_at dksX6_part_4 4 rfl rfl)
theorem dX6_part_101 : decode cX6_part 101 = .ok (.iload_n 3, 1) := dk_29 (dk_at dksX6_part_4 5 rfl rfl)
theorem dX6_part_102 : decode cX6_part 102 = .ok (.invokestatic 174, 3) := dk_184 0 174 (dk_at dksX6_part_4 6 rfl rfl)
theorem dX6_part_105 : decode cX6_part 105 = .ok (.ireturn, 1) := dk_172 (dk_at dksX6_part_4 9 rfl rfl)
theorem dX6_part_106 : decode cX6_part 106 = .ok (.iload 4, 2) := dk_21 4 (dk_at dksX6_part_4 10 rfl rfl)
theorem dX6_part_108 : decode cX6_part 108 = .ok (.ireturn, 1) := dk_172 (dk_at dksX6_part_4 12 rfl rfl)
theorem dX6_part_109 : decode cX6_part 109 = .ok (.aload_n 0, 1) := dk_42 (dk_at dksX6_part_4 13 rfl rfl)
theorem dX6_part_110 : decode cX6_part 110 = .ok (.iload_n 3, 1) := dk_29 (dk_at dksX6_part_4 14 rfl rfl)
theorem dX6_part_111 : decode cX6_part 111 = .ok (.invokevirtual 204, 3) := dk_182 0 204 (dk_at dksX6_part_4 15 rfl rfl)
theorem dX6_part_114 : decode cX6_part 114 = .ok (.ireturn, 1) := dk_172 (dk_at dksX6_part_4 18 rfl rfl)
theorem dX6_part_115 : decode cX6_part 115 = .ok (.aload_n 0, 1) := dk_42 (dk_at dksX6_part_4 19 rfl rfl)
theorem dX6_part_116 : decode cX6_part 116 = .ok (.iload_n 3, 1) := dk_29 (dk_at dksX6_part_4 20 rfl rfl)
theorem dX6_part_117 : decode cX6_part 117 = .ok (.invokevirtual 247, 3) := dk_182 0 247 (dk_at dksX6_part_4 21 rfl rfl)
theorem dX6_part_120 : decode cX6_part 120 = .ok (.ireturn, 1) := dk_172 (dk_at dksX6_part_5 0 rfl rfl)
theorem dX6_part_121 : decode cX6_part 121 = .ok (.aload_n 0, 1) := dk_42 (dk_at dksX6_part_5 1 rfl rfl)
theorem dX6_part_122 : decode cX6_part 122 = .ok (.iload_n 3, 1) := dk_29 (dk_at dksX6_part_5 2 rfl rfl)
theorem dX6_part_123 : decode cX6_part 123 = .ok (.iload 4, 2) := dk_21 4 (dk_at dksX6_part_5 3 rfl rfl)
theorem dX6_part_125 : decode cX6_part 125 = .ok (.iload_n 2, 1) := dk_28 (dk_at dksX6_part_5 5 rfl rfl)
theorem dX6_part_126 : decode cX6_part 126 = .ok (.invokevirtual 250, 3) := dk_182 0 250 (dk_at dksX6_part_5 6 rfl rfl)
theorem dX6_part_129 : decode cX6_part 129 = .ok (.ireturn, 1) := dk_172 (dk_at dksX6_part_5 9 rfl rfl)
abbrev cX6_partSet : ByteArray := prog_16_method_32_code
def yX6_partSet : MethodName := ⟨RX6, "partSet", "(I)I"⟩
def dkwX6_partSet_2 : List UInt8 := [167, 0, 12, 42, 29, 184, 0, 174, 28, 182, 0, 177, 172]
abbrev dktX6_partSet_2 : List UInt8 := dkwX6_partSet_2 ++ []
def dkwX6_partSet_1 : List UInt8 := [184, 0, 174, 28, 182, 0, 177, 2, 130, 126, 62, 132, 4, 1, 167, 255, 229, 29, 154, 0, 7, 3]
abbrev dktX6_partSet_1 : List UInt8 := dkwX6_partSet_1 ++ dktX6_partSet_2
def dkwX6_partSet_0 : List UInt8 := [42, 182, 0, 180, 61, 28, 62, 3, 54, 4, 21, 4, 27, 162, 0, 27, 29, 158, 0, 23, 29, 42, 29]
abbrev dktX6_partSet_0 : List UInt8 := dkwX6_partSet_0 ++ dktX6_partSet_1
theorem dksX6_partSet_0 : cX6_partSet.data.toList.drop 0 = dktX6_partSet_0 := by decide +kernel
theorem dksX6_partSet_1 : cX6_partSet.data.toList.drop 23 = dktX6_partSet_1 := dk_seg dksX6_partSet_0 23 rfl rfl
theorem dksX6_partSet_2 : cX6_partSet.data.toList.drop 45 = dktX6_partSet_2 := dk_seg dksX6_partSet_1 22 rfl rfl
theorem dX6_partSet_0 : decode cX6_partSet 0 = .ok (.aload_n 0, 1) := dk_42 (dk_at dksX6_partSet_0 0 rfl rfl)
theorem dX6_partSet_1 : decode cX6_partSet 1 = .ok (.invokevirtual 180, 3) := dk_182 0 180 (dk_at dksX6_partSet_0 1 rfl rfl)
theorem dX6_partSet_4 : decode cX6_partSet 4 = .ok (.istore_n 2, 1) := dk_61 (dk_at dksX6_partSet_0 4 rfl rfl)
theorem dX6_partSet_5 : decode cX6_partSet 5 = .ok (.iload_n 2, 1) := dk_28 (dk_at dksX6_partSet_0 5 rfl rfl)
theorem dX6_partSet_6 : decode cX6_partSet 6 = .ok (.istore_n 3, 1) := dk_62 (dk_at dksX6_partSet_0 6 rfl rfl)
theorem dX6_partSet_7 : decode cX6_partSet 7 = .ok (.iconst 0, 1) := dk_3 (dk_at dksX6_partSet_0 7 rfl rfl)
theorem dX6_partSet_8 : decode cX6_partSet 8 = .ok (.istore 4, 2) := dk_54 4 (dk_at dksX6_partSet_0 8 rfl rfl)
theorem dX6_partSet_10 : decode cX6_partSet 10 = .ok (.iload 4, 2) := dk_21 4 (dk_at dksX6_partSet_0 10 rfl rfl)
theorem dX6_partSet_12 : decode cX6_partSet 12 = .ok (.iload_n 1, 1) := dk_27 (dk_at dksX6_partSet_0 12 rfl rfl)
theorem dX6_partSet_13 : decode cX6_partSet 13 = .ok (.if_icmp .ge 27, 3) := dk_162 0 27 (dk_at dksX6_partSet_0 13 rfl rfl)
theorem dX6_partSet_16 : decode cX6_partSet 16 = .ok (.iload_n 3, 1) := dk_29 (dk_at dksX6_partSet_0 16 rfl rfl)
theorem dX6_partSet_17 : decode cX6_partSet 17 = .ok (.ifCond .le 23, 3) := dk_158 0 23 (dk_at dksX6_partSet_0 17 rfl rfl)
theorem dX6_partSet_20 : decode cX6_partSet 20 = .ok (.iload_n 3, 1) := dk_29 (dk_at dksX6_partSet_0 20 rfl rfl)
theorem dX6_partSet_21 : decode cX6_partSet 21 = .ok (.aload_n 0, 1) := dk_42 (dk_at dksX6_partSet_0 21 rfl rfl)
theorem dX6_partSet_22 : decode cX6_partSet 22 = .ok (.iload_n 3, 1) := dk_29 (dk_at dksX6_partSet_0 22 rfl rfl)
theorem dX6_partSet_23 : decode cX6_partSet 23 = .ok (.invokestatic 174, 3) := dk_184 0 174 (dk_at dksX6_partSet_1 0 rfl rfl)
theorem dX6_partSet_26 : decode cX6_partSet 26 = .ok (.iload_n 2, 1) := dk_28 (dk_at dksX6_partSet_1 3 rfl rfl)
theorem dX6_partSet_27 : decode cX6_partSet 27 = .ok (.invokevirtual 177, 3) := dk_182 0 177 (dk_at dksX6_partSet_1 4 rfl rfl)
theorem dX6_partSet_30 : decode cX6_partSet 30 = .ok (.iconst (-1), 1) := dk_2 (dk_at dksX6_partSet_1 7 rfl rfl)
theorem dX6_partSet_31 : decode cX6_partSet 31 = .ok (.ixor, 1) := dk_130 (dk_at dksX6_partSet_1 8 rfl rfl)
theorem dX6_partSet_32 : decode cX6_partSet 32 = .ok (.iand, 1) := dk_126 (dk_at dksX6_partSet_1 9 rfl rfl)
theorem dX6_partSet_33 : decode cX6_partSet 33 = .ok (.istore_n 3, 1) := dk_62 (dk_at dksX6_partSet_1 10 rfl rfl)
theorem dX6_partSet_34 : decode cX6_partSet 34 = .ok (.iinc 4 1, 3) := dk_132 4 1 (dk_at dksX6_partSet_1 11 rfl rfl)
theorem dX6_partSet_37 : decode cX6_partSet 37 = .ok (.goto (-27), 3) := dk_167 255 229 (dk_at dksX6_partSet_1 14 rfl rfl)
theorem dX6_partSet_40 : decode cX6_partSet 40 = .ok (.iload_n 3, 1) := dk_29 (dk_at dksX6_partSet_1 17 rfl rfl)
theorem dX6_partSet_41 : decode cX6_partSet 41 = .ok (.ifCond .ne 7, 3) := dk_154 0 7 (dk_at dksX6_partSet_1 18 rfl rfl)
theorem dX6_partSet_44 : decode cX6_partSet 44 = .ok (.iconst 0, 1) := dk_3 (dk_at dksX6_partSet_1 21 rfl rfl)
theorem dX6_partSet_45 : decode cX6_partSet 45 = .ok (.goto 12, 3) := dk_167 0 12 (dk_at dksX6_partSet_2 0 rfl rfl)
theorem dX6_partSet_48 : decode cX6_partSet 48 = .ok (.aload_n 0, 1) := dk_42 (dk_at dksX6_partSet_2 3 rfl rfl)
theorem dX6_partSet_49 : decode cX6_partSet 49 = .ok (.iload_n 3, 1) := dk_29 (dk_at dksX6_partSet_2 4 rfl rfl)
theorem dX6_partSet_50 : decode cX6_partSet 50 = .ok (.invokestatic 174, 3) := dk_184 0 174 (dk_at dksX6_partSet_2 5 rfl rfl)
theorem dX6_partSet_53 : decode cX6_partSet 53 = .ok (.iload_n 2, 1) := dk_28 (dk_at dksX6_partSet_2 8 rfl rfl)
theorem dX6_partSet_54 : decode cX6_partSet 54 = .ok (.invokevirtual 177, 3) := dk_182 0 177 (dk_at dksX6_partSet_2 9 rfl rfl)
theorem dX6_partSet_57 : decode cX6_partSet 57 = .ok (.ireturn, 1) := dk_172 (dk_at dksX6_partSet_2 12 rfl rfl)
abbrev cX6_pairsIn : ByteArray := prog_16_method_59_code
def yX6_pairsIn : MethodName := ⟨RX6, "pairsIn", "(I)I"⟩
def dkwX6_pairsIn_1 : List UInt8 := [42, 29, 182, 0, 199, 184, 0, 189, 167, 0, 4, 3, 96, 61, 132, 3, 1, 167, 255, 219, 28, 172]
abbrev dktX6_pairsIn_1 : List UInt8 := dkwX6_pairsIn_1 ++ []
def dkwX6_pairsIn_0 : List UInt8 := [3, 61, 3, 62, 29, 42, 180, 0, 7, 3, 46, 162, 0, 33, 28, 27, 29, 122, 4, 126, 4, 160, 0, 14]
abbrev dktX6_pairsIn_0 : List UInt8 := dkwX6_pairsIn_0 ++ dktX6_pairsIn_1
theorem dksX6_pairsIn_0 : cX6_pairsIn.data.toList.drop 0 = dktX6_pairsIn_0 := by decide +kernel
theorem dksX6_pairsIn_1 : cX6_pairsIn.data.toList.drop 24 = dktX6_pairsIn_1 := dk_seg dksX6_pairsIn_0 24 rfl rfl
theorem dX6_pairsIn_0 : decode cX6_pairsIn 0 = .ok (.iconst 0, 1) := dk_3 (dk_at dksX6_pairsIn_0 0 rfl rfl)
theorem dX6_pairsIn_1 : decode cX6_pairsIn 1 = .ok (.istore_n 2, 1) := dk_61 (dk_at dksX6_pairsIn_0 1 rfl rfl)
theorem dX6_pairsIn_2 : decode cX6_pairsIn 2 = .ok (.iconst 0, 1) := dk_3 (dk_at dksX6_pairsIn_0 2 rfl rfl)
theorem dX6_pairsIn_3 : decode cX6_pairsIn 3 = .ok (.istore_n 3, 1) := dk_62 (dk_at dksX6_pairsIn_0 3 rfl rfl)
theorem dX6_pairsIn_4 : decode cX6_pairsIn 4 = .ok (.iload_n 3, 1) := dk_29 (dk_at dksX6_pairsIn_0 4 rfl rfl)
theorem dX6_pairsIn_5 : decode cX6_pairsIn 5 = .ok (.aload_n 0, 1) := dk_42 (dk_at dksX6_pairsIn_0 5 rfl rfl)
theorem dX6_pairsIn_6 : decode cX6_pairsIn 6 = .ok (.getfield 7, 3) := dk_180 0 7 (dk_at dksX6_pairsIn_0 6 rfl rfl)
theorem dX6_pairsIn_9 : decode cX6_pairsIn 9 = .ok (.iconst 0, 1) := dk_3 (dk_at dksX6_pairsIn_0 9 rfl rfl)
theorem dX6_pairsIn_10 : decode cX6_pairsIn 10 = .ok (.iaload, 1) := dk_46 (dk_at dksX6_pairsIn_0 10 rfl rfl)
theorem dX6_pairsIn_11 : decode cX6_pairsIn 11 = .ok (.if_icmp .ge 33, 3) := dk_162 0 33 (dk_at dksX6_pairsIn_0 11 rfl rfl)
theorem dX6_pairsIn_14 : decode cX6_pairsIn 14 = .ok (.iload_n 2, 1) := dk_28 (dk_at dksX6_pairsIn_0 14 rfl rfl)
theorem dX6_pairsIn_15 : decode cX6_pairsIn 15 = .ok (.iload_n 1, 1) := dk_27 (dk_at dksX6_pairsIn_0 15 rfl rfl)
theorem dX6_pairsIn_16 : decode cX6_pairsIn 16 = .ok (.iload_n 3, 1) := dk_29 (dk_at dksX6_pairsIn_0 16 rfl rfl)
theorem dX6_pairsIn_17 : decode cX6_pairsIn 17 = .ok (.ishr, 1) := dk_122 (dk_at dksX6_pairsIn_0 17 rfl rfl)
theorem dX6_pairsIn_18 : decode cX6_pairsIn 18 = .ok (.iconst 1, 1) := dk_4 (dk_at dksX6_pairsIn_0 18 rfl rfl)
theorem dX6_pairsIn_19 : decode cX6_pairsIn 19 = .ok (.iand, 1) := dk_126 (dk_at dksX6_pairsIn_0 19 rfl rfl)
theorem dX6_pairsIn_20 : decode cX6_pairsIn 20 = .ok (.iconst 1, 1) := dk_4 (dk_at dksX6_pairsIn_0 20 rfl rfl)
theorem dX6_pairsIn_21 : decode cX6_pairsIn 21 = .ok (.if_icmp .ne 14, 3) := dk_160 0 14 (dk_at dksX6_pairsIn_0 21 rfl rfl)
theorem dX6_pairsIn_24 : decode cX6_pairsIn 24 = .ok (.aload_n 0, 1) := dk_42 (dk_at dksX6_pairsIn_1 0 rfl rfl)
theorem dX6_pairsIn_25 : decode cX6_pairsIn 25 = .ok (.iload_n 3, 1) := dk_29 (dk_at dksX6_pairsIn_1 1 rfl rfl)
theorem dX6_pairsIn_26 : decode cX6_pairsIn 26 = .ok (.invokevirtual 199, 3) := dk_182 0 199 (dk_at dksX6_pairsIn_1 2 rfl rfl)
theorem dX6_pairsIn_29 : decode cX6_pairsIn 29 = .ok (.invokestatic 189, 3) := dk_184 0 189 (dk_at dksX6_pairsIn_1 5 rfl rfl)
theorem dX6_pairsIn_32 : decode cX6_pairsIn 32 = .ok (.goto 4, 3) := dk_167 0 4 (dk_at dksX6_pairsIn_1 8 rfl rfl)
theorem dX6_pairsIn_35 : decode cX6_pairsIn 35 = .ok (.iconst 0, 1) := dk_3 (dk_at dksX6_pairsIn_1 11 rfl rfl)
theorem dX6_pairsIn_36 : decode cX6_pairsIn 36 = .ok (.iadd, 1) := dk_96 (dk_at dksX6_pairsIn_1 12 rfl rfl)
theorem dX6_pairsIn_37 : decode cX6_pairsIn 37 = .ok (.istore_n 2, 1) := dk_61 (dk_at dksX6_pairsIn_1 13 rfl rfl)
theorem dX6_pairsIn_38 : decode cX6_pairsIn 38 = .ok (.iinc 3 1, 3) := dk_132 3 1 (dk_at dksX6_pairsIn_1 14 rfl rfl)
theorem dX6_pairsIn_41 : decode cX6_pairsIn 41 = .ok (.goto (-37), 3) := dk_167 255 219 (dk_at dksX6_pairsIn_1 17 rfl rfl)
theorem dX6_pairsIn_44 : decode cX6_pairsIn 44 = .ok (.iload_n 2, 1) := dk_28 (dk_at dksX6_pairsIn_1 20 rfl rfl)
theorem dX6_pairsIn_45 : decode cX6_pairsIn 45 = .ok (.ireturn, 1) := dk_172 (dk_at dksX6_pairsIn_1 21 rfl rfl)
abbrev cX6_ofPart : ByteArray := prog_16_method_60_code
def yX6_ofPart : MethodName := ⟨RX6, "ofPart", "(III)I"⟩
def dkwX6_ofPart_2 : List UInt8 := [172]
abbrev dktX6_ofPart_2 : List UInt8 := dkwX6_ofPart_2 ++ []
def dkwX6_ofPart_1 : List UInt8 := [167, 0, 24, 29, 16, 6, 160, 0, 13, 21, 4, 8, 122, 16, 31, 126, 167, 0, 8, 21, 4, 16, 10, 122]
abbrev dktX6_ofPart_1 : List UInt8 := dkwX6_ofPart_1 ++ dktX6_ofPart_2
def dkwX6_ofPart_0 : List UInt8 := [42, 182, 0, 253, 42, 27, 28, 182, 0, 229, 54, 4, 29, 8, 160, 0, 11, 21, 4, 16, 31, 126]
abbrev dktX6_ofPart_0 : List UInt8 := dkwX6_ofPart_0 ++ dktX6_ofPart_1
theorem dksX6_ofPart_0 : cX6_ofPart.data.toList.drop 0 = dktX6_ofPart_0 := by decide +kernel
theorem dksX6_ofPart_1 : cX6_ofPart.data.toList.drop 22 = dktX6_ofPart_1 := dk_seg dksX6_ofPart_0 22 rfl rfl
theorem dksX6_ofPart_2 : cX6_ofPart.data.toList.drop 46 = dktX6_ofPart_2 := dk_seg dksX6_ofPart_1 24 rfl rfl
theorem dX6_ofPart_0 : decode cX6_ofPart 0 = .ok (.aload_n 0, 1) := dk_42 (dk_at dksX6_ofPart_0 0 rfl rfl)
theorem dX6_ofPart_1 : decode cX6_ofPart 1 = .ok (.invokevirtual 253, 3) := dk_182 0 253 (dk_at dksX6_ofPart_0 1 rfl rfl)
theorem dX6_ofPart_4 : decode cX6_ofPart 4 = .ok (.aload_n 0, 1) := dk_42 (dk_at dksX6_ofPart_0 4 rfl rfl)
theorem dX6_ofPart_5 : decode cX6_ofPart 5 = .ok (.iload_n 1, 1) := dk_27 (dk_at dksX6_ofPart_0 5 rfl rfl)
theorem dX6_ofPart_6 : decode cX6_ofPart 6 = .ok (.iload_n 2, 1) := dk_28 (dk_at dksX6_ofPart_0 6 rfl rfl)
theorem dX6_ofPart_7 : decode cX6_ofPart 7 = .ok (.invokevirtual 229, 3) := dk_182 0 229 (dk_at dksX6_ofPart_0 7 rfl rfl)
theorem dX6_ofPart_10 : decode cX6_ofPart 10 = .ok (.istore 4, 2) := dk_54 4 (dk_at dksX6_ofPart_0 10 rfl rfl)
theorem dX6_ofPart_12 : decode cX6_ofPart 12 = .ok (.iload_n 3, 1) := dk_29 (dk_at dksX6_ofPart_0 12 rfl rfl)
theorem dX6_ofPart_13 : decode cX6_ofPart 13 = .ok (.iconst 5, 1) := dk_8 (dk_at dksX6_ofPart_0 13 rfl rfl)
theorem dX6_ofPart_14 : decode cX6_ofPart 14 = .ok (.if_icmp .ne 11, 3) := dk_160 0 11 (dk_at dksX6_ofPart_0 14 rfl rfl)
theorem dX6_ofPart_17 : decode cX6_ofPart 17 = .ok (.iload 4, 2) := dk_21 4 (dk_at dksX6_ofPart_0 17 rfl rfl)
theorem dX6_ofPart_19 : decode cX6_ofPart 19 = .ok (.bipush 31, 2) := dk_16 31 (dk_at dksX6_ofPart_0 19 rfl rfl)
theorem dX6_ofPart_21 : decode cX6_ofPart 21 = .ok (.iand, 1) := dk_126 (dk_at dksX6_ofPart_0 21 rfl rfl)
theorem dX6_ofPart_22 : decode cX6_ofPart 22 = .ok (.goto 24, 3) := dk_167 0 24 (dk_at dksX6_ofPart_1 0 rfl rfl)
theorem dX6_ofPart_25 : decode cX6_ofPart 25 = .ok (.iload_n 3, 1) := dk_29 (dk_at dksX6_ofPart_1 3 rfl rfl)
theorem dX6_ofPart_26 : decode cX6_ofPart 26 = .ok (.bipush 6, 2) := dk_16 6 (dk_at dksX6_ofPart_1 4 rfl rfl)
theorem dX6_ofPart_28 : decode cX6_ofPart 28 = .ok (.if_icmp .ne 13, 3) := dk_160 0 13 (dk_at dksX6_ofPart_1 6 rfl rfl)
theorem dX6_ofPart_31 : decode cX6_ofPart 31 = .ok (.iload 4, 2) := dk_21 4 (dk_at dksX6_ofPart_1 9 rfl rfl)
theorem dX6_ofPart_33 : decode cX6_ofPart 33 = .ok (.iconst 5, 1) := dk_8 (dk_at dksX6_ofPart_1 11 rfl rfl)
theorem dX6_ofPart_34 : decode cX6_ofPart 34 = .ok (.ishr, 1) := dk_122 (dk_at dksX6_ofPart_1 12 rfl rfl)
theorem dX6_ofPart_35 : decode cX6_ofPart 35 = .ok (.bipush 31, 2) := dk_16 31 (dk_at dksX6_ofPart_1 13 rfl rfl)
theorem dX6_ofPart_37 : decode cX6_ofPart 37 = .ok (.iand, 1) := dk_126 (dk_at dksX6_ofPart_1 15 rfl rfl)
theorem dX6_ofPart_38 : decode cX6_ofPart 38 = .ok (.goto 8, 3) := dk_167 0 8 (dk_at dksX6_ofPart_1 16 rfl rfl)
theorem dX6_ofPart_41 : decode cX6_ofPart 41 = .ok (.iload 4, 2) := dk_21 4 (dk_at dksX6_ofPart_1 19 rfl rfl)
theorem dX6_ofPart_43 : decode cX6_ofPart 43 = .ok (.bipush 10, 2) := dk_16 10 (dk_at dksX6_ofPart_1 21 rfl rfl)
theorem dX6_ofPart_45 : decode cX6_ofPart 45 = .ok (.ishr, 1) := dk_122 (dk_at dksX6_ofPart_1 23 rfl rfl)
theorem dX6_ofPart_46 : decode cX6_ofPart 46 = .ok (.ireturn, 1) := dk_172 (dk_at dksX6_ofPart_2 0 rfl rfl)
abbrev cX6_forgets : ByteArray := prog_16_method_49_code
def yX6_forgets : MethodName := ⟨RX6, "forgets", "()V"⟩
def dkwX6_forgets_0 : List UInt8 := [3, 60, 27, 18, 37, 162, 0, 16, 42, 180, 0, 38, 27, 2, 79, 132, 1, 1, 167, 255, 240, 177]
abbrev dktX6_forgets_0 : List UInt8 := dkwX6_forgets_0 ++ []
theorem dksX6_forgets_0 : cX6_forgets.data.toList.drop 0 = dktX6_forgets_0 := by decide +kernel
theorem dX6_forgets_0 : decode cX6_forgets 0 = .ok (.iconst 0, 1) := dk_3 (dk_at dksX6_forgets_0 0 rfl rfl)
theorem dX6_forgets_1 : decode cX6_forgets 1 = .ok (.istore_n 1, 1) := dk_60 (dk_at dksX6_forgets_0 1 rfl rfl)
theorem dX6_forgets_2 : decode cX6_forgets 2 = .ok (.iload_n 1, 1) := dk_27 (dk_at dksX6_forgets_0 2 rfl rfl)
theorem dX6_forgets_3 : decode cX6_forgets 3 = .ok (.ldc 37, 2) := dk_18 37 (dk_at dksX6_forgets_0 3 rfl rfl)
theorem dX6_forgets_5 : decode cX6_forgets 5 = .ok (.if_icmp .ge 16, 3) := dk_162 0 16 (dk_at dksX6_forgets_0 5 rfl rfl)
theorem dX6_forgets_8 : decode cX6_forgets 8 = .ok (.aload_n 0, 1) := dk_42 (dk_at dksX6_forgets_0 8 rfl rfl)
theorem dX6_forgets_9 : decode cX6_forgets 9 = .ok (.getfield 38, 3) := dk_180 0 38 (dk_at dksX6_forgets_0 9 rfl rfl)
theorem dX6_forgets_12 : decode cX6_forgets 12 = .ok (.iload_n 1, 1) := dk_27 (dk_at dksX6_forgets_0 12 rfl rfl)
theorem dX6_forgets_13 : decode cX6_forgets 13 = .ok (.iconst (-1), 1) := dk_2 (dk_at dksX6_forgets_0 13 rfl rfl)
theorem dX6_forgets_14 : decode cX6_forgets 14 = .ok (.iastore, 1) := dk_79 (dk_at dksX6_forgets_0 14 rfl rfl)
theorem dX6_forgets_15 : decode cX6_forgets 15 = .ok (.iinc 1 1, 3) := dk_132 1 1 (dk_at dksX6_forgets_0 15 rfl rfl)
theorem dX6_forgets_18 : decode cX6_forgets 18 = .ok (.goto (-16), 3) := dk_167 255 240 (dk_at dksX6_forgets_0 18 rfl rfl)
theorem dX6_forgets_21 : decode cX6_forgets 21 = .ok (.return_, 1) := dk_177 (dk_at dksX6_forgets_0 21 rfl rfl)
abbrev cX6_knownOf : ByteArray := prog_16_method_52_code
def yX6_knownOf : MethodName := ⟨RX6, "knownOf", "(II)I"⟩
def dkwX6_knownOf_11 : List UInt8 := [46, 172]
abbrev dktX6_knownOf_11 : List UInt8 := dkwX6_knownOf_11 ++ []
def dkwX6_knownOf_10 : List UInt8 := [120, 128, 21, 6, 2, 160, 0, 7, 3, 167, 0, 5, 21, 6, 16, 10, 120, 128, 79, 42, 180, 0, 38, 29]
abbrev dktX6_knownOf_10 : List UInt8 := dkwX6_knownOf_10 ++ dktX6_knownOf_11
def dkwX6_knownOf_9 : List UInt8 := [167, 255, 118, 132, 7, 1, 167, 255, 74, 42, 180, 0, 38, 29, 21, 4, 2, 130, 184, 0, 174, 21, 5, 8]
abbrev dktX6_knownOf_9 : List UInt8 := dkwX6_knownOf_9 ++ dktX6_knownOf_10
def dkwX6_knownOf_8 : List UInt8 := [2, 159, 0, 10, 21, 12, 21, 6, 162, 0, 8, 21, 12, 167, 0, 5, 21, 6, 54, 6, 132, 9, 1]
abbrev dktX6_knownOf_8 : List UInt8 := dkwX6_knownOf_8 ++ dktX6_knownOf_9
def dkwX6_knownOf_7 : List UInt8 := [16, 10, 122, 96, 54, 12, 21, 11, 21, 5, 164, 0, 8, 21, 11, 167, 0, 5, 21, 5, 54, 5, 21, 6]
abbrev dktX6_knownOf_7 : List UInt8 := dkwX6_knownOf_7 ++ dktX6_knownOf_8
def dkwX6_knownOf_6 : List UInt8 := [21, 10, 16, 31, 126, 120, 128, 54, 4, 4, 21, 10, 8, 122, 16, 31, 126, 96, 54, 11, 4, 21, 10]
abbrev dktX6_knownOf_6 : List UInt8 := dkwX6_knownOf_6 ++ dktX6_knownOf_7
def dkwX6_knownOf_5 : List UInt8 := [130, 126, 21, 9, 182, 0, 235, 54, 10, 42, 180, 0, 7, 16, 22, 21, 7, 96, 3, 79, 21, 4, 4]
abbrev dktX6_knownOf_5 : List UInt8 := dkwX6_knownOf_5 ++ dktX6_knownOf_6
def dkwX6_knownOf_4 : List UInt8 := [167, 0, 114, 42, 180, 0, 7, 16, 22, 21, 7, 96, 21, 9, 4, 96, 79, 42, 27, 4, 21, 7, 120, 2]
abbrev dktX6_knownOf_4 : List UInt8 := dkwX6_knownOf_4 ++ dktX6_knownOf_5
def dkwX6_knownOf_3 : List UInt8 := [54, 9, 21, 9, 42, 180, 0, 7, 4, 46, 162, 0, 133, 21, 8, 21, 9, 122, 4, 126, 154, 0, 6]
abbrev dktX6_knownOf_3 : List UInt8 := dkwX6_knownOf_3 ++ dktX6_knownOf_4
def dkwX6_knownOf_2 : List UInt8 := [21, 7, 122, 4, 126, 4, 160, 0, 14, 42, 21, 7, 27, 28, 182, 0, 195, 167, 0, 4, 3, 54, 8, 3]
abbrev dktX6_knownOf_2 : List UInt8 := dkwX6_knownOf_2 ++ dktX6_knownOf_3
def dkwX6_knownOf_1 : List UInt8 := [3, 54, 4, 3, 54, 5, 2, 54, 6, 3, 54, 7, 21, 7, 42, 180, 0, 7, 3, 46, 162, 0, 177, 27]
abbrev dktX6_knownOf_1 : List UInt8 := dkwX6_knownOf_1 ++ dktX6_knownOf_2
def dkwX6_knownOf_0 : List UInt8 := [42, 27, 28, 182, 0, 232, 62, 42, 180, 0, 38, 29, 46, 2, 159, 0, 10, 42, 180, 0, 38, 29, 46, 172]
abbrev dktX6_knownOf_0 : List UInt8 := dkwX6_knownOf_0 ++ dktX6_knownOf_1
theorem dksX6_knownOf_0 : cX6_knownOf.data.toList.drop 0 = dktX6_knownOf_0 := by decide +kernel
theorem dksX6_knownOf_1 : cX6_knownOf.data.toList.drop 24 = dktX6_knownOf_1 := dk_seg dksX6_knownOf_0 24 rfl rfl
theorem dksX6_knownOf_2 : cX6_knownOf.data.toList.drop 48 = dktX6_knownOf_2 := dk_seg dksX6_knownOf_1 24 rfl rfl
theorem dksX6_knownOf_3 : cX6_knownOf.data.toList.drop 72 = dktX6_knownOf_3 := dk_seg dksX6_knownOf_2 24 rfl rfl
theorem dksX6_knownOf_4 : cX6_knownOf.data.toList.drop 95 = dktX6_knownOf_4 := dk_seg dksX6_knownOf_3 23 rfl rfl
theorem dksX6_knownOf_5 : cX6_knownOf.data.toList.drop 119 = dktX6_knownOf_5 := dk_seg dksX6_knownOf_4 24 rfl rfl
theorem dksX6_knownOf_6 : cX6_knownOf.data.toList.drop 142 = dktX6_knownOf_6 := dk_seg dksX6_knownOf_5 23 rfl rfl
theorem dksX6_knownOf_7 : cX6_knownOf.data.toList.drop 165 = dktX6_knownOf_7 := dk_seg dksX6_knownOf_6 23 rfl rfl
theorem dksX6_knownOf_8 : cX6_knownOf.data.toList.drop 189 = dktX6_knownOf_8 := dk_seg dksX6_knownOf_7 24 rfl rfl
theorem dksX6_knownOf_9 : cX6_knownOf.data.toList.drop 212 = dktX6_knownOf_9 := dk_seg dksX6_knownOf_8 23 rfl rfl
theorem dksX6_knownOf_10 : cX6_knownOf.data.toList.drop 236 = dktX6_knownOf_10 := dk_seg dksX6_knownOf_9 24 rfl rfl
theorem dksX6_knownOf_11 : cX6_knownOf.data.toList.drop 260 = dktX6_knownOf_11 := dk_seg dksX6_knownOf_10 24 rfl rfl
theorem dX6_knownOf_0 : decode cX6_knownOf 0 = .ok (.aload_n 0, 1) := dk_42 (dk_at dksX6_knownOf_0 0 rfl rfl)
theorem dX6_knownOf_1 : decode cX6_knownOf 1 = .ok (.iload_n 1, 1) := dk_27 (dk_at dksX6_knownOf_0 1 rfl rfl)
theorem dX6_knownOf_2 : decode cX6_knownOf 2 = .ok (.iload_n 2, 1) := dk_28 (dk_at dksX6_knownOf_0 2 rfl rfl)
theorem dX6_knownOf_3 : decode cX6_knownOf 3 = .ok (.invokevirtual 232, 3) := dk_182 0 232 (dk_at dksX6_knownOf_0 3 rfl rfl)
theorem dX6_knownOf_6 : decode cX6_knownOf 6 = .ok (.istore_n 3, 1) := dk_62 (dk_at dksX6_knownOf_0 6 rfl rfl)
theorem dX6_knownOf_7 : decode cX6_knownOf 7 = .ok (.aload_n 0, 1) := dk_42 (dk_at dksX6_knownOf_0 7 rfl rfl)
theorem dX6_knownOf_8 : decode cX6_knownOf 8 = .ok (.getfield 38, 3) := dk_180 0 38 (dk_at dksX6_knownOf_0 8 rfl rfl)
theorem dX6_knownOf_11 : decode cX6_knownOf 11 = .ok (.iload_n 3, 1) := dk_29 (dk_at dksX6_knownOf_0 11 rfl rfl)
theorem dX6_knownOf_12 : decode cX6_knownOf 12 = .ok (.iaload, 1) := dk_46 (dk_at dksX6_knownOf_0 12 rfl rfl)
theorem dX6_knownOf_13 : decode cX6_knownOf 13 = .ok (.iconst (-1), 1) := dk_2 (dk_at dksX6_knownOf_0 13 rfl rfl)
theorem dX6_knownOf_14 : decode cX6_knownOf 14 = .ok (.if_icmp .eq 10, 3) := dk_159 0 10 (dk_at dksX6_knownOf_0 14 rfl rfl)
theorem dX6_knownOf_17 : decode cX6_knownOf 17 = .ok (.aload_n 0, 1) := dk_42 (dk_at dksX6_knownOf_0 17 rfl rfl)
theorem dX6_knownOf_18 : decode cX6_knownOf 18 = .ok (.getfield 38, 3) := dk_180 0 38 (dk_at dksX6_knownOf_0 18 rfl rfl)
theorem dX6_knownOf_21 : decode cX6_knownOf 21 = .ok (.iload_n 3, 1) := dk_29 (dk_at dksX6_knownOf_0 21 rfl rfl)
theorem dX6_knownOf_22 : decode cX6_knownOf 22 = .ok (.iaload, 1) := dk_46 (dk_at dksX6_knownOf_0 22 rfl rfl)
theorem dX6_knownOf_23 : decode cX6_knownOf 23 = .ok (.ireturn, 1) := dk_172 (dk_at dksX6_knownOf_0 23 rfl rfl)
theorem dX6_knownOf_24 : decode cX6_knownOf 24 = .ok (.iconst 0, 1) := dk_3 (dk_at dksX6_knownOf_1 0 rfl rfl)
theorem dX6_knownOf_25 : decode cX6_knownOf 25 = .ok (.istore 4, 2) := dk_54 4 (dk_at dksX6_knownOf_1 1 rfl rfl)
theorem dX6_knownOf_27 : decode cX6_knownOf 27 = .ok (.iconst 0, 1) := dk_3 (dk_at dksX6_knownOf_1 3 rfl rfl)
theorem dX6_knownOf_28 : decode cX6_knownOf 28 = .ok (.istore 5, 2) := dk_54 5 (dk_at dksX6_knownOf_1 4 rfl rfl)
theorem dX6_knownOf_30 : decode cX6_knownOf 30 = .ok (.iconst (-1), 1) := dk_2 (dk_at dksX6_knownOf_1 6 rfl rfl)
theorem dX6_knownOf_31 : decode cX6_knownOf 31 = .ok (.istore 6, 2) := dk_54 6 (dk_at dksX6_knownOf_1 7 rfl rfl)
theorem dX6_knownOf_33 : decode cX6_knownOf 33 = .ok (.iconst 0, 1) := dk_3 (dk_at dksX6_knownOf_1 9 rfl rfl)
theorem dX6_knownOf_34 : decode cX6_knownOf 34 = .ok (.istore 7, 2) := dk_54 7 (dk_at dksX6_knownOf_1 10 rfl rfl)
theorem dX6_knownOf_36 : decode cX6_knownOf 36 = .ok (.iload 7, 2) := dk_21 7 (dk_at dksX6_knownOf_1 12 rfl rfl)
theorem dX6_knownOf_38 : decode cX6_knownOf 38 = .ok (.aload_n 0, 1) := dk_42 (dk_at dksX6_knownOf_1 14 rfl rfl)
theorem dX6_knownOf_39 : decode cX6_knownOf 39 = .ok (.getfield 7, 3) := dk_180 0 7 (dk_at dksX6_knownOf_1 15 rfl rfl)
theorem dX6_knownOf_42 : decode cX6_knownOf 42 = .ok (.iconst 0, 1) := dk_3 (dk_at dksX6_knownOf_1 18 rfl rfl)
theorem dX6_knownOf_43 : decode cX6_knownOf 43 = .ok (.iaload, 1) := dk_46 (dk_at dksX6_knownOf_1 19 rfl rfl)
theorem dX6_knownOf_44 : decode cX6_knownOf 44 = .ok (.if_icmp .ge 177, 3) := dk_162 0 177 (dk_at dksX6_knownOf_1 20 rfl rfl)
theorem dX6_knownOf_47 : decode cX6_knownOf 47 = .ok (.iload_n 1, 1) := dk_27 (dk_at dksX6_knownOf_1 23 rfl rfl)
theorem dX6_knownOf_48 : decode cX6_knownOf 48 = .ok (.iload 7, 2) := dk_21 7 (dk_at dksX6_knownOf_2 0 rfl rfl)
theorem dX6_knownOf_50 : decode cX6_knownOf 50 = .ok (.ishr, 1) := dk_122 (dk_at dksX6_knownOf_2 2 rfl rfl)
theorem dX6_knownOf_51 : decode cX6_knownOf 51 = .ok (.iconst 1, 1) := dk_4 (dk_at dksX6_knownOf_2 3 rfl rfl)
theorem dX6_knownOf_52 : decode cX6_knownOf 52 = .ok (.iand, 1) := dk_126 (dk_at dksX6_knownOf_2 4 rfl rfl)
theorem dX6_knownOf_53 : decode cX6_knownOf 53 = .ok (.iconst 1, 1) := dk_4 (dk_at dksX6_knownOf_2 5 rfl rfl)
theorem dX6_knownOf_54 : decode cX6_knownOf 54 = .ok (.if_icmp .ne 14, 3) := dk_160 0 14 (dk_at dksX6_knownOf_2 6 rfl rfl)
theorem dX6_knownOf_57 : decode cX6_knownOf 57 = .ok (.aload_n 0, 1) := dk_42 (dk_at dksX6_knownOf_2 9 rfl rfl)
theorem dX6_knownOf_58 : decode cX6_knownOf 58 = .ok (.iload 7, 2) := dk_21 7 (dk_at dksX6_knownOf_2 10 rfl rfl)
theorem dX6_knownOf_60 : decode cX6_knownOf 60 = .ok (.iload_n 1, 1) := dk_27 (dk_at dksX6_knownOf_2 12 rfl rfl)
theorem dX6_knownOf_61 : decode cX6_knownOf 61 = .ok (.iload_n 2, 1) := dk_28 (dk_at dksX6_knownOf_2 13 rfl rfl)
theorem dX6_knownOf_62 : decode cX6_knownOf 62 = .ok (.invokevirtual 195, 3) := dk_182 0 195 (dk_at dksX6_knownOf_2 14 rfl rfl)
theorem dX6_knownOf_65 : decode cX6_knownOf 65 = .ok (.goto 4, 3) := dk_167 0 4 (dk_at dksX6_knownOf_2 17 rfl rfl)
theorem dX6_knownOf_68 : decode cX6_knownOf 68 = .ok (.iconst 0, 1) := dk_3 (dk_at dksX6_knownOf_2 20 rfl rfl)
theorem dX6_knownOf_69 : decode cX6_knownOf 69 = .ok (.istore 8, 2) := dk_54 8 (dk_at dksX6_knownOf_2 21 rfl rfl)
theorem dX6_knownOf_71 : decode cX6_knownOf 71 = .ok (.iconst 0, 1) := dk_3 (dk_at dksX6_knownOf_2 23 rfl rfl)
theorem dX6_knownOf_72 : decode cX6_knownOf 72 = .ok (.istore 9, 2) := dk_54 9 (dk_at dksX6_knownOf_3 0 rfl rfl)
theorem dX6_knownOf_74 : decode cX6_knownOf 74 = .ok (.iload 9, 2) := dk_21 9 (dk_at dksX6_knownOf_3 2 rfl rfl)
theorem dX6_knownOf_76 : decode cX6_knownOf 76 = .ok (.aload_n 0, 1) := dk_42 (dk_at dksX6_knownOf_3 4 rfl rfl)
theorem dX6_knownOf_77 : decode cX6_knownOf 77 = .ok (.getfield 7, 3) := dk_180 0 7 (dk_at dksX6_knownOf_3 5 rfl rfl)
theorem dX6_knownOf_80 : decode cX6_knownOf 80 = .ok (.iconst 1, 1) := dk_4 (dk_at dksX6_knownOf_3 8 rfl rfl)
theorem dX6_knownOf_81 : decode cX6_knownOf 81 = .ok (.iaload, 1) := dk_46 (dk_at dksX6_knownOf_3 9 rfl rfl)
theorem dX6_knownOf_82 : decode cX6_knownOf 82 = .ok (.if_icmp .ge 133, 3) := dk_162 0 133 (dk_at dksX6_knownOf_3 10 rfl rfl)
theorem dX6_knownOf_85 : decode cX6_knownOf 85 = .ok (.iload 8, 2) := dk_21 8 (dk_at dksX6_knownOf_3 13 rfl rfl)
theorem dX6_knownOf_87 : decode cX6_knownOf 87 = .ok (.iload 9, 2) := dk_21 9 (dk_at dksX6_knownOf_3 15 rfl rfl)
theorem dX6_knownOf_89 : decode cX6_knownOf 89 = .ok (.ishr, 1) := dk_122 (dk_at dksX6_knownOf_3 17 rfl rfl)
theorem dX6_knownOf_90 : decode cX6_knownOf 90 = .ok (.iconst 1, 1) := dk_4 (dk_at dksX6_knownOf_3 18 rfl rfl)
theorem dX6_knownOf_91 : decode cX6_knownOf 91 = .ok (.iand, 1) := dk_126 (dk_at dksX6_knownOf_3 19 rfl rfl)
theorem dX6_knownOf_92 : decode cX6_knownOf 92 = .ok (.ifCond .ne 6, 3) := dk_154 0 6 (dk_at dksX6_knownOf_3 20 rfl rfl)
theorem dX6_knownOf_95 : decode cX6_knownOf 95 = .ok (.goto 114, 3) := dk_167 0 114 (dk_at dksX6_knownOf_4 0 rfl rfl)
theorem dX6_knownOf_98 : decode cX6_knownOf 98 = .ok (.aload_n 0, 1) := dk_42 (dk_at dksX6_knownOf_4 3 rfl rfl)
theorem dX6_knownOf_99 : decode cX6_knownOf 99 = .ok (.getfield 7, 3) := dk_180 0 7 (dk_at dksX6_knownOf_4 4 rfl rfl)
theorem dX6_knownOf_102 : decode cX6_knownOf 102 = .ok (.bipush 22, 2) := dk_16 22 (dk_at dksX6_knownOf_4 7 rfl rfl)
theorem dX6_knownOf_104 : decode cX6_knownOf 104 = .ok (.iload 7, 2) := dk_21 7 (dk_at dksX6_knownOf_4 9 rfl rfl)
theorem dX6_knownOf_106 : decode cX6_knownOf 106 = .ok (.iadd, 1) := dk_96 (dk_at dksX6_knownOf_4 11 rfl rfl)
theorem dX6_knownOf_107 : decode cX6_knownOf 107 = .ok (.iload 9, 2) := dk_21 9 (dk_at dksX6_knownOf_4 12 rfl rfl)
theorem dX6_knownOf_109 : decode cX6_knownOf 109 = .ok (.iconst 1, 1) := dk_4 (dk_at dksX6_knownOf_4 14 rfl rfl)
theorem dX6_knownOf_110 : decode cX6_knownOf 110 = .ok (.iadd, 1) := dk_96 (dk_at dksX6_knownOf_4 15 rfl rfl)
theorem dX6_knownOf_111 : decode cX6_knownOf 111 = .ok (.iastore, 1) := dk_79 (dk_at dksX6_knownOf_4 16 rfl rfl)
theorem dX6_knownOf_112 : decode cX6_knownOf 112 = .ok (.aload_n 0, 1) := dk_42 (dk_at dksX6_knownOf_4 17 rfl rfl)
theorem dX6_knownOf_113 : decode cX6_knownOf 113 = .ok (.iload_n 1, 1) := dk_27 (dk_at dksX6_knownOf_4 18 rfl rfl)
theorem dX6_knownOf_114 : decode cX6_knownOf 114 = .ok (.iconst 1, 1) := dk_4 (dk_at dksX6_knownOf_4 19 rfl rfl)
theorem dX6_knownOf_115 : decode cX6_knownOf 115 = .ok (.iload 7, 2) := dk_21 7 (dk_at dksX6_knownOf_4 20 rfl rfl)
theorem dX6_knownOf_117 : decode cX6_knownOf 117 = .ok (.ishl, 1) := dk_120 (dk_at dksX6_knownOf_4 22 rfl rfl)
theorem dX6_knownOf_118 : decode cX6_knownOf 118 = .ok (.iconst (-1), 1) := dk_2 (dk_at dksX6_knownOf_4 23 rfl rfl)
theorem dX6_knownOf_119 : decode cX6_knownOf 119 = .ok (.ixor, 1) := dk_130 (dk_at dksX6_knownOf_5 0 rfl rfl)
theorem dX6_knownOf_120 : decode cX6_knownOf 120 = .ok (.iand, 1) := dk_126 (dk_at dksX6_knownOf_5 1 rfl rfl)
theorem dX6_knownOf_121 : decode cX6_knownOf 121 = .ok (.iload 9, 2) := dk_21 9 (dk_at dksX6_knownOf_5 2 rfl rfl)
theorem dX6_knownOf_123 : decode cX6_knownOf 123 = .ok (.invokevirtual 235, 3) := dk_182 0 235 (dk_at dksX6_knownOf_5 4 rfl rfl)
theorem dX6_knownOf_126 : decode cX6_knownOf 126 = .ok (.istore 10, 2) := dk_54 10 (dk_at dksX6_knownOf_5 7 rfl rfl)
theorem dX6_knownOf_128 : decode cX6_knownOf 128 = .ok (.aload_n 0, 1) := dk_42 (dk_at dksX6_knownOf_5 9 rfl rfl)
theorem dX6_knownOf_129 : decode cX6_knownOf 129 = .ok (.getfield 7, 3) := dk_180 0 7 (dk_at dksX6_knownOf_5 10 rfl rfl)
theorem dX6_knownOf_132 : decode cX6_knownOf 132 = .ok (.bipush 22, 2) := dk_16 22 (dk_at dksX6_knownOf_5 13 rfl rfl)
theorem dX6_knownOf_134 : decode cX6_knownOf 134 = .ok (.iload 7, 2) := dk_21 7 (dk_at dksX6_knownOf_5 15 rfl rfl)
theorem dX6_knownOf_136 : decode cX6_knownOf 136 = .ok (.iadd, 1) := dk_96 (dk_at dksX6_knownOf_5 17 rfl rfl)
theorem dX6_knownOf_137 : decode cX6_knownOf 137 = .ok (.iconst 0, 1) := dk_3 (dk_at dksX6_knownOf_5 18 rfl rfl)
theorem dX6_knownOf_138 : decode cX6_knownOf 138 = .ok (.iastore, 1) := dk_79 (dk_at dksX6_knownOf_5 19 rfl rfl)
theorem dX6_knownOf_139 : decode cX6_knownOf 139 = .ok (.iload 4, 2) := dk_21 4 (dk_at dksX6_knownOf_5 20 rfl rfl)
theorem dX6_knownOf_141 : decode cX6_knownOf 141 = .ok (.iconst 1, 1) := dk_4 (dk_at dksX6_knownOf_5 22 rfl rfl)
theorem dX6_knownOf_142 : decode cX6_knownOf 142 = .ok (.iload 10, 2) := dk_21 10 (dk_at dksX6_knownOf_6 0 rfl rfl)
theorem dX6_knownOf_144 : decode cX6_knownOf 144 = .ok (.bipush 31, 2) := dk_16 31 (dk_at dksX6_knownOf_6 2 rfl rfl)
theorem dX6_knownOf_146 : decode cX6_knownOf 146 = .ok (.iand, 1) := dk_126 (dk_at dksX6_knownOf_6 4 rfl rfl)
theorem dX6_knownOf_147 : decode cX6_knownOf 147 = .ok (.ishl, 1) := dk_120 (dk_at dksX6_knownOf_6 5 rfl rfl)
theorem dX6_knownOf_148 : decode cX6_knownOf 148 = .ok (.ior, 1) := dk_128 (dk_at dksX6_knownOf_6 6 rfl rfl)
theorem dX6_knownOf_149 : decode cX6_knownOf 149 = .ok (.istore 4, 2) := dk_54 4 (dk_at dksX6_knownOf_6 7 rfl rfl)
theorem dX6_knownOf_151 : decode cX6_knownOf 151 = .ok (.iconst 1, 1) := dk_4 (dk_at dksX6_knownOf_6 9 rfl rfl)
theorem dX6_knownOf_152 : decode cX6_knownOf 152 = .ok (.iload 10, 2) := dk_21 10 (dk_at dksX6_knownOf_6 10 rfl rfl)
theorem dX6_knownOf_154 : decode cX6_knownOf 154 = .ok (.iconst 5, 1) := dk_8 (dk_at dksX6_knownOf_6 12 rfl rfl)
theorem dX6_knownOf_155 : decode cX6_knownOf 155 = .ok (.ishr, 1) := dk_122 (dk_at dksX6_knownOf_6 13 rfl rfl)
theorem dX6_knownOf_156 : decode cX6_knownOf 156 = .ok (.bipush 31, 2) := dk_16 31 (dk_at dksX6_knownOf_6 14 rfl rfl)
theorem dX6_knownOf_158 : decode cX6_knownOf 158 = .ok (.iand, 1) := dk_126 (dk_at dksX6_knownOf_6 16 rfl rfl)
theorem dX6_knownOf_159 : decode cX6_knownOf 159 = .ok (.iadd, 1) := dk_96 (dk_at dksX6_knownOf_6 17 rfl rfl)
theorem dX6_knownOf_160 : decode cX6_knownOf 160 = .ok (.istore 11, 2) := dk_54 11 (dk_at dksX6_knownOf_6 18 rfl rfl)
theorem dX6_knownOf_162 : decode cX6_knownOf 162 = .ok (.iconst 1, 1) := dk_4 (dk_at dksX6_knownOf_6 20 rfl rfl)
theorem dX6_knownOf_163 : decode cX6_knownOf 163 = .ok (.iload 10, 2) := dk_21 10 (dk_at dksX6_knownOf_6 21 rfl rfl)
theorem dX6_knownOf_165 : decode cX6_knownOf 165 = .ok (.bipush 10, 2) := dk_16 10 (dk_at dksX6_knownOf_7 0 rfl rfl)
theorem dX6_knownOf_167 : decode cX6_knownOf 167 = .ok (.ishr, 1) := dk_122 (dk_at dksX6_knownOf_7 2 rfl rfl)
theorem dX6_knownOf_168 : decode cX6_knownOf 168 = .ok (.iadd, 1) := dk_96 (dk_at dksX6_knownOf_7 3 rfl rfl)
theorem dX6_knownOf_169 : decode cX6_knownOf 169 = .ok (.istore 12, 2) := dk_54 12 (dk_at dksX6_knownOf_7 4 rfl rfl)
theorem dX6_knownOf_171 : decode cX6_knownOf 171 = .ok (.iload 11, 2) := dk_21 11 (dk_at dksX6_knownOf_7 6 rfl rfl)
theorem dX6_knownOf_173 : decode cX6_knownOf 173 = .ok (.iload 5, 2) := dk_21 5 (dk_at dksX6_knownOf_7 8 rfl rfl)
theorem dX6_knownOf_175 : decode cX6_knownOf 175 = .ok (.if_icmp .le 8, 3) := dk_164 0 8 (dk_at dksX6_knownOf_7 10 rfl rfl)
theorem dX6_knownOf_178 : decode cX6_knownOf 178 = .ok (.iload 11, 2) := dk_21 11 (dk_at dksX6_knownOf_7 13 rfl rfl)
theorem dX6_knownOf_180 : decode cX6_knownOf 180 = .ok (.goto 5, 3) := dk_167 0 5 (dk_at dksX6_knownOf_7 15 rfl rfl)
theorem dX6_knownOf_183 : decode cX6_knownOf 183 = .ok (.iload 5, 2) := dk_21 5 (dk_at dksX6_knownOf_7 18 rfl rfl)
theorem dX6_knownOf_185 : decode cX6_knownOf 185 = .ok (.istore 5, 2) := dk_54 5 (dk_at dksX6_knownOf_7 20 rfl rfl)
theorem dX6_knownOf_187 : decode cX6_knownOf 187 = .ok (.iload 6, 2) := dk_21 6 (dk_at dksX6_knownOf_7 22 rfl rfl)
theorem dX6_knownOf_189 : decode cX6_knownOf 189 = .ok (.iconst (-1), 1) := dk_2 (dk_at dksX6_knownOf_8 0 rfl rfl)
theorem dX6_knownOf_190 : decode cX6_knownOf 190 = .ok (.if_icmp .eq 10, 3) := dk_159 0 10 (dk_at dksX6_knownOf_8 1 rfl rfl)
theorem dX6_knownOf_193 : decode cX6_knownOf 193 = .ok (.iload 12, 2) := dk_21 12 (dk_at dksX6_knownOf_8 4 rfl rfl)
theorem dX6_knownOf_195 : decode cX6_knownOf 195 = .ok (.iload 6, 2) := dk_21 6 (dk_at dksX6_knownOf_8 6 rfl rfl)
theorem dX6_knownOf_197 : decode cX6_knownOf 197 = .ok (.if_icmp .ge 8, 3) := dk_162 0 8 (dk_at dksX6_knownOf_8 8 rfl rfl)
theorem dX6_knownOf_200 : decode cX6_knownOf 200 = .ok (.iload 12, 2) := dk_21 12 (dk_at dksX6_knownOf_8 11 rfl rfl)
theorem dX6_knownOf_202 : decode cX6_knownOf 202 = .ok (.goto 5, 3) := dk_167 0 5 (dk_at dksX6_knownOf_8 13 rfl rfl)
theorem dX6_knownOf_205 : decode cX6_knownOf 205 = .ok (.iload 6, 2) := dk_21 6 (dk_at dksX6_knownOf_8 16 rfl rfl)
theorem dX6_knownOf_207 : decode cX6_knownOf 207 = .ok (.istore 6, 2) := dk_54 6 (dk_at dksX6_knownOf_8 18 rfl rfl)
theorem dX6_knownOf_209 : decode cX6_knownOf 209 = .ok (.iinc 9 1, 3) := dk_132 9 1 (dk_at dksX6_knownOf_8 20 rfl rfl)
theorem dX6_knownOf_212 : decode cX6_knownOf 212 = .ok (.goto (-138), 3) := dk_167 255 118 (dk_at dksX6_knownOf_9 0 rfl rfl)
theorem dX6_knownOf_215 : decode cX6_knownOf 215 = .ok (.iinc 7 1, 3) := dk_132 7 1 (dk_at dksX6_knownOf_9 3 rfl rfl)
theorem dX6_knownOf_218 : decode cX6_knownOf 218 = .ok (.goto (-182), 3) := dk_167 255 74 (dk_at dksX6_knownOf_9 6 rfl rfl)
theorem dX6_knownOf_221 : decode cX6_knownOf 221 = .ok (.aload_n 0, 1) := dk_42 (dk_at dksX6_knownOf_9 9 rfl rfl)
theorem dX6_knownOf_222 : decode cX6_knownOf 222 = .ok (.getfield 38, 3) := dk_180 0 38 (dk_at dksX6_knownOf_9 10 rfl rfl)
theorem dX6_knownOf_225 : decode cX6_knownOf 225 = .ok (.iload_n 3, 1) := dk_29 (dk_at dksX6_knownOf_9 13 rfl rfl)
theorem dX6_knownOf_226 : decode cX6_knownOf 226 = .ok (.iload 4, 2) := dk_21 4 (dk_at dksX6_knownOf_9 14 rfl rfl)
theorem dX6_knownOf_228 : decode cX6_knownOf 228 = .ok (.iconst (-1), 1) := dk_2 (dk_at dksX6_knownOf_9 16 rfl rfl)
theorem dX6_knownOf_229 : decode cX6_knownOf 229 = .ok (.ixor, 1) := dk_130 (dk_at dksX6_knownOf_9 17 rfl rfl)
theorem dX6_knownOf_230 : decode cX6_knownOf 230 = .ok (.invokestatic 174, 3) := dk_184 0 174 (dk_at dksX6_knownOf_9 18 rfl rfl)
theorem dX6_knownOf_233 : decode cX6_knownOf 233 = .ok (.iload 5, 2) := dk_21 5 (dk_at dksX6_knownOf_9 21 rfl rfl)
theorem dX6_knownOf_235 : decode cX6_knownOf 235 = .ok (.iconst 5, 1) := dk_8 (dk_at dksX6_knownOf_9 23 rfl rfl)
theorem dX6_knownOf_236 : decode cX6_knownOf 236 = .ok (.ishl, 1) := dk_120 (dk_at dksX6_knownOf_10 0 rfl rfl)
theorem dX6_knownOf_237 : decode cX6_knownOf 237 = .ok (.ior, 1) := dk_128 (dk_at dksX6_knownOf_10 1 rfl rfl)
theorem dX6_knownOf_238 : decode cX6_knownOf 238 = .ok (.iload 6, 2) := dk_21 6 (dk_at dksX6_knownOf_10 2 rfl rfl)
theorem dX6_knownOf_240 : decode cX6_knownOf 240 = .ok (.iconst (-1), 1) := dk_2 (dk_at dksX6_knownOf_10 4 rfl rfl)
theorem dX6_knownOf_241 : decode cX6_knownOf 241 = .ok (.if_icmp .ne 7, 3) := dk_160 0 7 (dk_at dksX6_knownOf_10 5 rfl rfl)
theorem dX6_knownOf_244 : decode cX6_knownOf 244 = .ok (.iconst 0, 1) := dk_3 (dk_at dksX6_knownOf_10 8 rfl rfl)
theorem dX6_knownOf_245 : decode cX6_knownOf 245 = .ok (.goto 5, 3) := dk_167 0 5 (dk_at dksX6_knownOf_10 9 rfl rfl)
theorem dX6_knownOf_248 : decode cX6_knownOf 248 = .ok (.iload 6, 2) := dk_21 6 (dk_at dksX6_knownOf_10 12 rfl rfl)
theorem dX6_knownOf_250 : decode cX6_knownOf 250 = .ok (.bipush 10, 2) := dk_16 10 (dk_at dksX6_knownOf_10 14 rfl rfl)
theorem dX6_knownOf_252 : decode cX6_knownOf 252 = .ok (.ishl, 1) := dk_120 (dk_at dksX6_knownOf_10 16 rfl rfl)
theorem dX6_knownOf_253 : decode cX6_knownOf 253 = .ok (.ior, 1) := dk_128 (dk_at dksX6_knownOf_10 17 rfl rfl)
theorem dX6_knownOf_254 : decode cX6_knownOf 254 = .ok (.iastore, 1) := dk_79 (dk_at dksX6_knownOf_10 18 rfl rfl)
theorem dX6_knownOf_255 : decode cX6_knownOf 255 = .ok (.aload_n 0, 1) := dk_42 (dk_at dksX6_knownOf_10 19 rfl rfl)
theorem dX6_knownOf_256 : decode cX6_knownOf 256 = .ok (.getfield 38, 3) := dk_180 0 38 (dk_at dksX6_knownOf_10 20 rfl rfl)
theorem dX6_knownOf_259 : decode cX6_knownOf 259 = .ok (.iload_n 3, 1) := dk_29 (dk_at dksX6_knownOf_10 23 rfl rfl)
theorem dX6_knownOf_260 : decode cX6_knownOf 260 = .ok (.iaload, 1) := dk_46 (dk_at dksX6_knownOf_11 0 rfl rfl)
theorem dX6_knownOf_261 : decode cX6_knownOf 261 = .ok (.ireturn, 1) := dk_172 (dk_at dksX6_knownOf_11 1 rfl rfl)
abbrev cX6_placeOf : ByteArray := prog_16_method_50_code
def yX6_placeOf : MethodName := ⟨RX6, "placeOf", "(II)I"⟩
def dkwX6_placeOf_5 : List UInt8 := [96, 104, 28, 96, 4, 96, 172]
abbrev dktX6_placeOf_5 : List UInt8 := dkwX6_placeOf_5 ++ []
def dkwX6_placeOf_4 : List UInt8 := [21, 4, 96, 46, 167, 0, 4, 4, 96, 62, 132, 4, 255, 167, 255, 160, 29, 42, 180, 0, 7, 4, 46, 4]
abbrev dktX6_placeOf_4 : List UInt8 := dkwX6_placeOf_4 ++ dktX6_placeOf_5
def dkwX6_placeOf_3 : List UInt8 := [46, 4, 96, 104, 21, 5, 153, 0, 7, 3, 167, 0, 22, 21, 6, 153, 0, 16, 42, 180, 0, 7, 16, 22]
abbrev dktX6_placeOf_3 : List UInt8 := dkwX6_placeOf_3 ++ dktX6_placeOf_4
def dkwX6_placeOf_2 : List UInt8 := [16, 13, 21, 4, 96, 46, 27, 126, 153, 0, 7, 4, 167, 0, 4, 3, 54, 6, 29, 42, 180, 0, 7, 4]
abbrev dktX6_placeOf_2 : List UInt8 := dkwX6_placeOf_2 ++ dktX6_placeOf_3
def dkwX6_placeOf_1 : List UInt8 := [160, 0, 7, 4, 167, 0, 4, 3, 54, 5, 42, 21, 4, 182, 0, 170, 154, 0, 22, 42, 180, 0, 7]
abbrev dktX6_placeOf_1 : List UInt8 := dkwX6_placeOf_1 ++ dktX6_placeOf_2
def dkwX6_placeOf_0 : List UInt8 := [3, 62, 42, 180, 0, 7, 3, 46, 4, 100, 54, 4, 21, 4, 155, 0, 97, 27, 21, 4, 122, 4, 126, 4]
abbrev dktX6_placeOf_0 : List UInt8 := dkwX6_placeOf_0 ++ dktX6_placeOf_1
theorem dksX6_placeOf_0 : cX6_placeOf.data.toList.drop 0 = dktX6_placeOf_0 := by decide +kernel
theorem dksX6_placeOf_1 : cX6_placeOf.data.toList.drop 24 = dktX6_placeOf_1 := dk_seg dksX6_placeOf_0 24 rfl rfl
theorem dksX6_placeOf_2 : cX6_placeOf.data.toList.drop 47 = dktX6_placeOf_2 := dk_seg dksX6_placeOf_1 23 rfl rfl
theorem dksX6_placeOf_3 : cX6_placeOf.data.toList.drop 71 = dktX6_placeOf_3 := dk_seg dksX6_placeOf_2 24 rfl rfl
theorem dksX6_placeOf_4 : cX6_placeOf.data.toList.drop 95 = dktX6_placeOf_4 := dk_seg dksX6_placeOf_3 24 rfl rfl
theorem dksX6_placeOf_5 : cX6_placeOf.data.toList.drop 119 = dktX6_placeOf_5 := dk_seg dksX6_placeOf_4 24 rfl rfl
theorem dX6_placeOf_0 : decode cX6_placeOf 0 = .ok (.iconst 0, 1) := dk_3 (dk_at dksX6_placeOf_0 0 rfl rfl)
theorem dX6_placeOf_1 : decode cX6_placeOf 1 = .ok (.istore_n 3, 1) := dk_62 (dk_at dksX6_placeOf_0 1 rfl rfl)
theorem dX6_placeOf_2 : decode cX6_placeOf 2 = .ok (.aload_n 0, 1) := dk_42 (dk_at dksX6_placeOf_0 2 rfl rfl)
theorem dX6_placeOf_3 : decode cX6_placeOf 3 = .ok (.getfield 7, 3) := dk_180 0 7 (dk_at dksX6_placeOf_0 3 rfl rfl)
theorem dX6_placeOf_6 : decode cX6_placeOf 6 = .ok (.iconst 0, 1) := dk_3 (dk_at dksX6_placeOf_0 6 rfl rfl)
theorem dX6_placeOf_7 : decode cX6_placeOf 7 = .ok (.iaload, 1) := dk_46 (dk_at dksX6_placeOf_0 7 rfl rfl)
theorem dX6_placeOf_8 : decode cX6_placeOf 8 = .ok (.iconst 1, 1) := dk_4 (dk_at dksX6_placeOf_0 8 rfl rfl)
theorem dX6_placeOf_9 : decode cX6_placeOf 9 = .ok (.isub, 1) := dk_100 (dk_at dksX6_placeOf_0 9 rfl rfl)
theorem dX6_placeOf_10 : decode cX6_placeOf 10 = .ok (.istore 4, 2) := dk_54 4 (dk_at dksX6_placeOf_0 10 rfl rfl)
theorem dX6_placeOf_12 : decode cX6_placeOf 12 = .ok (.iload 4, 2) := dk_21 4 (dk_at dksX6_placeOf_0 12 rfl rfl)
theorem dX6_placeOf_14 : decode cX6_placeOf 14 = .ok (.ifCond .lt 97, 3) := dk_155 0 97 (dk_at dksX6_placeOf_0 14 rfl rfl)
theorem dX6_placeOf_17 : decode cX6_placeOf 17 = .ok (.iload_n 1, 1) := dk_27 (dk_at dksX6_placeOf_0 17 rfl rfl)
theorem dX6_placeOf_18 : decode cX6_placeOf 18 = .ok (.iload 4, 2) := dk_21 4 (dk_at dksX6_placeOf_0 18 rfl rfl)
theorem dX6_placeOf_20 : decode cX6_placeOf 20 = .ok (.ishr, 1) := dk_122 (dk_at dksX6_placeOf_0 20 rfl rfl)
theorem dX6_placeOf_21 : decode cX6_placeOf 21 = .ok (.iconst 1, 1) := dk_4 (dk_at dksX6_placeOf_0 21 rfl rfl)
theorem dX6_placeOf_22 : decode cX6_placeOf 22 = .ok (.iand, 1) := dk_126 (dk_at dksX6_placeOf_0 22 rfl rfl)
theorem dX6_placeOf_23 : decode cX6_placeOf 23 = .ok (.iconst 1, 1) := dk_4 (dk_at dksX6_placeOf_0 23 rfl rfl)
theorem dX6_placeOf_24 : decode cX6_placeOf 24 = .ok (.if_icmp .ne 7, 3) := dk_160 0 7 (dk_at dksX6_placeOf_1 0 rfl rfl)
theorem dX6_placeOf_27 : decode cX6_placeOf 27 = .ok (.iconst 1, 1) := dk_4 (dk_at dksX6_placeOf_1 3 rfl rfl)
theorem dX6_placeOf_28 : decode cX6_placeOf 28 = .ok (.goto 4, 3) := dk_167 0 4 (dk_at dksX6_placeOf_1 4 rfl rfl)
theorem dX6_placeOf_31 : decode cX6_placeOf 31 = .ok (.iconst 0, 1) := dk_3 (dk_at dksX6_placeOf_1 7 rfl rfl)
theorem dX6_placeOf_32 : decode cX6_placeOf 32 = .ok (.istore 5, 2) := dk_54 5 (dk_at dksX6_placeOf_1 8 rfl rfl)
theorem dX6_placeOf_34 : decode cX6_placeOf 34 = .ok (.aload_n 0, 1) := dk_42 (dk_at dksX6_placeOf_1 10 rfl rfl)
theorem dX6_placeOf_35 : decode cX6_placeOf 35 = .ok (.iload 4, 2) := dk_21 4 (dk_at dksX6_placeOf_1 11 rfl rfl)
theorem dX6_placeOf_37 : decode cX6_placeOf 37 = .ok (.invokevirtual 170, 3) := dk_182 0 170 (dk_at dksX6_placeOf_1 13 rfl rfl)
theorem dX6_placeOf_40 : decode cX6_placeOf 40 = .ok (.ifCond .ne 22, 3) := dk_154 0 22 (dk_at dksX6_placeOf_1 16 rfl rfl)
theorem dX6_placeOf_43 : decode cX6_placeOf 43 = .ok (.aload_n 0, 1) := dk_42 (dk_at dksX6_placeOf_1 19 rfl rfl)
theorem dX6_placeOf_44 : decode cX6_placeOf 44 = .ok (.getfield 7, 3) := dk_180 0 7 (dk_at dksX6_placeOf_1 20 rfl rfl)
theorem dX6_placeOf_47 : decode cX6_placeOf 47 = .ok (.bipush 13, 2) := dk_16 13 (dk_at dksX6_placeOf_2 0 rfl rfl)
theorem dX6_placeOf_49 : decode cX6_placeOf 49 = .ok (.iload 4, 2) := dk_21 4 (dk_at dksX6_placeOf_2 2 rfl rfl)
theorem dX6_placeOf_51 : decode cX6_placeOf 51 = .ok (.iadd, 1) := dk_96 (dk_at dksX6_placeOf_2 4 rfl rfl)
theorem dX6_placeOf_52 : decode cX6_placeOf 52 = .ok (.iaload, 1) := dk_46 (dk_at dksX6_placeOf_2 5 rfl rfl)
theorem dX6_placeOf_53 : decode cX6_placeOf 53 = .ok (.iload_n 1, 1) := dk_27 (dk_at dksX6_placeOf_2 6 rfl rfl)
theorem dX6_placeOf_54 : decode cX6_placeOf 54 = .ok (.iand, 1) := dk_126 (dk_at dksX6_placeOf_2 7 rfl rfl)
theorem dX6_placeOf_55 : decode cX6_placeOf 55 = .ok (.ifCond .eq 7, 3) := dk_153 0 7 (dk_at dksX6_placeOf_2 8 rfl rfl)
theorem dX6_placeOf_58 : decode cX6_placeOf 58 = .ok (.iconst 1, 1) := dk_4 (dk_at dksX6_placeOf_2 11 rfl rfl)
theorem dX6_placeOf_59 : decode cX6_placeOf 59 = .ok (.goto 4, 3) := dk_167 0 4 (dk_at dksX6_placeOf_2 12 rfl rfl)
theorem dX6_placeOf_62 : decode cX6_placeOf 62 = .ok (.iconst 0, 1) := dk_3 (dk_at dksX6_placeOf_2 15 rfl rfl)
theorem dX6_placeOf_63 : decode cX6_placeOf 63 = .ok (.istore 6, 2) := dk_54 6 (dk_at dksX6_placeOf_2 16 rfl rfl)
theorem dX6_placeOf_65 : decode cX6_placeOf 65 = .ok (.iload_n 3, 1) := dk_29 (dk_at dksX6_placeOf_2 18 rfl rfl)
theorem dX6_placeOf_66 : decode cX6_placeOf 66 = .ok (.aload_n 0, 1) := dk_42 (dk_at dksX6_placeOf_2 19 rfl rfl)
theorem dX6_placeOf_67 : decode cX6_placeOf 67 = .ok (.getfield 7, 3) := dk_180 0 7 (dk_at dksX6_placeOf_2 20 rfl rfl)
theorem dX6_placeOf_70 : decode cX6_placeOf 70 = .ok (.iconst 1, 1) := dk_4 (dk_at dksX6_placeOf_2 23 rfl rfl)
theorem dX6_placeOf_71 : decode cX6_placeOf 71 = .ok (.iaload, 1) := dk_46 (dk_at dksX6_placeOf_3 0 rfl rfl)
theorem dX6_placeOf_72 : decode cX6_placeOf 72 = .ok (.iconst 1, 1) := dk_4 (dk_at dksX6_placeOf_3 1 rfl rfl)
theorem dX6_placeOf_73 : decode cX6_placeOf 73 = .ok (.iadd, 1) := dk_96 (dk_at dksX6_placeOf_3 2 rfl rfl)
theorem dX6_placeOf_74 : decode cX6_placeOf 74 = .ok (.imul, 1) := dk_104 (dk_at dksX6_placeOf_3 3 rfl rfl)
theorem dX6_placeOf_75 : decode cX6_placeOf 75 = .ok (.iload 5, 2) := dk_21 5 (dk_at dksX6_placeOf_3 4 rfl rfl)
theorem dX6_placeOf_77 : decode cX6_placeOf 77 = .ok (.ifCond .eq 7, 3) := dk_153 0 7 (dk_at dksX6_placeOf_3 6 rfl rfl)
theorem dX6_placeOf_80 : decode cX6_placeOf 80 = .ok (.iconst 0, 1) := dk_3 (dk_at dksX6_placeOf_3 9 rfl rfl)
theorem dX6_placeOf_81 : decode cX6_placeOf 81 = .ok (.goto 22, 3) := dk_167 0 22 (dk_at dksX6_placeOf_3 10 rfl rfl)
theorem dX6_placeOf_84 : decode cX6_placeOf 84 = .ok (.iload 6, 2) := dk_21 6 (dk_at dksX6_placeOf_3 13 rfl rfl)
theorem dX6_placeOf_86 : decode cX6_placeOf 86 = .ok (.ifCond .eq 16, 3) := dk_153 0 16 (dk_at dksX6_placeOf_3 15 rfl rfl)
theorem dX6_placeOf_89 : decode cX6_placeOf 89 = .ok (.aload_n 0, 1) := dk_42 (dk_at dksX6_placeOf_3 18 rfl rfl)
theorem dX6_placeOf_90 : decode cX6_placeOf 90 = .ok (.getfield 7, 3) := dk_180 0 7 (dk_at dksX6_placeOf_3 19 rfl rfl)
theorem dX6_placeOf_93 : decode cX6_placeOf 93 = .ok (.bipush 22, 2) := dk_16 22 (dk_at dksX6_placeOf_3 22 rfl rfl)
theorem dX6_placeOf_95 : decode cX6_placeOf 95 = .ok (.iload 4, 2) := dk_21 4 (dk_at dksX6_placeOf_4 0 rfl rfl)
theorem dX6_placeOf_97 : decode cX6_placeOf 97 = .ok (.iadd, 1) := dk_96 (dk_at dksX6_placeOf_4 2 rfl rfl)
theorem dX6_placeOf_98 : decode cX6_placeOf 98 = .ok (.iaload, 1) := dk_46 (dk_at dksX6_placeOf_4 3 rfl rfl)
theorem dX6_placeOf_99 : decode cX6_placeOf 99 = .ok (.goto 4, 3) := dk_167 0 4 (dk_at dksX6_placeOf_4 4 rfl rfl)
theorem dX6_placeOf_102 : decode cX6_placeOf 102 = .ok (.iconst 1, 1) := dk_4 (dk_at dksX6_placeOf_4 7 rfl rfl)
theorem dX6_placeOf_103 : decode cX6_placeOf 103 = .ok (.iadd, 1) := dk_96 (dk_at dksX6_placeOf_4 8 rfl rfl)
theorem dX6_placeOf_104 : decode cX6_placeOf 104 = .ok (.istore_n 3, 1) := dk_62 (dk_at dksX6_placeOf_4 9 rfl rfl)
theorem dX6_placeOf_105 : decode cX6_placeOf 105 = .ok (.iinc 4 (-1), 3) := dk_132 4 255 (dk_at dksX6_placeOf_4 10 rfl rfl)
theorem dX6_placeOf_108 : decode cX6_placeOf 108 = .ok (.goto (-96), 3) := dk_167 255 160 (dk_at dksX6_placeOf_4 13 rfl rfl)
theorem dX6_placeOf_111 : decode cX6_placeOf 111 = .ok (.iload_n 3, 1) := dk_29 (dk_at dksX6_placeOf_4 16 rfl rfl)
theorem dX6_placeOf_112 : decode cX6_placeOf 112 = .ok (.aload_n 0, 1) := dk_42 (dk_at dksX6_placeOf_4 17 rfl rfl)
theorem dX6_placeOf_113 : decode cX6_placeOf 113 = .ok (.getfield 7, 3) := dk_180 0 7 (dk_at dksX6_placeOf_4 18 rfl rfl)
theorem dX6_placeOf_116 : decode cX6_placeOf 116 = .ok (.iconst 1, 1) := dk_4 (dk_at dksX6_placeOf_4 21 rfl rfl)
theorem dX6_placeOf_117 : decode cX6_placeOf 117 = .ok (.iaload, 1) := dk_46 (dk_at dksX6_placeOf_4 22 rfl rfl)
theorem dX6_placeOf_118 : decode cX6_placeOf 118 = .ok (.iconst 1, 1) := dk_4 (dk_at dksX6_placeOf_4 23 rfl rfl)
theorem dX6_placeOf_119 : decode cX6_placeOf 119 = .ok (.iadd, 1) := dk_96 (dk_at dksX6_placeOf_5 0 rfl rfl)
theorem dX6_placeOf_120 : decode cX6_placeOf 120 = .ok (.imul, 1) := dk_104 (dk_at dksX6_placeOf_5 1 rfl rfl)
theorem dX6_placeOf_121 : decode cX6_placeOf 121 = .ok (.iload_n 2, 1) := dk_28 (dk_at dksX6_placeOf_5 2 rfl rfl)
theorem dX6_placeOf_122 : decode cX6_placeOf 122 = .ok (.iadd, 1) := dk_96 (dk_at dksX6_placeOf_5 3 rfl rfl)
theorem dX6_placeOf_123 : decode cX6_placeOf 123 = .ok (.iconst 1, 1) := dk_4 (dk_at dksX6_placeOf_5 4 rfl rfl)
theorem dX6_placeOf_124 : decode cX6_placeOf 124 = .ok (.iadd, 1) := dk_96 (dk_at dksX6_placeOf_5 5 rfl rfl)
theorem dX6_placeOf_125 : decode cX6_placeOf 125 = .ok (.ireturn, 1) := dk_172 (dk_at dksX6_placeOf_5 6 rfl rfl)
abbrev cX6_together : ByteArray := prog_16_method_51_code
def yX6_together : MethodName := ⟨RX6, "together", "(II)I"⟩
def dkwX6_together_3 : List UInt8 := [2, 130, 126, 54, 6, 167, 255, 191, 29, 21, 4, 8, 120, 128, 21, 5, 16, 10, 120, 128, 172]
abbrev dktX6_together_3 : List UInt8 := dkwX6_together_3 ++ []
def dkwX6_together_2 : List UInt8 := [21, 8, 8, 122, 16, 31, 126, 96, 54, 4, 21, 5, 21, 8, 16, 10, 122, 96, 54, 5, 21, 6, 21, 7]
abbrev dktX6_together_2 : List UInt8 := dkwX6_together_2 ++ dktX6_together_3
def dkwX6_together_1 : List UInt8 := [182, 0, 177, 54, 7, 42, 21, 7, 28, 182, 0, 229, 54, 8, 29, 21, 8, 16, 31, 126, 130, 62, 21, 4]
abbrev dktX6_together_1 : List UInt8 := dkwX6_together_1 ++ dktX6_together_2
def dkwX6_together_0 : List UInt8 := [3, 62, 3, 54, 4, 3, 54, 5, 27, 54, 6, 21, 6, 158, 0, 66, 42, 21, 6, 184, 0, 174, 27]
abbrev dktX6_together_0 : List UInt8 := dkwX6_together_0 ++ dktX6_together_1
theorem dksX6_together_0 : cX6_together.data.toList.drop 0 = dktX6_together_0 := by decide +kernel
theorem dksX6_together_1 : cX6_together.data.toList.drop 23 = dktX6_together_1 := dk_seg dksX6_together_0 23 rfl rfl
theorem dksX6_together_2 : cX6_together.data.toList.drop 47 = dktX6_together_2 := dk_seg dksX6_together_1 24 rfl rfl
theorem dksX6_together_3 : cX6_together.data.toList.drop 71 = dktX6_together_3 := dk_seg dksX6_together_2 24 rfl rfl
theorem dX6_together_0 : decode cX6_together 0 = .ok (.iconst 0, 1) := dk_3 (dk_at dksX6_together_0 0 rfl rfl)
theorem dX6_together_1 : decode cX6_together 1 = .ok (.istore_n 3, 1) := dk_62 (dk_at dksX6_together_0 1 rfl rfl)
theorem dX6_together_2 : decode cX6_together 2 = .ok (.iconst 0, 1) := dk_3 (dk_at dksX6_together_0 2 rfl rfl)
theorem dX6_together_3 : decode cX6_together 3 = .ok (.istore 4, 2) := dk_54 4 (dk_at dksX6_together_0 3 rfl rfl)
theorem dX6_together_5 : decode cX6_together 5 = .ok (.iconst 0, 1) := dk_3 (dk_at dksX6_together_0 5 rfl rfl)
theorem dX6_together_6 : decode cX6_together 6 = .ok (.istore 5, 2) := dk_54 5 (dk_at dksX6_together_0 6 rfl rfl)
theorem dX6_together_8 : decode cX6_together 8 = .ok (.iload_n 1, 1) := dk_27 (dk_at dksX6_together_0 8 rfl rfl)
theorem dX6_together_9 : decode cX6_together 9 = .ok (.istore 6, 2) := dk_54 6 (dk_at dksX6_together_0 9 rfl rfl)
theorem dX6_together_11 : decode cX6_together 11 = .ok (.iload 6, 2) := dk_21 6 (dk_at dksX6_together_0 11 rfl rfl)
theorem dX6_together_13 : decode cX6_together 13 = .ok (.ifCond .le 66, 3) := dk_158 0 66 (dk_at dksX6_together_0 13 rfl rfl)
theorem dX6_together_16 : decode cX6_together 16 = .ok (.aload_n 0, 1) := dk_42 (dk_at dksX6_together_0 16 rfl rfl)
theorem dX6_together_17 : decode cX6_together 17 = .ok (.iload 6, 2) := dk_21 6 (dk_at dksX6_together_0 17 rfl rfl)
theorem dX6_together_19 : decode cX6_together 19 = .ok (.invokestatic 174, 3) := dk_184 0 174 (dk_at dksX6_together_0 19 rfl rfl)
theorem dX6_together_22 : decode cX6_together 22 = .ok (.iload_n 1, 1) := dk_27 (dk_at dksX6_together_0 22 rfl rfl)
theorem dX6_together_23 : decode cX6_together 23 = .ok (.invokevirtual 177, 3) := dk_182 0 177 (dk_at dksX6_together_1 0 rfl rfl)
theorem dX6_together_26 : decode cX6_together 26 = .ok (.istore 7, 2) := dk_54 7 (dk_at dksX6_together_1 3 rfl rfl)
theorem dX6_together_28 : decode cX6_together 28 = .ok (.aload_n 0, 1) := dk_42 (dk_at dksX6_together_1 5 rfl rfl)
theorem dX6_together_29 : decode cX6_together 29 = .ok (.iload 7, 2) := dk_21 7 (dk_at dksX6_together_1 6 rfl rfl)
theorem dX6_together_31 : decode cX6_together 31 = .ok (.iload_n 2, 1) := dk_28 (dk_at dksX6_together_1 8 rfl rfl)
theorem dX6_together_32 : decode cX6_together 32 = .ok (.invokevirtual 229, 3) := dk_182 0 229 (dk_at dksX6_together_1 9 rfl rfl)
theorem dX6_together_35 : decode cX6_together 35 = .ok (.istore 8, 2) := dk_54 8 (dk_at dksX6_together_1 12 rfl rfl)
theorem dX6_together_37 : decode cX6_together 37 = .ok (.iload_n 3, 1) := dk_29 (dk_at dksX6_together_1 14 rfl rfl)
theorem dX6_together_38 : decode cX6_together 38 = .ok (.iload 8, 2) := dk_21 8 (dk_at dksX6_together_1 15 rfl rfl)
theorem dX6_together_40 : decode cX6_together 40 = .ok (.bipush 31, 2) := dk_16 31 (dk_at dksX6_together_1 17 rfl rfl)
theorem dX6_together_42 : decode cX6_together 42 = .ok (.iand, 1) := dk_126 (dk_at dksX6_together_1 19 rfl rfl)
theorem dX6_together_43 : decode cX6_together 43 = .ok (.ixor, 1) := dk_130 (dk_at dksX6_together_1 20 rfl rfl)
theorem dX6_together_44 : decode cX6_together 44 = .ok (.istore_n 3, 1) := dk_62 (dk_at dksX6_together_1 21 rfl rfl)
theorem dX6_together_45 : decode cX6_together 45 = .ok (.iload 4, 2) := dk_21 4 (dk_at dksX6_together_1 22 rfl rfl)
theorem dX6_together_47 : decode cX6_together 47 = .ok (.iload 8, 2) := dk_21 8 (dk_at dksX6_together_2 0 rfl rfl)
theorem dX6_together_49 : decode cX6_together 49 = .ok (.iconst 5, 1) := dk_8 (dk_at dksX6_together_2 2 rfl rfl)
theorem dX6_together_50 : decode cX6_together 50 = .ok (.ishr, 1) := dk_122 (dk_at dksX6_together_2 3 rfl rfl)
theorem dX6_together_51 : decode cX6_together 51 = .ok (.bipush 31, 2) := dk_16 31 (dk_at dksX6_together_2 4 rfl rfl)
theorem dX6_together_53 : decode cX6_together 53 = .ok (.iand, 1) := dk_126 (dk_at dksX6_together_2 6 rfl rfl)
theorem dX6_together_54 : decode cX6_together 54 = .ok (.iadd, 1) := dk_96 (dk_at dksX6_together_2 7 rfl rfl)
theorem dX6_together_55 : decode cX6_together 55 = .ok (.istore 4, 2) := dk_54 4 (dk_at dksX6_together_2 8 rfl rfl)
theorem dX6_together_57 : decode cX6_together 57 = .ok (.iload 5, 2) := dk_21 5 (dk_at dksX6_together_2 10 rfl rfl)
theorem dX6_together_59 : decode cX6_together 59 = .ok (.iload 8, 2) := dk_21 8 (dk_at dksX6_together_2 12 rfl rfl)
theorem dX6_together_61 : decode cX6_together 61 = .ok (.bipush 10, 2) := dk_16 10 (dk_at dksX6_together_2 14 rfl rfl)
theorem dX6_together_63 : decode cX6_together 63 = .ok (.ishr, 1) := dk_122 (dk_at dksX6_together_2 16 rfl rfl)
theorem dX6_together_64 : decode cX6_together 64 = .ok (.iadd, 1) := dk_96 (dk_at dksX6_together_2 17 rfl rfl)
theorem dX6_together_65 : decode cX6_together 65 = .ok (.istore 5, 2) := dk_54 5 (dk_at dksX6_together_2 18 rfl rfl)
theorem dX6_together_67 : decode cX6_together 67 = .ok (.iload 6, 2) := dk_21 6 (dk_at dksX6_together_2 20 rfl rfl)
theorem dX6_together_69 : decode cX6_together 69 = .ok (.iload 7, 2) := dk_21 7 (dk_at dksX6_together_2 22 rfl rfl)
theorem dX6_together_71 : decode cX6_together 71 = .ok (.iconst (-1), 1) := dk_2 (dk_at dksX6_together_3 0 rfl rfl)
theorem dX6_together_72 : decode cX6_together 72 = .ok (.ixor, 1) := dk_130 (dk_at dksX6_together_3 1 rfl rfl)
theorem dX6_together_73 : decode cX6_together 73 = .ok (.iand, 1) := dk_126 (dk_at dksX6_together_3 2 rfl rfl)
theorem dX6_together_74 : decode cX6_together 74 = .ok (.istore 6, 2) := dk_54 6 (dk_at dksX6_together_3 3 rfl rfl)
theorem dX6_together_76 : decode cX6_together 76 = .ok (.goto (-65), 3) := dk_167 255 191 (dk_at dksX6_together_3 5 rfl rfl)
theorem dX6_together_79 : decode cX6_together 79 = .ok (.iload_n 3, 1) := dk_29 (dk_at dksX6_together_3 8 rfl rfl)
theorem dX6_together_80 : decode cX6_together 80 = .ok (.iload 4, 2) := dk_21 4 (dk_at dksX6_together_3 9 rfl rfl)
theorem dX6_together_82 : decode cX6_together 82 = .ok (.iconst 5, 1) := dk_8 (dk_at dksX6_together_3 11 rfl rfl)
theorem dX6_together_83 : decode cX6_together 83 = .ok (.ishl, 1) := dk_120 (dk_at dksX6_together_3 12 rfl rfl)
theorem dX6_together_84 : decode cX6_together 84 = .ok (.ior, 1) := dk_128 (dk_at dksX6_together_3 13 rfl rfl)
theorem dX6_together_85 : decode cX6_together 85 = .ok (.iload 5, 2) := dk_21 5 (dk_at dksX6_together_3 14 rfl rfl)
theorem dX6_together_87 : decode cX6_together 87 = .ok (.bipush 10, 2) := dk_16 10 (dk_at dksX6_together_3 16 rfl rfl)
theorem dX6_together_89 : decode cX6_together 89 = .ok (.ishl, 1) := dk_120 (dk_at dksX6_together_3 18 rfl rfl)
theorem dX6_together_90 : decode cX6_together 90 = .ok (.ior, 1) := dk_128 (dk_at dksX6_together_3 19 rfl rfl)
theorem dX6_together_91 : decode cX6_together 91 = .ok (.ireturn, 1) := dk_172 (dk_at dksX6_together_3 20 rfl rfl)
abbrev cX6_value : ByteArray := prog_16_method_61_code
def yX6_value : MethodName := ⟨RX6, "value", "()I"⟩
def dkwX6_value_0 : List UInt8 := [42, 3, 181, 0, 47, 42, 182, 0, 253, 42, 182, 1, 0, 172]
abbrev dktX6_value_0 : List UInt8 := dkwX6_value_0 ++ []
theorem dksX6_value_0 : cX6_value.data.toList.drop 0 = dktX6_value_0 := by decide +kernel
theorem dX6_value_0 : decode cX6_value 0 = .ok (.aload_n 0, 1) := dk_42 (dk_at dksX6_value_0 0 rfl rfl)
theorem dX6_value_1 : decode cX6_value 1 = .ok (.iconst 0, 1) := dk_3 (dk_at dksX6_value_0 1 rfl rfl)
theorem dX6_value_2 : decode cX6_value 2 = .ok (.putfield 47, 3) := dk_181 0 47 (dk_at dksX6_value_0 2 rfl rfl)
theorem dX6_value_5 : decode cX6_value 5 = .ok (.aload_n 0, 1) := dk_42 (dk_at dksX6_value_0 5 rfl rfl)
theorem dX6_value_6 : decode cX6_value 6 = .ok (.invokevirtual 253, 3) := dk_182 0 253 (dk_at dksX6_value_0 6 rfl rfl)
theorem dX6_value_9 : decode cX6_value 9 = .ok (.aload_n 0, 1) := dk_42 (dk_at dksX6_value_0 9 rfl rfl)
theorem dX6_value_10 : decode cX6_value 10 = .ok (.invokevirtual 256, 3) := dk_182 1 0 (dk_at dksX6_value_0 10 rfl rfl)
theorem dX6_value_13 : decode cX6_value 13 = .ok (.ireturn, 1) := dk_172 (dk_at dksX6_value_0 13 rfl rfl)
abbrev cX6_valueNow : ByteArray := prog_16_method_54_code
def yX6_valueNow : MethodName := ⟨RX6, "valueNow", "()I"⟩
def dkwX6_valueNow_0 : List UInt8 := [42, 182, 0, 238, 16, 31, 126, 42, 180, 0, 7, 5, 46, 5, 112, 130, 172]
abbrev dktX6_valueNow_0 : List UInt8 := dkwX6_valueNow_0 ++ []
theorem dksX6_valueNow_0 : cX6_valueNow.data.toList.drop 0 = dktX6_valueNow_0 := by decide +kernel
theorem dX6_valueNow_0 : decode cX6_valueNow 0 = .ok (.aload_n 0, 1) := dk_42 (dk_at dksX6_valueNow_0 0 rfl rfl)
theorem dX6_valueNow_1 : decode cX6_valueNow 1 = .ok (.invokevirtual 238, 3) := dk_182 0 238 (dk_at dksX6_valueNow_0 1 rfl rfl)
theorem dX6_valueNow_4 : decode cX6_valueNow 4 = .ok (.bipush 31, 2) := dk_16 31 (dk_at dksX6_valueNow_0 4 rfl rfl)
theorem dX6_valueNow_6 : decode cX6_valueNow 6 = .ok (.iand, 1) := dk_126 (dk_at dksX6_valueNow_0 6 rfl rfl)
theorem dX6_valueNow_7 : decode cX6_valueNow 7 = .ok (.aload_n 0, 1) := dk_42 (dk_at dksX6_valueNow_0 7 rfl rfl)
theorem dX6_valueNow_8 : decode cX6_valueNow 8 = .ok (.getfield 7, 3) := dk_180 0 7 (dk_at dksX6_valueNow_0 8 rfl rfl)
theorem dX6_valueNow_11 : decode cX6_valueNow 11 = .ok (.iconst 2, 1) := dk_5 (dk_at dksX6_valueNow_0 11 rfl rfl)
theorem dX6_valueNow_12 : decode cX6_valueNow 12 = .ok (.iaload, 1) := dk_46 (dk_at dksX6_valueNow_0 12 rfl rfl)
theorem dX6_valueNow_13 : decode cX6_valueNow 13 = .ok (.iconst 2, 1) := dk_5 (dk_at dksX6_valueNow_0 13 rfl rfl)
theorem dX6_valueNow_14 : decode cX6_valueNow 14 = .ok (.irem, 1) := dk_112 (dk_at dksX6_valueNow_0 14 rfl rfl)
theorem dX6_valueNow_15 : decode cX6_valueNow 15 = .ok (.ixor, 1) := dk_130 (dk_at dksX6_valueNow_0 15 rfl rfl)
theorem dX6_valueNow_16 : decode cX6_valueNow 16 = .ok (.ireturn, 1) := dk_172 (dk_at dksX6_valueNow_0 16 rfl rfl)
abbrev cX6_board : ByteArray := prog_16_method_53_code
def yX6_board : MethodName := ⟨RX6, "board", "()I"⟩
def dkwX6_board_4 : List UInt8 := [29, 16, 10, 120, 128, 172]
abbrev dktX6_board_4 : List UInt8 := dkwX6_board_4 ++ []
def dkwX6_board_3 : List UInt8 := [21, 7, 16, 10, 122, 96, 62, 21, 5, 21, 6, 2, 130, 126, 54, 5, 167, 255, 186, 27, 28, 8, 120, 128]
abbrev dktX6_board_3 : List UInt8 := dkwX6_board_3 ++ dktX6_board_4
def dkwX6_board_2 : List UInt8 := [182, 0, 229, 54, 7, 27, 21, 7, 16, 31, 126, 130, 60, 28, 21, 7, 8, 122, 16, 31, 126, 96, 61, 29]
abbrev dktX6_board_2 : List UInt8 := dkwX6_board_2 ++ dktX6_board_3
def dkwX6_board_1 : List UInt8 := [184, 0, 174, 21, 4, 182, 0, 177, 54, 6, 42, 21, 6, 42, 21, 6, 184, 0, 174, 182, 0, 192]
abbrev dktX6_board_1 : List UInt8 := dkwX6_board_1 ++ dktX6_board_2
def dkwX6_board_0 : List UInt8 := [3, 60, 3, 61, 3, 62, 42, 182, 0, 180, 54, 4, 21, 4, 54, 5, 21, 5, 158, 0, 71, 42, 21, 5]
abbrev dktX6_board_0 : List UInt8 := dkwX6_board_0 ++ dktX6_board_1
theorem dksX6_board_0 : cX6_board.data.toList.drop 0 = dktX6_board_0 := by decide +kernel
theorem dksX6_board_1 : cX6_board.data.toList.drop 24 = dktX6_board_1 := dk_seg dksX6_board_0 24 rfl rfl
theorem dksX6_board_2 : cX6_board.data.toList.drop 46 = dktX6_board_2 := dk_seg dksX6_board_1 22 rfl rfl
theorem dksX6_board_3 : cX6_board.data.toList.drop 70 = dktX6_board_3 := dk_seg dksX6_board_2 24 rfl rfl
theorem dksX6_board_4 : cX6_board.data.toList.drop 94 = dktX6_board_4 := dk_seg dksX6_board_3 24 rfl rfl
theorem dX6_board_0 : decode cX6_board 0 = .ok (.iconst 0, 1) := dk_3 (dk_at dksX6_board_0 0 rfl rfl)
theorem dX6_board_1 : decode cX6_board 1 = .ok (.istore_n 1, 1) := dk_60 (dk_at dksX6_board_0 1 rfl rfl)
theorem dX6_board_2 : decode cX6_board 2 = .ok (.iconst 0, 1) := dk_3 (dk_at dksX6_board_0 2 rfl rfl)
theorem dX6_board_3 : decode cX6_board 3 = .ok (.istore_n 2, 1) := dk_61 (dk_at dksX6_board_0 3 rfl rfl)
theorem dX6_board_4 : decode cX6_board 4 = .ok (.iconst 0, 1) := dk_3 (dk_at dksX6_board_0 4 rfl rfl)
theorem dX6_board_5 : decode cX6_board 5 = .ok (.istore_n 3, 1) := dk_62 (dk_at dksX6_board_0 5 rfl rfl)
theorem dX6_board_6 : decode cX6_board 6 = .ok (.aload_n 0, 1) := dk_42 (dk_at dksX6_board_0 6 rfl rfl)
theorem dX6_board_7 : decode cX6_board 7 = .ok (.invokevirtual 180, 3) := dk_182 0 180 (dk_at dksX6_board_0 7 rfl rfl)
theorem dX6_board_10 : decode cX6_board 10 = .ok (.istore 4, 2) := dk_54 4 (dk_at dksX6_board_0 10 rfl rfl)
theorem dX6_board_12 : decode cX6_board 12 = .ok (.iload 4, 2) := dk_21 4 (dk_at dksX6_board_0 12 rfl rfl)
theorem dX6_board_14 : decode cX6_board 14 = .ok (.istore 5, 2) := dk_54 5 (dk_at dksX6_board_0 14 rfl rfl)
theorem dX6_board_16 : decode cX6_board 16 = .ok (.iload 5, 2) := dk_21 5 (dk_at dksX6_board_0 16 rfl rfl)
theorem dX6_board_18 : decode cX6_board 18 = .ok (.ifCond .le 71, 3) := dk_158 0 71 (dk_at dksX6_board_0 18 rfl rfl)
theorem dX6_board_21 : decode cX6_board 21 = .ok (.aload_n 0, 1) := dk_42 (dk_at dksX6_board_0 21 rfl rfl)
theorem dX6_board_22 : decode cX6_board 22 = .ok (.iload 5, 2) := dk_21 5 (dk_at dksX6_board_0 22 rfl rfl)
theorem dX6_board_24 : decode cX6_board 24 = .ok (.invokestatic 174, 3) := dk_184 0 174 (dk_at dksX6_board_1 0 rfl rfl)
theorem dX6_board_27 : decode cX6_board 27 = .ok (.iload 4, 2) := dk_21 4 (dk_at dksX6_board_1 3 rfl rfl)
theorem dX6_board_29 : decode cX6_board 29 = .ok (.invokevirtual 177, 3) := dk_182 0 177 (dk_at dksX6_board_1 5 rfl rfl)
theorem dX6_board_32 : decode cX6_board 32 = .ok (.istore 6, 2) := dk_54 6 (dk_at dksX6_board_1 8 rfl rfl)
theorem dX6_board_34 : decode cX6_board 34 = .ok (.aload_n 0, 1) := dk_42 (dk_at dksX6_board_1 10 rfl rfl)
theorem dX6_board_35 : decode cX6_board 35 = .ok (.iload 6, 2) := dk_21 6 (dk_at dksX6_board_1 11 rfl rfl)
theorem dX6_board_37 : decode cX6_board 37 = .ok (.aload_n 0, 1) := dk_42 (dk_at dksX6_board_1 13 rfl rfl)
theorem dX6_board_38 : decode cX6_board 38 = .ok (.iload 6, 2) := dk_21 6 (dk_at dksX6_board_1 14 rfl rfl)
theorem dX6_board_40 : decode cX6_board 40 = .ok (.invokestatic 174, 3) := dk_184 0 174 (dk_at dksX6_board_1 16 rfl rfl)
theorem dX6_board_43 : decode cX6_board 43 = .ok (.invokevirtual 192, 3) := dk_182 0 192 (dk_at dksX6_board_1 19 rfl rfl)
theorem dX6_board_46 : decode cX6_board 46 = .ok (.invokevirtual 229, 3) := dk_182 0 229 (dk_at dksX6_board_2 0 rfl rfl)
theorem dX6_board_49 : decode cX6_board 49 = .ok (.istore 7, 2) := dk_54 7 (dk_at dksX6_board_2 3 rfl rfl)
theorem dX6_board_51 : decode cX6_board 51 = .ok (.iload_n 1, 1) := dk_27 (dk_at dksX6_board_2 5 rfl rfl)
theorem dX6_board_52 : decode cX6_board 52 = .ok (.iload 7, 2) := dk_21 7 (dk_at dksX6_board_2 6 rfl rfl)
theorem dX6_board_54 : decode cX6_board 54 = .ok (.bipush 31, 2) := dk_16 31 (dk_at dksX6_board_2 8 rfl rfl)
theorem dX6_board_56 : decode cX6_board 56 = .ok (.iand, 1) := dk_126 (dk_at dksX6_board_2 10 rfl rfl)
theorem dX6_board_57 : decode cX6_board 57 = .ok (.ixor, 1) := dk_130 (dk_at dksX6_board_2 11 rfl rfl)
theorem dX6_board_58 : decode cX6_board 58 = .ok (.istore_n 1, 1) := dk_60 (dk_at dksX6_board_2 12 rfl rfl)
theorem dX6_board_59 : decode cX6_board 59 = .ok (.iload_n 2, 1) := dk_28 (dk_at dksX6_board_2 13 rfl rfl)
theorem dX6_board_60 : decode cX6_board 60 = .ok (.iload 7, 2) := dk_21 7 (dk_at dksX6_board_2 14 rfl rfl)
theorem dX6_board_62 : decode cX6_board 62 = .ok (.iconst 5, 1) := dk_8 (dk_at dksX6_board_2 16 rfl rfl)
theorem dX6_board_63 : decode cX6_board 63 = .ok (.ishr, 1) := dk_122 (dk_at dksX6_board_2 17 rfl rfl)
theorem dX6_board_64 : decode cX6_board 64 = .ok (.bipush 31, 2) := dk_16 31 (dk_at dksX6_board_2 18 rfl rfl)
theorem dX6_board_66 : decode cX6_board 66 = .ok (.iand, 1) := dk_126 (dk_at dksX6_board_2 20 rfl rfl)
theorem dX6_board_67 : decode cX6_board 67 = .ok (.iadd, 1) := dk_96 (dk_at dksX6_board_2 21 rfl rfl)
theorem dX6_board_68 : decode cX6_board 68 = .ok (.istore_n 2, 1) := dk_61 (dk_at dksX6_board_2 22 rfl rfl)
theorem dX6_board_69 : decode cX6_board 69 = .ok (.iload_n 3, 1) := dk_29 (dk_at dksX6_board_2 23 rfl rfl)
theorem dX6_board_70 : decode cX6_board 70 = .ok (.iload 7, 2) := dk_21 7 (dk_at dksX6_board_3 0 rfl rfl)
theorem dX6_board_72 : decode cX6_board 72 = .ok (.bipush 10, 2) := dk_16 10 (dk_at dksX6_board_3 2 rfl rfl)
theorem dX6_board_74 : decode cX6_board 74 = .ok (.ishr, 1) := dk_122 (dk_at dksX6_board_3 4 rfl rfl)
theorem dX6_board_75 : decode cX6_board 75 = .ok (.iadd, 1) := dk_96 (dk_at dksX6_board_3 5 rfl rfl)
theorem dX6_board_76 : decode cX6_board 76 = .ok (.istore_n 3, 1) := dk_62 (dk_at dksX6_board_3 6 rfl rfl)
theorem dX6_board_77 : decode cX6_board 77 = .ok (.iload 5, 2) := dk_21 5 (dk_at dksX6_board_3 7 rfl rfl)
theorem dX6_board_79 : decode cX6_board 79 = .ok (.iload 6, 2) := dk_21 6 (dk_at dksX6_board_3 9 rfl rfl)
theorem dX6_board_81 : decode cX6_board 81 = .ok (.iconst (-1), 1) := dk_2 (dk_at dksX6_board_3 11 rfl rfl)
theorem dX6_board_82 : decode cX6_board 82 = .ok (.ixor, 1) := dk_130 (dk_at dksX6_board_3 12 rfl rfl)
theorem dX6_board_83 : decode cX6_board 83 = .ok (.iand, 1) := dk_126 (dk_at dksX6_board_3 13 rfl rfl)
theorem dX6_board_84 : decode cX6_board 84 = .ok (.istore 5, 2) := dk_54 5 (dk_at dksX6_board_3 14 rfl rfl)
theorem dX6_board_86 : decode cX6_board 86 = .ok (.goto (-70), 3) := dk_167 255 186 (dk_at dksX6_board_3 16 rfl rfl)
theorem dX6_board_89 : decode cX6_board 89 = .ok (.iload_n 1, 1) := dk_27 (dk_at dksX6_board_3 19 rfl rfl)
theorem dX6_board_90 : decode cX6_board 90 = .ok (.iload_n 2, 1) := dk_28 (dk_at dksX6_board_3 20 rfl rfl)
theorem dX6_board_91 : decode cX6_board 91 = .ok (.iconst 5, 1) := dk_8 (dk_at dksX6_board_3 21 rfl rfl)
theorem dX6_board_92 : decode cX6_board 92 = .ok (.ishl, 1) := dk_120 (dk_at dksX6_board_3 22 rfl rfl)
theorem dX6_board_93 : decode cX6_board 93 = .ok (.ior, 1) := dk_128 (dk_at dksX6_board_3 23 rfl rfl)
theorem dX6_board_94 : decode cX6_board 94 = .ok (.iload_n 3, 1) := dk_29 (dk_at dksX6_board_4 0 rfl rfl)
theorem dX6_board_95 : decode cX6_board 95 = .ok (.bipush 10, 2) := dk_16 10 (dk_at dksX6_board_4 1 rfl rfl)
theorem dX6_board_97 : decode cX6_board 97 = .ok (.ishl, 1) := dk_120 (dk_at dksX6_board_4 3 rfl rfl)
theorem dX6_board_98 : decode cX6_board 98 = .ok (.ior, 1) := dk_128 (dk_at dksX6_board_4 4 rfl rfl)
theorem dX6_board_99 : decode cX6_board 99 = .ok (.ireturn, 1) := dk_172 (dk_at dksX6_board_4 5 rfl rfl)
abbrev cX6_valueIf : ByteArray := prog_16_method_62_code
def yX6_valueIf : MethodName := ⟨RX6, "valueIf", "(II)I"⟩
def dkwX6_valueIf_2 : List UInt8 := [182, 0, 253, 42, 27, 28, 182, 0, 241, 16, 31, 126, 42, 180, 0, 7, 5, 46, 5, 112, 130, 172]
abbrev dktX6_valueIf_2 : List UInt8 := dkwX6_valueIf_2 ++ []
def dkwX6_valueIf_1 : List UInt8 := [182, 0, 127, 158, 0, 7, 5, 167, 0, 4, 3, 181, 0, 47, 42, 180, 0, 47, 158, 0, 5, 3, 172, 42]
abbrev dktX6_valueIf_1 : List UInt8 := dkwX6_valueIf_1 ++ dktX6_valueIf_2
def dkwX6_valueIf_0 : List UInt8 := [42, 42, 27, 182, 0, 220, 153, 0, 11, 42, 28, 182, 0, 226, 154, 0, 7, 4, 167, 0, 17, 42, 27, 28]
abbrev dktX6_valueIf_0 : List UInt8 := dkwX6_valueIf_0 ++ dktX6_valueIf_1
theorem dksX6_valueIf_0 : cX6_valueIf.data.toList.drop 0 = dktX6_valueIf_0 := by decide +kernel
theorem dksX6_valueIf_1 : cX6_valueIf.data.toList.drop 24 = dktX6_valueIf_1 := dk_seg dksX6_valueIf_0 24 rfl rfl
theorem dksX6_valueIf_2 : cX6_valueIf.data.toList.drop 48 = dktX6_valueIf_2 := dk_seg dksX6_valueIf_1 24 rfl rfl
theorem dX6_valueIf_0 : decode cX6_valueIf 0 = .ok (.aload_n 0, 1) := dk_42 (dk_at dksX6_valueIf_0 0 rfl rfl)
theorem dX6_valueIf_1 : decode cX6_valueIf 1 = .ok (.aload_n 0, 1) := dk_42 (dk_at dksX6_valueIf_0 1 rfl rfl)
theorem dX6_valueIf_2 : decode cX6_valueIf 2 = .ok (.iload_n 1, 1) := dk_27 (dk_at dksX6_valueIf_0 2 rfl rfl)
theorem dX6_valueIf_3 : decode cX6_valueIf 3 = .ok (.invokevirtual 220, 3) := dk_182 0 220 (dk_at dksX6_valueIf_0 3 rfl rfl)
theorem dX6_valueIf_6 : decode cX6_valueIf 6 = .ok (.ifCond .eq 11, 3) := dk_153 0 11 (dk_at dksX6_valueIf_0 6 rfl rfl)
theorem dX6_valueIf_9 : decode cX6_valueIf 9 = .ok (.aload_n 0, 1) := dk_42 (dk_at dksX6_valueIf_0 9 rfl rfl)
theorem dX6_valueIf_10 : decode cX6_valueIf 10 = .ok (.iload_n 2, 1) := dk_28 (dk_at dksX6_valueIf_0 10 rfl rfl)
theorem dX6_valueIf_11 : decode cX6_valueIf 11 = .ok (.invokevirtual 226, 3) := dk_182 0 226 (dk_at dksX6_valueIf_0 11 rfl rfl)
theorem dX6_valueIf_14 : decode cX6_valueIf 14 = .ok (.ifCond .ne 7, 3) := dk_154 0 7 (dk_at dksX6_valueIf_0 14 rfl rfl)
theorem dX6_valueIf_17 : decode cX6_valueIf 17 = .ok (.iconst 1, 1) := dk_4 (dk_at dksX6_valueIf_0 17 rfl rfl)
theorem dX6_valueIf_18 : decode cX6_valueIf 18 = .ok (.goto 17, 3) := dk_167 0 17 (dk_at dksX6_valueIf_0 18 rfl rfl)
theorem dX6_valueIf_21 : decode cX6_valueIf 21 = .ok (.aload_n 0, 1) := dk_42 (dk_at dksX6_valueIf_0 21 rfl rfl)
theorem dX6_valueIf_22 : decode cX6_valueIf 22 = .ok (.iload_n 1, 1) := dk_27 (dk_at dksX6_valueIf_0 22 rfl rfl)
theorem dX6_valueIf_23 : decode cX6_valueIf 23 = .ok (.iload_n 2, 1) := dk_28 (dk_at dksX6_valueIf_0 23 rfl rfl)
theorem dX6_valueIf_24 : decode cX6_valueIf 24 = .ok (.invokevirtual 127, 3) := dk_182 0 127 (dk_at dksX6_valueIf_1 0 rfl rfl)
theorem dX6_valueIf_27 : decode cX6_valueIf 27 = .ok (.ifCond .le 7, 3) := dk_158 0 7 (dk_at dksX6_valueIf_1 3 rfl rfl)
theorem dX6_valueIf_30 : decode cX6_valueIf 30 = .ok (.iconst 2, 1) := dk_5 (dk_at dksX6_valueIf_1 6 rfl rfl)
theorem dX6_valueIf_31 : decode cX6_valueIf 31 = .ok (.goto 4, 3) := dk_167 0 4 (dk_at dksX6_valueIf_1 7 rfl rfl)
theorem dX6_valueIf_34 : decode cX6_valueIf 34 = .ok (.iconst 0, 1) := dk_3 (dk_at dksX6_valueIf_1 10 rfl rfl)
theorem dX6_valueIf_35 : decode cX6_valueIf 35 = .ok (.putfield 47, 3) := dk_181 0 47 (dk_at dksX6_valueIf_1 11 rfl rfl)
theorem dX6_valueIf_38 : decode cX6_valueIf 38 = .ok (.aload_n 0, 1) := dk_42 (dk_at dksX6_valueIf_1 14 rfl rfl)
theorem dX6_valueIf_39 : decode cX6_valueIf 39 = .ok (.getfield 47, 3) := dk_180 0 47 (dk_at dksX6_valueIf_1 15 rfl rfl)
theorem dX6_valueIf_42 : decode cX6_valueIf 42 = .ok (.ifCond .le 5, 3) := dk_158 0 5 (dk_at dksX6_valueIf_1 18 rfl rfl)
theorem dX6_valueIf_45 : decode cX6_valueIf 45 = .ok (.iconst 0, 1) := dk_3 (dk_at dksX6_valueIf_1 21 rfl rfl)
theorem dX6_valueIf_46 : decode cX6_valueIf 46 = .ok (.ireturn, 1) := dk_172 (dk_at dksX6_valueIf_1 22 rfl rfl)
theorem dX6_valueIf_47 : decode cX6_valueIf 47 = .ok (.aload_n 0, 1) := dk_42 (dk_at dksX6_valueIf_1 23 rfl rfl)
theorem dX6_valueIf_48 : decode cX6_valueIf 48 = .ok (.invokevirtual 253, 3) := dk_182 0 253 (dk_at dksX6_valueIf_2 0 rfl rfl)
theorem dX6_valueIf_51 : decode cX6_valueIf 51 = .ok (.aload_n 0, 1) := dk_42 (dk_at dksX6_valueIf_2 3 rfl rfl)
theorem dX6_valueIf_52 : decode cX6_valueIf 52 = .ok (.iload_n 1, 1) := dk_27 (dk_at dksX6_valueIf_2 4 rfl rfl)
theorem dX6_valueIf_53 : decode cX6_valueIf 53 = .ok (.iload_n 2, 1) := dk_28 (dk_at dksX6_valueIf_2 5 rfl rfl)
theorem dX6_valueIf_54 : decode cX6_valueIf 54 = .ok (.invokevirtual 241, 3) := dk_182 0 241 (dk_at dksX6_valueIf_2 6 rfl rfl)
theorem dX6_valueIf_57 : decode cX6_valueIf 57 = .ok (.bipush 31, 2) := dk_16 31 (dk_at dksX6_valueIf_2 9 rfl rfl)
theorem dX6_valueIf_59 : decode cX6_valueIf 59 = .ok (.iand, 1) := dk_126 (dk_at dksX6_valueIf_2 11 rfl rfl)
theorem dX6_valueIf_60 : decode cX6_valueIf 60 = .ok (.aload_n 0, 1) := dk_42 (dk_at dksX6_valueIf_2 12 rfl rfl)
theorem dX6_valueIf_61 : decode cX6_valueIf 61 = .ok (.getfield 7, 3) := dk_180 0 7 (dk_at dksX6_valueIf_2 13 rfl rfl)
theorem dX6_valueIf_64 : decode cX6_valueIf 64 = .ok (.iconst 2, 1) := dk_5 (dk_at dksX6_valueIf_2 16 rfl rfl)
theorem dX6_valueIf_65 : decode cX6_valueIf 65 = .ok (.iaload, 1) := dk_46 (dk_at dksX6_valueIf_2 17 rfl rfl)
theorem dX6_valueIf_66 : decode cX6_valueIf 66 = .ok (.iconst 2, 1) := dk_5 (dk_at dksX6_valueIf_2 18 rfl rfl)
theorem dX6_valueIf_67 : decode cX6_valueIf 67 = .ok (.irem, 1) := dk_112 (dk_at dksX6_valueIf_2 19 rfl rfl)
theorem dX6_valueIf_68 : decode cX6_valueIf 68 = .ok (.ixor, 1) := dk_130 (dk_at dksX6_valueIf_2 20 rfl rfl)
theorem dX6_valueIf_69 : decode cX6_valueIf 69 = .ok (.ireturn, 1) := dk_172 (dk_at dksX6_valueIf_2 21 rfl rfl)
abbrev cX6_boardIf : ByteArray := prog_16_method_55_code
def yX6_boardIf : MethodName := ⟨RX6, "boardIf", "(II)I"⟩
def dkwX6_boardIf_6 : List UInt8 := [132, 5, 1, 167, 255, 229, 21, 4, 172]
abbrev dktX6_boardIf_6 : List UInt8 := dkwX6_boardIf_6 ++ []
def dkwX6_boardIf_5 : List UInt8 := [16, 9, 162, 0, 26, 42, 180, 0, 7, 16, 31, 21, 5, 96, 42, 180, 0, 41, 21, 5, 46, 79]
abbrev dktX6_boardIf_5 : List UInt8 := dkwX6_boardIf_5 ++ dktX6_boardIf_6
def dkwX6_boardIf_4 : List UInt8 := [4, 96, 79, 42, 182, 0, 238, 54, 4, 42, 180, 0, 7, 16, 22, 27, 96, 3, 79, 3, 54, 5, 21, 5]
abbrev dktX6_boardIf_4 : List UInt8 := dkwX6_boardIf_4 ++ dktX6_boardIf_5
def dkwX6_boardIf_3 : List UInt8 := [16, 31, 21, 4, 96, 28, 4, 96, 79, 132, 4, 1, 167, 255, 219, 42, 180, 0, 7, 16, 22, 27, 96, 28]
abbrev dktX6_boardIf_3 : List UInt8 := dkwX6_boardIf_3 ++ dktX6_boardIf_4
def dkwX6_boardIf_2 : List UInt8 := [42, 180, 0, 7, 3, 46, 162, 0, 32, 29, 21, 4, 122, 4, 126, 4, 160, 0, 16, 42, 180, 0, 7]
abbrev dktX6_boardIf_2 : List UInt8 := dkwX6_boardIf_2 ++ dktX6_boardIf_3
def dkwX6_boardIf_1 : List UInt8 := [21, 4, 42, 180, 0, 7, 16, 31, 21, 4, 96, 46, 79, 132, 4, 1, 167, 255, 229, 3, 54, 4, 21, 4]
abbrev dktX6_boardIf_1 : List UInt8 := dkwX6_boardIf_1 ++ dktX6_boardIf_2
def dkwX6_boardIf_0 : List UInt8 := [42, 27, 42, 182, 0, 180, 182, 0, 177, 62, 3, 54, 4, 21, 4, 16, 9, 162, 0, 26, 42, 180, 0, 41]
abbrev dktX6_boardIf_0 : List UInt8 := dkwX6_boardIf_0 ++ dktX6_boardIf_1
theorem dksX6_boardIf_0 : cX6_boardIf.data.toList.drop 0 = dktX6_boardIf_0 := by decide +kernel
theorem dksX6_boardIf_1 : cX6_boardIf.data.toList.drop 24 = dktX6_boardIf_1 := dk_seg dksX6_boardIf_0 24 rfl rfl
theorem dksX6_boardIf_2 : cX6_boardIf.data.toList.drop 48 = dktX6_boardIf_2 := dk_seg dksX6_boardIf_1 24 rfl rfl
theorem dksX6_boardIf_3 : cX6_boardIf.data.toList.drop 71 = dktX6_boardIf_3 := dk_seg dksX6_boardIf_2 23 rfl rfl
theorem dksX6_boardIf_4 : cX6_boardIf.data.toList.drop 95 = dktX6_boardIf_4 := dk_seg dksX6_boardIf_3 24 rfl rfl
theorem dksX6_boardIf_5 : cX6_boardIf.data.toList.drop 119 = dktX6_boardIf_5 := dk_seg dksX6_boardIf_4 24 rfl rfl
theorem dksX6_boardIf_6 : cX6_boardIf.data.toList.drop 141 = dktX6_boardIf_6 := dk_seg dksX6_boardIf_5 22 rfl rfl
theorem dX6_boardIf_0 : decode cX6_boardIf 0 = .ok (.aload_n 0, 1) := dk_42 (dk_at dksX6_boardIf_0 0 rfl rfl)
theorem dX6_boardIf_1 : decode cX6_boardIf 1 = .ok (.iload_n 1, 1) := dk_27 (dk_at dksX6_boardIf_0 1 rfl rfl)
theorem dX6_boardIf_2 : decode cX6_boardIf 2 = .ok (.aload_n 0, 1) := dk_42 (dk_at dksX6_boardIf_0 2 rfl rfl)
theorem dX6_boardIf_3 : decode cX6_boardIf 3 = .ok (.invokevirtual 180, 3) := dk_182 0 180 (dk_at dksX6_boardIf_0 3 rfl rfl)
theorem dX6_boardIf_6 : decode cX6_boardIf 6 = .ok (.invokevirtual 177, 3) := dk_182 0 177 (dk_at dksX6_boardIf_0 6 rfl rfl)
theorem dX6_boardIf_9 : decode cX6_boardIf 9 = .ok (.istore_n 3, 1) := dk_62 (dk_at dksX6_boardIf_0 9 rfl rfl)
theorem dX6_boardIf_10 : decode cX6_boardIf 10 = .ok (.iconst 0, 1) := dk_3 (dk_at dksX6_boardIf_0 10 rfl rfl)
theorem dX6_boardIf_11 : decode cX6_boardIf 11 = .ok (.istore 4, 2) := dk_54 4 (dk_at dksX6_boardIf_0 11 rfl rfl)
theorem dX6_boardIf_13 : decode cX6_boardIf 13 = .ok (.iload 4, 2) := dk_21 4 (dk_at dksX6_boardIf_0 13 rfl rfl)
theorem dX6_boardIf_15 : decode cX6_boardIf 15 = .ok (.bipush 9, 2) := dk_16 9 (dk_at dksX6_boardIf_0 15 rfl rfl)
theorem dX6_boardIf_17 : decode cX6_boardIf 17 = .ok (.if_icmp .ge 26, 3) := dk_162 0 26 (dk_at dksX6_boardIf_0 17 rfl rfl)
theorem dX6_boardIf_20 : decode cX6_boardIf 20 = .ok (.aload_n 0, 1) := dk_42 (dk_at dksX6_boardIf_0 20 rfl rfl)
theorem dX6_boardIf_21 : decode cX6_boardIf 21 = .ok (.getfield 41, 3) := dk_180 0 41 (dk_at dksX6_boardIf_0 21 rfl rfl)
theorem dX6_boardIf_24 : decode cX6_boardIf 24 = .ok (.iload 4, 2) := dk_21 4 (dk_at dksX6_boardIf_1 0 rfl rfl)
theorem dX6_boardIf_26 : decode cX6_boardIf 26 = .ok (.aload_n 0, 1) := dk_42 (dk_at dksX6_boardIf_1 2 rfl rfl)
theorem dX6_boardIf_27 : decode cX6_boardIf 27 = .ok (.getfield 7, 3) := dk_180 0 7 (dk_at dksX6_boardIf_1 3 rfl rfl)
theorem dX6_boardIf_30 : decode cX6_boardIf 30 = .ok (.bipush 31, 2) := dk_16 31 (dk_at dksX6_boardIf_1 6 rfl rfl)
theorem dX6_boardIf_32 : decode cX6_boardIf 32 = .ok (.iload 4, 2) := dk_21 4 (dk_at dksX6_boardIf_1 8 rfl rfl)
theorem dX6_boardIf_34 : decode cX6_boardIf 34 = .ok (.iadd, 1) := dk_96 (dk_at dksX6_boardIf_1 10 rfl rfl)
theorem dX6_boardIf_35 : decode cX6_boardIf 35 = .ok (.iaload, 1) := dk_46 (dk_at dksX6_boardIf_1 11 rfl rfl)
theorem dX6_boardIf_36 : decode cX6_boardIf 36 = .ok (.iastore, 1) := dk_79 (dk_at dksX6_boardIf_1 12 rfl rfl)
theorem dX6_boardIf_37 : decode cX6_boardIf 37 = .ok (.iinc 4 1, 3) := dk_132 4 1 (dk_at dksX6_boardIf_1 13 rfl rfl)
theorem dX6_boardIf_40 : decode cX6_boardIf 40 = .ok (.goto (-27), 3) := dk_167 255 229 (dk_at dksX6_boardIf_1 16 rfl rfl)
theorem dX6_boardIf_43 : decode cX6_boardIf 43 = .ok (.iconst 0, 1) := dk_3 (dk_at dksX6_boardIf_1 19 rfl rfl)
theorem dX6_boardIf_44 : decode cX6_boardIf 44 = .ok (.istore 4, 2) := dk_54 4 (dk_at dksX6_boardIf_1 20 rfl rfl)
theorem dX6_boardIf_46 : decode cX6_boardIf 46 = .ok (.iload 4, 2) := dk_21 4 (dk_at dksX6_boardIf_1 22 rfl rfl)
theorem dX6_boardIf_48 : decode cX6_boardIf 48 = .ok (.aload_n 0, 1) := dk_42 (dk_at dksX6_boardIf_2 0 rfl rfl)
theorem dX6_boardIf_49 : decode cX6_boardIf 49 = .ok (.getfield 7, 3) := dk_180 0 7 (dk_at dksX6_boardIf_2 1 rfl rfl)
theorem dX6_boardIf_52 : decode cX6_boardIf 52 = .ok (.iconst 0, 1) := dk_3 (dk_at dksX6_boardIf_2 4 rfl rfl)
theorem dX6_boardIf_53 : decode cX6_boardIf 53 = .ok (.iaload, 1) := dk_46 (dk_at dksX6_boardIf_2 5 rfl rfl)
theorem dX6_boardIf_54 : decode cX6_boardIf 54 = .ok (.if_icmp .ge 32, 3) := dk_162 0 32 (dk_at dksX6_boardIf_2 6 rfl rfl)
theorem dX6_boardIf_57 : decode cX6_boardIf 57 = .ok (.iload_n 3, 1) := dk_29 (dk_at dksX6_boardIf_2 9 rfl rfl)
theorem dX6_boardIf_58 : decode cX6_boardIf 58 = .ok (.iload 4, 2) := dk_21 4 (dk_at dksX6_boardIf_2 10 rfl rfl)
theorem dX6_boardIf_60 : decode cX6_boardIf 60 = .ok (.ishr, 1) := dk_122 (dk_at dksX6_boardIf_2 12 rfl rfl)
theorem dX6_boardIf_61 : decode cX6_boardIf 61 = .ok (.iconst 1, 1) := dk_4 (dk_at dksX6_boardIf_2 13 rfl rfl)
theorem dX6_boardIf_62 : decode cX6_boardIf 62 = .ok (.iand, 1) := dk_126 (dk_at dksX6_boardIf_2 14 rfl rfl)
theorem dX6_boardIf_63 : decode cX6_boardIf 63 = .ok (.iconst 1, 1) := dk_4 (dk_at dksX6_boardIf_2 15 rfl rfl)
theorem dX6_boardIf_64 : decode cX6_boardIf 64 = .ok (.if_icmp .ne 16, 3) := dk_160 0 16 (dk_at dksX6_boardIf_2 16 rfl rfl)
theorem dX6_boardIf_67 : decode cX6_boardIf 67 = .ok (.aload_n 0, 1) := dk_42 (dk_at dksX6_boardIf_2 19 rfl rfl)
theorem dX6_boardIf_68 : decode cX6_boardIf 68 = .ok (.getfield 7, 3) := dk_180 0 7 (dk_at dksX6_boardIf_2 20 rfl rfl)
theorem dX6_boardIf_71 : decode cX6_boardIf 71 = .ok (.bipush 31, 2) := dk_16 31 (dk_at dksX6_boardIf_3 0 rfl rfl)
theorem dX6_boardIf_73 : decode cX6_boardIf 73 = .ok (.iload 4, 2) := dk_21 4 (dk_at dksX6_boardIf_3 2 rfl rfl)
theorem dX6_boardIf_75 : decode cX6_boardIf 75 = .ok (.iadd, 1) := dk_96 (dk_at dksX6_boardIf_3 4 rfl rfl)
theorem dX6_boardIf_76 : decode cX6_boardIf 76 = .ok (.iload_n 2, 1) := dk_28 (dk_at dksX6_boardIf_3 5 rfl rfl)
theorem dX6_boardIf_77 : decode cX6_boardIf 77 = .ok (.iconst 1, 1) := dk_4 (dk_at dksX6_boardIf_3 6 rfl rfl)
theorem dX6_boardIf_78 : decode cX6_boardIf 78 = .ok (.iadd, 1) := dk_96 (dk_at dksX6_boardIf_3 7 rfl rfl)
theorem dX6_boardIf_79 : decode cX6_boardIf 79 = .ok (.iastore, 1) := dk_79 (dk_at dksX6_boardIf_3 8 rfl rfl)
theorem dX6_boardIf_80 : decode cX6_boardIf 80 = .ok (.iinc 4 1, 3) := dk_132 4 1 (dk_at dksX6_boardIf_3 9 rfl rfl)
theorem dX6_boardIf_83 : decode cX6_boardIf 83 = .ok (.goto (-37), 3) := dk_167 255 219 (dk_at dksX6_boardIf_3 12 rfl rfl)
theorem dX6_boardIf_86 : decode cX6_boardIf 86 = .ok (.aload_n 0, 1) := dk_42 (dk_at dksX6_boardIf_3 15 rfl rfl)
theorem dX6_boardIf_87 : decode cX6_boardIf 87 = .ok (.getfield 7, 3) := dk_180 0 7 (dk_at dksX6_boardIf_3 16 rfl rfl)
theorem dX6_boardIf_90 : decode cX6_boardIf 90 = .ok (.bipush 22, 2) := dk_16 22 (dk_at dksX6_boardIf_3 19 rfl rfl)
theorem dX6_boardIf_92 : decode cX6_boardIf 92 = .ok (.iload_n 1, 1) := dk_27 (dk_at dksX6_boardIf_3 21 rfl rfl)
theorem dX6_boardIf_93 : decode cX6_boardIf 93 = .ok (.iadd, 1) := dk_96 (dk_at dksX6_boardIf_3 22 rfl rfl)
theorem dX6_boardIf_94 : decode cX6_boardIf 94 = .ok (.iload_n 2, 1) := dk_28 (dk_at dksX6_boardIf_3 23 rfl rfl)
theorem dX6_boardIf_95 : decode cX6_boardIf 95 = .ok (.iconst 1, 1) := dk_4 (dk_at dksX6_boardIf_4 0 rfl rfl)
theorem dX6_boardIf_96 : decode cX6_boardIf 96 = .ok (.iadd, 1) := dk_96 (dk_at dksX6_boardIf_4 1 rfl rfl)
theorem dX6_boardIf_97 : decode cX6_boardIf 97 = .ok (.iastore, 1) := dk_79 (dk_at dksX6_boardIf_4 2 rfl rfl)
theorem dX6_boardIf_98 : decode cX6_boardIf 98 = .ok (.aload_n 0, 1) := dk_42 (dk_at dksX6_boardIf_4 3 rfl rfl)
theorem dX6_boardIf_99 : decode cX6_boardIf 99 = .ok (.invokevirtual 238, 3) := dk_182 0 238 (dk_at dksX6_boardIf_4 4 rfl rfl)
theorem dX6_boardIf_102 : decode cX6_boardIf 102 = .ok (.istore 4, 2) := dk_54 4 (dk_at dksX6_boardIf_4 7 rfl rfl)
theorem dX6_boardIf_104 : decode cX6_boardIf 104 = .ok (.aload_n 0, 1) := dk_42 (dk_at dksX6_boardIf_4 9 rfl rfl)
theorem dX6_boardIf_105 : decode cX6_boardIf 105 = .ok (.getfield 7, 3) := dk_180 0 7 (dk_at dksX6_boardIf_4 10 rfl rfl)
theorem dX6_boardIf_108 : decode cX6_boardIf 108 = .ok (.bipush 22, 2) := dk_16 22 (dk_at dksX6_boardIf_4 13 rfl rfl)
theorem dX6_boardIf_110 : decode cX6_boardIf 110 = .ok (.iload_n 1, 1) := dk_27 (dk_at dksX6_boardIf_4 15 rfl rfl)
theorem dX6_boardIf_111 : decode cX6_boardIf 111 = .ok (.iadd, 1) := dk_96 (dk_at dksX6_boardIf_4 16 rfl rfl)
theorem dX6_boardIf_112 : decode cX6_boardIf 112 = .ok (.iconst 0, 1) := dk_3 (dk_at dksX6_boardIf_4 17 rfl rfl)
theorem dX6_boardIf_113 : decode cX6_boardIf 113 = .ok (.iastore, 1) := dk_79 (dk_at dksX6_boardIf_4 18 rfl rfl)
theorem dX6_boardIf_114 : decode cX6_boardIf 114 = .ok (.iconst 0, 1) := dk_3 (dk_at dksX6_boardIf_4 19 rfl rfl)
theorem dX6_boardIf_115 : decode cX6_boardIf 115 = .ok (.istore 5, 2) := dk_54 5 (dk_at dksX6_boardIf_4 20 rfl rfl)
theorem dX6_boardIf_117 : decode cX6_boardIf 117 = .ok (.iload 5, 2) := dk_21 5 (dk_at dksX6_boardIf_4 22 rfl rfl)
theorem dX6_boardIf_119 : decode cX6_boardIf 119 = .ok (.bipush 9, 2) := dk_16 9 (dk_at dksX6_boardIf_5 0 rfl rfl)
theorem dX6_boardIf_121 : decode cX6_boardIf 121 = .ok (.if_icmp .ge 26, 3) := dk_162 0 26 (dk_at dksX6_boardIf_5 2 rfl rfl)
theorem dX6_boardIf_124 : decode cX6_boardIf 124 = .ok (.aload_n 0, 1) := dk_42 (dk_at dksX6_boardIf_5 5 rfl rfl)
theorem dX6_boardIf_125 : decode cX6_boardIf 125 = .ok (.getfield 7, 3) := dk_180 0 7 (dk_at dksX6_boardIf_5 6 rfl rfl)
theorem dX6_boardIf_128 : decode cX6_boardIf 128 = .ok (.bipush 31, 2) := dk_16 31 (dk_at dksX6_boardIf_5 9 rfl rfl)
theorem dX6_boardIf_130 : decode cX6_boardIf 130 = .ok (.iload 5, 2) := dk_21 5 (dk_at dksX6_boardIf_5 11 rfl rfl)
theorem dX6_boardIf_132 : decode cX6_boardIf 132 = .ok (.iadd, 1) := dk_96 (dk_at dksX6_boardIf_5 13 rfl rfl)
theorem dX6_boardIf_133 : decode cX6_boardIf 133 = .ok (.aload_n 0, 1) := dk_42 (dk_at dksX6_boardIf_5 14 rfl rfl)
theorem dX6_boardIf_134 : decode cX6_boardIf 134 = .ok (.getfield 41, 3) := dk_180 0 41 (dk_at dksX6_boardIf_5 15 rfl rfl)
theorem dX6_boardIf_137 : decode cX6_boardIf 137 = .ok (.iload 5, 2) := dk_21 5 (dk_at dksX6_boardIf_5 18 rfl rfl)
theorem dX6_boardIf_139 : decode cX6_boardIf 139 = .ok (.iaload, 1) := dk_46 (dk_at dksX6_boardIf_5 20 rfl rfl)
theorem dX6_boardIf_140 : decode cX6_boardIf 140 = .ok (.iastore, 1) := dk_79 (dk_at dksX6_boardIf_5 21 rfl rfl)
theorem dX6_boardIf_141 : decode cX6_boardIf 141 = .ok (.iinc 5 1, 3) := dk_132 5 1 (dk_at dksX6_boardIf_6 0 rfl rfl)
theorem dX6_boardIf_144 : decode cX6_boardIf 144 = .ok (.goto (-27), 3) := dk_167 255 229 (dk_at dksX6_boardIf_6 3 rfl rfl)
theorem dX6_boardIf_147 : decode cX6_boardIf 147 = .ok (.iload 4, 2) := dk_21 4 (dk_at dksX6_boardIf_6 6 rfl rfl)
theorem dX6_boardIf_149 : decode cX6_boardIf 149 = .ok (.ireturn, 1) := dk_172 (dk_at dksX6_boardIf_6 8 rfl rfl)
abbrev cX6_winningMoves : ByteArray := prog_16_method_63_code
def yX6_winningMoves : MethodName := ⟨RX6, "winningMoves", "()I"⟩
def dkwX6_winningMoves_2 : List UInt8 := [167, 255, 232, 27, 172]
abbrev dktX6_winningMoves_2 : List UInt8 := dkwX6_winningMoves_2 ++ []
def dkwX6_winningMoves_1 : List UInt8 := [28, 42, 180, 0, 7, 3, 46, 162, 0, 20, 27, 42, 28, 182, 1, 6, 184, 0, 189, 96, 60, 132, 2, 1]
abbrev dktX6_winningMoves_1 : List UInt8 := dkwX6_winningMoves_1 ++ dktX6_winningMoves_2
def dkwX6_winningMoves_0 : List UInt8 := [42, 3, 181, 0, 47, 42, 182, 0, 253, 42, 182, 1, 3, 153, 0, 7, 4, 167, 0, 4, 3, 60, 3, 61]
abbrev dktX6_winningMoves_0 : List UInt8 := dkwX6_winningMoves_0 ++ dktX6_winningMoves_1
theorem dksX6_winningMoves_0 : cX6_winningMoves.data.toList.drop 0 = dktX6_winningMoves_0 := by decide +kernel
theorem dksX6_winningMoves_1 : cX6_winningMoves.data.toList.drop 24 = dktX6_winningMoves_1 := dk_seg dksX6_winningMoves_0 24 rfl rfl
theorem dksX6_winningMoves_2 : cX6_winningMoves.data.toList.drop 48 = dktX6_winningMoves_2 := dk_seg dksX6_winningMoves_1 24 rfl rfl
theorem dX6_winningMoves_0 : decode cX6_winningMoves 0 = .ok (.aload_n 0, 1) := dk_42 (dk_at dksX6_winningMoves_0 0 rfl rfl)
theorem dX6_winningMoves_1 : decode cX6_winningMoves 1 = .ok (.iconst 0, 1) := dk_3 (dk_at dksX6_winningMoves_0 1 rfl rfl)
theorem dX6_winningMoves_2 : decode cX6_winningMoves 2 = .ok (.putfield 47, 3) := dk_181 0 47 (dk_at dksX6_winningMoves_0 2 rfl rfl)
theorem dX6_winningMoves_5 : decode cX6_winningMoves 5 = .ok (.aload_n 0, 1) := dk_42 (dk_at dksX6_winningMoves_0 5 rfl rfl)
theorem dX6_winningMoves_6 : decode cX6_winningMoves 6 = .ok (.invokevirtual 253, 3) := dk_182 0 253 (dk_at dksX6_winningMoves_0 6 rfl rfl)
theorem dX6_winningMoves_9 : decode cX6_winningMoves 9 = .ok (.aload_n 0, 1) := dk_42 (dk_at dksX6_winningMoves_0 9 rfl rfl)
theorem dX6_winningMoves_10 : decode cX6_winningMoves 10 = .ok (.invokevirtual 259, 3) := dk_182 1 3 (dk_at dksX6_winningMoves_0 10 rfl rfl)
theorem dX6_winningMoves_13 : decode cX6_winningMoves 13 = .ok (.ifCond .eq 7, 3) := dk_153 0 7 (dk_at dksX6_winningMoves_0 13 rfl rfl)
theorem dX6_winningMoves_16 : decode cX6_winningMoves 16 = .ok (.iconst 1, 1) := dk_4 (dk_at dksX6_winningMoves_0 16 rfl rfl)
theorem dX6_winningMoves_17 : decode cX6_winningMoves 17 = .ok (.goto 4, 3) := dk_167 0 4 (dk_at dksX6_winningMoves_0 17 rfl rfl)
theorem dX6_winningMoves_20 : decode cX6_winningMoves 20 = .ok (.iconst 0, 1) := dk_3 (dk_at dksX6_winningMoves_0 20 rfl rfl)
theorem dX6_winningMoves_21 : decode cX6_winningMoves 21 = .ok (.istore_n 1, 1) := dk_60 (dk_at dksX6_winningMoves_0 21 rfl rfl)
theorem dX6_winningMoves_22 : decode cX6_winningMoves 22 = .ok (.iconst 0, 1) := dk_3 (dk_at dksX6_winningMoves_0 22 rfl rfl)
theorem dX6_winningMoves_23 : decode cX6_winningMoves 23 = .ok (.istore_n 2, 1) := dk_61 (dk_at dksX6_winningMoves_0 23 rfl rfl)
theorem dX6_winningMoves_24 : decode cX6_winningMoves 24 = .ok (.iload_n 2, 1) := dk_28 (dk_at dksX6_winningMoves_1 0 rfl rfl)
theorem dX6_winningMoves_25 : decode cX6_winningMoves 25 = .ok (.aload_n 0, 1) := dk_42 (dk_at dksX6_winningMoves_1 1 rfl rfl)
theorem dX6_winningMoves_26 : decode cX6_winningMoves 26 = .ok (.getfield 7, 3) := dk_180 0 7 (dk_at dksX6_winningMoves_1 2 rfl rfl)
theorem dX6_winningMoves_29 : decode cX6_winningMoves 29 = .ok (.iconst 0, 1) := dk_3 (dk_at dksX6_winningMoves_1 5 rfl rfl)
theorem dX6_winningMoves_30 : decode cX6_winningMoves 30 = .ok (.iaload, 1) := dk_46 (dk_at dksX6_winningMoves_1 6 rfl rfl)
theorem dX6_winningMoves_31 : decode cX6_winningMoves 31 = .ok (.if_icmp .ge 20, 3) := dk_162 0 20 (dk_at dksX6_winningMoves_1 7 rfl rfl)
theorem dX6_winningMoves_34 : decode cX6_winningMoves 34 = .ok (.iload_n 1, 1) := dk_27 (dk_at dksX6_winningMoves_1 10 rfl rfl)
theorem dX6_winningMoves_35 : decode cX6_winningMoves 35 = .ok (.aload_n 0, 1) := dk_42 (dk_at dksX6_winningMoves_1 11 rfl rfl)
theorem dX6_winningMoves_36 : decode cX6_winningMoves 36 = .ok (.iload_n 2, 1) := dk_28 (dk_at dksX6_winningMoves_1 12 rfl rfl)
theorem dX6_winningMoves_37 : decode cX6_winningMoves 37 = .ok (.invokevirtual 262, 3) := dk_182 1 6 (dk_at dksX6_winningMoves_1 13 rfl rfl)
theorem dX6_winningMoves_40 : decode cX6_winningMoves 40 = .ok (.invokestatic 189, 3) := dk_184 0 189 (dk_at dksX6_winningMoves_1 16 rfl rfl)
theorem dX6_winningMoves_43 : decode cX6_winningMoves 43 = .ok (.iadd, 1) := dk_96 (dk_at dksX6_winningMoves_1 19 rfl rfl)
theorem dX6_winningMoves_44 : decode cX6_winningMoves 44 = .ok (.istore_n 1, 1) := dk_60 (dk_at dksX6_winningMoves_1 20 rfl rfl)
theorem dX6_winningMoves_45 : decode cX6_winningMoves 45 = .ok (.iinc 2 1, 3) := dk_132 2 1 (dk_at dksX6_winningMoves_1 21 rfl rfl)
theorem dX6_winningMoves_48 : decode cX6_winningMoves 48 = .ok (.goto (-24), 3) := dk_167 255 232 (dk_at dksX6_winningMoves_2 0 rfl rfl)
theorem dX6_winningMoves_51 : decode cX6_winningMoves 51 = .ok (.iload_n 1, 1) := dk_27 (dk_at dksX6_winningMoves_2 3 rfl rfl)
theorem dX6_winningMoves_52 : decode cX6_winningMoves 52 = .ok (.ireturn, 1) := dk_172 (dk_at dksX6_winningMoves_2 4 rfl rfl)
abbrev cX6_passWins : ByteArray := prog_16_method_57_code
def yX6_passWins : MethodName := ⟨RX6, "passWins", "()Z"⟩
def dkwX6_passWins_1 : List UInt8 := [5, 112, 130, 154, 0, 7, 4, 167, 0, 4, 3, 172]
abbrev dktX6_passWins_1 : List UInt8 := dkwX6_passWins_1 ++ []
def dkwX6_passWins_0 : List UInt8 := [42, 180, 0, 7, 5, 46, 158, 0, 28, 42, 182, 0, 238, 16, 31, 126, 42, 180, 0, 7, 5, 46, 4, 100]
abbrev dktX6_passWins_0 : List UInt8 := dkwX6_passWins_0 ++ dktX6_passWins_1
theorem dksX6_passWins_0 : cX6_passWins.data.toList.drop 0 = dktX6_passWins_0 := by decide +kernel
theorem dksX6_passWins_1 : cX6_passWins.data.toList.drop 24 = dktX6_passWins_1 := dk_seg dksX6_passWins_0 24 rfl rfl
theorem dX6_passWins_0 : decode cX6_passWins 0 = .ok (.aload_n 0, 1) := dk_42 (dk_at dksX6_passWins_0 0 rfl rfl)
theorem dX6_passWins_1 : decode cX6_passWins 1 = .ok (.getfield 7, 3) := dk_180 0 7 (dk_at dksX6_passWins_0 1 rfl rfl)
theorem dX6_passWins_4 : decode cX6_passWins 4 = .ok (.iconst 2, 1) := dk_5 (dk_at dksX6_passWins_0 4 rfl rfl)
theorem dX6_passWins_5 : decode cX6_passWins 5 = .ok (.iaload, 1) := dk_46 (dk_at dksX6_passWins_0 5 rfl rfl)
theorem dX6_passWins_6 : decode cX6_passWins 6 = .ok (.ifCond .le 28, 3) := dk_158 0 28 (dk_at dksX6_passWins_0 6 rfl rfl)
theorem dX6_passWins_9 : decode cX6_passWins 9 = .ok (.aload_n 0, 1) := dk_42 (dk_at dksX6_passWins_0 9 rfl rfl)
theorem dX6_passWins_10 : decode cX6_passWins 10 = .ok (.invokevirtual 238, 3) := dk_182 0 238 (dk_at dksX6_passWins_0 10 rfl rfl)
theorem dX6_passWins_13 : decode cX6_passWins 13 = .ok (.bipush 31, 2) := dk_16 31 (dk_at dksX6_passWins_0 13 rfl rfl)
theorem dX6_passWins_15 : decode cX6_passWins 15 = .ok (.iand, 1) := dk_126 (dk_at dksX6_passWins_0 15 rfl rfl)
theorem dX6_passWins_16 : decode cX6_passWins 16 = .ok (.aload_n 0, 1) := dk_42 (dk_at dksX6_passWins_0 16 rfl rfl)
theorem dX6_passWins_17 : decode cX6_passWins 17 = .ok (.getfield 7, 3) := dk_180 0 7 (dk_at dksX6_passWins_0 17 rfl rfl)
theorem dX6_passWins_20 : decode cX6_passWins 20 = .ok (.iconst 2, 1) := dk_5 (dk_at dksX6_passWins_0 20 rfl rfl)
theorem dX6_passWins_21 : decode cX6_passWins 21 = .ok (.iaload, 1) := dk_46 (dk_at dksX6_passWins_0 21 rfl rfl)
theorem dX6_passWins_22 : decode cX6_passWins 22 = .ok (.iconst 1, 1) := dk_4 (dk_at dksX6_passWins_0 22 rfl rfl)
theorem dX6_passWins_23 : decode cX6_passWins 23 = .ok (.isub, 1) := dk_100 (dk_at dksX6_passWins_0 23 rfl rfl)
theorem dX6_passWins_24 : decode cX6_passWins 24 = .ok (.iconst 2, 1) := dk_5 (dk_at dksX6_passWins_1 0 rfl rfl)
theorem dX6_passWins_25 : decode cX6_passWins 25 = .ok (.irem, 1) := dk_112 (dk_at dksX6_passWins_1 1 rfl rfl)
theorem dX6_passWins_26 : decode cX6_passWins 26 = .ok (.ixor, 1) := dk_130 (dk_at dksX6_passWins_1 2 rfl rfl)
theorem dX6_passWins_27 : decode cX6_passWins 27 = .ok (.ifCond .ne 7, 3) := dk_154 0 7 (dk_at dksX6_passWins_1 3 rfl rfl)
theorem dX6_passWins_30 : decode cX6_passWins 30 = .ok (.iconst 1, 1) := dk_4 (dk_at dksX6_passWins_1 6 rfl rfl)
theorem dX6_passWins_31 : decode cX6_passWins 31 = .ok (.goto 4, 3) := dk_167 0 4 (dk_at dksX6_passWins_1 7 rfl rfl)
theorem dX6_passWins_34 : decode cX6_passWins 34 = .ok (.iconst 0, 1) := dk_3 (dk_at dksX6_passWins_1 10 rfl rfl)
theorem dX6_passWins_35 : decode cX6_passWins 35 = .ok (.ireturn, 1) := dk_172 (dk_at dksX6_passWins_1 11 rfl rfl)
abbrev cX6_winningOn : ByteArray := prog_16_method_56_code
def yX6_winningOn : MethodName := ⟨RX6, "winningOn", "(I)I"⟩
def dkwX6_winningOn_2 : List UInt8 := [46, 5, 112, 130, 154, 0, 10, 29, 4, 21, 4, 120, 128, 62, 132, 4, 1, 167, 255, 203, 29, 172]
abbrev dktX6_winningOn_2 : List UInt8 := dkwX6_winningOn_2 ++ []
def dkwX6_winningOn_1 : List UInt8 := [21, 4, 122, 4, 126, 4, 160, 0, 32, 42, 27, 21, 4, 182, 0, 241, 16, 31, 126, 42, 180, 0, 7, 5]
abbrev dktX6_winningOn_1 : List UInt8 := dkwX6_winningOn_1 ++ dktX6_winningOn_2
def dkwX6_winningOn_0 : List UInt8 := [42, 27, 182, 0, 199, 61, 3, 62, 3, 54, 4, 21, 4, 42, 180, 0, 7, 4, 46, 162, 0, 48, 28]
abbrev dktX6_winningOn_0 : List UInt8 := dkwX6_winningOn_0 ++ dktX6_winningOn_1
theorem dksX6_winningOn_0 : cX6_winningOn.data.toList.drop 0 = dktX6_winningOn_0 := by decide +kernel
theorem dksX6_winningOn_1 : cX6_winningOn.data.toList.drop 23 = dktX6_winningOn_1 := dk_seg dksX6_winningOn_0 23 rfl rfl
theorem dksX6_winningOn_2 : cX6_winningOn.data.toList.drop 47 = dktX6_winningOn_2 := dk_seg dksX6_winningOn_1 24 rfl rfl
theorem dX6_winningOn_0 : decode cX6_winningOn 0 = .ok (.aload_n 0, 1) := dk_42 (dk_at dksX6_winningOn_0 0 rfl rfl)
theorem dX6_winningOn_1 : decode cX6_winningOn 1 = .ok (.iload_n 1, 1) := dk_27 (dk_at dksX6_winningOn_0 1 rfl rfl)
theorem dX6_winningOn_2 : decode cX6_winningOn 2 = .ok (.invokevirtual 199, 3) := dk_182 0 199 (dk_at dksX6_winningOn_0 2 rfl rfl)
theorem dX6_winningOn_5 : decode cX6_winningOn 5 = .ok (.istore_n 2, 1) := dk_61 (dk_at dksX6_winningOn_0 5 rfl rfl)
theorem dX6_winningOn_6 : decode cX6_winningOn 6 = .ok (.iconst 0, 1) := dk_3 (dk_at dksX6_winningOn_0 6 rfl rfl)
theorem dX6_winningOn_7 : decode cX6_winningOn 7 = .ok (.istore_n 3, 1) := dk_62 (dk_at dksX6_winningOn_0 7 rfl rfl)
theorem dX6_winningOn_8 : decode cX6_winningOn 8 = .ok (.iconst 0, 1) := dk_3 (dk_at dksX6_winningOn_0 8 rfl rfl)
theorem dX6_winningOn_9 : decode cX6_winningOn 9 = .ok (.istore 4, 2) := dk_54 4 (dk_at dksX6_winningOn_0 9 rfl rfl)
theorem dX6_winningOn_11 : decode cX6_winningOn 11 = .ok (.iload 4, 2) := dk_21 4 (dk_at dksX6_winningOn_0 11 rfl rfl)
theorem dX6_winningOn_13 : decode cX6_winningOn 13 = .ok (.aload_n 0, 1) := dk_42 (dk_at dksX6_winningOn_0 13 rfl rfl)
theorem dX6_winningOn_14 : decode cX6_winningOn 14 = .ok (.getfield 7, 3) := dk_180 0 7 (dk_at dksX6_winningOn_0 14 rfl rfl)
theorem dX6_winningOn_17 : decode cX6_winningOn 17 = .ok (.iconst 1, 1) := dk_4 (dk_at dksX6_winningOn_0 17 rfl rfl)
theorem dX6_winningOn_18 : decode cX6_winningOn 18 = .ok (.iaload, 1) := dk_46 (dk_at dksX6_winningOn_0 18 rfl rfl)
theorem dX6_winningOn_19 : decode cX6_winningOn 19 = .ok (.if_icmp .ge 48, 3) := dk_162 0 48 (dk_at dksX6_winningOn_0 19 rfl rfl)
theorem dX6_winningOn_22 : decode cX6_winningOn 22 = .ok (.iload_n 2, 1) := dk_28 (dk_at dksX6_winningOn_0 22 rfl rfl)
theorem dX6_winningOn_23 : decode cX6_winningOn 23 = .ok (.iload 4, 2) := dk_21 4 (dk_at dksX6_winningOn_1 0 rfl rfl)
theorem dX6_winningOn_25 : decode cX6_winningOn 25 = .ok (.ishr, 1) := dk_122 (dk_at dksX6_winningOn_1 2 rfl rfl)
theorem dX6_winningOn_26 : decode cX6_winningOn 26 = .ok (.iconst 1, 1) := dk_4 (dk_at dksX6_winningOn_1 3 rfl rfl)
theorem dX6_winningOn_27 : decode cX6_winningOn 27 = .ok (.iand, 1) := dk_126 (dk_at dksX6_winningOn_1 4 rfl rfl)
theorem dX6_winningOn_28 : decode cX6_winningOn 28 = .ok (.iconst 1, 1) := dk_4 (dk_at dksX6_winningOn_1 5 rfl rfl)
theorem dX6_winningOn_29 : decode cX6_winningOn 29 = .ok (.if_icmp .ne 32, 3) := dk_160 0 32 (dk_at dksX6_winningOn_1 6 rfl rfl)
theorem dX6_winningOn_32 : decode cX6_winningOn 32 = .ok (.aload_n 0, 1) := dk_42 (dk_at dksX6_winningOn_1 9 rfl rfl)
theorem dX6_winningOn_33 : decode cX6_winningOn 33 = .ok (.iload_n 1, 1) := dk_27 (dk_at dksX6_winningOn_1 10 rfl rfl)
theorem dX6_winningOn_34 : decode cX6_winningOn 34 = .ok (.iload 4, 2) := dk_21 4 (dk_at dksX6_winningOn_1 11 rfl rfl)
theorem dX6_winningOn_36 : decode cX6_winningOn 36 = .ok (.invokevirtual 241, 3) := dk_182 0 241 (dk_at dksX6_winningOn_1 13 rfl rfl)
theorem dX6_winningOn_39 : decode cX6_winningOn 39 = .ok (.bipush 31, 2) := dk_16 31 (dk_at dksX6_winningOn_1 16 rfl rfl)
theorem dX6_winningOn_41 : decode cX6_winningOn 41 = .ok (.iand, 1) := dk_126 (dk_at dksX6_winningOn_1 18 rfl rfl)
theorem dX6_winningOn_42 : decode cX6_winningOn 42 = .ok (.aload_n 0, 1) := dk_42 (dk_at dksX6_winningOn_1 19 rfl rfl)
theorem dX6_winningOn_43 : decode cX6_winningOn 43 = .ok (.getfield 7, 3) := dk_180 0 7 (dk_at dksX6_winningOn_1 20 rfl rfl)
theorem dX6_winningOn_46 : decode cX6_winningOn 46 = .ok (.iconst 2, 1) := dk_5 (dk_at dksX6_winningOn_1 23 rfl rfl)
theorem dX6_winningOn_47 : decode cX6_winningOn 47 = .ok (.iaload, 1) := dk_46 (dk_at dksX6_winningOn_2 0 rfl rfl)
theorem dX6_winningOn_48 : decode cX6_winningOn 48 = .ok (.iconst 2, 1) := dk_5 (dk_at dksX6_winningOn_2 1 rfl rfl)
theorem dX6_winningOn_49 : decode cX6_winningOn 49 = .ok (.irem, 1) := dk_112 (dk_at dksX6_winningOn_2 2 rfl rfl)
theorem dX6_winningOn_50 : decode cX6_winningOn 50 = .ok (.ixor, 1) := dk_130 (dk_at dksX6_winningOn_2 3 rfl rfl)
theorem dX6_winningOn_51 : decode cX6_winningOn 51 = .ok (.ifCond .ne 10, 3) := dk_154 0 10 (dk_at dksX6_winningOn_2 4 rfl rfl)
theorem dX6_winningOn_54 : decode cX6_winningOn 54 = .ok (.iload_n 3, 1) := dk_29 (dk_at dksX6_winningOn_2 7 rfl rfl)
theorem dX6_winningOn_55 : decode cX6_winningOn 55 = .ok (.iconst 1, 1) := dk_4 (dk_at dksX6_winningOn_2 8 rfl rfl)
theorem dX6_winningOn_56 : decode cX6_winningOn 56 = .ok (.iload 4, 2) := dk_21 4 (dk_at dksX6_winningOn_2 9 rfl rfl)
theorem dX6_winningOn_58 : decode cX6_winningOn 58 = .ok (.ishl, 1) := dk_120 (dk_at dksX6_winningOn_2 11 rfl rfl)
theorem dX6_winningOn_59 : decode cX6_winningOn 59 = .ok (.ior, 1) := dk_128 (dk_at dksX6_winningOn_2 12 rfl rfl)
theorem dX6_winningOn_60 : decode cX6_winningOn 60 = .ok (.istore_n 3, 1) := dk_62 (dk_at dksX6_winningOn_2 13 rfl rfl)
theorem dX6_winningOn_61 : decode cX6_winningOn 61 = .ok (.iinc 4 1, 3) := dk_132 4 1 (dk_at dksX6_winningOn_2 14 rfl rfl)
theorem dX6_winningOn_64 : decode cX6_winningOn 64 = .ok (.goto (-53), 3) := dk_167 255 203 (dk_at dksX6_winningOn_2 17 rfl rfl)
theorem dX6_winningOn_67 : decode cX6_winningOn 67 = .ok (.iload_n 3, 1) := dk_29 (dk_at dksX6_winningOn_2 20 rfl rfl)
theorem dX6_winningOn_68 : decode cX6_winningOn 68 = .ok (.ireturn, 1) := dk_172 (dk_at dksX6_winningOn_2 21 rfl rfl)
abbrev cX6_winningColours : ByteArray := prog_16_method_64_code
def yX6_winningColours : MethodName := ⟨RX6, "winningColours", "(I)I"⟩
def dkwX6_winningColours_1 : List UInt8 := [3, 172, 42, 182, 0, 253, 42, 27, 182, 1, 6, 172]
abbrev dktX6_winningColours_1 : List UInt8 := dkwX6_winningColours_1 ++ []
def dkwX6_winningColours_0 : List UInt8 := [42, 42, 27, 182, 0, 220, 153, 0, 7, 3, 167, 0, 4, 4, 181, 0, 47, 42, 180, 0, 47, 158, 0, 5]
abbrev dktX6_winningColours_0 : List UInt8 := dkwX6_winningColours_0 ++ dktX6_winningColours_1
theorem dksX6_winningColours_0 : cX6_winningColours.data.toList.drop 0 = dktX6_winningColours_0 := by decide +kernel
theorem dksX6_winningColours_1 : cX6_winningColours.data.toList.drop 24 = dktX6_winningColours_1 := dk_seg dksX6_winningColours_0 24 rfl rfl
theorem dX6_winningColours_0 : decode cX6_winningColours 0 = .ok (.aload_n 0, 1) := dk_42 (dk_at dksX6_winningColours_0 0 rfl rfl)
theorem dX6_winningColours_1 : decode cX6_winningColours 1 = .ok (.aload_n 0, 1) := dk_42 (dk_at dksX6_winningColours_0 1 rfl rfl)
theorem dX6_winningColours_2 : decode cX6_winningColours 2 = .ok (.iload_n 1, 1) := dk_27 (dk_at dksX6_winningColours_0 2 rfl rfl)
theorem dX6_winningColours_3 : decode cX6_winningColours 3 = .ok (.invokevirtual 220, 3) := dk_182 0 220 (dk_at dksX6_winningColours_0 3 rfl rfl)
theorem dX6_winningColours_6 : decode cX6_winningColours 6 = .ok (.ifCond .eq 7, 3) := dk_153 0 7 (dk_at dksX6_winningColours_0 6 rfl rfl)
theorem dX6_winningColours_9 : decode cX6_winningColours 9 = .ok (.iconst 0, 1) := dk_3 (dk_at dksX6_winningColours_0 9 rfl rfl)
theorem dX6_winningColours_10 : decode cX6_winningColours 10 = .ok (.goto 4, 3) := dk_167 0 4 (dk_at dksX6_winningColours_0 10 rfl rfl)
theorem dX6_winningColours_13 : decode cX6_winningColours 13 = .ok (.iconst 1, 1) := dk_4 (dk_at dksX6_winningColours_0 13 rfl rfl)
theorem dX6_winningColours_14 : decode cX6_winningColours 14 = .ok (.putfield 47, 3) := dk_181 0 47 (dk_at dksX6_winningColours_0 14 rfl rfl)
theorem dX6_winningColours_17 : decode cX6_winningColours 17 = .ok (.aload_n 0, 1) := dk_42 (dk_at dksX6_winningColours_0 17 rfl rfl)
theorem dX6_winningColours_18 : decode cX6_winningColours 18 = .ok (.getfield 47, 3) := dk_180 0 47 (dk_at dksX6_winningColours_0 18 rfl rfl)
theorem dX6_winningColours_21 : decode cX6_winningColours 21 = .ok (.ifCond .le 5, 3) := dk_158 0 5 (dk_at dksX6_winningColours_0 21 rfl rfl)
theorem dX6_winningColours_24 : decode cX6_winningColours 24 = .ok (.iconst 0, 1) := dk_3 (dk_at dksX6_winningColours_1 0 rfl rfl)
theorem dX6_winningColours_25 : decode cX6_winningColours 25 = .ok (.ireturn, 1) := dk_172 (dk_at dksX6_winningColours_1 1 rfl rfl)
theorem dX6_winningColours_26 : decode cX6_winningColours 26 = .ok (.aload_n 0, 1) := dk_42 (dk_at dksX6_winningColours_1 2 rfl rfl)
theorem dX6_winningColours_27 : decode cX6_winningColours 27 = .ok (.invokevirtual 253, 3) := dk_182 0 253 (dk_at dksX6_winningColours_1 3 rfl rfl)
theorem dX6_winningColours_30 : decode cX6_winningColours 30 = .ok (.aload_n 0, 1) := dk_42 (dk_at dksX6_winningColours_1 6 rfl rfl)
theorem dX6_winningColours_31 : decode cX6_winningColours 31 = .ok (.iload_n 1, 1) := dk_27 (dk_at dksX6_winningColours_1 7 rfl rfl)
theorem dX6_winningColours_32 : decode cX6_winningColours 32 = .ok (.invokevirtual 262, 3) := dk_182 1 6 (dk_at dksX6_winningColours_1 8 rfl rfl)
theorem dX6_winningColours_35 : decode cX6_winningColours 35 = .ok (.ireturn, 1) := dk_172 (dk_at dksX6_winningColours_1 11 rfl rfl)
abbrev cX6_bestMove : ByteArray := prog_16_method_66_code
def yX6_bestMove : MethodName := ⟨RX6, "bestMove", "()I"⟩
def dkwX6_bestMove_1 : List UInt8 := [172, 42, 182, 0, 253, 42, 182, 1, 9, 172]
abbrev dktX6_bestMove_1 : List UInt8 := dkwX6_bestMove_1 ++ []
def dkwX6_bestMove_0 : List UInt8 := [42, 42, 182, 0, 213, 153, 0, 7, 4, 167, 0, 4, 3, 181, 0, 47, 42, 180, 0, 47, 158, 0, 5, 3]
abbrev dktX6_bestMove_0 : List UInt8 := dkwX6_bestMove_0 ++ dktX6_bestMove_1
theorem dksX6_bestMove_0 : cX6_bestMove.data.toList.drop 0 = dktX6_bestMove_0 := by decide +kernel
theorem dksX6_bestMove_1 : cX6_bestMove.data.toList.drop 24 = dktX6_bestMove_1 := dk_seg dksX6_bestMove_0 24 rfl rfl
theorem dX6_bestMove_0 : decode cX6_bestMove 0 = .ok (.aload_n 0, 1) := dk_42 (dk_at dksX6_bestMove_0 0 rfl rfl)
theorem dX6_bestMove_1 : decode cX6_bestMove 1 = .ok (.aload_n 0, 1) := dk_42 (dk_at dksX6_bestMove_0 1 rfl rfl)
theorem dX6_bestMove_2 : decode cX6_bestMove 2 = .ok (.invokevirtual 213, 3) := dk_182 0 213 (dk_at dksX6_bestMove_0 2 rfl rfl)
theorem dX6_bestMove_5 : decode cX6_bestMove 5 = .ok (.ifCond .eq 7, 3) := dk_153 0 7 (dk_at dksX6_bestMove_0 5 rfl rfl)
theorem dX6_bestMove_8 : decode cX6_bestMove 8 = .ok (.iconst 1, 1) := dk_4 (dk_at dksX6_bestMove_0 8 rfl rfl)
theorem dX6_bestMove_9 : decode cX6_bestMove 9 = .ok (.goto 4, 3) := dk_167 0 4 (dk_at dksX6_bestMove_0 9 rfl rfl)
theorem dX6_bestMove_12 : decode cX6_bestMove 12 = .ok (.iconst 0, 1) := dk_3 (dk_at dksX6_bestMove_0 12 rfl rfl)
theorem dX6_bestMove_13 : decode cX6_bestMove 13 = .ok (.putfield 47, 3) := dk_181 0 47 (dk_at dksX6_bestMove_0 13 rfl rfl)
theorem dX6_bestMove_16 : decode cX6_bestMove 16 = .ok (.aload_n 0, 1) := dk_42 (dk_at dksX6_bestMove_0 16 rfl rfl)
theorem dX6_bestMove_17 : decode cX6_bestMove 17 = .ok (.getfield 47, 3) := dk_180 0 47 (dk_at dksX6_bestMove_0 17 rfl rfl)
theorem dX6_bestMove_20 : decode cX6_bestMove 20 = .ok (.ifCond .le 5, 3) := dk_158 0 5 (dk_at dksX6_bestMove_0 20 rfl rfl)
theorem dX6_bestMove_23 : decode cX6_bestMove 23 = .ok (.iconst 0, 1) := dk_3 (dk_at dksX6_bestMove_0 23 rfl rfl)
theorem dX6_bestMove_24 : decode cX6_bestMove 24 = .ok (.ireturn, 1) := dk_172 (dk_at dksX6_bestMove_1 0 rfl rfl)
theorem dX6_bestMove_25 : decode cX6_bestMove 25 = .ok (.aload_n 0, 1) := dk_42 (dk_at dksX6_bestMove_1 1 rfl rfl)
theorem dX6_bestMove_26 : decode cX6_bestMove 26 = .ok (.invokevirtual 253, 3) := dk_182 0 253 (dk_at dksX6_bestMove_1 2 rfl rfl)
theorem dX6_bestMove_29 : decode cX6_bestMove 29 = .ok (.aload_n 0, 1) := dk_42 (dk_at dksX6_bestMove_1 5 rfl rfl)
theorem dX6_bestMove_30 : decode cX6_bestMove 30 = .ok (.invokevirtual 265, 3) := dk_182 1 9 (dk_at dksX6_bestMove_1 6 rfl rfl)
theorem dX6_bestMove_33 : decode cX6_bestMove 33 = .ok (.ireturn, 1) := dk_172 (dk_at dksX6_bestMove_1 9 rfl rfl)
abbrev cX6_best : ByteArray := prog_16_method_65_code
def yX6_best : MethodName := ⟨RX6, "best", "()I"⟩
def dkwX6_best_8 : List UInt8 := [16, 31, 126, 42, 180, 0, 7, 5, 46, 96, 4, 100, 28, 164, 0, 6, 16, 100, 60, 27, 172]
abbrev dktX6_best_8 : List UInt8 := dkwX6_best_8 ++ []
def dkwX6_best_7 : List UInt8 := [167, 255, 150, 42, 180, 0, 7, 5, 46, 158, 0, 33, 27, 2, 159, 0, 25, 42, 182, 0, 238, 8, 122]
abbrev dktX6_best_7 : List UInt8 := dkwX6_best_7 ++ dktX6_best_8
def dkwX6_best_6 : List UInt8 := [167, 0, 13, 7, 29, 104, 21, 5, 96, 60, 21, 6, 61, 132, 5, 1, 167, 255, 176, 132, 3, 1]
abbrev dktX6_best_6 : List UInt8 := dkwX6_best_6 ++ dktX6_best_7
def dkwX6_best_5 : List UInt8 := [167, 0, 4, 2, 54, 6, 21, 6, 2, 159, 0, 27, 27, 2, 159, 0, 12, 21, 6, 28, 163, 0, 6]
abbrev dktX6_best_5 : List UInt8 := dkwX6_best_5 ++ dktX6_best_6
def dkwX6_best_4 : List UInt8 := [160, 0, 25, 42, 29, 21, 5, 182, 0, 241, 8, 122, 16, 31, 126, 42, 180, 0, 7, 5, 46, 96]
abbrev dktX6_best_4 : List UInt8 := dkwX6_best_4 ++ dktX6_best_5
def dkwX6_best_3 : List UInt8 := [3, 54, 5, 21, 5, 42, 180, 0, 7, 4, 46, 162, 0, 75, 21, 4, 21, 5, 122, 4, 126, 4]
abbrev dktX6_best_3 : List UInt8 := dkwX6_best_3 ++ dktX6_best_4
def dkwX6_best_2 : List UInt8 := [172, 2, 60, 3, 61, 3, 62, 29, 42, 180, 0, 7, 3, 46, 162, 0, 102, 42, 29, 182, 0, 199, 54, 4]
abbrev dktX6_best_2 : List UInt8 := dkwX6_best_2 ++ dktX6_best_3
def dkwX6_best_1 : List UInt8 := [27, 182, 1, 6, 184, 0, 174, 96, 172, 132, 1, 1, 167, 255, 222, 42, 182, 1, 3, 153, 0, 6, 16, 100]
abbrev dktX6_best_1 : List UInt8 := dkwX6_best_1 ++ dktX6_best_2
def dkwX6_best_0 : List UInt8 := [3, 60, 27, 42, 180, 0, 7, 3, 46, 162, 0, 30, 42, 27, 182, 1, 6, 158, 0, 16, 7, 27, 104, 42]
abbrev dktX6_best_0 : List UInt8 := dkwX6_best_0 ++ dktX6_best_1
theorem dksX6_best_0 : cX6_best.data.toList.drop 0 = dktX6_best_0 := by decide +kernel
theorem dksX6_best_1 : cX6_best.data.toList.drop 24 = dktX6_best_1 := dk_seg dksX6_best_0 24 rfl rfl
theorem dksX6_best_2 : cX6_best.data.toList.drop 48 = dktX6_best_2 := dk_seg dksX6_best_1 24 rfl rfl
theorem dksX6_best_3 : cX6_best.data.toList.drop 72 = dktX6_best_3 := dk_seg dksX6_best_2 24 rfl rfl
theorem dksX6_best_4 : cX6_best.data.toList.drop 94 = dktX6_best_4 := dk_seg dksX6_best_3 22 rfl rfl
theorem dksX6_best_5 : cX6_best.data.toList.drop 116 = dktX6_best_5 := dk_seg dksX6_best_4 22 rfl rfl
theorem dksX6_best_6 : cX6_best.data.toList.drop 139 = dktX6_best_6 := dk_seg dksX6_best_5 23 rfl rfl
theorem dksX6_best_7 : cX6_best.data.toList.drop 161 = dktX6_best_7 := dk_seg dksX6_best_6 22 rfl rfl
theorem dksX6_best_8 : cX6_best.data.toList.drop 184 = dktX6_best_8 := dk_seg dksX6_best_7 23 rfl rfl
theorem dX6_best_0 : decode cX6_best 0 = .ok (.iconst 0, 1) := dk_3 (dk_at dksX6_best_0 0 rfl rfl)
theorem dX6_best_1 : decode cX6_best 1 = .ok (.istore_n 1, 1) := dk_60 (dk_at dksX6_best_0 1 rfl rfl)
theorem dX6_best_2 : decode cX6_best 2 = .ok (.iload_n 1, 1) := dk_27 (dk_at dksX6_best_0 2 rfl rfl)
theorem dX6_best_3 : decode cX6_best 3 = .ok (.aload_n 0, 1) := dk_42 (dk_at dksX6_best_0 3 rfl rfl)
theorem dX6_best_4 : decode cX6_best 4 = .ok (.getfield 7, 3) := dk_180 0 7 (dk_at dksX6_best_0 4 rfl rfl)
theorem dX6_best_7 : decode cX6_best 7 = .ok (.iconst 0, 1) := dk_3 (dk_at dksX6_best_0 7 rfl rfl)
theorem dX6_best_8 : decode cX6_best 8 = .ok (.iaload, 1) := dk_46 (dk_at dksX6_best_0 8 rfl rfl)
theorem dX6_best_9 : decode cX6_best 9 = .ok (.if_icmp .ge 30, 3) := dk_162 0 30 (dk_at dksX6_best_0 9 rfl rfl)
theorem dX6_best_12 : decode cX6_best 12 = .ok (.aload_n 0, 1) := dk_42 (dk_at dksX6_best_0 12 rfl rfl)
theorem dX6_best_13 : decode cX6_best 13 = .ok (.iload_n 1, 1) := dk_27 (dk_at dksX6_best_0 13 rfl rfl)
theorem dX6_best_14 : decode cX6_best 14 = .ok (.invokevirtual 262, 3) := dk_182 1 6 (dk_at dksX6_best_0 14 rfl rfl)
theorem dX6_best_17 : decode cX6_best 17 = .ok (.ifCond .le 16, 3) := dk_158 0 16 (dk_at dksX6_best_0 17 rfl rfl)
theorem dX6_best_20 : decode cX6_best 20 = .ok (.iconst 4, 1) := dk_7 (dk_at dksX6_best_0 20 rfl rfl)
theorem dX6_best_21 : decode cX6_best 21 = .ok (.iload_n 1, 1) := dk_27 (dk_at dksX6_best_0 21 rfl rfl)
theorem dX6_best_22 : decode cX6_best 22 = .ok (.imul, 1) := dk_104 (dk_at dksX6_best_0 22 rfl rfl)
theorem dX6_best_23 : decode cX6_best 23 = .ok (.aload_n 0, 1) := dk_42 (dk_at dksX6_best_0 23 rfl rfl)
theorem dX6_best_24 : decode cX6_best 24 = .ok (.iload_n 1, 1) := dk_27 (dk_at dksX6_best_1 0 rfl rfl)
theorem dX6_best_25 : decode cX6_best 25 = .ok (.invokevirtual 262, 3) := dk_182 1 6 (dk_at dksX6_best_1 1 rfl rfl)
theorem dX6_best_28 : decode cX6_best 28 = .ok (.invokestatic 174, 3) := dk_184 0 174 (dk_at dksX6_best_1 4 rfl rfl)
theorem dX6_best_31 : decode cX6_best 31 = .ok (.iadd, 1) := dk_96 (dk_at dksX6_best_1 7 rfl rfl)
theorem dX6_best_32 : decode cX6_best 32 = .ok (.ireturn, 1) := dk_172 (dk_at dksX6_best_1 8 rfl rfl)
theorem dX6_best_33 : decode cX6_best 33 = .ok (.iinc 1 1, 3) := dk_132 1 1 (dk_at dksX6_best_1 9 rfl rfl)
theorem dX6_best_36 : decode cX6_best 36 = .ok (.goto (-34), 3) := dk_167 255 222 (dk_at dksX6_best_1 12 rfl rfl)
theorem dX6_best_39 : decode cX6_best 39 = .ok (.aload_n 0, 1) := dk_42 (dk_at dksX6_best_1 15 rfl rfl)
theorem dX6_best_40 : decode cX6_best 40 = .ok (.invokevirtual 259, 3) := dk_182 1 3 (dk_at dksX6_best_1 16 rfl rfl)
theorem dX6_best_43 : decode cX6_best 43 = .ok (.ifCond .eq 6, 3) := dk_153 0 6 (dk_at dksX6_best_1 19 rfl rfl)
theorem dX6_best_46 : decode cX6_best 46 = .ok (.bipush 100, 2) := dk_16 100 (dk_at dksX6_best_1 22 rfl rfl)
theorem dX6_best_48 : decode cX6_best 48 = .ok (.ireturn, 1) := dk_172 (dk_at dksX6_best_2 0 rfl rfl)
theorem dX6_best_49 : decode cX6_best 49 = .ok (.iconst (-1), 1) := dk_2 (dk_at dksX6_best_2 1 rfl rfl)
theorem dX6_best_50 : decode cX6_best 50 = .ok (.istore_n 1, 1) := dk_60 (dk_at dksX6_best_2 2 rfl rfl)
theorem dX6_best_51 : decode cX6_best 51 = .ok (.iconst 0, 1) := dk_3 (dk_at dksX6_best_2 3 rfl rfl)
theorem dX6_best_52 : decode cX6_best 52 = .ok (.istore_n 2, 1) := dk_61 (dk_at dksX6_best_2 4 rfl rfl)
theorem dX6_best_53 : decode cX6_best 53 = .ok (.iconst 0, 1) := dk_3 (dk_at dksX6_best_2 5 rfl rfl)
theorem dX6_best_54 : decode cX6_best 54 = .ok (.istore_n 3, 1) := dk_62 (dk_at dksX6_best_2 6 rfl rfl)
theorem dX6_best_55 : decode cX6_best 55 = .ok (.iload_n 3, 1) := dk_29 (dk_at dksX6_best_2 7 rfl rfl)
theorem dX6_best_56 : decode cX6_best 56 = .ok (.aload_n 0, 1) := dk_42 (dk_at dksX6_best_2 8 rfl rfl)
theorem dX6_best_57 : decode cX6_best 57 = .ok (.getfield 7, 3) := dk_180 0 7 (dk_at dksX6_best_2 9 rfl rfl)
theorem dX6_best_60 : decode cX6_best 60 = .ok (.iconst 0, 1) := dk_3 (dk_at dksX6_best_2 12 rfl rfl)
theorem dX6_best_61 : decode cX6_best 61 = .ok (.iaload, 1) := dk_46 (dk_at dksX6_best_2 13 rfl rfl)
theorem dX6_best_62 : decode cX6_best 62 = .ok (.if_icmp .ge 102, 3) := dk_162 0 102 (dk_at dksX6_best_2 14 rfl rfl)
theorem dX6_best_65 : decode cX6_best 65 = .ok (.aload_n 0, 1) := dk_42 (dk_at dksX6_best_2 17 rfl rfl)
theorem dX6_best_66 : decode cX6_best 66 = .ok (.iload_n 3, 1) := dk_29 (dk_at dksX6_best_2 18 rfl rfl)
theorem dX6_best_67 : decode cX6_best 67 = .ok (.invokevirtual 199, 3) := dk_182 0 199 (dk_at dksX6_best_2 19 rfl rfl)
theorem dX6_best_70 : decode cX6_best 70 = .ok (.istore 4, 2) := dk_54 4 (dk_at dksX6_best_2 22 rfl rfl)
theorem dX6_best_72 : decode cX6_best 72 = .ok (.iconst 0, 1) := dk_3 (dk_at dksX6_best_3 0 rfl rfl)
theorem dX6_best_73 : decode cX6_best 73 = .ok (.istore 5, 2) := dk_54 5 (dk_at dksX6_best_3 1 rfl rfl)
theorem dX6_best_75 : decode cX6_best 75 = .ok (.iload 5, 2) := dk_21 5 (dk_at dksX6_best_3 3 rfl rfl)
theorem dX6_best_77 : decode cX6_best 77 = .ok (.aload_n 0, 1) := dk_42 (dk_at dksX6_best_3 5 rfl rfl)
theorem dX6_best_78 : decode cX6_best 78 = .ok (.getfield 7, 3) := dk_180 0 7 (dk_at dksX6_best_3 6 rfl rfl)
theorem dX6_best_81 : decode cX6_best 81 = .ok (.iconst 1, 1) := dk_4 (dk_at dksX6_best_3 9 rfl rfl)
theorem dX6_best_82 : decode cX6_best 82 = .ok (.iaload, 1) := dk_46 (dk_at dksX6_best_3 10 rfl rfl)
theorem dX6_best_83 : decode cX6_best 83 = .ok (.if_icmp .ge 75, 3) := dk_162 0 75 (dk_at dksX6_best_3 11 rfl rfl)
theorem dX6_best_86 : decode cX6_best 86 = .ok (.iload 4, 2) := dk_21 4 (dk_at dksX6_best_3 14 rfl rfl)
theorem dX6_best_88 : decode cX6_best 88 = .ok (.iload 5, 2) := dk_21 5 (dk_at dksX6_best_3 16 rfl rfl)
theorem dX6_best_90 : decode cX6_best 90 = .ok (.ishr, 1) := dk_122 (dk_at dksX6_best_3 18 rfl rfl)
theorem dX6_best_91 : decode cX6_best 91 = .ok (.iconst 1, 1) := dk_4 (dk_at dksX6_best_3 19 rfl rfl)
theorem dX6_best_92 : decode cX6_best 92 = .ok (.iand, 1) := dk_126 (dk_at dksX6_best_3 20 rfl rfl)
theorem dX6_best_93 : decode cX6_best 93 = .ok (.iconst 1, 1) := dk_4 (dk_at dksX6_best_3 21 rfl rfl)
theorem dX6_best_94 : decode cX6_best 94 = .ok (.if_icmp .ne 25, 3) := dk_160 0 25 (dk_at dksX6_best_4 0 rfl rfl)
theorem dX6_best_97 : decode cX6_best 97 = .ok (.aload_n 0, 1) := dk_42 (dk_at dksX6_best_4 3 rfl rfl)
theorem dX6_best_98 : decode cX6_best 98 = .ok (.iload_n 3, 1) := dk_29 (dk_at dksX6_best_4 4 rfl rfl)
theorem dX6_best_99 : decode cX6_best 99 = .ok (.iload 5, 2) := dk_21 5 (dk_at dksX6_best_4 5 rfl rfl)
theorem dX6_best_101 : decode cX6_best 101 = .ok (.invokevirtual 241, 3) := dk_182 0 241 (dk_at dksX6_best_4 7 rfl rfl)
theorem dX6_best_104 : decode cX6_best 104 = .ok (.iconst 5, 1) := dk_8 (dk_at dksX6_best_4 10 rfl rfl)
theorem dX6_best_105 : decode cX6_best 105 = .ok (.ishr, 1) := dk_122 (dk_at dksX6_best_4 11 rfl rfl)
theorem dX6_best_106 : decode cX6_best 106 = .ok (.bipush 31, 2) := dk_16 31 (dk_at dksX6_best_4 12 rfl rfl)
theorem dX6_best_108 : decode cX6_best 108 = .ok (.iand, 1) := dk_126 (dk_at dksX6_best_4 14 rfl rfl)
theorem dX6_best_109 : decode cX6_best 109 = .ok (.aload_n 0, 1) := dk_42 (dk_at dksX6_best_4 15 rfl rfl)
theorem dX6_best_110 : decode cX6_best 110 = .ok (.getfield 7, 3) := dk_180 0 7 (dk_at dksX6_best_4 16 rfl rfl)
theorem dX6_best_113 : decode cX6_best 113 = .ok (.iconst 2, 1) := dk_5 (dk_at dksX6_best_4 19 rfl rfl)
theorem dX6_best_114 : decode cX6_best 114 = .ok (.iaload, 1) := dk_46 (dk_at dksX6_best_4 20 rfl rfl)
theorem dX6_best_115 : decode cX6_best 115 = .ok (.iadd, 1) := dk_96 (dk_at dksX6_best_4 21 rfl rfl)
theorem dX6_best_116 : decode cX6_best 116 = .ok (.goto 4, 3) := dk_167 0 4 (dk_at dksX6_best_5 0 rfl rfl)
theorem dX6_best_119 : decode cX6_best 119 = .ok (.iconst (-1), 1) := dk_2 (dk_at dksX6_best_5 3 rfl rfl)
theorem dX6_best_120 : decode cX6_best 120 = .ok (.istore 6, 2) := dk_54 6 (dk_at dksX6_best_5 4 rfl rfl)
theorem dX6_best_122 : decode cX6_best 122 = .ok (.iload 6, 2) := dk_21 6 (dk_at dksX6_best_5 6 rfl rfl)
theorem dX6_best_124 : decode cX6_best 124 = .ok (.iconst (-1), 1) := dk_2 (dk_at dksX6_best_5 8 rfl rfl)
theorem dX6_best_125 : decode cX6_best 125 = .ok (.if_icmp .eq 27, 3) := dk_159 0 27 (dk_at dksX6_best_5 9 rfl rfl)
theorem dX6_best_128 : decode cX6_best 128 = .ok (.iload_n 1, 1) := dk_27 (dk_at dksX6_best_5 12 rfl rfl)
theorem dX6_best_129 : decode cX6_best 129 = .ok (.iconst (-1), 1) := dk_2 (dk_at dksX6_best_5 13 rfl rfl)
theorem dX6_best_130 : decode cX6_best 130 = .ok (.if_icmp .eq 12, 3) := dk_159 0 12 (dk_at dksX6_best_5 14 rfl rfl)
theorem dX6_best_133 : decode cX6_best 133 = .ok (.iload 6, 2) := dk_21 6 (dk_at dksX6_best_5 17 rfl rfl)
theorem dX6_best_135 : decode cX6_best 135 = .ok (.iload_n 2, 1) := dk_28 (dk_at dksX6_best_5 19 rfl rfl)
theorem dX6_best_136 : decode cX6_best 136 = .ok (.if_icmp .gt 6, 3) := dk_163 0 6 (dk_at dksX6_best_5 20 rfl rfl)
theorem dX6_best_139 : decode cX6_best 139 = .ok (.goto 13, 3) := dk_167 0 13 (dk_at dksX6_best_6 0 rfl rfl)
theorem dX6_best_142 : decode cX6_best 142 = .ok (.iconst 4, 1) := dk_7 (dk_at dksX6_best_6 3 rfl rfl)
theorem dX6_best_143 : decode cX6_best 143 = .ok (.iload_n 3, 1) := dk_29 (dk_at dksX6_best_6 4 rfl rfl)
theorem dX6_best_144 : decode cX6_best 144 = .ok (.imul, 1) := dk_104 (dk_at dksX6_best_6 5 rfl rfl)
theorem dX6_best_145 : decode cX6_best 145 = .ok (.iload 5, 2) := dk_21 5 (dk_at dksX6_best_6 6 rfl rfl)
theorem dX6_best_147 : decode cX6_best 147 = .ok (.iadd, 1) := dk_96 (dk_at dksX6_best_6 8 rfl rfl)
theorem dX6_best_148 : decode cX6_best 148 = .ok (.istore_n 1, 1) := dk_60 (dk_at dksX6_best_6 9 rfl rfl)
theorem dX6_best_149 : decode cX6_best 149 = .ok (.iload 6, 2) := dk_21 6 (dk_at dksX6_best_6 10 rfl rfl)
theorem dX6_best_151 : decode cX6_best 151 = .ok (.istore_n 2, 1) := dk_61 (dk_at dksX6_best_6 12 rfl rfl)
theorem dX6_best_152 : decode cX6_best 152 = .ok (.iinc 5 1, 3) := dk_132 5 1 (dk_at dksX6_best_6 13 rfl rfl)
theorem dX6_best_155 : decode cX6_best 155 = .ok (.goto (-80), 3) := dk_167 255 176 (dk_at dksX6_best_6 16 rfl rfl)
theorem dX6_best_158 : decode cX6_best 158 = .ok (.iinc 3 1, 3) := dk_132 3 1 (dk_at dksX6_best_6 19 rfl rfl)
theorem dX6_best_161 : decode cX6_best 161 = .ok (.goto (-106), 3) := dk_167 255 150 (dk_at dksX6_best_7 0 rfl rfl)
theorem dX6_best_164 : decode cX6_best 164 = .ok (.aload_n 0, 1) := dk_42 (dk_at dksX6_best_7 3 rfl rfl)
theorem dX6_best_165 : decode cX6_best 165 = .ok (.getfield 7, 3) := dk_180 0 7 (dk_at dksX6_best_7 4 rfl rfl)
theorem dX6_best_168 : decode cX6_best 168 = .ok (.iconst 2, 1) := dk_5 (dk_at dksX6_best_7 7 rfl rfl)
theorem dX6_best_169 : decode cX6_best 169 = .ok (.iaload, 1) := dk_46 (dk_at dksX6_best_7 8 rfl rfl)
theorem dX6_best_170 : decode cX6_best 170 = .ok (.ifCond .le 33, 3) := dk_158 0 33 (dk_at dksX6_best_7 9 rfl rfl)
theorem dX6_best_173 : decode cX6_best 173 = .ok (.iload_n 1, 1) := dk_27 (dk_at dksX6_best_7 12 rfl rfl)
theorem dX6_best_174 : decode cX6_best 174 = .ok (.iconst (-1), 1) := dk_2 (dk_at dksX6_best_7 13 rfl rfl)
theorem dX6_best_175 : decode cX6_best 175 = .ok (.if_icmp .eq 25, 3) := dk_159 0 25 (dk_at dksX6_best_7 14 rfl rfl)
theorem dX6_best_178 : decode cX6_best 178 = .ok (.aload_n 0, 1) := dk_42 (dk_at dksX6_best_7 17 rfl rfl)
theorem dX6_best_179 : decode cX6_best 179 = .ok (.invokevirtual 238, 3) := dk_182 0 238 (dk_at dksX6_best_7 18 rfl rfl)
theorem dX6_best_182 : decode cX6_best 182 = .ok (.iconst 5, 1) := dk_8 (dk_at dksX6_best_7 21 rfl rfl)
theorem dX6_best_183 : decode cX6_best 183 = .ok (.ishr, 1) := dk_122 (dk_at dksX6_best_7 22 rfl rfl)
theorem dX6_best_184 : decode cX6_best 184 = .ok (.bipush 31, 2) := dk_16 31 (dk_at dksX6_best_8 0 rfl rfl)
theorem dX6_best_186 : decode cX6_best 186 = .ok (.iand, 1) := dk_126 (dk_at dksX6_best_8 2 rfl rfl)
theorem dX6_best_187 : decode cX6_best 187 = .ok (.aload_n 0, 1) := dk_42 (dk_at dksX6_best_8 3 rfl rfl)
theorem dX6_best_188 : decode cX6_best 188 = .ok (.getfield 7, 3) := dk_180 0 7 (dk_at dksX6_best_8 4 rfl rfl)
theorem dX6_best_191 : decode cX6_best 191 = .ok (.iconst 2, 1) := dk_5 (dk_at dksX6_best_8 7 rfl rfl)
theorem dX6_best_192 : decode cX6_best 192 = .ok (.iaload, 1) := dk_46 (dk_at dksX6_best_8 8 rfl rfl)
theorem dX6_best_193 : decode cX6_best 193 = .ok (.iadd, 1) := dk_96 (dk_at dksX6_best_8 9 rfl rfl)
theorem dX6_best_194 : decode cX6_best 194 = .ok (.iconst 1, 1) := dk_4 (dk_at dksX6_best_8 10 rfl rfl)
theorem dX6_best_195 : decode cX6_best 195 = .ok (.isub, 1) := dk_100 (dk_at dksX6_best_8 11 rfl rfl)
theorem dX6_best_196 : decode cX6_best 196 = .ok (.iload_n 2, 1) := dk_28 (dk_at dksX6_best_8 12 rfl rfl)
theorem dX6_best_197 : decode cX6_best 197 = .ok (.if_icmp .le 6, 3) := dk_164 0 6 (dk_at dksX6_best_8 13 rfl rfl)
theorem dX6_best_200 : decode cX6_best 200 = .ok (.bipush 100, 2) := dk_16 100 (dk_at dksX6_best_8 16 rfl rfl)
theorem dX6_best_202 : decode cX6_best 202 = .ok (.istore_n 1, 1) := dk_60 (dk_at dksX6_best_8 18 rfl rfl)
theorem dX6_best_203 : decode cX6_best 203 = .ok (.iload_n 1, 1) := dk_27 (dk_at dksX6_best_8 19 rfl rfl)
theorem dX6_best_204 : decode cX6_best 204 = .ok (.ireturn, 1) := dk_172 (dk_at dksX6_best_8 20 rfl rfl)
abbrev cX6_longest : ByteArray := prog_16_method_67_code
def yX6_longest : MethodName := ⟨RX6, "longest", "()I"⟩
def dkwX6_longest_1 : List UInt8 := [96, 172]
abbrev dktX6_longest_1 : List UInt8 := dkwX6_longest_1 ++ []
def dkwX6_longest_0 : List UInt8 := [42, 3, 181, 0, 47, 42, 182, 0, 253, 42, 182, 0, 238, 8, 122, 16, 31, 126, 42, 180, 0, 7, 5, 46]
abbrev dktX6_longest_0 : List UInt8 := dkwX6_longest_0 ++ dktX6_longest_1
theorem dksX6_longest_0 : cX6_longest.data.toList.drop 0 = dktX6_longest_0 := by decide +kernel
theorem dksX6_longest_1 : cX6_longest.data.toList.drop 24 = dktX6_longest_1 := dk_seg dksX6_longest_0 24 rfl rfl
theorem dX6_longest_0 : decode cX6_longest 0 = .ok (.aload_n 0, 1) := dk_42 (dk_at dksX6_longest_0 0 rfl rfl)
theorem dX6_longest_1 : decode cX6_longest 1 = .ok (.iconst 0, 1) := dk_3 (dk_at dksX6_longest_0 1 rfl rfl)
theorem dX6_longest_2 : decode cX6_longest 2 = .ok (.putfield 47, 3) := dk_181 0 47 (dk_at dksX6_longest_0 2 rfl rfl)
theorem dX6_longest_5 : decode cX6_longest 5 = .ok (.aload_n 0, 1) := dk_42 (dk_at dksX6_longest_0 5 rfl rfl)
theorem dX6_longest_6 : decode cX6_longest 6 = .ok (.invokevirtual 253, 3) := dk_182 0 253 (dk_at dksX6_longest_0 6 rfl rfl)
theorem dX6_longest_9 : decode cX6_longest 9 = .ok (.aload_n 0, 1) := dk_42 (dk_at dksX6_longest_0 9 rfl rfl)
theorem dX6_longest_10 : decode cX6_longest 10 = .ok (.invokevirtual 238, 3) := dk_182 0 238 (dk_at dksX6_longest_0 10 rfl rfl)
theorem dX6_longest_13 : decode cX6_longest 13 = .ok (.iconst 5, 1) := dk_8 (dk_at dksX6_longest_0 13 rfl rfl)
theorem dX6_longest_14 : decode cX6_longest 14 = .ok (.ishr, 1) := dk_122 (dk_at dksX6_longest_0 14 rfl rfl)
theorem dX6_longest_15 : decode cX6_longest 15 = .ok (.bipush 31, 2) := dk_16 31 (dk_at dksX6_longest_0 15 rfl rfl)
theorem dX6_longest_17 : decode cX6_longest 17 = .ok (.iand, 1) := dk_126 (dk_at dksX6_longest_0 17 rfl rfl)
theorem dX6_longest_18 : decode cX6_longest 18 = .ok (.aload_n 0, 1) := dk_42 (dk_at dksX6_longest_0 18 rfl rfl)
theorem dX6_longest_19 : decode cX6_longest 19 = .ok (.getfield 7, 3) := dk_180 0 7 (dk_at dksX6_longest_0 19 rfl rfl)
theorem dX6_longest_22 : decode cX6_longest 22 = .ok (.iconst 2, 1) := dk_5 (dk_at dksX6_longest_0 22 rfl rfl)
theorem dX6_longest_23 : decode cX6_longest 23 = .ok (.iaload, 1) := dk_46 (dk_at dksX6_longest_0 23 rfl rfl)
theorem dX6_longest_24 : decode cX6_longest 24 = .ok (.iadd, 1) := dk_96 (dk_at dksX6_longest_1 0 rfl rfl)
theorem dX6_longest_25 : decode cX6_longest 25 = .ok (.ireturn, 1) := dk_172 (dk_at dksX6_longest_1 1 rfl rfl)
abbrev cX6_shortest : ByteArray := prog_16_method_68_code
def yX6_shortest : MethodName := ⟨RX6, "shortest", "()I"⟩
def dkwX6_shortest_0 : List UInt8 := [42, 3, 181, 0, 47, 42, 182, 0, 253, 42, 182, 0, 238, 16, 10, 122, 42, 180, 0, 7, 5, 46, 96, 172]
abbrev dktX6_shortest_0 : List UInt8 := dkwX6_shortest_0 ++ []
theorem dksX6_shortest_0 : cX6_shortest.data.toList.drop 0 = dktX6_shortest_0 := by decide +kernel
theorem dX6_shortest_0 : decode cX6_shortest 0 = .ok (.aload_n 0, 1) := dk_42 (dk_at dksX6_shortest_0 0 rfl rfl)
theorem dX6_shortest_1 : decode cX6_shortest 1 = .ok (.iconst 0, 1) := dk_3 (dk_at dksX6_shortest_0 1 rfl rfl)
theorem dX6_shortest_2 : decode cX6_shortest 2 = .ok (.putfield 47, 3) := dk_181 0 47 (dk_at dksX6_shortest_0 2 rfl rfl)
theorem dX6_shortest_5 : decode cX6_shortest 5 = .ok (.aload_n 0, 1) := dk_42 (dk_at dksX6_shortest_0 5 rfl rfl)
theorem dX6_shortest_6 : decode cX6_shortest 6 = .ok (.invokevirtual 253, 3) := dk_182 0 253 (dk_at dksX6_shortest_0 6 rfl rfl)
theorem dX6_shortest_9 : decode cX6_shortest 9 = .ok (.aload_n 0, 1) := dk_42 (dk_at dksX6_shortest_0 9 rfl rfl)
theorem dX6_shortest_10 : decode cX6_shortest 10 = .ok (.invokevirtual 238, 3) := dk_182 0 238 (dk_at dksX6_shortest_0 10 rfl rfl)
theorem dX6_shortest_13 : decode cX6_shortest 13 = .ok (.bipush 10, 2) := dk_16 10 (dk_at dksX6_shortest_0 13 rfl rfl)
theorem dX6_shortest_15 : decode cX6_shortest 15 = .ok (.ishr, 1) := dk_122 (dk_at dksX6_shortest_0 15 rfl rfl)
theorem dX6_shortest_16 : decode cX6_shortest 16 = .ok (.aload_n 0, 1) := dk_42 (dk_at dksX6_shortest_0 16 rfl rfl)
theorem dX6_shortest_17 : decode cX6_shortest 17 = .ok (.getfield 7, 3) := dk_180 0 7 (dk_at dksX6_shortest_0 17 rfl rfl)
theorem dX6_shortest_20 : decode cX6_shortest 20 = .ok (.iconst 2, 1) := dk_5 (dk_at dksX6_shortest_0 20 rfl rfl)
theorem dX6_shortest_21 : decode cX6_shortest 21 = .ok (.iaload, 1) := dk_46 (dk_at dksX6_shortest_0 21 rfl rfl)
theorem dX6_shortest_22 : decode cX6_shortest 22 = .ok (.iadd, 1) := dk_96 (dk_at dksX6_shortest_0 22 rfl rfl)
theorem dX6_shortest_23 : decode cX6_shortest 23 = .ok (.ireturn, 1) := dk_172 (dk_at dksX6_shortest_0 23 rfl rfl)
abbrev cX6_meanValue : ByteArray := prog_16_method_69_code
def yX6_meanValue : MethodName := ⟨RX6, "meanValue", "()F"⟩
def dkwX6_meanValue_3 : List UInt8 := [27, 134, 110, 174]
abbrev dktX6_meanValue_3 : List UInt8 := dkwX6_meanValue_3 ++ []
def dkwX6_meanValue_2 : List UInt8 := [182, 0, 229, 16, 31, 126, 96, 61, 132, 3, 1, 167, 255, 221, 27, 154, 0, 7, 11, 167, 0, 8, 28, 134]
abbrev dktX6_meanValue_2 : List UInt8 := dkwX6_meanValue_2 ++ dktX6_meanValue_3
def dkwX6_meanValue_1 : List UInt8 := [162, 0, 36, 28, 42, 42, 29, 182, 0, 244, 42, 42, 29, 182, 0, 244, 184, 0, 174, 182, 0, 192]
abbrev dktX6_meanValue_1 : List UInt8 := dkwX6_meanValue_1 ++ dktX6_meanValue_2
def dkwX6_meanValue_0 : List UInt8 := [42, 3, 181, 0, 47, 42, 182, 0, 253, 42, 42, 182, 0, 180, 182, 0, 207, 60, 3, 61, 3, 62, 29, 27]
abbrev dktX6_meanValue_0 : List UInt8 := dkwX6_meanValue_0 ++ dktX6_meanValue_1
theorem dksX6_meanValue_0 : cX6_meanValue.data.toList.drop 0 = dktX6_meanValue_0 := by decide +kernel
theorem dksX6_meanValue_1 : cX6_meanValue.data.toList.drop 24 = dktX6_meanValue_1 := dk_seg dksX6_meanValue_0 24 rfl rfl
theorem dksX6_meanValue_2 : cX6_meanValue.data.toList.drop 46 = dktX6_meanValue_2 := dk_seg dksX6_meanValue_1 22 rfl rfl
theorem dksX6_meanValue_3 : cX6_meanValue.data.toList.drop 70 = dktX6_meanValue_3 := dk_seg dksX6_meanValue_2 24 rfl rfl
theorem dX6_meanValue_0 : decode cX6_meanValue 0 = .ok (.aload_n 0, 1) := dk_42 (dk_at dksX6_meanValue_0 0 rfl rfl)
theorem dX6_meanValue_1 : decode cX6_meanValue 1 = .ok (.iconst 0, 1) := dk_3 (dk_at dksX6_meanValue_0 1 rfl rfl)
theorem dX6_meanValue_2 : decode cX6_meanValue 2 = .ok (.putfield 47, 3) := dk_181 0 47 (dk_at dksX6_meanValue_0 2 rfl rfl)
theorem dX6_meanValue_5 : decode cX6_meanValue 5 = .ok (.aload_n 0, 1) := dk_42 (dk_at dksX6_meanValue_0 5 rfl rfl)
theorem dX6_meanValue_6 : decode cX6_meanValue 6 = .ok (.invokevirtual 253, 3) := dk_182 0 253 (dk_at dksX6_meanValue_0 6 rfl rfl)
theorem dX6_meanValue_9 : decode cX6_meanValue 9 = .ok (.aload_n 0, 1) := dk_42 (dk_at dksX6_meanValue_0 9 rfl rfl)
theorem dX6_meanValue_10 : decode cX6_meanValue 10 = .ok (.aload_n 0, 1) := dk_42 (dk_at dksX6_meanValue_0 10 rfl rfl)
theorem dX6_meanValue_11 : decode cX6_meanValue 11 = .ok (.invokevirtual 180, 3) := dk_182 0 180 (dk_at dksX6_meanValue_0 11 rfl rfl)
theorem dX6_meanValue_14 : decode cX6_meanValue 14 = .ok (.invokevirtual 207, 3) := dk_182 0 207 (dk_at dksX6_meanValue_0 14 rfl rfl)
theorem dX6_meanValue_17 : decode cX6_meanValue 17 = .ok (.istore_n 1, 1) := dk_60 (dk_at dksX6_meanValue_0 17 rfl rfl)
theorem dX6_meanValue_18 : decode cX6_meanValue 18 = .ok (.iconst 0, 1) := dk_3 (dk_at dksX6_meanValue_0 18 rfl rfl)
theorem dX6_meanValue_19 : decode cX6_meanValue 19 = .ok (.istore_n 2, 1) := dk_61 (dk_at dksX6_meanValue_0 19 rfl rfl)
theorem dX6_meanValue_20 : decode cX6_meanValue 20 = .ok (.iconst 0, 1) := dk_3 (dk_at dksX6_meanValue_0 20 rfl rfl)
theorem dX6_meanValue_21 : decode cX6_meanValue 21 = .ok (.istore_n 3, 1) := dk_62 (dk_at dksX6_meanValue_0 21 rfl rfl)
theorem dX6_meanValue_22 : decode cX6_meanValue 22 = .ok (.iload_n 3, 1) := dk_29 (dk_at dksX6_meanValue_0 22 rfl rfl)
theorem dX6_meanValue_23 : decode cX6_meanValue 23 = .ok (.iload_n 1, 1) := dk_27 (dk_at dksX6_meanValue_0 23 rfl rfl)
theorem dX6_meanValue_24 : decode cX6_meanValue 24 = .ok (.if_icmp .ge 36, 3) := dk_162 0 36 (dk_at dksX6_meanValue_1 0 rfl rfl)
theorem dX6_meanValue_27 : decode cX6_meanValue 27 = .ok (.iload_n 2, 1) := dk_28 (dk_at dksX6_meanValue_1 3 rfl rfl)
theorem dX6_meanValue_28 : decode cX6_meanValue 28 = .ok (.aload_n 0, 1) := dk_42 (dk_at dksX6_meanValue_1 4 rfl rfl)
theorem dX6_meanValue_29 : decode cX6_meanValue 29 = .ok (.aload_n 0, 1) := dk_42 (dk_at dksX6_meanValue_1 5 rfl rfl)
theorem dX6_meanValue_30 : decode cX6_meanValue 30 = .ok (.iload_n 3, 1) := dk_29 (dk_at dksX6_meanValue_1 6 rfl rfl)
theorem dX6_meanValue_31 : decode cX6_meanValue 31 = .ok (.invokevirtual 244, 3) := dk_182 0 244 (dk_at dksX6_meanValue_1 7 rfl rfl)
theorem dX6_meanValue_34 : decode cX6_meanValue 34 = .ok (.aload_n 0, 1) := dk_42 (dk_at dksX6_meanValue_1 10 rfl rfl)
theorem dX6_meanValue_35 : decode cX6_meanValue 35 = .ok (.aload_n 0, 1) := dk_42 (dk_at dksX6_meanValue_1 11 rfl rfl)
theorem dX6_meanValue_36 : decode cX6_meanValue 36 = .ok (.iload_n 3, 1) := dk_29 (dk_at dksX6_meanValue_1 12 rfl rfl)
theorem dX6_meanValue_37 : decode cX6_meanValue 37 = .ok (.invokevirtual 244, 3) := dk_182 0 244 (dk_at dksX6_meanValue_1 13 rfl rfl)
theorem dX6_meanValue_40 : decode cX6_meanValue 40 = .ok (.invokestatic 174, 3) := dk_184 0 174 (dk_at dksX6_meanValue_1 16 rfl rfl)
theorem dX6_meanValue_43 : decode cX6_meanValue 43 = .ok (.invokevirtual 192, 3) := dk_182 0 192 (dk_at dksX6_meanValue_1 19 rfl rfl)
theorem dX6_meanValue_46 : decode cX6_meanValue 46 = .ok (.invokevirtual 229, 3) := dk_182 0 229 (dk_at dksX6_meanValue_2 0 rfl rfl)
theorem dX6_meanValue_49 : decode cX6_meanValue 49 = .ok (.bipush 31, 2) := dk_16 31 (dk_at dksX6_meanValue_2 3 rfl rfl)
theorem dX6_meanValue_51 : decode cX6_meanValue 51 = .ok (.iand, 1) := dk_126 (dk_at dksX6_meanValue_2 5 rfl rfl)
theorem dX6_meanValue_52 : decode cX6_meanValue 52 = .ok (.iadd, 1) := dk_96 (dk_at dksX6_meanValue_2 6 rfl rfl)
theorem dX6_meanValue_53 : decode cX6_meanValue 53 = .ok (.istore_n 2, 1) := dk_61 (dk_at dksX6_meanValue_2 7 rfl rfl)
theorem dX6_meanValue_54 : decode cX6_meanValue 54 = .ok (.iinc 3 1, 3) := dk_132 3 1 (dk_at dksX6_meanValue_2 8 rfl rfl)
theorem dX6_meanValue_57 : decode cX6_meanValue 57 = .ok (.goto (-35), 3) := dk_167 255 221 (dk_at dksX6_meanValue_2 11 rfl rfl)
theorem dX6_meanValue_60 : decode cX6_meanValue 60 = .ok (.iload_n 1, 1) := dk_27 (dk_at dksX6_meanValue_2 14 rfl rfl)
theorem dX6_meanValue_61 : decode cX6_meanValue 61 = .ok (.ifCond .ne 7, 3) := dk_154 0 7 (dk_at dksX6_meanValue_2 15 rfl rfl)
theorem dX6_meanValue_64 : decode cX6_meanValue 64 = .ok (.fconst 0, 1) := dk_11 (dk_at dksX6_meanValue_2 18 rfl rfl)
theorem dX6_meanValue_65 : decode cX6_meanValue 65 = .ok (.goto 8, 3) := dk_167 0 8 (dk_at dksX6_meanValue_2 19 rfl rfl)
theorem dX6_meanValue_68 : decode cX6_meanValue 68 = .ok (.iload_n 2, 1) := dk_28 (dk_at dksX6_meanValue_2 22 rfl rfl)
theorem dX6_meanValue_69 : decode cX6_meanValue 69 = .ok (.i2f, 1) := dk_134 (dk_at dksX6_meanValue_2 23 rfl rfl)
theorem dX6_meanValue_70 : decode cX6_meanValue 70 = .ok (.iload_n 1, 1) := dk_27 (dk_at dksX6_meanValue_3 0 rfl rfl)
theorem dX6_meanValue_71 : decode cX6_meanValue 71 = .ok (.i2f, 1) := dk_134 (dk_at dksX6_meanValue_3 1 rfl rfl)
theorem dX6_meanValue_72 : decode cX6_meanValue 72 = .ok (.fdiv, 1) := dk_110 (dk_at dksX6_meanValue_3 2 rfl rfl)
theorem dX6_meanValue_73 : decode cX6_meanValue 73 = .ok (.freturn, 1) := dk_174 (dk_at dksX6_meanValue_3 3 rfl rfl)
abbrev cX6_falls : ByteArray := prog_16_method_70_code
def yX6_falls : MethodName := ⟨RX6, "falls", "(I)I"⟩
def dkwX6_falls_2 : List UInt8 := [182, 0, 180, 182, 0, 177, 4, 27, 120, 2, 130, 126, 182, 0, 207, 172]
abbrev dktX6_falls_2 : List UInt8 := dkwX6_falls_2 ++ []
def dkwX6_falls_1 : List UInt8 := [167, 0, 4, 5, 181, 0, 47, 42, 180, 0, 47, 158, 0, 7, 3, 167, 0, 22, 42, 42, 27, 42]
abbrev dktX6_falls_1 : List UInt8 := dkwX6_falls_1 ++ dktX6_falls_2
def dkwX6_falls_0 : List UInt8 := [42, 42, 27, 182, 0, 220, 154, 0, 7, 4, 167, 0, 16, 42, 27, 182, 0, 170, 153, 0, 7, 3]
abbrev dktX6_falls_0 : List UInt8 := dkwX6_falls_0 ++ dktX6_falls_1
theorem dksX6_falls_0 : cX6_falls.data.toList.drop 0 = dktX6_falls_0 := by decide +kernel
theorem dksX6_falls_1 : cX6_falls.data.toList.drop 22 = dktX6_falls_1 := dk_seg dksX6_falls_0 22 rfl rfl
theorem dksX6_falls_2 : cX6_falls.data.toList.drop 44 = dktX6_falls_2 := dk_seg dksX6_falls_1 22 rfl rfl
theorem dX6_falls_0 : decode cX6_falls 0 = .ok (.aload_n 0, 1) := dk_42 (dk_at dksX6_falls_0 0 rfl rfl)
theorem dX6_falls_1 : decode cX6_falls 1 = .ok (.aload_n 0, 1) := dk_42 (dk_at dksX6_falls_0 1 rfl rfl)
theorem dX6_falls_2 : decode cX6_falls 2 = .ok (.iload_n 1, 1) := dk_27 (dk_at dksX6_falls_0 2 rfl rfl)
theorem dX6_falls_3 : decode cX6_falls 3 = .ok (.invokevirtual 220, 3) := dk_182 0 220 (dk_at dksX6_falls_0 3 rfl rfl)
theorem dX6_falls_6 : decode cX6_falls 6 = .ok (.ifCond .ne 7, 3) := dk_154 0 7 (dk_at dksX6_falls_0 6 rfl rfl)
theorem dX6_falls_9 : decode cX6_falls 9 = .ok (.iconst 1, 1) := dk_4 (dk_at dksX6_falls_0 9 rfl rfl)
theorem dX6_falls_10 : decode cX6_falls 10 = .ok (.goto 16, 3) := dk_167 0 16 (dk_at dksX6_falls_0 10 rfl rfl)
theorem dX6_falls_13 : decode cX6_falls 13 = .ok (.aload_n 0, 1) := dk_42 (dk_at dksX6_falls_0 13 rfl rfl)
theorem dX6_falls_14 : decode cX6_falls 14 = .ok (.iload_n 1, 1) := dk_27 (dk_at dksX6_falls_0 14 rfl rfl)
theorem dX6_falls_15 : decode cX6_falls 15 = .ok (.invokevirtual 170, 3) := dk_182 0 170 (dk_at dksX6_falls_0 15 rfl rfl)
theorem dX6_falls_18 : decode cX6_falls 18 = .ok (.ifCond .eq 7, 3) := dk_153 0 7 (dk_at dksX6_falls_0 18 rfl rfl)
theorem dX6_falls_21 : decode cX6_falls 21 = .ok (.iconst 0, 1) := dk_3 (dk_at dksX6_falls_0 21 rfl rfl)
theorem dX6_falls_22 : decode cX6_falls 22 = .ok (.goto 4, 3) := dk_167 0 4 (dk_at dksX6_falls_1 0 rfl rfl)
theorem dX6_falls_25 : decode cX6_falls 25 = .ok (.iconst 2, 1) := dk_5 (dk_at dksX6_falls_1 3 rfl rfl)
theorem dX6_falls_26 : decode cX6_falls 26 = .ok (.putfield 47, 3) := dk_181 0 47 (dk_at dksX6_falls_1 4 rfl rfl)
theorem dX6_falls_29 : decode cX6_falls 29 = .ok (.aload_n 0, 1) := dk_42 (dk_at dksX6_falls_1 7 rfl rfl)
theorem dX6_falls_30 : decode cX6_falls 30 = .ok (.getfield 47, 3) := dk_180 0 47 (dk_at dksX6_falls_1 8 rfl rfl)
theorem dX6_falls_33 : decode cX6_falls 33 = .ok (.ifCond .le 7, 3) := dk_158 0 7 (dk_at dksX6_falls_1 11 rfl rfl)
theorem dX6_falls_36 : decode cX6_falls 36 = .ok (.iconst 0, 1) := dk_3 (dk_at dksX6_falls_1 14 rfl rfl)
theorem dX6_falls_37 : decode cX6_falls 37 = .ok (.goto 22, 3) := dk_167 0 22 (dk_at dksX6_falls_1 15 rfl rfl)
theorem dX6_falls_40 : decode cX6_falls 40 = .ok (.aload_n 0, 1) := dk_42 (dk_at dksX6_falls_1 18 rfl rfl)
theorem dX6_falls_41 : decode cX6_falls 41 = .ok (.aload_n 0, 1) := dk_42 (dk_at dksX6_falls_1 19 rfl rfl)
theorem dX6_falls_42 : decode cX6_falls 42 = .ok (.iload_n 1, 1) := dk_27 (dk_at dksX6_falls_1 20 rfl rfl)
theorem dX6_falls_43 : decode cX6_falls 43 = .ok (.aload_n 0, 1) := dk_42 (dk_at dksX6_falls_1 21 rfl rfl)
theorem dX6_falls_44 : decode cX6_falls 44 = .ok (.invokevirtual 180, 3) := dk_182 0 180 (dk_at dksX6_falls_2 0 rfl rfl)
theorem dX6_falls_47 : decode cX6_falls 47 = .ok (.invokevirtual 177, 3) := dk_182 0 177 (dk_at dksX6_falls_2 3 rfl rfl)
theorem dX6_falls_50 : decode cX6_falls 50 = .ok (.iconst 1, 1) := dk_4 (dk_at dksX6_falls_2 6 rfl rfl)
theorem dX6_falls_51 : decode cX6_falls 51 = .ok (.iload_n 1, 1) := dk_27 (dk_at dksX6_falls_2 7 rfl rfl)
theorem dX6_falls_52 : decode cX6_falls 52 = .ok (.ishl, 1) := dk_120 (dk_at dksX6_falls_2 8 rfl rfl)
theorem dX6_falls_53 : decode cX6_falls 53 = .ok (.iconst (-1), 1) := dk_2 (dk_at dksX6_falls_2 9 rfl rfl)
theorem dX6_falls_54 : decode cX6_falls 54 = .ok (.ixor, 1) := dk_130 (dk_at dksX6_falls_2 10 rfl rfl)
theorem dX6_falls_55 : decode cX6_falls 55 = .ok (.iand, 1) := dk_126 (dk_at dksX6_falls_2 11 rfl rfl)
theorem dX6_falls_56 : decode cX6_falls 56 = .ok (.invokevirtual 207, 3) := dk_182 0 207 (dk_at dksX6_falls_2 12 rfl rfl)
theorem dX6_falls_59 : decode cX6_falls 59 = .ok (.ireturn, 1) := dk_172 (dk_at dksX6_falls_2 15 rfl rfl)
abbrev cX6_valueWithout : ByteArray := prog_16_method_71_code
def yX6_valueWithout : MethodName := ⟨RX6, "valueWithout", "(I)I"⟩
def dkwX6_valueWithout_9 : List UInt8 := [172]
abbrev dktX6_valueWithout_9 : List UInt8 := dkwX6_valueWithout_9 ++ []
def dkwX6_valueWithout_8 : List UInt8 := [16, 13, 21, 6, 96, 92, 46, 28, 21, 6, 122, 4, 126, 27, 120, 128, 79, 132, 6, 1, 167, 255, 221, 29]
abbrev dktX6_valueWithout_8 : List UInt8 := dkwX6_valueWithout_8 ++ dktX6_valueWithout_9
def dkwX6_valueWithout_7 : List UInt8 := [16, 13, 27, 96, 28, 79, 3, 54, 6, 21, 6, 42, 180, 0, 7, 3, 46, 162, 0, 30, 42, 180, 0, 7]
abbrev dktX6_valueWithout_7 : List UInt8 := dkwX6_valueWithout_7 ++ dktX6_valueWithout_8
def dkwX6_valueWithout_6 : List UInt8 := [42, 21, 5, 4, 27, 120, 2, 130, 126, 21, 4, 182, 0, 235, 16, 31, 126, 130, 62, 42, 180, 0, 7]
abbrev dktX6_valueWithout_6 : List UInt8 := dkwX6_valueWithout_6 ++ dktX6_valueWithout_7
def dkwX6_valueWithout_5 : List UInt8 := [4, 27, 120, 2, 130, 126, 79, 132, 6, 1, 167, 255, 224, 42, 180, 0, 7, 16, 13, 27, 96, 3, 79, 29]
abbrev dktX6_valueWithout_5 : List UInt8 := dkwX6_valueWithout_5 ++ dktX6_valueWithout_6
def dkwX6_valueWithout_4 : List UInt8 := [54, 6, 21, 6, 42, 180, 0, 7, 3, 46, 162, 0, 27, 42, 180, 0, 7, 16, 13, 21, 6, 96, 92, 46]
abbrev dktX6_valueWithout_4 : List UInt8 := dkwX6_valueWithout_4 ++ dktX6_valueWithout_5
def dkwX6_valueWithout_3 : List UInt8 := [182, 0, 177, 54, 5, 29, 42, 21, 5, 21, 4, 182, 0, 229, 16, 31, 126, 130, 62, 42, 182, 0, 253, 3]
abbrev dktX6_valueWithout_3 : List UInt8 := dkwX6_valueWithout_3 ++ dktX6_valueWithout_4
def dkwX6_valueWithout_2 : List UInt8 := [16, 13, 27, 96, 46, 61, 42, 182, 1, 0, 62, 42, 27, 182, 0, 192, 54, 4, 42, 27, 42, 182, 0, 180]
abbrev dktX6_valueWithout_2 : List UInt8 := dkwX6_valueWithout_2 ++ dktX6_valueWithout_3
def dkwX6_valueWithout_1 : List UInt8 := [167, 0, 4, 5, 181, 0, 47, 42, 180, 0, 47, 158, 0, 5, 3, 172, 42, 182, 0, 253, 42, 180, 0, 7]
abbrev dktX6_valueWithout_1 : List UInt8 := dkwX6_valueWithout_1 ++ dktX6_valueWithout_2
def dkwX6_valueWithout_0 : List UInt8 := [42, 42, 27, 182, 0, 220, 154, 0, 7, 4, 167, 0, 16, 42, 27, 182, 0, 170, 153, 0, 7, 3]
abbrev dktX6_valueWithout_0 : List UInt8 := dkwX6_valueWithout_0 ++ dktX6_valueWithout_1
theorem dksX6_valueWithout_0 : cX6_valueWithout.data.toList.drop 0 = dktX6_valueWithout_0 := by decide +kernel
theorem dksX6_valueWithout_1 : cX6_valueWithout.data.toList.drop 22 = dktX6_valueWithout_1 := dk_seg dksX6_valueWithout_0 22 rfl rfl
theorem dksX6_valueWithout_2 : cX6_valueWithout.data.toList.drop 46 = dktX6_valueWithout_2 := dk_seg dksX6_valueWithout_1 24 rfl rfl
theorem dksX6_valueWithout_3 : cX6_valueWithout.data.toList.drop 70 = dktX6_valueWithout_3 := dk_seg dksX6_valueWithout_2 24 rfl rfl
theorem dksX6_valueWithout_4 : cX6_valueWithout.data.toList.drop 94 = dktX6_valueWithout_4 := dk_seg dksX6_valueWithout_3 24 rfl rfl
theorem dksX6_valueWithout_5 : cX6_valueWithout.data.toList.drop 118 = dktX6_valueWithout_5 := dk_seg dksX6_valueWithout_4 24 rfl rfl
theorem dksX6_valueWithout_6 : cX6_valueWithout.data.toList.drop 142 = dktX6_valueWithout_6 := dk_seg dksX6_valueWithout_5 24 rfl rfl
theorem dksX6_valueWithout_7 : cX6_valueWithout.data.toList.drop 165 = dktX6_valueWithout_7 := dk_seg dksX6_valueWithout_6 23 rfl rfl
theorem dksX6_valueWithout_8 : cX6_valueWithout.data.toList.drop 189 = dktX6_valueWithout_8 := dk_seg dksX6_valueWithout_7 24 rfl rfl
theorem dksX6_valueWithout_9 : cX6_valueWithout.data.toList.drop 213 = dktX6_valueWithout_9 := dk_seg dksX6_valueWithout_8 24 rfl rfl
theorem dX6_valueWithout_0 : decode cX6_valueWithout 0 = .ok (.aload_n 0, 1) := dk_42 (dk_at dksX6_valueWithout_0 0 rfl rfl)
theorem dX6_valueWithout_1 : decode cX6_valueWithout 1 = .ok (.aload_n 0, 1) := dk_42 (dk_at dksX6_valueWithout_0 1 rfl rfl)
theorem dX6_valueWithout_2 : decode cX6_valueWithout 2 = .ok (.iload_n 1, 1) := dk_27 (dk_at dksX6_valueWithout_0 2 rfl rfl)
theorem dX6_valueWithout_3 : decode cX6_valueWithout 3 = .ok (.invokevirtual 220, 3) := dk_182 0 220 (dk_at dksX6_valueWithout_0 3 rfl rfl)
theorem dX6_valueWithout_6 : decode cX6_valueWithout 6 = .ok (.ifCond .ne 7, 3) := dk_154 0 7 (dk_at dksX6_valueWithout_0 6 rfl rfl)
theorem dX6_valueWithout_9 : decode cX6_valueWithout 9 = .ok (.iconst 1, 1) := dk_4 (dk_at dksX6_valueWithout_0 9 rfl rfl)
theorem dX6_valueWithout_10 : decode cX6_valueWithout 10 = .ok (.goto 16, 3) := dk_167 0 16 (dk_at dksX6_valueWithout_0 10 rfl rfl)
theorem dX6_valueWithout_13 : decode cX6_valueWithout 13 = .ok (.aload_n 0, 1) := dk_42 (dk_at dksX6_valueWithout_0 13 rfl rfl)
theorem dX6_valueWithout_14 : decode cX6_valueWithout 14 = .ok (.iload_n 1, 1) := dk_27 (dk_at dksX6_valueWithout_0 14 rfl rfl)
theorem dX6_valueWithout_15 : decode cX6_valueWithout 15 = .ok (.invokevirtual 170, 3) := dk_182 0 170 (dk_at dksX6_valueWithout_0 15 rfl rfl)
theorem dX6_valueWithout_18 : decode cX6_valueWithout 18 = .ok (.ifCond .eq 7, 3) := dk_153 0 7 (dk_at dksX6_valueWithout_0 18 rfl rfl)
theorem dX6_valueWithout_21 : decode cX6_valueWithout 21 = .ok (.iconst 0, 1) := dk_3 (dk_at dksX6_valueWithout_0 21 rfl rfl)
theorem dX6_valueWithout_22 : decode cX6_valueWithout 22 = .ok (.goto 4, 3) := dk_167 0 4 (dk_at dksX6_valueWithout_1 0 rfl rfl)
theorem dX6_valueWithout_25 : decode cX6_valueWithout 25 = .ok (.iconst 2, 1) := dk_5 (dk_at dksX6_valueWithout_1 3 rfl rfl)
theorem dX6_valueWithout_26 : decode cX6_valueWithout 26 = .ok (.putfield 47, 3) := dk_181 0 47 (dk_at dksX6_valueWithout_1 4 rfl rfl)
theorem dX6_valueWithout_29 : decode cX6_valueWithout 29 = .ok (.aload_n 0, 1) := dk_42 (dk_at dksX6_valueWithout_1 7 rfl rfl)
theorem dX6_valueWithout_30 : decode cX6_valueWithout 30 = .ok (.getfield 47, 3) := dk_180 0 47 (dk_at dksX6_valueWithout_1 8 rfl rfl)
theorem dX6_valueWithout_33 : decode cX6_valueWithout 33 = .ok (.ifCond .le 5, 3) := dk_158 0 5 (dk_at dksX6_valueWithout_1 11 rfl rfl)
theorem dX6_valueWithout_36 : decode cX6_valueWithout 36 = .ok (.iconst 0, 1) := dk_3 (dk_at dksX6_valueWithout_1 14 rfl rfl)
theorem dX6_valueWithout_37 : decode cX6_valueWithout 37 = .ok (.ireturn, 1) := dk_172 (dk_at dksX6_valueWithout_1 15 rfl rfl)
theorem dX6_valueWithout_38 : decode cX6_valueWithout 38 = .ok (.aload_n 0, 1) := dk_42 (dk_at dksX6_valueWithout_1 16 rfl rfl)
theorem dX6_valueWithout_39 : decode cX6_valueWithout 39 = .ok (.invokevirtual 253, 3) := dk_182 0 253 (dk_at dksX6_valueWithout_1 17 rfl rfl)
theorem dX6_valueWithout_42 : decode cX6_valueWithout 42 = .ok (.aload_n 0, 1) := dk_42 (dk_at dksX6_valueWithout_1 20 rfl rfl)
theorem dX6_valueWithout_43 : decode cX6_valueWithout 43 = .ok (.getfield 7, 3) := dk_180 0 7 (dk_at dksX6_valueWithout_1 21 rfl rfl)
theorem dX6_valueWithout_46 : decode cX6_valueWithout 46 = .ok (.bipush 13, 2) := dk_16 13 (dk_at dksX6_valueWithout_2 0 rfl rfl)
theorem dX6_valueWithout_48 : decode cX6_valueWithout 48 = .ok (.iload_n 1, 1) := dk_27 (dk_at dksX6_valueWithout_2 2 rfl rfl)
theorem dX6_valueWithout_49 : decode cX6_valueWithout 49 = .ok (.iadd, 1) := dk_96 (dk_at dksX6_valueWithout_2 3 rfl rfl)
theorem dX6_valueWithout_50 : decode cX6_valueWithout 50 = .ok (.iaload, 1) := dk_46 (dk_at dksX6_valueWithout_2 4 rfl rfl)
theorem dX6_valueWithout_51 : decode cX6_valueWithout 51 = .ok (.istore_n 2, 1) := dk_61 (dk_at dksX6_valueWithout_2 5 rfl rfl)
theorem dX6_valueWithout_52 : decode cX6_valueWithout 52 = .ok (.aload_n 0, 1) := dk_42 (dk_at dksX6_valueWithout_2 6 rfl rfl)
theorem dX6_valueWithout_53 : decode cX6_valueWithout 53 = .ok (.invokevirtual 256, 3) := dk_182 1 0 (dk_at dksX6_valueWithout_2 7 rfl rfl)
theorem dX6_valueWithout_56 : decode cX6_valueWithout 56 = .ok (.istore_n 3, 1) := dk_62 (dk_at dksX6_valueWithout_2 10 rfl rfl)
theorem dX6_valueWithout_57 : decode cX6_valueWithout 57 = .ok (.aload_n 0, 1) := dk_42 (dk_at dksX6_valueWithout_2 11 rfl rfl)
theorem dX6_valueWithout_58 : decode cX6_valueWithout 58 = .ok (.iload_n 1, 1) := dk_27 (dk_at dksX6_valueWithout_2 12 rfl rfl)
theorem dX6_valueWithout_59 : decode cX6_valueWithout 59 = .ok (.invokevirtual 192, 3) := dk_182 0 192 (dk_at dksX6_valueWithout_2 13 rfl rfl)
theorem dX6_valueWithout_62 : decode cX6_valueWithout 62 = .ok (.istore 4, 2) := dk_54 4 (dk_at dksX6_valueWithout_2 16 rfl rfl)
theorem dX6_valueWithout_64 : decode cX6_valueWithout 64 = .ok (.aload_n 0, 1) := dk_42 (dk_at dksX6_valueWithout_2 18 rfl rfl)
theorem dX6_valueWithout_65 : decode cX6_valueWithout 65 = .ok (.iload_n 1, 1) := dk_27 (dk_at dksX6_valueWithout_2 19 rfl rfl)
theorem dX6_valueWithout_66 : decode cX6_valueWithout 66 = .ok (.aload_n 0, 1) := dk_42 (dk_at dksX6_valueWithout_2 20 rfl rfl)
theorem dX6_valueWithout_67 : decode cX6_valueWithout 67 = .ok (.invokevirtual 180, 3) := dk_182 0 180 (dk_at dksX6_valueWithout_2 21 rfl rfl)
theorem dX6_valueWithout_70 : decode cX6_valueWithout 70 = .ok (.invokevirtual 177, 3) := dk_182 0 177 (dk_at dksX6_valueWithout_3 0 rfl rfl)
theorem dX6_valueWithout_73 : decode cX6_valueWithout 73 = .ok (.istore 5, 2) := dk_54 5 (dk_at dksX6_valueWithout_3 3 rfl rfl)
theorem dX6_valueWithout_75 : decode cX6_valueWithout 75 = .ok (.iload_n 3, 1) := dk_29 (dk_at dksX6_valueWithout_3 5 rfl rfl)
theorem dX6_valueWithout_76 : decode cX6_valueWithout 76 = .ok (.aload_n 0, 1) := dk_42 (dk_at dksX6_valueWithout_3 6 rfl rfl)
theorem dX6_valueWithout_77 : decode cX6_valueWithout 77 = .ok (.iload 5, 2) := dk_21 5 (dk_at dksX6_valueWithout_3 7 rfl rfl)
theorem dX6_valueWithout_79 : decode cX6_valueWithout 79 = .ok (.iload 4, 2) := dk_21 4 (dk_at dksX6_valueWithout_3 9 rfl rfl)
theorem dX6_valueWithout_81 : decode cX6_valueWithout 81 = .ok (.invokevirtual 229, 3) := dk_182 0 229 (dk_at dksX6_valueWithout_3 11 rfl rfl)
theorem dX6_valueWithout_84 : decode cX6_valueWithout 84 = .ok (.bipush 31, 2) := dk_16 31 (dk_at dksX6_valueWithout_3 14 rfl rfl)
theorem dX6_valueWithout_86 : decode cX6_valueWithout 86 = .ok (.iand, 1) := dk_126 (dk_at dksX6_valueWithout_3 16 rfl rfl)
theorem dX6_valueWithout_87 : decode cX6_valueWithout 87 = .ok (.ixor, 1) := dk_130 (dk_at dksX6_valueWithout_3 17 rfl rfl)
theorem dX6_valueWithout_88 : decode cX6_valueWithout 88 = .ok (.istore_n 3, 1) := dk_62 (dk_at dksX6_valueWithout_3 18 rfl rfl)
theorem dX6_valueWithout_89 : decode cX6_valueWithout 89 = .ok (.aload_n 0, 1) := dk_42 (dk_at dksX6_valueWithout_3 19 rfl rfl)
theorem dX6_valueWithout_90 : decode cX6_valueWithout 90 = .ok (.invokevirtual 253, 3) := dk_182 0 253 (dk_at dksX6_valueWithout_3 20 rfl rfl)
theorem dX6_valueWithout_93 : decode cX6_valueWithout 93 = .ok (.iconst 0, 1) := dk_3 (dk_at dksX6_valueWithout_3 23 rfl rfl)
theorem dX6_valueWithout_94 : decode cX6_valueWithout 94 = .ok (.istore 6, 2) := dk_54 6 (dk_at dksX6_valueWithout_4 0 rfl rfl)
theorem dX6_valueWithout_96 : decode cX6_valueWithout 96 = .ok (.iload 6, 2) := dk_21 6 (dk_at dksX6_valueWithout_4 2 rfl rfl)
theorem dX6_valueWithout_98 : decode cX6_valueWithout 98 = .ok (.aload_n 0, 1) := dk_42 (dk_at dksX6_valueWithout_4 4 rfl rfl)
theorem dX6_valueWithout_99 : decode cX6_valueWithout 99 = .ok (.getfield 7, 3) := dk_180 0 7 (dk_at dksX6_valueWithout_4 5 rfl rfl)
theorem dX6_valueWithout_102 : decode cX6_valueWithout 102 = .ok (.iconst 0, 1) := dk_3 (dk_at dksX6_valueWithout_4 8 rfl rfl)
theorem dX6_valueWithout_103 : decode cX6_valueWithout 103 = .ok (.iaload, 1) := dk_46 (dk_at dksX6_valueWithout_4 9 rfl rfl)
theorem dX6_valueWithout_104 : decode cX6_valueWithout 104 = .ok (.if_icmp .ge 27, 3) := dk_162 0 27 (dk_at dksX6_valueWithout_4 10 rfl rfl)
theorem dX6_valueWithout_107 : decode cX6_valueWithout 107 = .ok (.aload_n 0, 1) := dk_42 (dk_at dksX6_valueWithout_4 13 rfl rfl)
theorem dX6_valueWithout_108 : decode cX6_valueWithout 108 = .ok (.getfield 7, 3) := dk_180 0 7 (dk_at dksX6_valueWithout_4 14 rfl rfl)
theorem dX6_valueWithout_111 : decode cX6_valueWithout 111 = .ok (.bipush 13, 2) := dk_16 13 (dk_at dksX6_valueWithout_4 17 rfl rfl)
theorem dX6_valueWithout_113 : decode cX6_valueWithout 113 = .ok (.iload 6, 2) := dk_21 6 (dk_at dksX6_valueWithout_4 19 rfl rfl)
theorem dX6_valueWithout_115 : decode cX6_valueWithout 115 = .ok (.iadd, 1) := dk_96 (dk_at dksX6_valueWithout_4 21 rfl rfl)
theorem dX6_valueWithout_116 : decode cX6_valueWithout 116 = .ok (.dup2, 1) := dk_92 (dk_at dksX6_valueWithout_4 22 rfl rfl)
theorem dX6_valueWithout_117 : decode cX6_valueWithout 117 = .ok (.iaload, 1) := dk_46 (dk_at dksX6_valueWithout_4 23 rfl rfl)
theorem dX6_valueWithout_118 : decode cX6_valueWithout 118 = .ok (.iconst 1, 1) := dk_4 (dk_at dksX6_valueWithout_5 0 rfl rfl)
theorem dX6_valueWithout_119 : decode cX6_valueWithout 119 = .ok (.iload_n 1, 1) := dk_27 (dk_at dksX6_valueWithout_5 1 rfl rfl)
theorem dX6_valueWithout_120 : decode cX6_valueWithout 120 = .ok (.ishl, 1) := dk_120 (dk_at dksX6_valueWithout_5 2 rfl rfl)
theorem dX6_valueWithout_121 : decode cX6_valueWithout 121 = .ok (.iconst (-1), 1) := dk_2 (dk_at dksX6_valueWithout_5 3 rfl rfl)
theorem dX6_valueWithout_122 : decode cX6_valueWithout 122 = .ok (.ixor, 1) := dk_130 (dk_at dksX6_valueWithout_5 4 rfl rfl)
theorem dX6_valueWithout_123 : decode cX6_valueWithout 123 = .ok (.iand, 1) := dk_126 (dk_at dksX6_valueWithout_5 5 rfl rfl)
theorem dX6_valueWithout_124 : decode cX6_valueWithout 124 = .ok (.iastore, 1) := dk_79 (dk_at dksX6_valueWithout_5 6 rfl rfl)
theorem dX6_valueWithout_125 : decode cX6_valueWithout 125 = .ok (.iinc 6 1, 3) := dk_132 6 1 (dk_at dksX6_valueWithout_5 7 rfl rfl)
theorem dX6_valueWithout_128 : decode cX6_valueWithout 128 = .ok (.goto (-32), 3) := dk_167 255 224 (dk_at dksX6_valueWithout_5 10 rfl rfl)
theorem dX6_valueWithout_131 : decode cX6_valueWithout 131 = .ok (.aload_n 0, 1) := dk_42 (dk_at dksX6_valueWithout_5 13 rfl rfl)
theorem dX6_valueWithout_132 : decode cX6_valueWithout 132 = .ok (.getfield 7, 3) := dk_180 0 7 (dk_at dksX6_valueWithout_5 14 rfl rfl)
theorem dX6_valueWithout_135 : decode cX6_valueWithout 135 = .ok (.bipush 13, 2) := dk_16 13 (dk_at dksX6_valueWithout_5 17 rfl rfl)
theorem dX6_valueWithout_137 : decode cX6_valueWithout 137 = .ok (.iload_n 1, 1) := dk_27 (dk_at dksX6_valueWithout_5 19 rfl rfl)
theorem dX6_valueWithout_138 : decode cX6_valueWithout 138 = .ok (.iadd, 1) := dk_96 (dk_at dksX6_valueWithout_5 20 rfl rfl)
theorem dX6_valueWithout_139 : decode cX6_valueWithout 139 = .ok (.iconst 0, 1) := dk_3 (dk_at dksX6_valueWithout_5 21 rfl rfl)
theorem dX6_valueWithout_140 : decode cX6_valueWithout 140 = .ok (.iastore, 1) := dk_79 (dk_at dksX6_valueWithout_5 22 rfl rfl)
theorem dX6_valueWithout_141 : decode cX6_valueWithout 141 = .ok (.iload_n 3, 1) := dk_29 (dk_at dksX6_valueWithout_5 23 rfl rfl)
theorem dX6_valueWithout_142 : decode cX6_valueWithout 142 = .ok (.aload_n 0, 1) := dk_42 (dk_at dksX6_valueWithout_6 0 rfl rfl)
theorem dX6_valueWithout_143 : decode cX6_valueWithout 143 = .ok (.iload 5, 2) := dk_21 5 (dk_at dksX6_valueWithout_6 1 rfl rfl)
theorem dX6_valueWithout_145 : decode cX6_valueWithout 145 = .ok (.iconst 1, 1) := dk_4 (dk_at dksX6_valueWithout_6 3 rfl rfl)
theorem dX6_valueWithout_146 : decode cX6_valueWithout 146 = .ok (.iload_n 1, 1) := dk_27 (dk_at dksX6_valueWithout_6 4 rfl rfl)
theorem dX6_valueWithout_147 : decode cX6_valueWithout 147 = .ok (.ishl, 1) := dk_120 (dk_at dksX6_valueWithout_6 5 rfl rfl)
theorem dX6_valueWithout_148 : decode cX6_valueWithout 148 = .ok (.iconst (-1), 1) := dk_2 (dk_at dksX6_valueWithout_6 6 rfl rfl)
theorem dX6_valueWithout_149 : decode cX6_valueWithout 149 = .ok (.ixor, 1) := dk_130 (dk_at dksX6_valueWithout_6 7 rfl rfl)
theorem dX6_valueWithout_150 : decode cX6_valueWithout 150 = .ok (.iand, 1) := dk_126 (dk_at dksX6_valueWithout_6 8 rfl rfl)
theorem dX6_valueWithout_151 : decode cX6_valueWithout 151 = .ok (.iload 4, 2) := dk_21 4 (dk_at dksX6_valueWithout_6 9 rfl rfl)
theorem dX6_valueWithout_153 : decode cX6_valueWithout 153 = .ok (.invokevirtual 235, 3) := dk_182 0 235 (dk_at dksX6_valueWithout_6 11 rfl rfl)
theorem dX6_valueWithout_156 : decode cX6_valueWithout 156 = .ok (.bipush 31, 2) := dk_16 31 (dk_at dksX6_valueWithout_6 14 rfl rfl)
theorem dX6_valueWithout_158 : decode cX6_valueWithout 158 = .ok (.iand, 1) := dk_126 (dk_at dksX6_valueWithout_6 16 rfl rfl)
theorem dX6_valueWithout_159 : decode cX6_valueWithout 159 = .ok (.ixor, 1) := dk_130 (dk_at dksX6_valueWithout_6 17 rfl rfl)
theorem dX6_valueWithout_160 : decode cX6_valueWithout 160 = .ok (.istore_n 3, 1) := dk_62 (dk_at dksX6_valueWithout_6 18 rfl rfl)
theorem dX6_valueWithout_161 : decode cX6_valueWithout 161 = .ok (.aload_n 0, 1) := dk_42 (dk_at dksX6_valueWithout_6 19 rfl rfl)
theorem dX6_valueWithout_162 : decode cX6_valueWithout 162 = .ok (.getfield 7, 3) := dk_180 0 7 (dk_at dksX6_valueWithout_6 20 rfl rfl)
theorem dX6_valueWithout_165 : decode cX6_valueWithout 165 = .ok (.bipush 13, 2) := dk_16 13 (dk_at dksX6_valueWithout_7 0 rfl rfl)
theorem dX6_valueWithout_167 : decode cX6_valueWithout 167 = .ok (.iload_n 1, 1) := dk_27 (dk_at dksX6_valueWithout_7 2 rfl rfl)
theorem dX6_valueWithout_168 : decode cX6_valueWithout 168 = .ok (.iadd, 1) := dk_96 (dk_at dksX6_valueWithout_7 3 rfl rfl)
theorem dX6_valueWithout_169 : decode cX6_valueWithout 169 = .ok (.iload_n 2, 1) := dk_28 (dk_at dksX6_valueWithout_7 4 rfl rfl)
theorem dX6_valueWithout_170 : decode cX6_valueWithout 170 = .ok (.iastore, 1) := dk_79 (dk_at dksX6_valueWithout_7 5 rfl rfl)
theorem dX6_valueWithout_171 : decode cX6_valueWithout 171 = .ok (.iconst 0, 1) := dk_3 (dk_at dksX6_valueWithout_7 6 rfl rfl)
theorem dX6_valueWithout_172 : decode cX6_valueWithout 172 = .ok (.istore 6, 2) := dk_54 6 (dk_at dksX6_valueWithout_7 7 rfl rfl)
theorem dX6_valueWithout_174 : decode cX6_valueWithout 174 = .ok (.iload 6, 2) := dk_21 6 (dk_at dksX6_valueWithout_7 9 rfl rfl)
theorem dX6_valueWithout_176 : decode cX6_valueWithout 176 = .ok (.aload_n 0, 1) := dk_42 (dk_at dksX6_valueWithout_7 11 rfl rfl)
theorem dX6_valueWithout_177 : decode cX6_valueWithout 177 = .ok (.getfield 7, 3) := dk_180 0 7 (dk_at dksX6_valueWithout_7 12 rfl rfl)
theorem dX6_valueWithout_180 : decode cX6_valueWithout 180 = .ok (.iconst 0, 1) := dk_3 (dk_at dksX6_valueWithout_7 15 rfl rfl)
theorem dX6_valueWithout_181 : decode cX6_valueWithout 181 = .ok (.iaload, 1) := dk_46 (dk_at dksX6_valueWithout_7 16 rfl rfl)
theorem dX6_valueWithout_182 : decode cX6_valueWithout 182 = .ok (.if_icmp .ge 30, 3) := dk_162 0 30 (dk_at dksX6_valueWithout_7 17 rfl rfl)
theorem dX6_valueWithout_185 : decode cX6_valueWithout 185 = .ok (.aload_n 0, 1) := dk_42 (dk_at dksX6_valueWithout_7 20 rfl rfl)
theorem dX6_valueWithout_186 : decode cX6_valueWithout 186 = .ok (.getfield 7, 3) := dk_180 0 7 (dk_at dksX6_valueWithout_7 21 rfl rfl)
theorem dX6_valueWithout_189 : decode cX6_valueWithout 189 = .ok (.bipush 13, 2) := dk_16 13 (dk_at dksX6_valueWithout_8 0 rfl rfl)
theorem dX6_valueWithout_191 : decode cX6_valueWithout 191 = .ok (.iload 6, 2) := dk_21 6 (dk_at dksX6_valueWithout_8 2 rfl rfl)
theorem dX6_valueWithout_193 : decode cX6_valueWithout 193 = .ok (.iadd, 1) := dk_96 (dk_at dksX6_valueWithout_8 4 rfl rfl)
theorem dX6_valueWithout_194 : decode cX6_valueWithout 194 = .ok (.dup2, 1) := dk_92 (dk_at dksX6_valueWithout_8 5 rfl rfl)
theorem dX6_valueWithout_195 : decode cX6_valueWithout 195 = .ok (.iaload, 1) := dk_46 (dk_at dksX6_valueWithout_8 6 rfl rfl)
theorem dX6_valueWithout_196 : decode cX6_valueWithout 196 = .ok (.iload_n 2, 1) := dk_28 (dk_at dksX6_valueWithout_8 7 rfl rfl)
theorem dX6_valueWithout_197 : decode cX6_valueWithout 197 = .ok (.iload 6, 2) := dk_21 6 (dk_at dksX6_valueWithout_8 8 rfl rfl)
theorem dX6_valueWithout_199 : decode cX6_valueWithout 199 = .ok (.ishr, 1) := dk_122 (dk_at dksX6_valueWithout_8 10 rfl rfl)
theorem dX6_valueWithout_200 : decode cX6_valueWithout 200 = .ok (.iconst 1, 1) := dk_4 (dk_at dksX6_valueWithout_8 11 rfl rfl)
theorem dX6_valueWithout_201 : decode cX6_valueWithout 201 = .ok (.iand, 1) := dk_126 (dk_at dksX6_valueWithout_8 12 rfl rfl)
theorem dX6_valueWithout_202 : decode cX6_valueWithout 202 = .ok (.iload_n 1, 1) := dk_27 (dk_at dksX6_valueWithout_8 13 rfl rfl)
theorem dX6_valueWithout_203 : decode cX6_valueWithout 203 = .ok (.ishl, 1) := dk_120 (dk_at dksX6_valueWithout_8 14 rfl rfl)
theorem dX6_valueWithout_204 : decode cX6_valueWithout 204 = .ok (.ior, 1) := dk_128 (dk_at dksX6_valueWithout_8 15 rfl rfl)
theorem dX6_valueWithout_205 : decode cX6_valueWithout 205 = .ok (.iastore, 1) := dk_79 (dk_at dksX6_valueWithout_8 16 rfl rfl)
theorem dX6_valueWithout_206 : decode cX6_valueWithout 206 = .ok (.iinc 6 1, 3) := dk_132 6 1 (dk_at dksX6_valueWithout_8 17 rfl rfl)
theorem dX6_valueWithout_209 : decode cX6_valueWithout 209 = .ok (.goto (-35), 3) := dk_167 255 221 (dk_at dksX6_valueWithout_8 20 rfl rfl)
theorem dX6_valueWithout_212 : decode cX6_valueWithout 212 = .ok (.iload_n 3, 1) := dk_29 (dk_at dksX6_valueWithout_8 23 rfl rfl)
theorem dX6_valueWithout_213 : decode cX6_valueWithout 213 = .ok (.ireturn, 1) := dk_172 (dk_at dksX6_valueWithout_9 0 rfl rfl)
abbrev cX6_lay : ByteArray := prog_16_method_75_code
def yX6_lay : MethodName := ⟨RX6, "lay", "(II)I"⟩
def dkwX6_lay_2 : List UInt8 := [182, 0, 167, 42, 27, 28, 182, 0, 130, 42, 42, 182, 0, 180, 182, 0, 207, 172]
abbrev dktX6_lay_2 : List UInt8 := dkwX6_lay_2 ++ []
def dkwX6_lay_1 : List UInt8 := [182, 0, 127, 158, 0, 7, 5, 167, 0, 4, 3, 181, 0, 47, 42, 180, 0, 47, 158, 0, 5, 3, 172, 42]
abbrev dktX6_lay_1 : List UInt8 := dkwX6_lay_1 ++ dktX6_lay_2
def dkwX6_lay_0 : List UInt8 := [42, 42, 27, 182, 0, 220, 153, 0, 11, 42, 28, 182, 0, 226, 154, 0, 7, 4, 167, 0, 17, 42, 27, 28]
abbrev dktX6_lay_0 : List UInt8 := dkwX6_lay_0 ++ dktX6_lay_1
theorem dksX6_lay_0 : cX6_lay.data.toList.drop 0 = dktX6_lay_0 := by decide +kernel
theorem dksX6_lay_1 : cX6_lay.data.toList.drop 24 = dktX6_lay_1 := dk_seg dksX6_lay_0 24 rfl rfl
theorem dksX6_lay_2 : cX6_lay.data.toList.drop 48 = dktX6_lay_2 := dk_seg dksX6_lay_1 24 rfl rfl
theorem dX6_lay_0 : decode cX6_lay 0 = .ok (.aload_n 0, 1) := dk_42 (dk_at dksX6_lay_0 0 rfl rfl)
theorem dX6_lay_1 : decode cX6_lay 1 = .ok (.aload_n 0, 1) := dk_42 (dk_at dksX6_lay_0 1 rfl rfl)
theorem dX6_lay_2 : decode cX6_lay 2 = .ok (.iload_n 1, 1) := dk_27 (dk_at dksX6_lay_0 2 rfl rfl)
theorem dX6_lay_3 : decode cX6_lay 3 = .ok (.invokevirtual 220, 3) := dk_182 0 220 (dk_at dksX6_lay_0 3 rfl rfl)
theorem dX6_lay_6 : decode cX6_lay 6 = .ok (.ifCond .eq 11, 3) := dk_153 0 11 (dk_at dksX6_lay_0 6 rfl rfl)
theorem dX6_lay_9 : decode cX6_lay 9 = .ok (.aload_n 0, 1) := dk_42 (dk_at dksX6_lay_0 9 rfl rfl)
theorem dX6_lay_10 : decode cX6_lay 10 = .ok (.iload_n 2, 1) := dk_28 (dk_at dksX6_lay_0 10 rfl rfl)
theorem dX6_lay_11 : decode cX6_lay 11 = .ok (.invokevirtual 226, 3) := dk_182 0 226 (dk_at dksX6_lay_0 11 rfl rfl)
theorem dX6_lay_14 : decode cX6_lay 14 = .ok (.ifCond .ne 7, 3) := dk_154 0 7 (dk_at dksX6_lay_0 14 rfl rfl)
theorem dX6_lay_17 : decode cX6_lay 17 = .ok (.iconst 1, 1) := dk_4 (dk_at dksX6_lay_0 17 rfl rfl)
theorem dX6_lay_18 : decode cX6_lay 18 = .ok (.goto 17, 3) := dk_167 0 17 (dk_at dksX6_lay_0 18 rfl rfl)
theorem dX6_lay_21 : decode cX6_lay 21 = .ok (.aload_n 0, 1) := dk_42 (dk_at dksX6_lay_0 21 rfl rfl)
theorem dX6_lay_22 : decode cX6_lay 22 = .ok (.iload_n 1, 1) := dk_27 (dk_at dksX6_lay_0 22 rfl rfl)
theorem dX6_lay_23 : decode cX6_lay 23 = .ok (.iload_n 2, 1) := dk_28 (dk_at dksX6_lay_0 23 rfl rfl)
theorem dX6_lay_24 : decode cX6_lay 24 = .ok (.invokevirtual 127, 3) := dk_182 0 127 (dk_at dksX6_lay_1 0 rfl rfl)
theorem dX6_lay_27 : decode cX6_lay 27 = .ok (.ifCond .le 7, 3) := dk_158 0 7 (dk_at dksX6_lay_1 3 rfl rfl)
theorem dX6_lay_30 : decode cX6_lay 30 = .ok (.iconst 2, 1) := dk_5 (dk_at dksX6_lay_1 6 rfl rfl)
theorem dX6_lay_31 : decode cX6_lay 31 = .ok (.goto 4, 3) := dk_167 0 4 (dk_at dksX6_lay_1 7 rfl rfl)
theorem dX6_lay_34 : decode cX6_lay 34 = .ok (.iconst 0, 1) := dk_3 (dk_at dksX6_lay_1 10 rfl rfl)
theorem dX6_lay_35 : decode cX6_lay 35 = .ok (.putfield 47, 3) := dk_181 0 47 (dk_at dksX6_lay_1 11 rfl rfl)
theorem dX6_lay_38 : decode cX6_lay 38 = .ok (.aload_n 0, 1) := dk_42 (dk_at dksX6_lay_1 14 rfl rfl)
theorem dX6_lay_39 : decode cX6_lay 39 = .ok (.getfield 47, 3) := dk_180 0 47 (dk_at dksX6_lay_1 15 rfl rfl)
theorem dX6_lay_42 : decode cX6_lay 42 = .ok (.ifCond .le 5, 3) := dk_158 0 5 (dk_at dksX6_lay_1 18 rfl rfl)
theorem dX6_lay_45 : decode cX6_lay 45 = .ok (.iconst 0, 1) := dk_3 (dk_at dksX6_lay_1 21 rfl rfl)
theorem dX6_lay_46 : decode cX6_lay 46 = .ok (.ireturn, 1) := dk_172 (dk_at dksX6_lay_1 22 rfl rfl)
theorem dX6_lay_47 : decode cX6_lay 47 = .ok (.aload_n 0, 1) := dk_42 (dk_at dksX6_lay_1 23 rfl rfl)
theorem dX6_lay_48 : decode cX6_lay 48 = .ok (.invokevirtual 167, 3) := dk_182 0 167 (dk_at dksX6_lay_2 0 rfl rfl)
theorem dX6_lay_51 : decode cX6_lay 51 = .ok (.aload_n 0, 1) := dk_42 (dk_at dksX6_lay_2 3 rfl rfl)
theorem dX6_lay_52 : decode cX6_lay 52 = .ok (.iload_n 1, 1) := dk_27 (dk_at dksX6_lay_2 4 rfl rfl)
theorem dX6_lay_53 : decode cX6_lay 53 = .ok (.iload_n 2, 1) := dk_28 (dk_at dksX6_lay_2 5 rfl rfl)
theorem dX6_lay_54 : decode cX6_lay 54 = .ok (.invokevirtual 130, 3) := dk_182 0 130 (dk_at dksX6_lay_2 6 rfl rfl)
theorem dX6_lay_57 : decode cX6_lay 57 = .ok (.aload_n 0, 1) := dk_42 (dk_at dksX6_lay_2 9 rfl rfl)
theorem dX6_lay_58 : decode cX6_lay 58 = .ok (.aload_n 0, 1) := dk_42 (dk_at dksX6_lay_2 10 rfl rfl)
theorem dX6_lay_59 : decode cX6_lay 59 = .ok (.invokevirtual 180, 3) := dk_182 0 180 (dk_at dksX6_lay_2 11 rfl rfl)
theorem dX6_lay_62 : decode cX6_lay 62 = .ok (.invokevirtual 207, 3) := dk_182 0 207 (dk_at dksX6_lay_2 14 rfl rfl)
theorem dX6_lay_65 : decode cX6_lay 65 = .ok (.ireturn, 1) := dk_172 (dk_at dksX6_lay_2 17 rfl rfl)
abbrev cX6_pass : ByteArray := prog_16_method_76_code
def yX6_pass : MethodName := ⟨RX6, "pass", "()I"⟩
def dkwX6_pass_1 : List UInt8 := [158, 0, 5, 3, 172, 42, 182, 0, 167, 42, 182, 0, 134, 42, 180, 0, 7, 5, 46, 172]
abbrev dktX6_pass_1 : List UInt8 := dkwX6_pass_1 ++ []
def dkwX6_pass_0 : List UInt8 := [42, 42, 180, 0, 7, 5, 46, 154, 0, 7, 4, 167, 0, 4, 3, 181, 0, 47, 42, 180, 0, 47]
abbrev dktX6_pass_0 : List UInt8 := dkwX6_pass_0 ++ dktX6_pass_1
theorem dksX6_pass_0 : cX6_pass.data.toList.drop 0 = dktX6_pass_0 := by decide +kernel
theorem dksX6_pass_1 : cX6_pass.data.toList.drop 22 = dktX6_pass_1 := dk_seg dksX6_pass_0 22 rfl rfl
theorem dX6_pass_0 : decode cX6_pass 0 = .ok (.aload_n 0, 1) := dk_42 (dk_at dksX6_pass_0 0 rfl rfl)
theorem dX6_pass_1 : decode cX6_pass 1 = .ok (.aload_n 0, 1) := dk_42 (dk_at dksX6_pass_0 1 rfl rfl)
theorem dX6_pass_2 : decode cX6_pass 2 = .ok (.getfield 7, 3) := dk_180 0 7 (dk_at dksX6_pass_0 2 rfl rfl)
theorem dX6_pass_5 : decode cX6_pass 5 = .ok (.iconst 2, 1) := dk_5 (dk_at dksX6_pass_0 5 rfl rfl)
theorem dX6_pass_6 : decode cX6_pass 6 = .ok (.iaload, 1) := dk_46 (dk_at dksX6_pass_0 6 rfl rfl)
theorem dX6_pass_7 : decode cX6_pass 7 = .ok (.ifCond .ne 7, 3) := dk_154 0 7 (dk_at dksX6_pass_0 7 rfl rfl)
theorem dX6_pass_10 : decode cX6_pass 10 = .ok (.iconst 1, 1) := dk_4 (dk_at dksX6_pass_0 10 rfl rfl)
theorem dX6_pass_11 : decode cX6_pass 11 = .ok (.goto 4, 3) := dk_167 0 4 (dk_at dksX6_pass_0 11 rfl rfl)
theorem dX6_pass_14 : decode cX6_pass 14 = .ok (.iconst 0, 1) := dk_3 (dk_at dksX6_pass_0 14 rfl rfl)
theorem dX6_pass_15 : decode cX6_pass 15 = .ok (.putfield 47, 3) := dk_181 0 47 (dk_at dksX6_pass_0 15 rfl rfl)
theorem dX6_pass_18 : decode cX6_pass 18 = .ok (.aload_n 0, 1) := dk_42 (dk_at dksX6_pass_0 18 rfl rfl)
theorem dX6_pass_19 : decode cX6_pass 19 = .ok (.getfield 47, 3) := dk_180 0 47 (dk_at dksX6_pass_0 19 rfl rfl)
theorem dX6_pass_22 : decode cX6_pass 22 = .ok (.ifCond .le 5, 3) := dk_158 0 5 (dk_at dksX6_pass_1 0 rfl rfl)
theorem dX6_pass_25 : decode cX6_pass 25 = .ok (.iconst 0, 1) := dk_3 (dk_at dksX6_pass_1 3 rfl rfl)
theorem dX6_pass_26 : decode cX6_pass 26 = .ok (.ireturn, 1) := dk_172 (dk_at dksX6_pass_1 4 rfl rfl)
theorem dX6_pass_27 : decode cX6_pass 27 = .ok (.aload_n 0, 1) := dk_42 (dk_at dksX6_pass_1 5 rfl rfl)
theorem dX6_pass_28 : decode cX6_pass 28 = .ok (.invokevirtual 167, 3) := dk_182 0 167 (dk_at dksX6_pass_1 6 rfl rfl)
theorem dX6_pass_31 : decode cX6_pass 31 = .ok (.aload_n 0, 1) := dk_42 (dk_at dksX6_pass_1 9 rfl rfl)
theorem dX6_pass_32 : decode cX6_pass 32 = .ok (.invokevirtual 134, 3) := dk_182 0 134 (dk_at dksX6_pass_1 10 rfl rfl)
theorem dX6_pass_35 : decode cX6_pass 35 = .ok (.aload_n 0, 1) := dk_42 (dk_at dksX6_pass_1 13 rfl rfl)
theorem dX6_pass_36 : decode cX6_pass 36 = .ok (.getfield 7, 3) := dk_180 0 7 (dk_at dksX6_pass_1 14 rfl rfl)
theorem dX6_pass_39 : decode cX6_pass 39 = .ok (.iconst 2, 1) := dk_5 (dk_at dksX6_pass_1 17 rfl rfl)
theorem dX6_pass_40 : decode cX6_pass 40 = .ok (.iaload, 1) := dk_46 (dk_at dksX6_pass_1 18 rfl rfl)
theorem dX6_pass_41 : decode cX6_pass 41 = .ok (.ireturn, 1) := dk_172 (dk_at dksX6_pass_1 19 rfl rfl)
abbrev cX6_playOut : ByteArray := prog_16_method_77_code
def yX6_playOut : MethodName := ⟨RX6, "playOut", "(I)I"⟩
def dkwX6_playOut_3 : List UInt8 := [108, 29, 7, 112, 182, 0, 130, 132, 2, 1, 167, 255, 213, 28, 172]
abbrev dktX6_playOut_3 : List UInt8 := dkwX6_playOut_3 ++ []
def dkwX6_playOut_2 : List UInt8 := [154, 0, 37, 42, 182, 1, 9, 62, 29, 16, 100, 160, 0, 10, 42, 182, 0, 134, 167, 0, 13, 42, 29, 7]
abbrev dktX6_playOut_2 : List UInt8 := dkwX6_playOut_2 ++ dktX6_playOut_3
def dkwX6_playOut_1 : List UInt8 := [158, 0, 5, 3, 172, 42, 182, 0, 167, 42, 182, 0, 253, 3, 61, 28, 27, 162, 0, 44, 42, 182, 0, 213]
abbrev dktX6_playOut_1 : List UInt8 := dkwX6_playOut_1 ++ dktX6_playOut_2
def dkwX6_playOut_0 : List UInt8 := [42, 27, 4, 16, 20, 184, 0, 76, 153, 0, 7, 3, 167, 0, 4, 4, 181, 0, 47, 42, 180, 0, 47]
abbrev dktX6_playOut_0 : List UInt8 := dkwX6_playOut_0 ++ dktX6_playOut_1
theorem dksX6_playOut_0 : cX6_playOut.data.toList.drop 0 = dktX6_playOut_0 := by decide +kernel
theorem dksX6_playOut_1 : cX6_playOut.data.toList.drop 23 = dktX6_playOut_1 := dk_seg dksX6_playOut_0 23 rfl rfl
theorem dksX6_playOut_2 : cX6_playOut.data.toList.drop 47 = dktX6_playOut_2 := dk_seg dksX6_playOut_1 24 rfl rfl
theorem dksX6_playOut_3 : cX6_playOut.data.toList.drop 71 = dktX6_playOut_3 := dk_seg dksX6_playOut_2 24 rfl rfl
theorem dX6_playOut_0 : decode cX6_playOut 0 = .ok (.aload_n 0, 1) := dk_42 (dk_at dksX6_playOut_0 0 rfl rfl)
theorem dX6_playOut_1 : decode cX6_playOut 1 = .ok (.iload_n 1, 1) := dk_27 (dk_at dksX6_playOut_0 1 rfl rfl)
theorem dX6_playOut_2 : decode cX6_playOut 2 = .ok (.iconst 1, 1) := dk_4 (dk_at dksX6_playOut_0 2 rfl rfl)
theorem dX6_playOut_3 : decode cX6_playOut 3 = .ok (.bipush 20, 2) := dk_16 20 (dk_at dksX6_playOut_0 3 rfl rfl)
theorem dX6_playOut_5 : decode cX6_playOut 5 = .ok (.invokestatic 76, 3) := dk_184 0 76 (dk_at dksX6_playOut_0 5 rfl rfl)
theorem dX6_playOut_8 : decode cX6_playOut 8 = .ok (.ifCond .eq 7, 3) := dk_153 0 7 (dk_at dksX6_playOut_0 8 rfl rfl)
theorem dX6_playOut_11 : decode cX6_playOut 11 = .ok (.iconst 0, 1) := dk_3 (dk_at dksX6_playOut_0 11 rfl rfl)
theorem dX6_playOut_12 : decode cX6_playOut 12 = .ok (.goto 4, 3) := dk_167 0 4 (dk_at dksX6_playOut_0 12 rfl rfl)
theorem dX6_playOut_15 : decode cX6_playOut 15 = .ok (.iconst 1, 1) := dk_4 (dk_at dksX6_playOut_0 15 rfl rfl)
theorem dX6_playOut_16 : decode cX6_playOut 16 = .ok (.putfield 47, 3) := dk_181 0 47 (dk_at dksX6_playOut_0 16 rfl rfl)
theorem dX6_playOut_19 : decode cX6_playOut 19 = .ok (.aload_n 0, 1) := dk_42 (dk_at dksX6_playOut_0 19 rfl rfl)
theorem dX6_playOut_20 : decode cX6_playOut 20 = .ok (.getfield 47, 3) := dk_180 0 47 (dk_at dksX6_playOut_0 20 rfl rfl)
theorem dX6_playOut_23 : decode cX6_playOut 23 = .ok (.ifCond .le 5, 3) := dk_158 0 5 (dk_at dksX6_playOut_1 0 rfl rfl)
theorem dX6_playOut_26 : decode cX6_playOut 26 = .ok (.iconst 0, 1) := dk_3 (dk_at dksX6_playOut_1 3 rfl rfl)
theorem dX6_playOut_27 : decode cX6_playOut 27 = .ok (.ireturn, 1) := dk_172 (dk_at dksX6_playOut_1 4 rfl rfl)
theorem dX6_playOut_28 : decode cX6_playOut 28 = .ok (.aload_n 0, 1) := dk_42 (dk_at dksX6_playOut_1 5 rfl rfl)
theorem dX6_playOut_29 : decode cX6_playOut 29 = .ok (.invokevirtual 167, 3) := dk_182 0 167 (dk_at dksX6_playOut_1 6 rfl rfl)
theorem dX6_playOut_32 : decode cX6_playOut 32 = .ok (.aload_n 0, 1) := dk_42 (dk_at dksX6_playOut_1 9 rfl rfl)
theorem dX6_playOut_33 : decode cX6_playOut 33 = .ok (.invokevirtual 253, 3) := dk_182 0 253 (dk_at dksX6_playOut_1 10 rfl rfl)
theorem dX6_playOut_36 : decode cX6_playOut 36 = .ok (.iconst 0, 1) := dk_3 (dk_at dksX6_playOut_1 13 rfl rfl)
theorem dX6_playOut_37 : decode cX6_playOut 37 = .ok (.istore_n 2, 1) := dk_61 (dk_at dksX6_playOut_1 14 rfl rfl)
theorem dX6_playOut_38 : decode cX6_playOut 38 = .ok (.iload_n 2, 1) := dk_28 (dk_at dksX6_playOut_1 15 rfl rfl)
theorem dX6_playOut_39 : decode cX6_playOut 39 = .ok (.iload_n 1, 1) := dk_27 (dk_at dksX6_playOut_1 16 rfl rfl)
theorem dX6_playOut_40 : decode cX6_playOut 40 = .ok (.if_icmp .ge 44, 3) := dk_162 0 44 (dk_at dksX6_playOut_1 17 rfl rfl)
theorem dX6_playOut_43 : decode cX6_playOut 43 = .ok (.aload_n 0, 1) := dk_42 (dk_at dksX6_playOut_1 20 rfl rfl)
theorem dX6_playOut_44 : decode cX6_playOut 44 = .ok (.invokevirtual 213, 3) := dk_182 0 213 (dk_at dksX6_playOut_1 21 rfl rfl)
theorem dX6_playOut_47 : decode cX6_playOut 47 = .ok (.ifCond .ne 37, 3) := dk_154 0 37 (dk_at dksX6_playOut_2 0 rfl rfl)
theorem dX6_playOut_50 : decode cX6_playOut 50 = .ok (.aload_n 0, 1) := dk_42 (dk_at dksX6_playOut_2 3 rfl rfl)
theorem dX6_playOut_51 : decode cX6_playOut 51 = .ok (.invokevirtual 265, 3) := dk_182 1 9 (dk_at dksX6_playOut_2 4 rfl rfl)
theorem dX6_playOut_54 : decode cX6_playOut 54 = .ok (.istore_n 3, 1) := dk_62 (dk_at dksX6_playOut_2 7 rfl rfl)
theorem dX6_playOut_55 : decode cX6_playOut 55 = .ok (.iload_n 3, 1) := dk_29 (dk_at dksX6_playOut_2 8 rfl rfl)
theorem dX6_playOut_56 : decode cX6_playOut 56 = .ok (.bipush 100, 2) := dk_16 100 (dk_at dksX6_playOut_2 9 rfl rfl)
theorem dX6_playOut_58 : decode cX6_playOut 58 = .ok (.if_icmp .ne 10, 3) := dk_160 0 10 (dk_at dksX6_playOut_2 11 rfl rfl)
theorem dX6_playOut_61 : decode cX6_playOut 61 = .ok (.aload_n 0, 1) := dk_42 (dk_at dksX6_playOut_2 14 rfl rfl)
theorem dX6_playOut_62 : decode cX6_playOut 62 = .ok (.invokevirtual 134, 3) := dk_182 0 134 (dk_at dksX6_playOut_2 15 rfl rfl)
theorem dX6_playOut_65 : decode cX6_playOut 65 = .ok (.goto 13, 3) := dk_167 0 13 (dk_at dksX6_playOut_2 18 rfl rfl)
theorem dX6_playOut_68 : decode cX6_playOut 68 = .ok (.aload_n 0, 1) := dk_42 (dk_at dksX6_playOut_2 21 rfl rfl)
theorem dX6_playOut_69 : decode cX6_playOut 69 = .ok (.iload_n 3, 1) := dk_29 (dk_at dksX6_playOut_2 22 rfl rfl)
theorem dX6_playOut_70 : decode cX6_playOut 70 = .ok (.iconst 4, 1) := dk_7 (dk_at dksX6_playOut_2 23 rfl rfl)
theorem dX6_playOut_71 : decode cX6_playOut 71 = .ok (.idiv, 1) := dk_108 (dk_at dksX6_playOut_3 0 rfl rfl)
theorem dX6_playOut_72 : decode cX6_playOut 72 = .ok (.iload_n 3, 1) := dk_29 (dk_at dksX6_playOut_3 1 rfl rfl)
theorem dX6_playOut_73 : decode cX6_playOut 73 = .ok (.iconst 4, 1) := dk_7 (dk_at dksX6_playOut_3 2 rfl rfl)
theorem dX6_playOut_74 : decode cX6_playOut 74 = .ok (.irem, 1) := dk_112 (dk_at dksX6_playOut_3 3 rfl rfl)
theorem dX6_playOut_75 : decode cX6_playOut 75 = .ok (.invokevirtual 130, 3) := dk_182 0 130 (dk_at dksX6_playOut_3 4 rfl rfl)
theorem dX6_playOut_78 : decode cX6_playOut 78 = .ok (.iinc 2 1, 3) := dk_132 2 1 (dk_at dksX6_playOut_3 7 rfl rfl)
theorem dX6_playOut_81 : decode cX6_playOut 81 = .ok (.goto (-43), 3) := dk_167 255 213 (dk_at dksX6_playOut_3 10 rfl rfl)
theorem dX6_playOut_84 : decode cX6_playOut 84 = .ok (.iload_n 2, 1) := dk_28 (dk_at dksX6_playOut_3 13 rfl rfl)
theorem dX6_playOut_85 : decode cX6_playOut 85 = .ok (.ireturn, 1) := dk_172 (dk_at dksX6_playOut_3 14 rfl rfl)
abbrev cX6_setPasses : ByteArray := prog_16_method_78_code
def yX6_setPasses : MethodName := ⟨RX6, "setPasses", "(I)I"⟩
def dkwX6_setPasses_2 : List UInt8 := [172]
abbrev dktX6_setPasses_2 : List UInt8 := dkwX6_setPasses_2 ++ []
def dkwX6_setPasses_1 : List UInt8 := [158, 0, 5, 3, 172, 42, 182, 0, 167, 42, 180, 0, 7, 5, 46, 61, 42, 180, 0, 7, 5, 27, 79, 28]
abbrev dktX6_setPasses_1 : List UInt8 := dkwX6_setPasses_1 ++ dktX6_setPasses_2
def dkwX6_setPasses_0 : List UInt8 := [42, 27, 3, 16, 9, 184, 0, 76, 153, 0, 7, 3, 167, 0, 4, 4, 181, 0, 47, 42, 180, 0, 47]
abbrev dktX6_setPasses_0 : List UInt8 := dkwX6_setPasses_0 ++ dktX6_setPasses_1
theorem dksX6_setPasses_0 : cX6_setPasses.data.toList.drop 0 = dktX6_setPasses_0 := by decide +kernel
theorem dksX6_setPasses_1 : cX6_setPasses.data.toList.drop 23 = dktX6_setPasses_1 := dk_seg dksX6_setPasses_0 23 rfl rfl
theorem dksX6_setPasses_2 : cX6_setPasses.data.toList.drop 47 = dktX6_setPasses_2 := dk_seg dksX6_setPasses_1 24 rfl rfl
theorem dX6_setPasses_0 : decode cX6_setPasses 0 = .ok (.aload_n 0, 1) := dk_42 (dk_at dksX6_setPasses_0 0 rfl rfl)
theorem dX6_setPasses_1 : decode cX6_setPasses 1 = .ok (.iload_n 1, 1) := dk_27 (dk_at dksX6_setPasses_0 1 rfl rfl)
theorem dX6_setPasses_2 : decode cX6_setPasses 2 = .ok (.iconst 0, 1) := dk_3 (dk_at dksX6_setPasses_0 2 rfl rfl)
theorem dX6_setPasses_3 : decode cX6_setPasses 3 = .ok (.bipush 9, 2) := dk_16 9 (dk_at dksX6_setPasses_0 3 rfl rfl)
theorem dX6_setPasses_5 : decode cX6_setPasses 5 = .ok (.invokestatic 76, 3) := dk_184 0 76 (dk_at dksX6_setPasses_0 5 rfl rfl)
theorem dX6_setPasses_8 : decode cX6_setPasses 8 = .ok (.ifCond .eq 7, 3) := dk_153 0 7 (dk_at dksX6_setPasses_0 8 rfl rfl)
theorem dX6_setPasses_11 : decode cX6_setPasses 11 = .ok (.iconst 0, 1) := dk_3 (dk_at dksX6_setPasses_0 11 rfl rfl)
theorem dX6_setPasses_12 : decode cX6_setPasses 12 = .ok (.goto 4, 3) := dk_167 0 4 (dk_at dksX6_setPasses_0 12 rfl rfl)
theorem dX6_setPasses_15 : decode cX6_setPasses 15 = .ok (.iconst 1, 1) := dk_4 (dk_at dksX6_setPasses_0 15 rfl rfl)
theorem dX6_setPasses_16 : decode cX6_setPasses 16 = .ok (.putfield 47, 3) := dk_181 0 47 (dk_at dksX6_setPasses_0 16 rfl rfl)
theorem dX6_setPasses_19 : decode cX6_setPasses 19 = .ok (.aload_n 0, 1) := dk_42 (dk_at dksX6_setPasses_0 19 rfl rfl)
theorem dX6_setPasses_20 : decode cX6_setPasses 20 = .ok (.getfield 47, 3) := dk_180 0 47 (dk_at dksX6_setPasses_0 20 rfl rfl)
theorem dX6_setPasses_23 : decode cX6_setPasses 23 = .ok (.ifCond .le 5, 3) := dk_158 0 5 (dk_at dksX6_setPasses_1 0 rfl rfl)
theorem dX6_setPasses_26 : decode cX6_setPasses 26 = .ok (.iconst 0, 1) := dk_3 (dk_at dksX6_setPasses_1 3 rfl rfl)
theorem dX6_setPasses_27 : decode cX6_setPasses 27 = .ok (.ireturn, 1) := dk_172 (dk_at dksX6_setPasses_1 4 rfl rfl)
theorem dX6_setPasses_28 : decode cX6_setPasses 28 = .ok (.aload_n 0, 1) := dk_42 (dk_at dksX6_setPasses_1 5 rfl rfl)
theorem dX6_setPasses_29 : decode cX6_setPasses 29 = .ok (.invokevirtual 167, 3) := dk_182 0 167 (dk_at dksX6_setPasses_1 6 rfl rfl)
theorem dX6_setPasses_32 : decode cX6_setPasses 32 = .ok (.aload_n 0, 1) := dk_42 (dk_at dksX6_setPasses_1 9 rfl rfl)
theorem dX6_setPasses_33 : decode cX6_setPasses 33 = .ok (.getfield 7, 3) := dk_180 0 7 (dk_at dksX6_setPasses_1 10 rfl rfl)
theorem dX6_setPasses_36 : decode cX6_setPasses 36 = .ok (.iconst 2, 1) := dk_5 (dk_at dksX6_setPasses_1 13 rfl rfl)
theorem dX6_setPasses_37 : decode cX6_setPasses 37 = .ok (.iaload, 1) := dk_46 (dk_at dksX6_setPasses_1 14 rfl rfl)
theorem dX6_setPasses_38 : decode cX6_setPasses 38 = .ok (.istore_n 2, 1) := dk_61 (dk_at dksX6_setPasses_1 15 rfl rfl)
theorem dX6_setPasses_39 : decode cX6_setPasses 39 = .ok (.aload_n 0, 1) := dk_42 (dk_at dksX6_setPasses_1 16 rfl rfl)
theorem dX6_setPasses_40 : decode cX6_setPasses 40 = .ok (.getfield 7, 3) := dk_180 0 7 (dk_at dksX6_setPasses_1 17 rfl rfl)
theorem dX6_setPasses_43 : decode cX6_setPasses 43 = .ok (.iconst 2, 1) := dk_5 (dk_at dksX6_setPasses_1 20 rfl rfl)
theorem dX6_setPasses_44 : decode cX6_setPasses 44 = .ok (.iload_n 1, 1) := dk_27 (dk_at dksX6_setPasses_1 21 rfl rfl)
theorem dX6_setPasses_45 : decode cX6_setPasses 45 = .ok (.iastore, 1) := dk_79 (dk_at dksX6_setPasses_1 22 rfl rfl)
theorem dX6_setPasses_46 : decode cX6_setPasses 46 = .ok (.iload_n 2, 1) := dk_28 (dk_at dksX6_setPasses_1 23 rfl rfl)
theorem dX6_setPasses_47 : decode cX6_setPasses 47 = .ok (.ireturn, 1) := dk_172 (dk_at dksX6_setPasses_2 0 rfl rfl)
abbrev cX6_move : ByteArray := prog_16_method_80_code
def yX6_move : MethodName := ⟨RX6, "move", "(II)I"⟩
def dkwX6_move_2 : List UInt8 := [167, 0, 9, 42, 27, 28, 182, 1, 16, 172]
abbrev dktX6_move_2 : List UInt8 := dkwX6_move_2 ++ []
def dkwX6_move_1 : List UInt8 := [184, 0, 76, 153, 0, 7, 3, 167, 0, 4, 5, 181, 0, 47, 42, 180, 0, 47, 158, 0, 7, 3]
abbrev dktX6_move_1 : List UInt8 := dkwX6_move_1 ++ dktX6_move_2
def dkwX6_move_0 : List UInt8 := [42, 27, 3, 42, 180, 0, 7, 6, 46, 4, 100, 184, 0, 76, 154, 0, 7, 4, 167, 0, 17, 28, 3, 6]
abbrev dktX6_move_0 : List UInt8 := dkwX6_move_0 ++ dktX6_move_1
theorem dksX6_move_0 : cX6_move.data.toList.drop 0 = dktX6_move_0 := by decide +kernel
theorem dksX6_move_1 : cX6_move.data.toList.drop 24 = dktX6_move_1 := dk_seg dksX6_move_0 24 rfl rfl
theorem dksX6_move_2 : cX6_move.data.toList.drop 46 = dktX6_move_2 := dk_seg dksX6_move_1 22 rfl rfl
theorem dX6_move_0 : decode cX6_move 0 = .ok (.aload_n 0, 1) := dk_42 (dk_at dksX6_move_0 0 rfl rfl)
theorem dX6_move_1 : decode cX6_move 1 = .ok (.iload_n 1, 1) := dk_27 (dk_at dksX6_move_0 1 rfl rfl)
theorem dX6_move_2 : decode cX6_move 2 = .ok (.iconst 0, 1) := dk_3 (dk_at dksX6_move_0 2 rfl rfl)
theorem dX6_move_3 : decode cX6_move 3 = .ok (.aload_n 0, 1) := dk_42 (dk_at dksX6_move_0 3 rfl rfl)
theorem dX6_move_4 : decode cX6_move 4 = .ok (.getfield 7, 3) := dk_180 0 7 (dk_at dksX6_move_0 4 rfl rfl)
theorem dX6_move_7 : decode cX6_move 7 = .ok (.iconst 3, 1) := dk_6 (dk_at dksX6_move_0 7 rfl rfl)
theorem dX6_move_8 : decode cX6_move 8 = .ok (.iaload, 1) := dk_46 (dk_at dksX6_move_0 8 rfl rfl)
theorem dX6_move_9 : decode cX6_move 9 = .ok (.iconst 1, 1) := dk_4 (dk_at dksX6_move_0 9 rfl rfl)
theorem dX6_move_10 : decode cX6_move 10 = .ok (.isub, 1) := dk_100 (dk_at dksX6_move_0 10 rfl rfl)
theorem dX6_move_11 : decode cX6_move 11 = .ok (.invokestatic 76, 3) := dk_184 0 76 (dk_at dksX6_move_0 11 rfl rfl)
theorem dX6_move_14 : decode cX6_move 14 = .ok (.ifCond .ne 7, 3) := dk_154 0 7 (dk_at dksX6_move_0 14 rfl rfl)
theorem dX6_move_17 : decode cX6_move 17 = .ok (.iconst 1, 1) := dk_4 (dk_at dksX6_move_0 17 rfl rfl)
theorem dX6_move_18 : decode cX6_move 18 = .ok (.goto 17, 3) := dk_167 0 17 (dk_at dksX6_move_0 18 rfl rfl)
theorem dX6_move_21 : decode cX6_move 21 = .ok (.iload_n 2, 1) := dk_28 (dk_at dksX6_move_0 21 rfl rfl)
theorem dX6_move_22 : decode cX6_move 22 = .ok (.iconst 0, 1) := dk_3 (dk_at dksX6_move_0 22 rfl rfl)
theorem dX6_move_23 : decode cX6_move 23 = .ok (.iconst 3, 1) := dk_6 (dk_at dksX6_move_0 23 rfl rfl)
theorem dX6_move_24 : decode cX6_move 24 = .ok (.invokestatic 76, 3) := dk_184 0 76 (dk_at dksX6_move_1 0 rfl rfl)
theorem dX6_move_27 : decode cX6_move 27 = .ok (.ifCond .eq 7, 3) := dk_153 0 7 (dk_at dksX6_move_1 3 rfl rfl)
theorem dX6_move_30 : decode cX6_move 30 = .ok (.iconst 0, 1) := dk_3 (dk_at dksX6_move_1 6 rfl rfl)
theorem dX6_move_31 : decode cX6_move 31 = .ok (.goto 4, 3) := dk_167 0 4 (dk_at dksX6_move_1 7 rfl rfl)
theorem dX6_move_34 : decode cX6_move 34 = .ok (.iconst 2, 1) := dk_5 (dk_at dksX6_move_1 10 rfl rfl)
theorem dX6_move_35 : decode cX6_move 35 = .ok (.putfield 47, 3) := dk_181 0 47 (dk_at dksX6_move_1 11 rfl rfl)
theorem dX6_move_38 : decode cX6_move 38 = .ok (.aload_n 0, 1) := dk_42 (dk_at dksX6_move_1 14 rfl rfl)
theorem dX6_move_39 : decode cX6_move 39 = .ok (.getfield 47, 3) := dk_180 0 47 (dk_at dksX6_move_1 15 rfl rfl)
theorem dX6_move_42 : decode cX6_move 42 = .ok (.ifCond .le 7, 3) := dk_158 0 7 (dk_at dksX6_move_1 18 rfl rfl)
theorem dX6_move_45 : decode cX6_move 45 = .ok (.iconst 0, 1) := dk_3 (dk_at dksX6_move_1 21 rfl rfl)
theorem dX6_move_46 : decode cX6_move 46 = .ok (.goto 9, 3) := dk_167 0 9 (dk_at dksX6_move_2 0 rfl rfl)
theorem dX6_move_49 : decode cX6_move 49 = .ok (.aload_n 0, 1) := dk_42 (dk_at dksX6_move_2 3 rfl rfl)
theorem dX6_move_50 : decode cX6_move 50 = .ok (.iload_n 1, 1) := dk_27 (dk_at dksX6_move_2 4 rfl rfl)
theorem dX6_move_51 : decode cX6_move 51 = .ok (.iload_n 2, 1) := dk_28 (dk_at dksX6_move_2 5 rfl rfl)
theorem dX6_move_52 : decode cX6_move 52 = .ok (.invokevirtual 272, 3) := dk_182 1 16 (dk_at dksX6_move_2 6 rfl rfl)
theorem dX6_move_55 : decode cX6_move 55 = .ok (.ireturn, 1) := dk_172 (dk_at dksX6_move_2 9 rfl rfl)
abbrev cX6_moved : ByteArray := prog_16_method_79_code
def yX6_moved : MethodName := ⟨RX6, "moved", "(II)I"⟩
def dkwX6_moved_3 : List UInt8 := [172]
abbrev dktX6_moved_3 : List UInt8 := dkwX6_moved_3 ++ []
def dkwX6_moved_2 : List UInt8 := [4, 100, 167, 0, 22, 28, 6, 160, 0, 13, 29, 16, 7, 122, 16, 15, 126, 167, 0, 7, 29, 16, 11, 122]
abbrev dktX6_moved_2 : List UInt8 := dkwX6_moved_2 ++ dktX6_moved_3
def dkwX6_moved_1 : List UInt8 := [160, 0, 14, 29, 4, 122, 16, 15, 126, 4, 100, 167, 0, 37, 28, 5, 160, 0, 13, 29, 8, 122, 6, 126]
abbrev dktX6_moved_1 : List UInt8 := dkwX6_moved_1 ++ dktX6_moved_2
def dkwX6_moved_0 : List UInt8 := [42, 180, 0, 7, 16, 40, 27, 96, 46, 62, 28, 154, 0, 9, 29, 4, 126, 167, 0, 53, 28, 4]
abbrev dktX6_moved_0 : List UInt8 := dkwX6_moved_0 ++ dktX6_moved_1
theorem dksX6_moved_0 : cX6_moved.data.toList.drop 0 = dktX6_moved_0 := by decide +kernel
theorem dksX6_moved_1 : cX6_moved.data.toList.drop 22 = dktX6_moved_1 := dk_seg dksX6_moved_0 22 rfl rfl
theorem dksX6_moved_2 : cX6_moved.data.toList.drop 46 = dktX6_moved_2 := dk_seg dksX6_moved_1 24 rfl rfl
theorem dksX6_moved_3 : cX6_moved.data.toList.drop 70 = dktX6_moved_3 := dk_seg dksX6_moved_2 24 rfl rfl
theorem dX6_moved_0 : decode cX6_moved 0 = .ok (.aload_n 0, 1) := dk_42 (dk_at dksX6_moved_0 0 rfl rfl)
theorem dX6_moved_1 : decode cX6_moved 1 = .ok (.getfield 7, 3) := dk_180 0 7 (dk_at dksX6_moved_0 1 rfl rfl)
theorem dX6_moved_4 : decode cX6_moved 4 = .ok (.bipush 40, 2) := dk_16 40 (dk_at dksX6_moved_0 4 rfl rfl)
theorem dX6_moved_6 : decode cX6_moved 6 = .ok (.iload_n 1, 1) := dk_27 (dk_at dksX6_moved_0 6 rfl rfl)
theorem dX6_moved_7 : decode cX6_moved 7 = .ok (.iadd, 1) := dk_96 (dk_at dksX6_moved_0 7 rfl rfl)
theorem dX6_moved_8 : decode cX6_moved 8 = .ok (.iaload, 1) := dk_46 (dk_at dksX6_moved_0 8 rfl rfl)
theorem dX6_moved_9 : decode cX6_moved 9 = .ok (.istore_n 3, 1) := dk_62 (dk_at dksX6_moved_0 9 rfl rfl)
theorem dX6_moved_10 : decode cX6_moved 10 = .ok (.iload_n 2, 1) := dk_28 (dk_at dksX6_moved_0 10 rfl rfl)
theorem dX6_moved_11 : decode cX6_moved 11 = .ok (.ifCond .ne 9, 3) := dk_154 0 9 (dk_at dksX6_moved_0 11 rfl rfl)
theorem dX6_moved_14 : decode cX6_moved 14 = .ok (.iload_n 3, 1) := dk_29 (dk_at dksX6_moved_0 14 rfl rfl)
theorem dX6_moved_15 : decode cX6_moved 15 = .ok (.iconst 1, 1) := dk_4 (dk_at dksX6_moved_0 15 rfl rfl)
theorem dX6_moved_16 : decode cX6_moved 16 = .ok (.iand, 1) := dk_126 (dk_at dksX6_moved_0 16 rfl rfl)
theorem dX6_moved_17 : decode cX6_moved 17 = .ok (.goto 53, 3) := dk_167 0 53 (dk_at dksX6_moved_0 17 rfl rfl)
theorem dX6_moved_20 : decode cX6_moved 20 = .ok (.iload_n 2, 1) := dk_28 (dk_at dksX6_moved_0 20 rfl rfl)
theorem dX6_moved_21 : decode cX6_moved 21 = .ok (.iconst 1, 1) := dk_4 (dk_at dksX6_moved_0 21 rfl rfl)
theorem dX6_moved_22 : decode cX6_moved 22 = .ok (.if_icmp .ne 14, 3) := dk_160 0 14 (dk_at dksX6_moved_1 0 rfl rfl)
theorem dX6_moved_25 : decode cX6_moved 25 = .ok (.iload_n 3, 1) := dk_29 (dk_at dksX6_moved_1 3 rfl rfl)
theorem dX6_moved_26 : decode cX6_moved 26 = .ok (.iconst 1, 1) := dk_4 (dk_at dksX6_moved_1 4 rfl rfl)
theorem dX6_moved_27 : decode cX6_moved 27 = .ok (.ishr, 1) := dk_122 (dk_at dksX6_moved_1 5 rfl rfl)
theorem dX6_moved_28 : decode cX6_moved 28 = .ok (.bipush 15, 2) := dk_16 15 (dk_at dksX6_moved_1 6 rfl rfl)
theorem dX6_moved_30 : decode cX6_moved 30 = .ok (.iand, 1) := dk_126 (dk_at dksX6_moved_1 8 rfl rfl)
theorem dX6_moved_31 : decode cX6_moved 31 = .ok (.iconst 1, 1) := dk_4 (dk_at dksX6_moved_1 9 rfl rfl)
theorem dX6_moved_32 : decode cX6_moved 32 = .ok (.isub, 1) := dk_100 (dk_at dksX6_moved_1 10 rfl rfl)
theorem dX6_moved_33 : decode cX6_moved 33 = .ok (.goto 37, 3) := dk_167 0 37 (dk_at dksX6_moved_1 11 rfl rfl)
theorem dX6_moved_36 : decode cX6_moved 36 = .ok (.iload_n 2, 1) := dk_28 (dk_at dksX6_moved_1 14 rfl rfl)
theorem dX6_moved_37 : decode cX6_moved 37 = .ok (.iconst 2, 1) := dk_5 (dk_at dksX6_moved_1 15 rfl rfl)
theorem dX6_moved_38 : decode cX6_moved 38 = .ok (.if_icmp .ne 13, 3) := dk_160 0 13 (dk_at dksX6_moved_1 16 rfl rfl)
theorem dX6_moved_41 : decode cX6_moved 41 = .ok (.iload_n 3, 1) := dk_29 (dk_at dksX6_moved_1 19 rfl rfl)
theorem dX6_moved_42 : decode cX6_moved 42 = .ok (.iconst 5, 1) := dk_8 (dk_at dksX6_moved_1 20 rfl rfl)
theorem dX6_moved_43 : decode cX6_moved 43 = .ok (.ishr, 1) := dk_122 (dk_at dksX6_moved_1 21 rfl rfl)
theorem dX6_moved_44 : decode cX6_moved 44 = .ok (.iconst 3, 1) := dk_6 (dk_at dksX6_moved_1 22 rfl rfl)
theorem dX6_moved_45 : decode cX6_moved 45 = .ok (.iand, 1) := dk_126 (dk_at dksX6_moved_1 23 rfl rfl)
theorem dX6_moved_46 : decode cX6_moved 46 = .ok (.iconst 1, 1) := dk_4 (dk_at dksX6_moved_2 0 rfl rfl)
theorem dX6_moved_47 : decode cX6_moved 47 = .ok (.isub, 1) := dk_100 (dk_at dksX6_moved_2 1 rfl rfl)
theorem dX6_moved_48 : decode cX6_moved 48 = .ok (.goto 22, 3) := dk_167 0 22 (dk_at dksX6_moved_2 2 rfl rfl)
theorem dX6_moved_51 : decode cX6_moved 51 = .ok (.iload_n 2, 1) := dk_28 (dk_at dksX6_moved_2 5 rfl rfl)
theorem dX6_moved_52 : decode cX6_moved 52 = .ok (.iconst 3, 1) := dk_6 (dk_at dksX6_moved_2 6 rfl rfl)
theorem dX6_moved_53 : decode cX6_moved 53 = .ok (.if_icmp .ne 13, 3) := dk_160 0 13 (dk_at dksX6_moved_2 7 rfl rfl)
theorem dX6_moved_56 : decode cX6_moved 56 = .ok (.iload_n 3, 1) := dk_29 (dk_at dksX6_moved_2 10 rfl rfl)
theorem dX6_moved_57 : decode cX6_moved 57 = .ok (.bipush 7, 2) := dk_16 7 (dk_at dksX6_moved_2 11 rfl rfl)
theorem dX6_moved_59 : decode cX6_moved 59 = .ok (.ishr, 1) := dk_122 (dk_at dksX6_moved_2 13 rfl rfl)
theorem dX6_moved_60 : decode cX6_moved 60 = .ok (.bipush 15, 2) := dk_16 15 (dk_at dksX6_moved_2 14 rfl rfl)
theorem dX6_moved_62 : decode cX6_moved 62 = .ok (.iand, 1) := dk_126 (dk_at dksX6_moved_2 16 rfl rfl)
theorem dX6_moved_63 : decode cX6_moved 63 = .ok (.goto 7, 3) := dk_167 0 7 (dk_at dksX6_moved_2 17 rfl rfl)
theorem dX6_moved_66 : decode cX6_moved 66 = .ok (.iload_n 3, 1) := dk_29 (dk_at dksX6_moved_2 20 rfl rfl)
theorem dX6_moved_67 : decode cX6_moved 67 = .ok (.bipush 11, 2) := dk_16 11 (dk_at dksX6_moved_2 21 rfl rfl)
theorem dX6_moved_69 : decode cX6_moved 69 = .ok (.ishr, 1) := dk_122 (dk_at dksX6_moved_2 23 rfl rfl)
theorem dX6_moved_70 : decode cX6_moved 70 = .ok (.ireturn, 1) := dk_172 (dk_at dksX6_moved_3 0 rfl rfl)
abbrev cX6_account : ByteArray := prog_16_method_82_code
def yX6_account : MethodName := ⟨RX6, "account", "(II)I"⟩
def dkwX6_account_5 : List UInt8 := [54, 4, 132, 5, 1, 167, 255, 181, 28, 7, 160, 0, 11, 21, 4, 184, 0, 189, 167, 0, 4, 29, 172]
abbrev dktX6_account_5 : List UInt8 := dkwX6_account_5 ++ []
def dkwX6_account_4 : List UInt8 := [21, 5, 4, 182, 1, 16, 2, 160, 0, 7, 3, 167, 0, 12, 4, 42, 21, 5, 5, 182, 1, 16, 120, 128]
abbrev dktX6_account_4 : List UInt8 := dkwX6_account_4 ++ dktX6_account_5
def dkwX6_account_3 : List UInt8 := [167, 0, 50, 29, 42, 21, 5, 28, 182, 1, 19, 153, 0, 7, 4, 167, 0, 4, 3, 96, 62, 21, 4, 42]
abbrev dktX6_account_3 : List UInt8 := dkwX6_account_3 ++ dktX6_account_4
def dkwX6_account_2 : List UInt8 := [21, 5, 42, 180, 0, 7, 6, 46, 162, 0, 70, 42, 21, 5, 3, 182, 1, 16, 27, 159, 0, 6]
abbrev dktX6_account_2 : List UInt8 := dkwX6_account_2 ++ dktX6_account_3
def dkwX6_account_1 : List UInt8 := [167, 0, 4, 5, 181, 0, 47, 42, 180, 0, 47, 158, 0, 5, 3, 172, 3, 62, 3, 54, 4, 3, 54, 5]
abbrev dktX6_account_1 : List UInt8 := dkwX6_account_1 ++ dktX6_account_2
def dkwX6_account_0 : List UInt8 := [42, 27, 3, 4, 184, 0, 76, 154, 0, 7, 4, 167, 0, 17, 28, 3, 7, 184, 0, 76, 153, 0, 7, 3]
abbrev dktX6_account_0 : List UInt8 := dkwX6_account_0 ++ dktX6_account_1
theorem dksX6_account_0 : cX6_account.data.toList.drop 0 = dktX6_account_0 := by decide +kernel
theorem dksX6_account_1 : cX6_account.data.toList.drop 24 = dktX6_account_1 := dk_seg dksX6_account_0 24 rfl rfl
theorem dksX6_account_2 : cX6_account.data.toList.drop 48 = dktX6_account_2 := dk_seg dksX6_account_1 24 rfl rfl
theorem dksX6_account_3 : cX6_account.data.toList.drop 70 = dktX6_account_3 := dk_seg dksX6_account_2 22 rfl rfl
theorem dksX6_account_4 : cX6_account.data.toList.drop 94 = dktX6_account_4 := dk_seg dksX6_account_3 24 rfl rfl
theorem dksX6_account_5 : cX6_account.data.toList.drop 118 = dktX6_account_5 := dk_seg dksX6_account_4 24 rfl rfl
theorem dX6_account_0 : decode cX6_account 0 = .ok (.aload_n 0, 1) := dk_42 (dk_at dksX6_account_0 0 rfl rfl)
theorem dX6_account_1 : decode cX6_account 1 = .ok (.iload_n 1, 1) := dk_27 (dk_at dksX6_account_0 1 rfl rfl)
theorem dX6_account_2 : decode cX6_account 2 = .ok (.iconst 0, 1) := dk_3 (dk_at dksX6_account_0 2 rfl rfl)
theorem dX6_account_3 : decode cX6_account 3 = .ok (.iconst 1, 1) := dk_4 (dk_at dksX6_account_0 3 rfl rfl)
theorem dX6_account_4 : decode cX6_account 4 = .ok (.invokestatic 76, 3) := dk_184 0 76 (dk_at dksX6_account_0 4 rfl rfl)
theorem dX6_account_7 : decode cX6_account 7 = .ok (.ifCond .ne 7, 3) := dk_154 0 7 (dk_at dksX6_account_0 7 rfl rfl)
theorem dX6_account_10 : decode cX6_account 10 = .ok (.iconst 1, 1) := dk_4 (dk_at dksX6_account_0 10 rfl rfl)
theorem dX6_account_11 : decode cX6_account 11 = .ok (.goto 17, 3) := dk_167 0 17 (dk_at dksX6_account_0 11 rfl rfl)
theorem dX6_account_14 : decode cX6_account 14 = .ok (.iload_n 2, 1) := dk_28 (dk_at dksX6_account_0 14 rfl rfl)
theorem dX6_account_15 : decode cX6_account 15 = .ok (.iconst 0, 1) := dk_3 (dk_at dksX6_account_0 15 rfl rfl)
theorem dX6_account_16 : decode cX6_account 16 = .ok (.iconst 4, 1) := dk_7 (dk_at dksX6_account_0 16 rfl rfl)
theorem dX6_account_17 : decode cX6_account 17 = .ok (.invokestatic 76, 3) := dk_184 0 76 (dk_at dksX6_account_0 17 rfl rfl)
theorem dX6_account_20 : decode cX6_account 20 = .ok (.ifCond .eq 7, 3) := dk_153 0 7 (dk_at dksX6_account_0 20 rfl rfl)
theorem dX6_account_23 : decode cX6_account 23 = .ok (.iconst 0, 1) := dk_3 (dk_at dksX6_account_0 23 rfl rfl)
theorem dX6_account_24 : decode cX6_account 24 = .ok (.goto 4, 3) := dk_167 0 4 (dk_at dksX6_account_1 0 rfl rfl)
theorem dX6_account_27 : decode cX6_account 27 = .ok (.iconst 2, 1) := dk_5 (dk_at dksX6_account_1 3 rfl rfl)
theorem dX6_account_28 : decode cX6_account 28 = .ok (.putfield 47, 3) := dk_181 0 47 (dk_at dksX6_account_1 4 rfl rfl)
theorem dX6_account_31 : decode cX6_account 31 = .ok (.aload_n 0, 1) := dk_42 (dk_at dksX6_account_1 7 rfl rfl)
theorem dX6_account_32 : decode cX6_account 32 = .ok (.getfield 47, 3) := dk_180 0 47 (dk_at dksX6_account_1 8 rfl rfl)
theorem dX6_account_35 : decode cX6_account 35 = .ok (.ifCond .le 5, 3) := dk_158 0 5 (dk_at dksX6_account_1 11 rfl rfl)
theorem dX6_account_38 : decode cX6_account 38 = .ok (.iconst 0, 1) := dk_3 (dk_at dksX6_account_1 14 rfl rfl)
theorem dX6_account_39 : decode cX6_account 39 = .ok (.ireturn, 1) := dk_172 (dk_at dksX6_account_1 15 rfl rfl)
theorem dX6_account_40 : decode cX6_account 40 = .ok (.iconst 0, 1) := dk_3 (dk_at dksX6_account_1 16 rfl rfl)
theorem dX6_account_41 : decode cX6_account 41 = .ok (.istore_n 3, 1) := dk_62 (dk_at dksX6_account_1 17 rfl rfl)
theorem dX6_account_42 : decode cX6_account 42 = .ok (.iconst 0, 1) := dk_3 (dk_at dksX6_account_1 18 rfl rfl)
theorem dX6_account_43 : decode cX6_account 43 = .ok (.istore 4, 2) := dk_54 4 (dk_at dksX6_account_1 19 rfl rfl)
theorem dX6_account_45 : decode cX6_account 45 = .ok (.iconst 0, 1) := dk_3 (dk_at dksX6_account_1 21 rfl rfl)
theorem dX6_account_46 : decode cX6_account 46 = .ok (.istore 5, 2) := dk_54 5 (dk_at dksX6_account_1 22 rfl rfl)
theorem dX6_account_48 : decode cX6_account 48 = .ok (.iload 5, 2) := dk_21 5 (dk_at dksX6_account_2 0 rfl rfl)
theorem dX6_account_50 : decode cX6_account 50 = .ok (.aload_n 0, 1) := dk_42 (dk_at dksX6_account_2 2 rfl rfl)
theorem dX6_account_51 : decode cX6_account 51 = .ok (.getfield 7, 3) := dk_180 0 7 (dk_at dksX6_account_2 3 rfl rfl)
theorem dX6_account_54 : decode cX6_account 54 = .ok (.iconst 3, 1) := dk_6 (dk_at dksX6_account_2 6 rfl rfl)
theorem dX6_account_55 : decode cX6_account 55 = .ok (.iaload, 1) := dk_46 (dk_at dksX6_account_2 7 rfl rfl)
theorem dX6_account_56 : decode cX6_account 56 = .ok (.if_icmp .ge 70, 3) := dk_162 0 70 (dk_at dksX6_account_2 8 rfl rfl)
theorem dX6_account_59 : decode cX6_account 59 = .ok (.aload_n 0, 1) := dk_42 (dk_at dksX6_account_2 11 rfl rfl)
theorem dX6_account_60 : decode cX6_account 60 = .ok (.iload 5, 2) := dk_21 5 (dk_at dksX6_account_2 12 rfl rfl)
theorem dX6_account_62 : decode cX6_account 62 = .ok (.iconst 0, 1) := dk_3 (dk_at dksX6_account_2 14 rfl rfl)
theorem dX6_account_63 : decode cX6_account 63 = .ok (.invokevirtual 272, 3) := dk_182 1 16 (dk_at dksX6_account_2 15 rfl rfl)
theorem dX6_account_66 : decode cX6_account 66 = .ok (.iload_n 1, 1) := dk_27 (dk_at dksX6_account_2 18 rfl rfl)
theorem dX6_account_67 : decode cX6_account 67 = .ok (.if_icmp .eq 6, 3) := dk_159 0 6 (dk_at dksX6_account_2 19 rfl rfl)
theorem dX6_account_70 : decode cX6_account 70 = .ok (.goto 50, 3) := dk_167 0 50 (dk_at dksX6_account_3 0 rfl rfl)
theorem dX6_account_73 : decode cX6_account 73 = .ok (.iload_n 3, 1) := dk_29 (dk_at dksX6_account_3 3 rfl rfl)
theorem dX6_account_74 : decode cX6_account 74 = .ok (.aload_n 0, 1) := dk_42 (dk_at dksX6_account_3 4 rfl rfl)
theorem dX6_account_75 : decode cX6_account 75 = .ok (.iload 5, 2) := dk_21 5 (dk_at dksX6_account_3 5 rfl rfl)
theorem dX6_account_77 : decode cX6_account 77 = .ok (.iload_n 2, 1) := dk_28 (dk_at dksX6_account_3 7 rfl rfl)
theorem dX6_account_78 : decode cX6_account 78 = .ok (.invokevirtual 275, 3) := dk_182 1 19 (dk_at dksX6_account_3 8 rfl rfl)
theorem dX6_account_81 : decode cX6_account 81 = .ok (.ifCond .eq 7, 3) := dk_153 0 7 (dk_at dksX6_account_3 11 rfl rfl)
theorem dX6_account_84 : decode cX6_account 84 = .ok (.iconst 1, 1) := dk_4 (dk_at dksX6_account_3 14 rfl rfl)
theorem dX6_account_85 : decode cX6_account 85 = .ok (.goto 4, 3) := dk_167 0 4 (dk_at dksX6_account_3 15 rfl rfl)
theorem dX6_account_88 : decode cX6_account 88 = .ok (.iconst 0, 1) := dk_3 (dk_at dksX6_account_3 18 rfl rfl)
theorem dX6_account_89 : decode cX6_account 89 = .ok (.iadd, 1) := dk_96 (dk_at dksX6_account_3 19 rfl rfl)
theorem dX6_account_90 : decode cX6_account 90 = .ok (.istore_n 3, 1) := dk_62 (dk_at dksX6_account_3 20 rfl rfl)
theorem dX6_account_91 : decode cX6_account 91 = .ok (.iload 4, 2) := dk_21 4 (dk_at dksX6_account_3 21 rfl rfl)
theorem dX6_account_93 : decode cX6_account 93 = .ok (.aload_n 0, 1) := dk_42 (dk_at dksX6_account_3 23 rfl rfl)
theorem dX6_account_94 : decode cX6_account 94 = .ok (.iload 5, 2) := dk_21 5 (dk_at dksX6_account_4 0 rfl rfl)
theorem dX6_account_96 : decode cX6_account 96 = .ok (.iconst 1, 1) := dk_4 (dk_at dksX6_account_4 2 rfl rfl)
theorem dX6_account_97 : decode cX6_account 97 = .ok (.invokevirtual 272, 3) := dk_182 1 16 (dk_at dksX6_account_4 3 rfl rfl)
theorem dX6_account_100 : decode cX6_account 100 = .ok (.iconst (-1), 1) := dk_2 (dk_at dksX6_account_4 6 rfl rfl)
theorem dX6_account_101 : decode cX6_account 101 = .ok (.if_icmp .ne 7, 3) := dk_160 0 7 (dk_at dksX6_account_4 7 rfl rfl)
theorem dX6_account_104 : decode cX6_account 104 = .ok (.iconst 0, 1) := dk_3 (dk_at dksX6_account_4 10 rfl rfl)
theorem dX6_account_105 : decode cX6_account 105 = .ok (.goto 12, 3) := dk_167 0 12 (dk_at dksX6_account_4 11 rfl rfl)
theorem dX6_account_108 : decode cX6_account 108 = .ok (.iconst 1, 1) := dk_4 (dk_at dksX6_account_4 14 rfl rfl)
theorem dX6_account_109 : decode cX6_account 109 = .ok (.aload_n 0, 1) := dk_42 (dk_at dksX6_account_4 15 rfl rfl)
theorem dX6_account_110 : decode cX6_account 110 = .ok (.iload 5, 2) := dk_21 5 (dk_at dksX6_account_4 16 rfl rfl)
theorem dX6_account_112 : decode cX6_account 112 = .ok (.iconst 2, 1) := dk_5 (dk_at dksX6_account_4 18 rfl rfl)
theorem dX6_account_113 : decode cX6_account 113 = .ok (.invokevirtual 272, 3) := dk_182 1 16 (dk_at dksX6_account_4 19 rfl rfl)
theorem dX6_account_116 : decode cX6_account 116 = .ok (.ishl, 1) := dk_120 (dk_at dksX6_account_4 22 rfl rfl)
theorem dX6_account_117 : decode cX6_account 117 = .ok (.ior, 1) := dk_128 (dk_at dksX6_account_4 23 rfl rfl)
theorem dX6_account_118 : decode cX6_account 118 = .ok (.istore 4, 2) := dk_54 4 (dk_at dksX6_account_5 0 rfl rfl)
theorem dX6_account_120 : decode cX6_account 120 = .ok (.iinc 5 1, 3) := dk_132 5 1 (dk_at dksX6_account_5 2 rfl rfl)
theorem dX6_account_123 : decode cX6_account 123 = .ok (.goto (-75), 3) := dk_167 255 181 (dk_at dksX6_account_5 5 rfl rfl)
theorem dX6_account_126 : decode cX6_account 126 = .ok (.iload_n 2, 1) := dk_28 (dk_at dksX6_account_5 8 rfl rfl)
theorem dX6_account_127 : decode cX6_account 127 = .ok (.iconst 4, 1) := dk_7 (dk_at dksX6_account_5 9 rfl rfl)
theorem dX6_account_128 : decode cX6_account 128 = .ok (.if_icmp .ne 11, 3) := dk_160 0 11 (dk_at dksX6_account_5 10 rfl rfl)
theorem dX6_account_131 : decode cX6_account 131 = .ok (.iload 4, 2) := dk_21 4 (dk_at dksX6_account_5 13 rfl rfl)
theorem dX6_account_133 : decode cX6_account 133 = .ok (.invokestatic 189, 3) := dk_184 0 189 (dk_at dksX6_account_5 15 rfl rfl)
theorem dX6_account_136 : decode cX6_account 136 = .ok (.goto 4, 3) := dk_167 0 4 (dk_at dksX6_account_5 18 rfl rfl)
theorem dX6_account_139 : decode cX6_account 139 = .ok (.iload_n 3, 1) := dk_29 (dk_at dksX6_account_5 21 rfl rfl)
theorem dX6_account_140 : decode cX6_account 140 = .ok (.ireturn, 1) := dk_172 (dk_at dksX6_account_5 22 rfl rfl)
abbrev cX6_counts : ByteArray := prog_16_method_81_code
def yX6_counts : MethodName := ⟨RX6, "counts", "(II)Z"⟩
def dkwX6_counts_2 : List UInt8 := [163, 0, 17, 28, 6, 160, 0, 16, 42, 27, 7, 182, 1, 16, 154, 0, 7, 4, 167, 0, 4, 3, 172]
abbrev dktX6_counts_2 : List UInt8 := dkwX6_counts_2 ++ []
def dkwX6_counts_1 : List UInt8 := [167, 0, 45, 29, 154, 0, 40, 28, 153, 0, 32, 28, 5, 160, 0, 13, 42, 27, 7, 182, 1, 16, 4]
abbrev dktX6_counts_1 : List UInt8 := dkwX6_counts_1 ++ dktX6_counts_2
def dkwX6_counts_0 : List UInt8 := [42, 27, 4, 182, 1, 16, 2, 160, 0, 7, 4, 167, 0, 4, 3, 62, 28, 4, 160, 0, 7, 29]
abbrev dktX6_counts_0 : List UInt8 := dkwX6_counts_0 ++ dktX6_counts_1
theorem dksX6_counts_0 : cX6_counts.data.toList.drop 0 = dktX6_counts_0 := by decide +kernel
theorem dksX6_counts_1 : cX6_counts.data.toList.drop 22 = dktX6_counts_1 := dk_seg dksX6_counts_0 22 rfl rfl
theorem dksX6_counts_2 : cX6_counts.data.toList.drop 45 = dktX6_counts_2 := dk_seg dksX6_counts_1 23 rfl rfl
theorem dX6_counts_0 : decode cX6_counts 0 = .ok (.aload_n 0, 1) := dk_42 (dk_at dksX6_counts_0 0 rfl rfl)
theorem dX6_counts_1 : decode cX6_counts 1 = .ok (.iload_n 1, 1) := dk_27 (dk_at dksX6_counts_0 1 rfl rfl)
theorem dX6_counts_2 : decode cX6_counts 2 = .ok (.iconst 1, 1) := dk_4 (dk_at dksX6_counts_0 2 rfl rfl)
theorem dX6_counts_3 : decode cX6_counts 3 = .ok (.invokevirtual 272, 3) := dk_182 1 16 (dk_at dksX6_counts_0 3 rfl rfl)
theorem dX6_counts_6 : decode cX6_counts 6 = .ok (.iconst (-1), 1) := dk_2 (dk_at dksX6_counts_0 6 rfl rfl)
theorem dX6_counts_7 : decode cX6_counts 7 = .ok (.if_icmp .ne 7, 3) := dk_160 0 7 (dk_at dksX6_counts_0 7 rfl rfl)
theorem dX6_counts_10 : decode cX6_counts 10 = .ok (.iconst 1, 1) := dk_4 (dk_at dksX6_counts_0 10 rfl rfl)
theorem dX6_counts_11 : decode cX6_counts 11 = .ok (.goto 4, 3) := dk_167 0 4 (dk_at dksX6_counts_0 11 rfl rfl)
theorem dX6_counts_14 : decode cX6_counts 14 = .ok (.iconst 0, 1) := dk_3 (dk_at dksX6_counts_0 14 rfl rfl)
theorem dX6_counts_15 : decode cX6_counts 15 = .ok (.istore_n 3, 1) := dk_62 (dk_at dksX6_counts_0 15 rfl rfl)
theorem dX6_counts_16 : decode cX6_counts 16 = .ok (.iload_n 2, 1) := dk_28 (dk_at dksX6_counts_0 16 rfl rfl)
theorem dX6_counts_17 : decode cX6_counts 17 = .ok (.iconst 1, 1) := dk_4 (dk_at dksX6_counts_0 17 rfl rfl)
theorem dX6_counts_18 : decode cX6_counts 18 = .ok (.if_icmp .ne 7, 3) := dk_160 0 7 (dk_at dksX6_counts_0 18 rfl rfl)
theorem dX6_counts_21 : decode cX6_counts 21 = .ok (.iload_n 3, 1) := dk_29 (dk_at dksX6_counts_0 21 rfl rfl)
theorem dX6_counts_22 : decode cX6_counts 22 = .ok (.goto 45, 3) := dk_167 0 45 (dk_at dksX6_counts_1 0 rfl rfl)
theorem dX6_counts_25 : decode cX6_counts 25 = .ok (.iload_n 3, 1) := dk_29 (dk_at dksX6_counts_1 3 rfl rfl)
theorem dX6_counts_26 : decode cX6_counts 26 = .ok (.ifCond .ne 40, 3) := dk_154 0 40 (dk_at dksX6_counts_1 4 rfl rfl)
theorem dX6_counts_29 : decode cX6_counts 29 = .ok (.iload_n 2, 1) := dk_28 (dk_at dksX6_counts_1 7 rfl rfl)
theorem dX6_counts_30 : decode cX6_counts 30 = .ok (.ifCond .eq 32, 3) := dk_153 0 32 (dk_at dksX6_counts_1 8 rfl rfl)
theorem dX6_counts_33 : decode cX6_counts 33 = .ok (.iload_n 2, 1) := dk_28 (dk_at dksX6_counts_1 11 rfl rfl)
theorem dX6_counts_34 : decode cX6_counts 34 = .ok (.iconst 2, 1) := dk_5 (dk_at dksX6_counts_1 12 rfl rfl)
theorem dX6_counts_35 : decode cX6_counts 35 = .ok (.if_icmp .ne 13, 3) := dk_160 0 13 (dk_at dksX6_counts_1 13 rfl rfl)
theorem dX6_counts_38 : decode cX6_counts 38 = .ok (.aload_n 0, 1) := dk_42 (dk_at dksX6_counts_1 16 rfl rfl)
theorem dX6_counts_39 : decode cX6_counts 39 = .ok (.iload_n 1, 1) := dk_27 (dk_at dksX6_counts_1 17 rfl rfl)
theorem dX6_counts_40 : decode cX6_counts 40 = .ok (.iconst 4, 1) := dk_7 (dk_at dksX6_counts_1 18 rfl rfl)
theorem dX6_counts_41 : decode cX6_counts 41 = .ok (.invokevirtual 272, 3) := dk_182 1 16 (dk_at dksX6_counts_1 19 rfl rfl)
theorem dX6_counts_44 : decode cX6_counts 44 = .ok (.iconst 1, 1) := dk_4 (dk_at dksX6_counts_1 22 rfl rfl)
theorem dX6_counts_45 : decode cX6_counts 45 = .ok (.if_icmp .gt 17, 3) := dk_163 0 17 (dk_at dksX6_counts_2 0 rfl rfl)
theorem dX6_counts_48 : decode cX6_counts 48 = .ok (.iload_n 2, 1) := dk_28 (dk_at dksX6_counts_2 3 rfl rfl)
theorem dX6_counts_49 : decode cX6_counts 49 = .ok (.iconst 3, 1) := dk_6 (dk_at dksX6_counts_2 4 rfl rfl)
theorem dX6_counts_50 : decode cX6_counts 50 = .ok (.if_icmp .ne 16, 3) := dk_160 0 16 (dk_at dksX6_counts_2 5 rfl rfl)
theorem dX6_counts_53 : decode cX6_counts 53 = .ok (.aload_n 0, 1) := dk_42 (dk_at dksX6_counts_2 8 rfl rfl)
theorem dX6_counts_54 : decode cX6_counts 54 = .ok (.iload_n 1, 1) := dk_27 (dk_at dksX6_counts_2 9 rfl rfl)
theorem dX6_counts_55 : decode cX6_counts 55 = .ok (.iconst 4, 1) := dk_7 (dk_at dksX6_counts_2 10 rfl rfl)
theorem dX6_counts_56 : decode cX6_counts 56 = .ok (.invokevirtual 272, 3) := dk_182 1 16 (dk_at dksX6_counts_2 11 rfl rfl)
theorem dX6_counts_59 : decode cX6_counts 59 = .ok (.ifCond .ne 7, 3) := dk_154 0 7 (dk_at dksX6_counts_2 14 rfl rfl)
theorem dX6_counts_62 : decode cX6_counts 62 = .ok (.iconst 1, 1) := dk_4 (dk_at dksX6_counts_2 17 rfl rfl)
theorem dX6_counts_63 : decode cX6_counts 63 = .ok (.goto 4, 3) := dk_167 0 4 (dk_at dksX6_counts_2 18 rfl rfl)
theorem dX6_counts_66 : decode cX6_counts 66 = .ok (.iconst 0, 1) := dk_3 (dk_at dksX6_counts_2 21 rfl rfl)
theorem dX6_counts_67 : decode cX6_counts 67 = .ok (.ireturn, 1) := dk_172 (dk_at dksX6_counts_2 22 rfl rfl)
abbrev cX6_writeBoard : ByteArray := prog_16_method_84_code
def yX6_writeBoard : MethodName := ⟨RX6, "writeBoard", "()I"⟩
def dkwX6_writeBoard_3 : List UInt8 := [16, 47, 182, 1, 25, 42, 16, 48, 42, 180, 0, 7, 5, 46, 96, 182, 1, 25, 42, 180, 1, 22, 172]
abbrev dktX6_writeBoard_3 : List UInt8 := dkwX6_writeBoard_3 ++ []
def dkwX6_writeBoard_2 : List UInt8 := [132, 1, 1, 167, 255, 218, 42, 16, 47, 182, 1, 25, 42, 16, 48, 42, 182, 0, 210, 96, 182, 1, 25, 42]
abbrev dktX6_writeBoard_2 : List UInt8 := dkwX6_writeBoard_2 ++ dktX6_writeBoard_3
def dkwX6_writeBoard_1 : List UInt8 := [27, 182, 0, 170, 153, 0, 8, 16, 46, 167, 0, 11, 16, 97, 42, 27, 182, 0, 183, 96, 182, 1, 25]
abbrev dktX6_writeBoard_1 : List UInt8 := dkwX6_writeBoard_1 ++ dktX6_writeBoard_2
def dkwX6_writeBoard_0 : List UInt8 := [42, 3, 181, 0, 47, 42, 3, 181, 1, 22, 3, 60, 27, 42, 180, 0, 7, 3, 46, 162, 0, 34, 42, 42]
abbrev dktX6_writeBoard_0 : List UInt8 := dkwX6_writeBoard_0 ++ dktX6_writeBoard_1
theorem dksX6_writeBoard_0 : cX6_writeBoard.data.toList.drop 0 = dktX6_writeBoard_0 := by decide +kernel
theorem dksX6_writeBoard_1 : cX6_writeBoard.data.toList.drop 24 = dktX6_writeBoard_1 := dk_seg dksX6_writeBoard_0 24 rfl rfl
theorem dksX6_writeBoard_2 : cX6_writeBoard.data.toList.drop 47 = dktX6_writeBoard_2 := dk_seg dksX6_writeBoard_1 23 rfl rfl
theorem dksX6_writeBoard_3 : cX6_writeBoard.data.toList.drop 71 = dktX6_writeBoard_3 := dk_seg dksX6_writeBoard_2 24 rfl rfl
theorem dX6_writeBoard_0 : decode cX6_writeBoard 0 = .ok (.aload_n 0, 1) := dk_42 (dk_at dksX6_writeBoard_0 0 rfl rfl)
theorem dX6_writeBoard_1 : decode cX6_writeBoard 1 = .ok (.iconst 0, 1) := dk_3 (dk_at dksX6_writeBoard_0 1 rfl rfl)
theorem dX6_writeBoard_2 : decode cX6_writeBoard 2 = .ok (.putfield 47, 3) := dk_181 0 47 (dk_at dksX6_writeBoard_0 2 rfl rfl)
theorem dX6_writeBoard_5 : decode cX6_writeBoard 5 = .ok (.aload_n 0, 1) := dk_42 (dk_at dksX6_writeBoard_0 5 rfl rfl)
theorem dX6_writeBoard_6 : decode cX6_writeBoard 6 = .ok (.iconst 0, 1) := dk_3 (dk_at dksX6_writeBoard_0 6 rfl rfl)
theorem dX6_writeBoard_7 : decode cX6_writeBoard 7 = .ok (.putfield 278, 3) := dk_181 1 22 (dk_at dksX6_writeBoard_0 7 rfl rfl)
theorem dX6_writeBoard_10 : decode cX6_writeBoard 10 = .ok (.iconst 0, 1) := dk_3 (dk_at dksX6_writeBoard_0 10 rfl rfl)
theorem dX6_writeBoard_11 : decode cX6_writeBoard 11 = .ok (.istore_n 1, 1) := dk_60 (dk_at dksX6_writeBoard_0 11 rfl rfl)
theorem dX6_writeBoard_12 : decode cX6_writeBoard 12 = .ok (.iload_n 1, 1) := dk_27 (dk_at dksX6_writeBoard_0 12 rfl rfl)
theorem dX6_writeBoard_13 : decode cX6_writeBoard 13 = .ok (.aload_n 0, 1) := dk_42 (dk_at dksX6_writeBoard_0 13 rfl rfl)
theorem dX6_writeBoard_14 : decode cX6_writeBoard 14 = .ok (.getfield 7, 3) := dk_180 0 7 (dk_at dksX6_writeBoard_0 14 rfl rfl)
theorem dX6_writeBoard_17 : decode cX6_writeBoard 17 = .ok (.iconst 0, 1) := dk_3 (dk_at dksX6_writeBoard_0 17 rfl rfl)
theorem dX6_writeBoard_18 : decode cX6_writeBoard 18 = .ok (.iaload, 1) := dk_46 (dk_at dksX6_writeBoard_0 18 rfl rfl)
theorem dX6_writeBoard_19 : decode cX6_writeBoard 19 = .ok (.if_icmp .ge 34, 3) := dk_162 0 34 (dk_at dksX6_writeBoard_0 19 rfl rfl)
theorem dX6_writeBoard_22 : decode cX6_writeBoard 22 = .ok (.aload_n 0, 1) := dk_42 (dk_at dksX6_writeBoard_0 22 rfl rfl)
theorem dX6_writeBoard_23 : decode cX6_writeBoard 23 = .ok (.aload_n 0, 1) := dk_42 (dk_at dksX6_writeBoard_0 23 rfl rfl)
theorem dX6_writeBoard_24 : decode cX6_writeBoard 24 = .ok (.iload_n 1, 1) := dk_27 (dk_at dksX6_writeBoard_1 0 rfl rfl)
theorem dX6_writeBoard_25 : decode cX6_writeBoard 25 = .ok (.invokevirtual 170, 3) := dk_182 0 170 (dk_at dksX6_writeBoard_1 1 rfl rfl)
theorem dX6_writeBoard_28 : decode cX6_writeBoard 28 = .ok (.ifCond .eq 8, 3) := dk_153 0 8 (dk_at dksX6_writeBoard_1 4 rfl rfl)
theorem dX6_writeBoard_31 : decode cX6_writeBoard 31 = .ok (.bipush 46, 2) := dk_16 46 (dk_at dksX6_writeBoard_1 7 rfl rfl)
theorem dX6_writeBoard_33 : decode cX6_writeBoard 33 = .ok (.goto 11, 3) := dk_167 0 11 (dk_at dksX6_writeBoard_1 9 rfl rfl)
theorem dX6_writeBoard_36 : decode cX6_writeBoard 36 = .ok (.bipush 97, 2) := dk_16 97 (dk_at dksX6_writeBoard_1 12 rfl rfl)
theorem dX6_writeBoard_38 : decode cX6_writeBoard 38 = .ok (.aload_n 0, 1) := dk_42 (dk_at dksX6_writeBoard_1 14 rfl rfl)
theorem dX6_writeBoard_39 : decode cX6_writeBoard 39 = .ok (.iload_n 1, 1) := dk_27 (dk_at dksX6_writeBoard_1 15 rfl rfl)
theorem dX6_writeBoard_40 : decode cX6_writeBoard 40 = .ok (.invokevirtual 183, 3) := dk_182 0 183 (dk_at dksX6_writeBoard_1 16 rfl rfl)
theorem dX6_writeBoard_43 : decode cX6_writeBoard 43 = .ok (.iadd, 1) := dk_96 (dk_at dksX6_writeBoard_1 19 rfl rfl)
theorem dX6_writeBoard_44 : decode cX6_writeBoard 44 = .ok (.invokevirtual 281, 3) := dk_182 1 25 (dk_at dksX6_writeBoard_1 20 rfl rfl)
theorem dX6_writeBoard_47 : decode cX6_writeBoard 47 = .ok (.iinc 1 1, 3) := dk_132 1 1 (dk_at dksX6_writeBoard_2 0 rfl rfl)
theorem dX6_writeBoard_50 : decode cX6_writeBoard 50 = .ok (.goto (-38), 3) := dk_167 255 218 (dk_at dksX6_writeBoard_2 3 rfl rfl)
theorem dX6_writeBoard_53 : decode cX6_writeBoard 53 = .ok (.aload_n 0, 1) := dk_42 (dk_at dksX6_writeBoard_2 6 rfl rfl)
theorem dX6_writeBoard_54 : decode cX6_writeBoard 54 = .ok (.bipush 47, 2) := dk_16 47 (dk_at dksX6_writeBoard_2 7 rfl rfl)
theorem dX6_writeBoard_56 : decode cX6_writeBoard 56 = .ok (.invokevirtual 281, 3) := dk_182 1 25 (dk_at dksX6_writeBoard_2 9 rfl rfl)
theorem dX6_writeBoard_59 : decode cX6_writeBoard 59 = .ok (.aload_n 0, 1) := dk_42 (dk_at dksX6_writeBoard_2 12 rfl rfl)
theorem dX6_writeBoard_60 : decode cX6_writeBoard 60 = .ok (.bipush 48, 2) := dk_16 48 (dk_at dksX6_writeBoard_2 13 rfl rfl)
theorem dX6_writeBoard_62 : decode cX6_writeBoard 62 = .ok (.aload_n 0, 1) := dk_42 (dk_at dksX6_writeBoard_2 15 rfl rfl)
theorem dX6_writeBoard_63 : decode cX6_writeBoard 63 = .ok (.invokevirtual 210, 3) := dk_182 0 210 (dk_at dksX6_writeBoard_2 16 rfl rfl)
theorem dX6_writeBoard_66 : decode cX6_writeBoard 66 = .ok (.iadd, 1) := dk_96 (dk_at dksX6_writeBoard_2 19 rfl rfl)
theorem dX6_writeBoard_67 : decode cX6_writeBoard 67 = .ok (.invokevirtual 281, 3) := dk_182 1 25 (dk_at dksX6_writeBoard_2 20 rfl rfl)
theorem dX6_writeBoard_70 : decode cX6_writeBoard 70 = .ok (.aload_n 0, 1) := dk_42 (dk_at dksX6_writeBoard_2 23 rfl rfl)
theorem dX6_writeBoard_71 : decode cX6_writeBoard 71 = .ok (.bipush 47, 2) := dk_16 47 (dk_at dksX6_writeBoard_3 0 rfl rfl)
theorem dX6_writeBoard_73 : decode cX6_writeBoard 73 = .ok (.invokevirtual 281, 3) := dk_182 1 25 (dk_at dksX6_writeBoard_3 2 rfl rfl)
theorem dX6_writeBoard_76 : decode cX6_writeBoard 76 = .ok (.aload_n 0, 1) := dk_42 (dk_at dksX6_writeBoard_3 5 rfl rfl)
theorem dX6_writeBoard_77 : decode cX6_writeBoard 77 = .ok (.bipush 48, 2) := dk_16 48 (dk_at dksX6_writeBoard_3 6 rfl rfl)
theorem dX6_writeBoard_79 : decode cX6_writeBoard 79 = .ok (.aload_n 0, 1) := dk_42 (dk_at dksX6_writeBoard_3 8 rfl rfl)
theorem dX6_writeBoard_80 : decode cX6_writeBoard 80 = .ok (.getfield 7, 3) := dk_180 0 7 (dk_at dksX6_writeBoard_3 9 rfl rfl)
theorem dX6_writeBoard_83 : decode cX6_writeBoard 83 = .ok (.iconst 2, 1) := dk_5 (dk_at dksX6_writeBoard_3 12 rfl rfl)
theorem dX6_writeBoard_84 : decode cX6_writeBoard 84 = .ok (.iaload, 1) := dk_46 (dk_at dksX6_writeBoard_3 13 rfl rfl)
theorem dX6_writeBoard_85 : decode cX6_writeBoard 85 = .ok (.iadd, 1) := dk_96 (dk_at dksX6_writeBoard_3 14 rfl rfl)
theorem dX6_writeBoard_86 : decode cX6_writeBoard 86 = .ok (.invokevirtual 281, 3) := dk_182 1 25 (dk_at dksX6_writeBoard_3 15 rfl rfl)
theorem dX6_writeBoard_89 : decode cX6_writeBoard 89 = .ok (.aload_n 0, 1) := dk_42 (dk_at dksX6_writeBoard_3 18 rfl rfl)
theorem dX6_writeBoard_90 : decode cX6_writeBoard 90 = .ok (.getfield 278, 3) := dk_180 1 22 (dk_at dksX6_writeBoard_3 19 rfl rfl)
theorem dX6_writeBoard_93 : decode cX6_writeBoard 93 = .ok (.ireturn, 1) := dk_172 (dk_at dksX6_writeBoard_3 22 rfl rfl)
abbrev cX6_says : ByteArray := prog_16_method_83_code
def yX6_says : MethodName := ⟨RX6, "says", "(I)V"⟩
def dkwX6_says_0 : List UInt8 := [42, 180, 0, 44, 42, 180, 1, 22, 27, 79, 42, 89, 180, 1, 22, 4, 96, 181, 1, 22, 177]
abbrev dktX6_says_0 : List UInt8 := dkwX6_says_0 ++ []
theorem dksX6_says_0 : cX6_says.data.toList.drop 0 = dktX6_says_0 := by decide +kernel
theorem dX6_says_0 : decode cX6_says 0 = .ok (.aload_n 0, 1) := dk_42 (dk_at dksX6_says_0 0 rfl rfl)
theorem dX6_says_1 : decode cX6_says 1 = .ok (.getfield 44, 3) := dk_180 0 44 (dk_at dksX6_says_0 1 rfl rfl)
theorem dX6_says_4 : decode cX6_says 4 = .ok (.aload_n 0, 1) := dk_42 (dk_at dksX6_says_0 4 rfl rfl)
theorem dX6_says_5 : decode cX6_says 5 = .ok (.getfield 278, 3) := dk_180 1 22 (dk_at dksX6_says_0 5 rfl rfl)
theorem dX6_says_8 : decode cX6_says 8 = .ok (.iload_n 1, 1) := dk_27 (dk_at dksX6_says_0 8 rfl rfl)
theorem dX6_says_9 : decode cX6_says 9 = .ok (.iastore, 1) := dk_79 (dk_at dksX6_says_0 9 rfl rfl)
theorem dX6_says_10 : decode cX6_says 10 = .ok (.aload_n 0, 1) := dk_42 (dk_at dksX6_says_0 10 rfl rfl)
theorem dX6_says_11 : decode cX6_says 11 = .ok (.dup, 1) := dk_89 (dk_at dksX6_says_0 11 rfl rfl)
theorem dX6_says_12 : decode cX6_says 12 = .ok (.getfield 278, 3) := dk_180 1 22 (dk_at dksX6_says_0 12 rfl rfl)
theorem dX6_says_15 : decode cX6_says 15 = .ok (.iconst 1, 1) := dk_4 (dk_at dksX6_says_0 15 rfl rfl)
theorem dX6_says_16 : decode cX6_says 16 = .ok (.iadd, 1) := dk_96 (dk_at dksX6_says_0 16 rfl rfl)
theorem dX6_says_17 : decode cX6_says 17 = .ok (.putfield 278, 3) := dk_181 1 22 (dk_at dksX6_says_0 17 rfl rfl)
theorem dX6_says_20 : decode cX6_says 20 = .ok (.return_, 1) := dk_177 (dk_at dksX6_says_0 20 rfl rfl)
abbrev cX6_writtenByte : ByteArray := prog_16_method_85_code
def yX6_writtenByte : MethodName := ⟨RX6, "writtenByte", "(I)I"⟩
def dkwX6_writtenByte_1 : List UInt8 := [180, 0, 47, 158, 0, 7, 3, 167, 0, 9, 42, 180, 0, 44, 27, 46, 172]
abbrev dktX6_writtenByte_1 : List UInt8 := dkwX6_writtenByte_1 ++ []
def dkwX6_writtenByte_0 : List UInt8 := [42, 27, 3, 42, 180, 1, 22, 4, 100, 184, 0, 76, 153, 0, 7, 3, 167, 0, 4, 4, 181, 0, 47, 42]
abbrev dktX6_writtenByte_0 : List UInt8 := dkwX6_writtenByte_0 ++ dktX6_writtenByte_1
theorem dksX6_writtenByte_0 : cX6_writtenByte.data.toList.drop 0 = dktX6_writtenByte_0 := by decide +kernel
theorem dksX6_writtenByte_1 : cX6_writtenByte.data.toList.drop 24 = dktX6_writtenByte_1 := dk_seg dksX6_writtenByte_0 24 rfl rfl
theorem dX6_writtenByte_0 : decode cX6_writtenByte 0 = .ok (.aload_n 0, 1) := dk_42 (dk_at dksX6_writtenByte_0 0 rfl rfl)
theorem dX6_writtenByte_1 : decode cX6_writtenByte 1 = .ok (.iload_n 1, 1) := dk_27 (dk_at dksX6_writtenByte_0 1 rfl rfl)
theorem dX6_writtenByte_2 : decode cX6_writtenByte 2 = .ok (.iconst 0, 1) := dk_3 (dk_at dksX6_writtenByte_0 2 rfl rfl)
theorem dX6_writtenByte_3 : decode cX6_writtenByte 3 = .ok (.aload_n 0, 1) := dk_42 (dk_at dksX6_writtenByte_0 3 rfl rfl)
theorem dX6_writtenByte_4 : decode cX6_writtenByte 4 = .ok (.getfield 278, 3) := dk_180 1 22 (dk_at dksX6_writtenByte_0 4 rfl rfl)
theorem dX6_writtenByte_7 : decode cX6_writtenByte 7 = .ok (.iconst 1, 1) := dk_4 (dk_at dksX6_writtenByte_0 7 rfl rfl)
theorem dX6_writtenByte_8 : decode cX6_writtenByte 8 = .ok (.isub, 1) := dk_100 (dk_at dksX6_writtenByte_0 8 rfl rfl)
theorem dX6_writtenByte_9 : decode cX6_writtenByte 9 = .ok (.invokestatic 76, 3) := dk_184 0 76 (dk_at dksX6_writtenByte_0 9 rfl rfl)
theorem dX6_writtenByte_12 : decode cX6_writtenByte 12 = .ok (.ifCond .eq 7, 3) := dk_153 0 7 (dk_at dksX6_writtenByte_0 12 rfl rfl)
theorem dX6_writtenByte_15 : decode cX6_writtenByte 15 = .ok (.iconst 0, 1) := dk_3 (dk_at dksX6_writtenByte_0 15 rfl rfl)
theorem dX6_writtenByte_16 : decode cX6_writtenByte 16 = .ok (.goto 4, 3) := dk_167 0 4 (dk_at dksX6_writtenByte_0 16 rfl rfl)
theorem dX6_writtenByte_19 : decode cX6_writtenByte 19 = .ok (.iconst 1, 1) := dk_4 (dk_at dksX6_writtenByte_0 19 rfl rfl)
theorem dX6_writtenByte_20 : decode cX6_writtenByte 20 = .ok (.putfield 47, 3) := dk_181 0 47 (dk_at dksX6_writtenByte_0 20 rfl rfl)
theorem dX6_writtenByte_23 : decode cX6_writtenByte 23 = .ok (.aload_n 0, 1) := dk_42 (dk_at dksX6_writtenByte_0 23 rfl rfl)
theorem dX6_writtenByte_24 : decode cX6_writtenByte 24 = .ok (.getfield 47, 3) := dk_180 0 47 (dk_at dksX6_writtenByte_1 0 rfl rfl)
theorem dX6_writtenByte_27 : decode cX6_writtenByte 27 = .ok (.ifCond .le 7, 3) := dk_158 0 7 (dk_at dksX6_writtenByte_1 3 rfl rfl)
theorem dX6_writtenByte_30 : decode cX6_writtenByte 30 = .ok (.iconst 0, 1) := dk_3 (dk_at dksX6_writtenByte_1 6 rfl rfl)
theorem dX6_writtenByte_31 : decode cX6_writtenByte 31 = .ok (.goto 9, 3) := dk_167 0 9 (dk_at dksX6_writtenByte_1 7 rfl rfl)
theorem dX6_writtenByte_34 : decode cX6_writtenByte 34 = .ok (.aload_n 0, 1) := dk_42 (dk_at dksX6_writtenByte_1 10 rfl rfl)
theorem dX6_writtenByte_35 : decode cX6_writtenByte 35 = .ok (.getfield 44, 3) := dk_180 0 44 (dk_at dksX6_writtenByte_1 11 rfl rfl)
theorem dX6_writtenByte_38 : decode cX6_writtenByte 38 = .ok (.iload_n 1, 1) := dk_27 (dk_at dksX6_writtenByte_1 14 rfl rfl)
theorem dX6_writtenByte_39 : decode cX6_writtenByte 39 = .ok (.iaload, 1) := dk_46 (dk_at dksX6_writtenByte_1 15 rfl rfl)
theorem dX6_writtenByte_40 : decode cX6_writtenByte 40 = .ok (.ireturn, 1) := dk_172 (dk_at dksX6_writtenByte_1 16 rfl rfl)
abbrev cX6_save : ByteArray := prog_16_method_86_code
def yX6_save : MethodName := ⟨RX6, "save", "(I)I"⟩
def dkwX6_save_2 : List UInt8 := [180, 0, 7, 3, 184, 0, 53, 42, 180, 0, 7, 6, 46, 172]
abbrev dktX6_save_2 : List UInt8 := dkwX6_save_2 ++ []
def dkwX6_save_1 : List UInt8 := [158, 0, 5, 3, 172, 42, 180, 0, 26, 27, 4, 84, 42, 180, 0, 23, 17, 16, 40, 27, 104, 42]
abbrev dktX6_save_1 : List UInt8 := dkwX6_save_1 ++ dktX6_save_2
def dkwX6_save_0 : List UInt8 := [42, 27, 3, 4, 184, 0, 76, 153, 0, 7, 3, 167, 0, 4, 4, 181, 0, 47, 42, 180, 0, 47]
abbrev dktX6_save_0 : List UInt8 := dkwX6_save_0 ++ dktX6_save_1
theorem dksX6_save_0 : cX6_save.data.toList.drop 0 = dktX6_save_0 := by decide +kernel
theorem dksX6_save_1 : cX6_save.data.toList.drop 22 = dktX6_save_1 := dk_seg dksX6_save_0 22 rfl rfl
theorem dksX6_save_2 : cX6_save.data.toList.drop 44 = dktX6_save_2 := dk_seg dksX6_save_1 22 rfl rfl
theorem dX6_save_0 : decode cX6_save 0 = .ok (.aload_n 0, 1) := dk_42 (dk_at dksX6_save_0 0 rfl rfl)
theorem dX6_save_1 : decode cX6_save 1 = .ok (.iload_n 1, 1) := dk_27 (dk_at dksX6_save_0 1 rfl rfl)
theorem dX6_save_2 : decode cX6_save 2 = .ok (.iconst 0, 1) := dk_3 (dk_at dksX6_save_0 2 rfl rfl)
theorem dX6_save_3 : decode cX6_save 3 = .ok (.iconst 1, 1) := dk_4 (dk_at dksX6_save_0 3 rfl rfl)
theorem dX6_save_4 : decode cX6_save 4 = .ok (.invokestatic 76, 3) := dk_184 0 76 (dk_at dksX6_save_0 4 rfl rfl)
theorem dX6_save_7 : decode cX6_save 7 = .ok (.ifCond .eq 7, 3) := dk_153 0 7 (dk_at dksX6_save_0 7 rfl rfl)
theorem dX6_save_10 : decode cX6_save 10 = .ok (.iconst 0, 1) := dk_3 (dk_at dksX6_save_0 10 rfl rfl)
theorem dX6_save_11 : decode cX6_save 11 = .ok (.goto 4, 3) := dk_167 0 4 (dk_at dksX6_save_0 11 rfl rfl)
theorem dX6_save_14 : decode cX6_save 14 = .ok (.iconst 1, 1) := dk_4 (dk_at dksX6_save_0 14 rfl rfl)
theorem dX6_save_15 : decode cX6_save 15 = .ok (.putfield 47, 3) := dk_181 0 47 (dk_at dksX6_save_0 15 rfl rfl)
theorem dX6_save_18 : decode cX6_save 18 = .ok (.aload_n 0, 1) := dk_42 (dk_at dksX6_save_0 18 rfl rfl)
theorem dX6_save_19 : decode cX6_save 19 = .ok (.getfield 47, 3) := dk_180 0 47 (dk_at dksX6_save_0 19 rfl rfl)
theorem dX6_save_22 : decode cX6_save 22 = .ok (.ifCond .le 5, 3) := dk_158 0 5 (dk_at dksX6_save_1 0 rfl rfl)
theorem dX6_save_25 : decode cX6_save 25 = .ok (.iconst 0, 1) := dk_3 (dk_at dksX6_save_1 3 rfl rfl)
theorem dX6_save_26 : decode cX6_save 26 = .ok (.ireturn, 1) := dk_172 (dk_at dksX6_save_1 4 rfl rfl)
theorem dX6_save_27 : decode cX6_save 27 = .ok (.aload_n 0, 1) := dk_42 (dk_at dksX6_save_1 5 rfl rfl)
theorem dX6_save_28 : decode cX6_save 28 = .ok (.getfield 26, 3) := dk_180 0 26 (dk_at dksX6_save_1 6 rfl rfl)
theorem dX6_save_31 : decode cX6_save 31 = .ok (.iload_n 1, 1) := dk_27 (dk_at dksX6_save_1 9 rfl rfl)
theorem dX6_save_32 : decode cX6_save 32 = .ok (.iconst 1, 1) := dk_4 (dk_at dksX6_save_1 10 rfl rfl)
theorem dX6_save_33 : decode cX6_save 33 = .ok (.bastore, 1) := dk_84 (dk_at dksX6_save_1 11 rfl rfl)
theorem dX6_save_34 : decode cX6_save 34 = .ok (.aload_n 0, 1) := dk_42 (dk_at dksX6_save_1 12 rfl rfl)
theorem dX6_save_35 : decode cX6_save 35 = .ok (.getfield 23, 3) := dk_180 0 23 (dk_at dksX6_save_1 13 rfl rfl)
theorem dX6_save_38 : decode cX6_save 38 = .ok (.sipush 4136, 3) := dk_17 16 40 (dk_at dksX6_save_1 16 rfl rfl)
theorem dX6_save_41 : decode cX6_save 41 = .ok (.iload_n 1, 1) := dk_27 (dk_at dksX6_save_1 19 rfl rfl)
theorem dX6_save_42 : decode cX6_save 42 = .ok (.imul, 1) := dk_104 (dk_at dksX6_save_1 20 rfl rfl)
theorem dX6_save_43 : decode cX6_save 43 = .ok (.aload_n 0, 1) := dk_42 (dk_at dksX6_save_1 21 rfl rfl)
theorem dX6_save_44 : decode cX6_save 44 = .ok (.getfield 7, 3) := dk_180 0 7 (dk_at dksX6_save_2 0 rfl rfl)
theorem dX6_save_47 : decode cX6_save 47 = .ok (.iconst 0, 1) := dk_3 (dk_at dksX6_save_2 3 rfl rfl)
theorem dX6_save_48 : decode cX6_save 48 = .ok (.invokestatic 53, 3) := dk_184 0 53 (dk_at dksX6_save_2 4 rfl rfl)
theorem dX6_save_51 : decode cX6_save 51 = .ok (.aload_n 0, 1) := dk_42 (dk_at dksX6_save_2 7 rfl rfl)
theorem dX6_save_52 : decode cX6_save 52 = .ok (.getfield 7, 3) := dk_180 0 7 (dk_at dksX6_save_2 8 rfl rfl)
theorem dX6_save_55 : decode cX6_save 55 = .ok (.iconst 3, 1) := dk_6 (dk_at dksX6_save_2 11 rfl rfl)
theorem dX6_save_56 : decode cX6_save 56 = .ok (.iaload, 1) := dk_46 (dk_at dksX6_save_2 12 rfl rfl)
theorem dX6_save_57 : decode cX6_save 57 = .ok (.ireturn, 1) := dk_172 (dk_at dksX6_save_2 13 rfl rfl)
abbrev cX6_restore : ByteArray := prog_16_method_87_code
def yX6_restore : MethodName := ⟨RX6, "restore", "(I)I"⟩
def dkwX6_restore_2 : List UInt8 := [3, 42, 180, 0, 23, 17, 16, 40, 27, 104, 184, 0, 53, 42, 180, 0, 7, 6, 46, 172]
abbrev dktX6_restore_2 : List UInt8 := dkwX6_restore_2 ++ []
def dkwX6_restore_1 : List UInt8 := [167, 0, 4, 5, 181, 0, 47, 42, 180, 0, 47, 158, 0, 5, 3, 172, 42, 182, 0, 167, 42, 180, 0, 7]
abbrev dktX6_restore_1 : List UInt8 := dkwX6_restore_1 ++ dktX6_restore_2
def dkwX6_restore_0 : List UInt8 := [42, 27, 3, 4, 184, 0, 76, 154, 0, 7, 4, 167, 0, 17, 42, 180, 0, 26, 27, 51, 153, 0, 7, 3]
abbrev dktX6_restore_0 : List UInt8 := dkwX6_restore_0 ++ dktX6_restore_1
theorem dksX6_restore_0 : cX6_restore.data.toList.drop 0 = dktX6_restore_0 := by decide +kernel
theorem dksX6_restore_1 : cX6_restore.data.toList.drop 24 = dktX6_restore_1 := dk_seg dksX6_restore_0 24 rfl rfl
theorem dksX6_restore_2 : cX6_restore.data.toList.drop 48 = dktX6_restore_2 := dk_seg dksX6_restore_1 24 rfl rfl
theorem dX6_restore_0 : decode cX6_restore 0 = .ok (.aload_n 0, 1) := dk_42 (dk_at dksX6_restore_0 0 rfl rfl)
theorem dX6_restore_1 : decode cX6_restore 1 = .ok (.iload_n 1, 1) := dk_27 (dk_at dksX6_restore_0 1 rfl rfl)
theorem dX6_restore_2 : decode cX6_restore 2 = .ok (.iconst 0, 1) := dk_3 (dk_at dksX6_restore_0 2 rfl rfl)
theorem dX6_restore_3 : decode cX6_restore 3 = .ok (.iconst 1, 1) := dk_4 (dk_at dksX6_restore_0 3 rfl rfl)
theorem dX6_restore_4 : decode cX6_restore 4 = .ok (.invokestatic 76, 3) := dk_184 0 76 (dk_at dksX6_restore_0 4 rfl rfl)
theorem dX6_restore_7 : decode cX6_restore 7 = .ok (.ifCond .ne 7, 3) := dk_154 0 7 (dk_at dksX6_restore_0 7 rfl rfl)
theorem dX6_restore_10 : decode cX6_restore 10 = .ok (.iconst 1, 1) := dk_4 (dk_at dksX6_restore_0 10 rfl rfl)
theorem dX6_restore_11 : decode cX6_restore 11 = .ok (.goto 17, 3) := dk_167 0 17 (dk_at dksX6_restore_0 11 rfl rfl)
theorem dX6_restore_14 : decode cX6_restore 14 = .ok (.aload_n 0, 1) := dk_42 (dk_at dksX6_restore_0 14 rfl rfl)
theorem dX6_restore_15 : decode cX6_restore 15 = .ok (.getfield 26, 3) := dk_180 0 26 (dk_at dksX6_restore_0 15 rfl rfl)
theorem dX6_restore_18 : decode cX6_restore 18 = .ok (.iload_n 1, 1) := dk_27 (dk_at dksX6_restore_0 18 rfl rfl)
theorem dX6_restore_19 : decode cX6_restore 19 = .ok (.baload, 1) := dk_51 (dk_at dksX6_restore_0 19 rfl rfl)
theorem dX6_restore_20 : decode cX6_restore 20 = .ok (.ifCond .eq 7, 3) := dk_153 0 7 (dk_at dksX6_restore_0 20 rfl rfl)
theorem dX6_restore_23 : decode cX6_restore 23 = .ok (.iconst 0, 1) := dk_3 (dk_at dksX6_restore_0 23 rfl rfl)
theorem dX6_restore_24 : decode cX6_restore 24 = .ok (.goto 4, 3) := dk_167 0 4 (dk_at dksX6_restore_1 0 rfl rfl)
theorem dX6_restore_27 : decode cX6_restore 27 = .ok (.iconst 2, 1) := dk_5 (dk_at dksX6_restore_1 3 rfl rfl)
theorem dX6_restore_28 : decode cX6_restore 28 = .ok (.putfield 47, 3) := dk_181 0 47 (dk_at dksX6_restore_1 4 rfl rfl)
theorem dX6_restore_31 : decode cX6_restore 31 = .ok (.aload_n 0, 1) := dk_42 (dk_at dksX6_restore_1 7 rfl rfl)
theorem dX6_restore_32 : decode cX6_restore 32 = .ok (.getfield 47, 3) := dk_180 0 47 (dk_at dksX6_restore_1 8 rfl rfl)
theorem dX6_restore_35 : decode cX6_restore 35 = .ok (.ifCond .le 5, 3) := dk_158 0 5 (dk_at dksX6_restore_1 11 rfl rfl)
theorem dX6_restore_38 : decode cX6_restore 38 = .ok (.iconst 0, 1) := dk_3 (dk_at dksX6_restore_1 14 rfl rfl)
theorem dX6_restore_39 : decode cX6_restore 39 = .ok (.ireturn, 1) := dk_172 (dk_at dksX6_restore_1 15 rfl rfl)
theorem dX6_restore_40 : decode cX6_restore 40 = .ok (.aload_n 0, 1) := dk_42 (dk_at dksX6_restore_1 16 rfl rfl)
theorem dX6_restore_41 : decode cX6_restore 41 = .ok (.invokevirtual 167, 3) := dk_182 0 167 (dk_at dksX6_restore_1 17 rfl rfl)
theorem dX6_restore_44 : decode cX6_restore 44 = .ok (.aload_n 0, 1) := dk_42 (dk_at dksX6_restore_1 20 rfl rfl)
theorem dX6_restore_45 : decode cX6_restore 45 = .ok (.getfield 7, 3) := dk_180 0 7 (dk_at dksX6_restore_1 21 rfl rfl)
theorem dX6_restore_48 : decode cX6_restore 48 = .ok (.iconst 0, 1) := dk_3 (dk_at dksX6_restore_2 0 rfl rfl)
theorem dX6_restore_49 : decode cX6_restore 49 = .ok (.aload_n 0, 1) := dk_42 (dk_at dksX6_restore_2 1 rfl rfl)
theorem dX6_restore_50 : decode cX6_restore 50 = .ok (.getfield 23, 3) := dk_180 0 23 (dk_at dksX6_restore_2 2 rfl rfl)
theorem dX6_restore_53 : decode cX6_restore 53 = .ok (.sipush 4136, 3) := dk_17 16 40 (dk_at dksX6_restore_2 5 rfl rfl)
theorem dX6_restore_56 : decode cX6_restore 56 = .ok (.iload_n 1, 1) := dk_27 (dk_at dksX6_restore_2 8 rfl rfl)
theorem dX6_restore_57 : decode cX6_restore 57 = .ok (.imul, 1) := dk_104 (dk_at dksX6_restore_2 9 rfl rfl)
theorem dX6_restore_58 : decode cX6_restore 58 = .ok (.invokestatic 53, 3) := dk_184 0 53 (dk_at dksX6_restore_2 10 rfl rfl)
theorem dX6_restore_61 : decode cX6_restore 61 = .ok (.aload_n 0, 1) := dk_42 (dk_at dksX6_restore_2 13 rfl rfl)
theorem dX6_restore_62 : decode cX6_restore 62 = .ok (.getfield 7, 3) := dk_180 0 7 (dk_at dksX6_restore_2 14 rfl rfl)
theorem dX6_restore_65 : decode cX6_restore 65 = .ok (.iconst 3, 1) := dk_6 (dk_at dksX6_restore_2 17 rfl rfl)
theorem dX6_restore_66 : decode cX6_restore 66 = .ok (.iaload, 1) := dk_46 (dk_at dksX6_restore_2 18 rfl rfl)
theorem dX6_restore_67 : decode cX6_restore 67 = .ok (.ireturn, 1) := dk_172 (dk_at dksX6_restore_2 19 rfl rfl)
theorem q120 : (Jvm.Cond.initialized "ColourDuelModel") ∈ lw_all := lw_g (lw_at lw_m1 26 rfl) rfl
theorem q955 : (Jvm.Cond.selects "ColourDuelModel" ({ cls := "java/lang/Object", name := "getClass", desc := "()Ljava/lang/Class;" } : Jvm.MethodName) ({ cls := "java/lang/Object", name := "getClass", desc := "()Ljava/lang/Class;" } : Jvm.MethodName)) ∈ lw_all := lw_g (lw_at lw_m4 141 rfl) rfl
theorem q1811 : (Jvm.Cond.instantiable "ColourDuelModel" (22 : Nat)) ∈ lw_all := lw_g (lw_at lw_m8 37 rfl) rfl
theorem q1813 : (Jvm.Cond.instanceMethod ({ cls := "ColourDuelModel", name := "<init>", desc := "()V" } : Jvm.MethodName)) ∈ lw_all := lw_g (lw_at lw_m8 39 rfl) rfl
theorem q1814 : (Jvm.Cond.code ({ cls := "ColourDuelModel", name := "<init>", desc := "()V" } : Jvm.MethodName) prog_16_method_1_code (1 : Nat) (Option.none : Option Jvm.ClassFile.FieldType)) ∈ lw_all := lw_g (lw_at lw_m8 40 rfl) rfl
theorem q1815 : (Jvm.Cond.methodLink "ColourDuelModel" (1 : Nat) ({ cls := "java/lang/Object", name := "<init>", desc := "()V" } : Jvm.MethodName)) ∈ lw_all := lw_g (lw_at lw_m8 41 rfl) rfl
theorem q1816 : (Jvm.Cond.constant "ColourDuelModel" (19 : Nat) (33088 : Int32)) ∈ lw_all := lw_g (lw_at lw_m8 42 rfl) rfl
theorem q1817 : (Jvm.Cond.constant "ColourDuelModel" (37 : Nat) (80000 : Int32)) ∈ lw_all := lw_g (lw_at lw_m8 43 rfl) rfl
theorem q1818 : (Jvm.Cond.fieldLink "ColourDuelModel" (7 : Nat) "ColourDuelModel" "a" "[I") ∈ lw_all := lw_g (lw_at lw_m8 44 rfl) rfl
theorem q1819 : (Jvm.Cond.fieldLink "ColourDuelModel" (13 : Nat) "ColourDuelModel" "aside" "[I") ∈ lw_all := lw_g (lw_at lw_m8 45 rfl) rfl
theorem q1820 : (Jvm.Cond.fieldLink "ColourDuelModel" (16 : Nat) "ColourDuelModel" "fresh" "[I") ∈ lw_all := lw_g (lw_at lw_m8 46 rfl) rfl
theorem q1821 : (Jvm.Cond.fieldLink "ColourDuelModel" (20 : Nat) "ColourDuelModel" "kept" "[I") ∈ lw_all := lw_g (lw_at lw_m8 47 rfl) rfl
theorem q1822 : (Jvm.Cond.fieldLink "ColourDuelModel" (23 : Nat) "ColourDuelModel" "slots" "[I") ∈ lw_all := lw_g (lw_at lw_m8 48 rfl) rfl
theorem q1823 : (Jvm.Cond.fieldLink "ColourDuelModel" (26 : Nat) "ColourDuelModel" "isSaved" "[Z") ∈ lw_all := lw_g (lw_at lw_m8 49 rfl) rfl
theorem q1824 : (Jvm.Cond.fieldLink "ColourDuelModel" (50 : Nat) "ColourDuelModel" "keptMany" "I") ∈ lw_all := lw_g (lw_at lw_m8 50 rfl) rfl
theorem q1825 : (Jvm.Cond.fieldLink "ColourDuelModel" (47 : Nat) "ColourDuelModel" "thrown" "I") ∈ lw_all := lw_g (lw_at lw_m8 51 rfl) rfl
theorem q1826 : (Jvm.Cond.fieldLink "ColourDuelModel" (30 : Nat) "ColourDuelModel" "buffer" "[I") ∈ lw_all := lw_g (lw_at lw_m8 52 rfl) rfl
theorem q1827 : (Jvm.Cond.fieldLink "ColourDuelModel" (57 : Nat) "ColourDuelModel" "buffered" "I") ∈ lw_all := lw_g (lw_at lw_m8 53 rfl) rfl
theorem q1828 : (Jvm.Cond.fieldLink "ColourDuelModel" (60 : Nat) "ColourDuelModel" "size" "I") ∈ lw_all := lw_g (lw_at lw_m8 54 rfl) rfl
theorem q1829 : (Jvm.Cond.fieldLink "ColourDuelModel" (66 : Nat) "ColourDuelModel" "at" "I") ∈ lw_all := lw_g (lw_at lw_m8 55 rfl) rfl
theorem q1830 : (Jvm.Cond.fieldLink "ColourDuelModel" (63 : Nat) "ColourDuelModel" "behind" "I") ∈ lw_all := lw_g (lw_at lw_m8 56 rfl) rfl
theorem q1831 : (Jvm.Cond.fieldLink "ColourDuelModel" (73 : Nat) "ColourDuelModel" "kind" "I") ∈ lw_all := lw_g (lw_at lw_m8 57 rfl) rfl
theorem q1832 : (Jvm.Cond.fieldLink "ColourDuelModel" (80 : Nat) "ColourDuelModel" "number" "I") ∈ lw_all := lw_g (lw_at lw_m8 58 rfl) rfl
theorem q1833 : (Jvm.Cond.fieldLink "ColourDuelModel" (83 : Nat) "ColourDuelModel" "wrong" "I") ∈ lw_all := lw_g (lw_at lw_m8 59 rfl) rfl
theorem q1834 : (Jvm.Cond.fieldLink "ColourDuelModel" (96 : Nat) "ColourDuelModel" "wrongAt" "I") ∈ lw_all := lw_g (lw_at lw_m8 60 rfl) rfl
theorem q1835 : (Jvm.Cond.fieldLink "ColourDuelModel" (33 : Nat) "ColourDuelModel" "errorAt" "I") ∈ lw_all := lw_g (lw_at lw_m8 61 rfl) rfl
theorem q1836 : (Jvm.Cond.fieldLink "ColourDuelModel" (38 : Nat) "ColourDuelModel" "known" "[I") ∈ lw_all := lw_g (lw_at lw_m8 62 rfl) rfl
theorem q1837 : (Jvm.Cond.fieldLink "ColourDuelModel" (41 : Nat) "ColourDuelModel" "bansWere" "[I") ∈ lw_all := lw_g (lw_at lw_m8 63 rfl) rfl
theorem q1838 : (Jvm.Cond.fieldLink "ColourDuelModel" (44 : Nat) "ColourDuelModel" "written" "[I") ∈ lw_all := lw_g (lw_at lw_m8 64 rfl) rfl
theorem q1839 : (Jvm.Cond.fieldLink "ColourDuelModel" (278 : Nat) "ColourDuelModel" "writtenMany" "I") ∈ lw_all := lw_g (lw_at lw_m8 65 rfl) rfl
theorem q1840 : (Jvm.Cond.laysFinal "ColourDuelModel" "ColourDuelModel" "a" "[I") ∈ lw_all := lw_g (lw_at lw_m8 66 rfl) rfl
theorem q1841 : (Jvm.Cond.soleField "ColourDuelModel" "a") ∈ lw_all := lw_g (lw_at lw_m8 67 rfl) rfl
theorem q1842 : (Jvm.Cond.laysFinal "ColourDuelModel" "ColourDuelModel" "aside" "[I") ∈ lw_all := lw_g (lw_at lw_m8 68 rfl) rfl
theorem q1843 : (Jvm.Cond.soleField "ColourDuelModel" "aside") ∈ lw_all := lw_g (lw_at lw_m8 69 rfl) rfl
theorem q1844 : (Jvm.Cond.laysFinal "ColourDuelModel" "ColourDuelModel" "fresh" "[I") ∈ lw_all := lw_g (lw_at lw_m8 70 rfl) rfl
theorem q1845 : (Jvm.Cond.soleField "ColourDuelModel" "fresh") ∈ lw_all := lw_g (lw_at lw_m8 71 rfl) rfl
theorem q1846 : (Jvm.Cond.laysFinal "ColourDuelModel" "ColourDuelModel" "kept" "[I") ∈ lw_all := lw_g (lw_at lw_m8 72 rfl) rfl
theorem q1847 : (Jvm.Cond.soleField "ColourDuelModel" "kept") ∈ lw_all := lw_g (lw_at lw_m8 73 rfl) rfl
theorem q1848 : (Jvm.Cond.laysFinal "ColourDuelModel" "ColourDuelModel" "slots" "[I") ∈ lw_all := lw_g (lw_at lw_m8 74 rfl) rfl
theorem q1849 : (Jvm.Cond.soleField "ColourDuelModel" "slots") ∈ lw_all := lw_g (lw_at lw_m8 75 rfl) rfl
theorem q1850 : (Jvm.Cond.laysFinal "ColourDuelModel" "ColourDuelModel" "isSaved" "[Z") ∈ lw_all := lw_g (lw_at lw_m8 76 rfl) rfl
theorem q1851 : (Jvm.Cond.soleField "ColourDuelModel" "isSaved") ∈ lw_all := lw_g (lw_at lw_m8 77 rfl) rfl
theorem q1852 : (Jvm.Cond.lays "ColourDuelModel" "ColourDuelModel" "keptMany" "I") ∈ lw_all := lw_g (lw_at lw_m8 78 rfl) rfl
theorem q1853 : (Jvm.Cond.soleField "ColourDuelModel" "keptMany") ∈ lw_all := lw_g (lw_at lw_m8 79 rfl) rfl
theorem q1854 : (Jvm.Cond.lays "ColourDuelModel" "ColourDuelModel" "thrown" "I") ∈ lw_all := lw_g (lw_at lw_m8 80 rfl) rfl
theorem q1855 : (Jvm.Cond.soleField "ColourDuelModel" "thrown") ∈ lw_all := lw_g (lw_at lw_m8 81 rfl) rfl
theorem q1856 : (Jvm.Cond.laysFinal "ColourDuelModel" "ColourDuelModel" "buffer" "[I") ∈ lw_all := lw_g (lw_at lw_m8 82 rfl) rfl
theorem q1857 : (Jvm.Cond.soleField "ColourDuelModel" "buffer") ∈ lw_all := lw_g (lw_at lw_m8 83 rfl) rfl
theorem q1858 : (Jvm.Cond.lays "ColourDuelModel" "ColourDuelModel" "buffered" "I") ∈ lw_all := lw_g (lw_at lw_m8 84 rfl) rfl
theorem q1859 : (Jvm.Cond.soleField "ColourDuelModel" "buffered") ∈ lw_all := lw_g (lw_at lw_m8 85 rfl) rfl
theorem q1860 : (Jvm.Cond.lays "ColourDuelModel" "ColourDuelModel" "size" "I") ∈ lw_all := lw_g (lw_at lw_m8 86 rfl) rfl
theorem q1861 : (Jvm.Cond.soleField "ColourDuelModel" "size") ∈ lw_all := lw_g (lw_at lw_m8 87 rfl) rfl
theorem q1862 : (Jvm.Cond.lays "ColourDuelModel" "ColourDuelModel" "at" "I") ∈ lw_all := lw_g (lw_at lw_m8 88 rfl) rfl
theorem q1863 : (Jvm.Cond.soleField "ColourDuelModel" "at") ∈ lw_all := lw_g (lw_at lw_m8 89 rfl) rfl
theorem q1864 : (Jvm.Cond.lays "ColourDuelModel" "ColourDuelModel" "behind" "I") ∈ lw_all := lw_g (lw_at lw_m8 90 rfl) rfl
theorem q1865 : (Jvm.Cond.soleField "ColourDuelModel" "behind") ∈ lw_all := lw_g (lw_at lw_m8 91 rfl) rfl
theorem q1866 : (Jvm.Cond.lays "ColourDuelModel" "ColourDuelModel" "kind" "I") ∈ lw_all := lw_g (lw_at lw_m8 92 rfl) rfl
theorem q1867 : (Jvm.Cond.soleField "ColourDuelModel" "kind") ∈ lw_all := lw_g (lw_at lw_m8 93 rfl) rfl
theorem q1868 : (Jvm.Cond.lays "ColourDuelModel" "ColourDuelModel" "number" "I") ∈ lw_all := lw_g (lw_at lw_m8 94 rfl) rfl
theorem q1869 : (Jvm.Cond.soleField "ColourDuelModel" "number") ∈ lw_all := lw_g (lw_at lw_m8 95 rfl) rfl
theorem q1870 : (Jvm.Cond.lays "ColourDuelModel" "ColourDuelModel" "wrong" "I") ∈ lw_all := lw_g (lw_at lw_m8 96 rfl) rfl
theorem q1871 : (Jvm.Cond.soleField "ColourDuelModel" "wrong") ∈ lw_all := lw_g (lw_at lw_m8 97 rfl) rfl
theorem q1872 : (Jvm.Cond.lays "ColourDuelModel" "ColourDuelModel" "wrongAt" "I") ∈ lw_all := lw_g (lw_at lw_m8 98 rfl) rfl
theorem q1873 : (Jvm.Cond.soleField "ColourDuelModel" "wrongAt") ∈ lw_all := lw_g (lw_at lw_m8 99 rfl) rfl
theorem q1874 : (Jvm.Cond.lays "ColourDuelModel" "ColourDuelModel" "errorAt" "I") ∈ lw_all := lw_g (lw_at lw_m8 100 rfl) rfl
theorem q1875 : (Jvm.Cond.soleField "ColourDuelModel" "errorAt") ∈ lw_all := lw_g (lw_at lw_m8 101 rfl) rfl
theorem q1876 : (Jvm.Cond.laysFinal "ColourDuelModel" "ColourDuelModel" "known" "[I") ∈ lw_all := lw_g (lw_at lw_m8 102 rfl) rfl
theorem q1877 : (Jvm.Cond.soleField "ColourDuelModel" "known") ∈ lw_all := lw_g (lw_at lw_m8 103 rfl) rfl
theorem q1878 : (Jvm.Cond.laysFinal "ColourDuelModel" "ColourDuelModel" "bansWere" "[I") ∈ lw_all := lw_g (lw_at lw_m8 104 rfl) rfl
theorem q1879 : (Jvm.Cond.soleField "ColourDuelModel" "bansWere") ∈ lw_all := lw_g (lw_at lw_m8 105 rfl) rfl
theorem q1880 : (Jvm.Cond.laysFinal "ColourDuelModel" "ColourDuelModel" "written" "[I") ∈ lw_all := lw_g (lw_at lw_m8 106 rfl) rfl
theorem q1881 : (Jvm.Cond.soleField "ColourDuelModel" "written") ∈ lw_all := lw_g (lw_at lw_m8 107 rfl) rfl
theorem q1882 : (Jvm.Cond.lays "ColourDuelModel" "ColourDuelModel" "writtenMany" "I") ∈ lw_all := lw_g (lw_at lw_m8 108 rfl) rfl
theorem q1883 : (Jvm.Cond.soleField "ColourDuelModel" "writtenMany") ∈ lw_all := lw_g (lw_at lw_m8 109 rfl) rfl
theorem q1884 : (Jvm.Cond.superclass "ColourDuelModel" "java/lang/Object") ∈ lw_all := lw_g (lw_at lw_m8 110 rfl) rfl
theorem q1887 : (Jvm.Cond.instanceMethod ({ cls := "ColourDuelModel", name := "thrown", desc := "()I" } : Jvm.MethodName)) ∈ lw_all := lw_g (lw_at lw_m8 113 rfl) rfl
theorem q1888 : (Jvm.Cond.selects "ColourDuelModel" ({ cls := "ColourDuelModel", name := "thrown", desc := "()I" } : Jvm.MethodName) ({ cls := "ColourDuelModel", name := "thrown", desc := "()I" } : Jvm.MethodName)) ∈ lw_all := lw_g (lw_at lw_m8 114 rfl) rfl
theorem q1889 : (Jvm.Cond.code ({ cls := "ColourDuelModel", name := "thrown", desc := "()I" } : Jvm.MethodName) prog_16_method_2_code (1 : Nat) (Option.some Jvm.ClassFile.FieldType.int)) ∈ lw_all := lw_g (lw_at lw_m8 115 rfl) rfl
theorem q1891 : (Jvm.Cond.instanceMethod ({ cls := "ColourDuelModel", name := "undo", desc := "()I" } : Jvm.MethodName)) ∈ lw_all := lw_g (lw_at lw_m8 117 rfl) rfl
theorem q1892 : (Jvm.Cond.selects "ColourDuelModel" ({ cls := "ColourDuelModel", name := "undo", desc := "()I" } : Jvm.MethodName) ({ cls := "ColourDuelModel", name := "undo", desc := "()I" } : Jvm.MethodName)) ∈ lw_all := lw_g (lw_at lw_m8 118 rfl) rfl
theorem q1893 : (Jvm.Cond.code ({ cls := "ColourDuelModel", name := "undo", desc := "()I" } : Jvm.MethodName) prog_16_method_6_code (1 : Nat) (Option.some Jvm.ClassFile.FieldType.int)) ∈ lw_all := lw_g (lw_at lw_m8 119 rfl) rfl
theorem q1894 : (Jvm.Cond.methodLink "ColourDuelModel" (53 : Nat) ({ cls := "ColourDuelModel", name := "sets", desc := "([II[II)V" } : Jvm.MethodName)) ∈ lw_all := lw_g (lw_at lw_m8 120 rfl) rfl
theorem q1895 : (Jvm.Cond.static ({ cls := "ColourDuelModel", name := "sets", desc := "([II[II)V" } : Jvm.MethodName)) ∈ lw_all := lw_g (lw_at lw_m8 121 rfl) rfl
theorem q1896 : (Jvm.Cond.code ({ cls := "ColourDuelModel", name := "sets", desc := "([II[II)V" } : Jvm.MethodName) prog_16_method_4_code (5 : Nat) (Option.none : Option Jvm.ClassFile.FieldType)) ∈ lw_all := lw_g (lw_at lw_m8 122 rfl) rfl
theorem q1898 : (Jvm.Cond.instanceMethod ({ cls := "ColourDuelModel", name := "append", desc := "(IIIII)I" } : Jvm.MethodName)) ∈ lw_all := lw_g (lw_at lw_m8 124 rfl) rfl
theorem q1899 : (Jvm.Cond.selects "ColourDuelModel" ({ cls := "ColourDuelModel", name := "append", desc := "(IIIII)I" } : Jvm.MethodName) ({ cls := "ColourDuelModel", name := "append", desc := "(IIIII)I" } : Jvm.MethodName)) ∈ lw_all := lw_g (lw_at lw_m8 125 rfl) rfl
theorem q1900 : (Jvm.Cond.code ({ cls := "ColourDuelModel", name := "append", desc := "(IIIII)I" } : Jvm.MethodName) prog_16_method_7_code (8 : Nat) (Option.some Jvm.ClassFile.FieldType.int)) ∈ lw_all := lw_g (lw_at lw_m8 126 rfl) rfl
theorem q1902 : (Jvm.Cond.instanceMethod ({ cls := "ColourDuelModel", name := "load", desc := "(I)I" } : Jvm.MethodName)) ∈ lw_all := lw_g (lw_at lw_m8 128 rfl) rfl
theorem q1903 : (Jvm.Cond.selects "ColourDuelModel" ({ cls := "ColourDuelModel", name := "load", desc := "(I)I" } : Jvm.MethodName) ({ cls := "ColourDuelModel", name := "load", desc := "(I)I" } : Jvm.MethodName)) ∈ lw_all := lw_g (lw_at lw_m8 129 rfl) rfl
theorem q1904 : (Jvm.Cond.code ({ cls := "ColourDuelModel", name := "load", desc := "(I)I" } : Jvm.MethodName) prog_16_method_22_code (3 : Nat) (Option.some Jvm.ClassFile.FieldType.int)) ∈ lw_all := lw_g (lw_at lw_m8 130 rfl) rfl
theorem q1905 : (Jvm.Cond.methodLink "ColourDuelModel" (76 : Nat) ({ cls := "ColourDuelModel", name := "isIn", desc := "(III)Z" } : Jvm.MethodName)) ∈ lw_all := lw_g (lw_at lw_m8 131 rfl) rfl
theorem q1906 : (Jvm.Cond.static ({ cls := "ColourDuelModel", name := "isIn", desc := "(III)Z" } : Jvm.MethodName)) ∈ lw_all := lw_g (lw_at lw_m8 132 rfl) rfl
theorem q1907 : (Jvm.Cond.code ({ cls := "ColourDuelModel", name := "isIn", desc := "(III)Z" } : Jvm.MethodName) prog_16_method_3_code (3 : Nat) (Option.some Jvm.ClassFile.FieldType.boolean)) ∈ lw_all := lw_g (lw_at lw_m8 133 rfl) rfl
theorem q1908 : (Jvm.Cond.methodLink "ColourDuelModel" (103 : Nat) ({ cls := "ColourDuelModel", name := "next", desc := "()V" } : Jvm.MethodName)) ∈ lw_all := lw_g (lw_at lw_m8 134 rfl) rfl
theorem q1909 : (Jvm.Cond.privateMethod ({ cls := "ColourDuelModel", name := "next", desc := "()V" } : Jvm.MethodName)) ∈ lw_tbl := lw_at lw_m8 135 rfl
theorem q1910 : (Jvm.Cond.instanceMethod ({ cls := "ColourDuelModel", name := "next", desc := "()V" } : Jvm.MethodName)) ∈ lw_all := lw_g (lw_at lw_m8 136 rfl) rfl
theorem q1911 : (Jvm.Cond.code ({ cls := "ColourDuelModel", name := "next", desc := "()V" } : Jvm.MethodName) prog_16_method_9_code (1 : Nat) (Option.none : Option Jvm.ClassFile.FieldType)) ∈ lw_all := lw_g (lw_at lw_m8 137 rfl) rfl
theorem q1912 : (Jvm.Cond.methodLink "ColourDuelModel" (69 : Nat) ({ cls := "ColourDuelModel", name := "see", desc := "(I)I" } : Jvm.MethodName)) ∈ lw_all := lw_g (lw_at lw_m8 138 rfl) rfl
theorem q1913 : (Jvm.Cond.privateMethod ({ cls := "ColourDuelModel", name := "see", desc := "(I)I" } : Jvm.MethodName)) ∈ lw_tbl := lw_at lw_m8 139 rfl
theorem q1914 : (Jvm.Cond.instanceMethod ({ cls := "ColourDuelModel", name := "see", desc := "(I)I" } : Jvm.MethodName)) ∈ lw_all := lw_g (lw_at lw_m8 140 rfl) rfl
theorem q1915 : (Jvm.Cond.code ({ cls := "ColourDuelModel", name := "see", desc := "(I)I" } : Jvm.MethodName) prog_16_method_8_code (2 : Nat) (Option.some Jvm.ClassFile.FieldType.int)) ∈ lw_all := lw_g (lw_at lw_m8 141 rfl) rfl
theorem q1916 : (Jvm.Cond.methodLink "ColourDuelModel" (164 : Nat) ({ cls := "ColourDuelModel", name := "reads", desc := "()V" } : Jvm.MethodName)) ∈ lw_all := lw_g (lw_at lw_m8 142 rfl) rfl
theorem q1917 : (Jvm.Cond.privateMethod ({ cls := "ColourDuelModel", name := "reads", desc := "()V" } : Jvm.MethodName)) ∈ lw_tbl := lw_at lw_m8 143 rfl
theorem q1918 : (Jvm.Cond.instanceMethod ({ cls := "ColourDuelModel", name := "reads", desc := "()V" } : Jvm.MethodName)) ∈ lw_all := lw_g (lw_at lw_m8 144 rfl) rfl
theorem q1919 : (Jvm.Cond.code ({ cls := "ColourDuelModel", name := "reads", desc := "()V" } : Jvm.MethodName) prog_16_method_21_code (1 : Nat) (Option.none : Option Jvm.ClassFile.FieldType)) ∈ lw_all := lw_g (lw_at lw_m8 145 rfl) rfl
theorem q1920 : (Jvm.Cond.stringRef "ColourDuelModel" (137 : Nat) "colours") ∈ lw_tbl := lw_at lw_m8 146 rfl
theorem q1921 : (Jvm.Cond.methodLink "ColourDuelModel" (139 : Nat) ({ cls := "ColourDuelModel", name := "isWord", desc := "(Ljava/lang/String;)Z" } : Jvm.MethodName)) ∈ lw_all := lw_g (lw_at lw_m8 147 rfl) rfl
theorem q1922 : (Jvm.Cond.privateMethod ({ cls := "ColourDuelModel", name := "isWord", desc := "(Ljava/lang/String;)Z" } : Jvm.MethodName)) ∈ lw_tbl := lw_at lw_m8 148 rfl
theorem q1923 : (Jvm.Cond.instanceMethod ({ cls := "ColourDuelModel", name := "isWord", desc := "(Ljava/lang/String;)Z" } : Jvm.MethodName)) ∈ lw_all := lw_g (lw_at lw_m8 149 rfl) rfl
theorem q1924 : (Jvm.Cond.code ({ cls := "ColourDuelModel", name := "isWord", desc := "(Ljava/lang/String;)Z" } : Jvm.MethodName) prog_16_method_10_code (3 : Nat) (Option.some Jvm.ClassFile.FieldType.boolean)) ∈ lw_all := lw_g (lw_at lw_m8 150 rfl) rfl
theorem q1925 : (Jvm.Cond.methodLink "ColourDuelModel" (86 : Nat) ({ cls := "java/lang/String", name := "length", desc := "()I" } : Jvm.MethodName)) ∈ lw_all := lw_g (lw_at lw_m8 151 rfl) rfl
theorem q1926 : (Jvm.Cond.methodLink "ColourDuelModel" (92 : Nat) ({ cls := "java/lang/String", name := "charAt", desc := "(I)C" } : Jvm.MethodName)) ∈ lw_all := lw_g (lw_at lw_m8 152 rfl) rfl
theorem q1927 : (Jvm.Cond.methodLink "ColourDuelModel" (106 : Nat) ({ cls := "ColourDuelModel", name := "must", desc := "(Z)V" } : Jvm.MethodName)) ∈ lw_all := lw_g (lw_at lw_m8 153 rfl) rfl
theorem q1928 : (Jvm.Cond.privateMethod ({ cls := "ColourDuelModel", name := "must", desc := "(Z)V" } : Jvm.MethodName)) ∈ lw_tbl := lw_at lw_m8 154 rfl
theorem q1929 : (Jvm.Cond.instanceMethod ({ cls := "ColourDuelModel", name := "must", desc := "(Z)V" } : Jvm.MethodName)) ∈ lw_all := lw_g (lw_at lw_m8 155 rfl) rfl
theorem q1930 : (Jvm.Cond.code ({ cls := "ColourDuelModel", name := "must", desc := "(Z)V" } : Jvm.MethodName) prog_16_method_12_code (2 : Nat) (Option.none : Option Jvm.ClassFile.FieldType)) ∈ lw_all := lw_g (lw_at lw_m8 156 rfl) rfl
theorem q1931 : (Jvm.Cond.methodLink "ColourDuelModel" (99 : Nat) ({ cls := "ColourDuelModel", name := "fails", desc := "(I)V" } : Jvm.MethodName)) ∈ lw_all := lw_g (lw_at lw_m8 157 rfl) rfl
theorem q1932 : (Jvm.Cond.privateMethod ({ cls := "ColourDuelModel", name := "fails", desc := "(I)V" } : Jvm.MethodName)) ∈ lw_tbl := lw_at lw_m8 158 rfl
theorem q1933 : (Jvm.Cond.instanceMethod ({ cls := "ColourDuelModel", name := "fails", desc := "(I)V" } : Jvm.MethodName)) ∈ lw_all := lw_g (lw_at lw_m8 159 rfl) rfl
theorem q1934 : (Jvm.Cond.code ({ cls := "ColourDuelModel", name := "fails", desc := "(I)V" } : Jvm.MethodName) prog_16_method_11_code (2 : Nat) (Option.none : Option Jvm.ClassFile.FieldType)) ∈ lw_all := lw_g (lw_at lw_m8 160 rfl) rfl
theorem q1935 : (Jvm.Cond.methodLink "ColourDuelModel" (119 : Nat) ({ cls := "ColourDuelModel", name := "takes", desc := "(II)I" } : Jvm.MethodName)) ∈ lw_all := lw_g (lw_at lw_m8 161 rfl) rfl
theorem q1936 : (Jvm.Cond.privateMethod ({ cls := "ColourDuelModel", name := "takes", desc := "(II)I" } : Jvm.MethodName)) ∈ lw_tbl := lw_at lw_m8 162 rfl
theorem q1937 : (Jvm.Cond.instanceMethod ({ cls := "ColourDuelModel", name := "takes", desc := "(II)I" } : Jvm.MethodName)) ∈ lw_all := lw_g (lw_at lw_m8 163 rfl) rfl
theorem q1938 : (Jvm.Cond.code ({ cls := "ColourDuelModel", name := "takes", desc := "(II)I" } : Jvm.MethodName) prog_16_method_13_code (4 : Nat) (Option.some Jvm.ClassFile.FieldType.int)) ∈ lw_all := lw_g (lw_at lw_m8 164 rfl) rfl
theorem q1939 : (Jvm.Cond.stringRef "ColourDuelModel" (143 : Nat) "passes") ∈ lw_tbl := lw_at lw_m8 165 rfl
theorem q1940 : (Jvm.Cond.methodLink "ColourDuelModel" (116 : Nat) ({ cls := "ColourDuelModel", name := "mustEnd", desc := "()V" } : Jvm.MethodName)) ∈ lw_all := lw_g (lw_at lw_m8 166 rfl) rfl
theorem q1941 : (Jvm.Cond.privateMethod ({ cls := "ColourDuelModel", name := "mustEnd", desc := "()V" } : Jvm.MethodName)) ∈ lw_tbl := lw_at lw_m8 167 rfl
theorem q1942 : (Jvm.Cond.instanceMethod ({ cls := "ColourDuelModel", name := "mustEnd", desc := "()V" } : Jvm.MethodName)) ∈ lw_all := lw_g (lw_at lw_m8 168 rfl) rfl
theorem q1943 : (Jvm.Cond.code ({ cls := "ColourDuelModel", name := "mustEnd", desc := "()V" } : Jvm.MethodName) prog_16_method_14_code (1 : Nat) (Option.none : Option Jvm.ClassFile.FieldType)) ∈ lw_all := lw_g (lw_at lw_m8 169 rfl) rfl
theorem q1944 : (Jvm.Cond.stringRef "ColourDuelModel" (144 : Nat) "vertex") ∈ lw_tbl := lw_at lw_m8 170 rfl
theorem q1945 : (Jvm.Cond.methodLink "ColourDuelModel" (146 : Nat) ({ cls := "ColourDuelModel", name := "readsVertex", desc := "()V" } : Jvm.MethodName)) ∈ lw_all := lw_g (lw_at lw_m8 171 rfl) rfl
theorem q1946 : (Jvm.Cond.privateMethod ({ cls := "ColourDuelModel", name := "readsVertex", desc := "()V" } : Jvm.MethodName)) ∈ lw_tbl := lw_at lw_m8 172 rfl
theorem q1947 : (Jvm.Cond.instanceMethod ({ cls := "ColourDuelModel", name := "readsVertex", desc := "()V" } : Jvm.MethodName)) ∈ lw_all := lw_g (lw_at lw_m8 173 rfl) rfl
theorem q1948 : (Jvm.Cond.code ({ cls := "ColourDuelModel", name := "readsVertex", desc := "()V" } : Jvm.MethodName) prog_16_method_17_code (2 : Nat) (Option.none : Option Jvm.ClassFile.FieldType)) ∈ lw_all := lw_g (lw_at lw_m8 174 rfl) rfl
theorem q1949 : (Jvm.Cond.methodLink "ColourDuelModel" (110 : Nat) ({ cls := "ColourDuelModel", name := "colouringsNext", desc := "()I" } : Jvm.MethodName)) ∈ lw_all := lw_g (lw_at lw_m8 175 rfl) rfl
theorem q1950 : (Jvm.Cond.privateMethod ({ cls := "ColourDuelModel", name := "colouringsNext", desc := "()I" } : Jvm.MethodName)) ∈ lw_tbl := lw_at lw_m8 176 rfl
theorem q1951 : (Jvm.Cond.instanceMethod ({ cls := "ColourDuelModel", name := "colouringsNext", desc := "()I" } : Jvm.MethodName)) ∈ lw_all := lw_g (lw_at lw_m8 177 rfl) rfl
theorem q1952 : (Jvm.Cond.code ({ cls := "ColourDuelModel", name := "colouringsNext", desc := "()I" } : Jvm.MethodName) prog_16_method_16_code (3 : Nat) (Option.some Jvm.ClassFile.FieldType.int)) ∈ lw_all := lw_g (lw_at lw_m8 178 rfl) rfl
theorem q1953 : (Jvm.Cond.methodLink "ColourDuelModel" (113 : Nat) ({ cls := "ColourDuelModel", name := "lettersHere", desc := "()I" } : Jvm.MethodName)) ∈ lw_all := lw_g (lw_at lw_m8 179 rfl) rfl
theorem q1954 : (Jvm.Cond.privateMethod ({ cls := "ColourDuelModel", name := "lettersHere", desc := "()I" } : Jvm.MethodName)) ∈ lw_tbl := lw_at lw_m8 180 rfl
theorem q1955 : (Jvm.Cond.instanceMethod ({ cls := "ColourDuelModel", name := "lettersHere", desc := "()I" } : Jvm.MethodName)) ∈ lw_all := lw_g (lw_at lw_m8 181 rfl) rfl
theorem q1956 : (Jvm.Cond.code ({ cls := "ColourDuelModel", name := "lettersHere", desc := "()I" } : Jvm.MethodName) prog_16_method_15_code (4 : Nat) (Option.some Jvm.ClassFile.FieldType.int)) ∈ lw_all := lw_g (lw_at lw_m8 182 rfl) rfl
theorem q1957 : (Jvm.Cond.stringRef "ColourDuelModel" (149 : Nat) "edge") ∈ lw_tbl := lw_at lw_m8 183 rfl
theorem q1958 : (Jvm.Cond.methodLink "ColourDuelModel" (151 : Nat) ({ cls := "ColourDuelModel", name := "readsEdge", desc := "()V" } : Jvm.MethodName)) ∈ lw_all := lw_g (lw_at lw_m8 184 rfl) rfl
theorem q1959 : (Jvm.Cond.privateMethod ({ cls := "ColourDuelModel", name := "readsEdge", desc := "()V" } : Jvm.MethodName)) ∈ lw_tbl := lw_at lw_m8 185 rfl
theorem q1960 : (Jvm.Cond.instanceMethod ({ cls := "ColourDuelModel", name := "readsEdge", desc := "()V" } : Jvm.MethodName)) ∈ lw_all := lw_g (lw_at lw_m8 186 rfl) rfl
theorem q1961 : (Jvm.Cond.code ({ cls := "ColourDuelModel", name := "readsEdge", desc := "()V" } : Jvm.MethodName) prog_16_method_18_code (3 : Nat) (Option.none : Option Jvm.ClassFile.FieldType)) ∈ lw_all := lw_g (lw_at lw_m8 187 rfl) rfl
theorem q1962 : (Jvm.Cond.methodLink "ColourDuelModel" (123 : Nat) ({ cls := "ColourDuelModel", name := "areNext", desc := "(II)Z" } : Jvm.MethodName)) ∈ lw_all := lw_g (lw_at lw_m8 188 rfl) rfl
theorem q1963 : (Jvm.Cond.privateMethod ({ cls := "ColourDuelModel", name := "areNext", desc := "(II)Z" } : Jvm.MethodName)) ∈ lw_tbl := lw_at lw_m8 189 rfl
theorem q1964 : (Jvm.Cond.instanceMethod ({ cls := "ColourDuelModel", name := "areNext", desc := "(II)Z" } : Jvm.MethodName)) ∈ lw_all := lw_g (lw_at lw_m8 190 rfl) rfl
theorem q1965 : (Jvm.Cond.code ({ cls := "ColourDuelModel", name := "areNext", desc := "(II)Z" } : Jvm.MethodName) prog_16_method_24_code (3 : Nat) (Option.some Jvm.ClassFile.FieldType.boolean)) ∈ lw_all := lw_g (lw_at lw_m8 191 rfl) rfl
theorem q1966 : (Jvm.Cond.stringRef "ColourDuelModel" (154 : Nat) "lay") ∈ lw_tbl := lw_at lw_m8 192 rfl
theorem q1967 : (Jvm.Cond.stringRef "ColourDuelModel" (156 : Nat) "pass") ∈ lw_tbl := lw_at lw_m8 193 rfl
theorem q1968 : (Jvm.Cond.methodLink "ColourDuelModel" (158 : Nat) ({ cls := "ColourDuelModel", name := "readsLay", desc := "()V" } : Jvm.MethodName)) ∈ lw_all := lw_g (lw_at lw_m8 194 rfl) rfl
theorem q1969 : (Jvm.Cond.privateMethod ({ cls := "ColourDuelModel", name := "readsLay", desc := "()V" } : Jvm.MethodName)) ∈ lw_tbl := lw_at lw_m8 195 rfl
theorem q1970 : (Jvm.Cond.instanceMethod ({ cls := "ColourDuelModel", name := "readsLay", desc := "()V" } : Jvm.MethodName)) ∈ lw_all := lw_g (lw_at lw_m8 196 rfl) rfl
theorem q1971 : (Jvm.Cond.code ({ cls := "ColourDuelModel", name := "readsLay", desc := "()V" } : Jvm.MethodName) prog_16_method_19_code (4 : Nat) (Option.none : Option Jvm.ClassFile.FieldType)) ∈ lw_all := lw_g (lw_at lw_m8 197 rfl) rfl
theorem q1972 : (Jvm.Cond.methodLink "ColourDuelModel" (127 : Nat) ({ cls := "ColourDuelModel", name := "whyNot", desc := "(II)I" } : Jvm.MethodName)) ∈ lw_all := lw_g (lw_at lw_m8 198 rfl) rfl
theorem q1973 : (Jvm.Cond.privateMethod ({ cls := "ColourDuelModel", name := "whyNot", desc := "(II)I" } : Jvm.MethodName)) ∈ lw_tbl := lw_at lw_m8 199 rfl
theorem q1974 : (Jvm.Cond.instanceMethod ({ cls := "ColourDuelModel", name := "whyNot", desc := "(II)I" } : Jvm.MethodName)) ∈ lw_all := lw_g (lw_at lw_m8 200 rfl) rfl
theorem q1975 : (Jvm.Cond.code ({ cls := "ColourDuelModel", name := "whyNot", desc := "(II)I" } : Jvm.MethodName) prog_16_method_38_code (3 : Nat) (Option.some Jvm.ClassFile.FieldType.int)) ∈ lw_all := lw_g (lw_at lw_m8 201 rfl) rfl
theorem q1976 : (Jvm.Cond.methodLink "ColourDuelModel" (170 : Nat) ({ cls := "ColourDuelModel", name := "isFree", desc := "(I)Z" } : Jvm.MethodName)) ∈ lw_all := lw_g (lw_at lw_m8 202 rfl) rfl
theorem q1977 : (Jvm.Cond.privateMethod ({ cls := "ColourDuelModel", name := "isFree", desc := "(I)Z" } : Jvm.MethodName)) ∈ lw_tbl := lw_at lw_m8 203 rfl
theorem q1978 : (Jvm.Cond.instanceMethod ({ cls := "ColourDuelModel", name := "isFree", desc := "(I)Z" } : Jvm.MethodName)) ∈ lw_all := lw_g (lw_at lw_m8 204 rfl) rfl
theorem q1979 : (Jvm.Cond.code ({ cls := "ColourDuelModel", name := "isFree", desc := "(I)Z" } : Jvm.MethodName) prog_16_method_26_code (2 : Nat) (Option.some Jvm.ClassFile.FieldType.boolean)) ∈ lw_all := lw_g (lw_at lw_m8 205 rfl) rfl
theorem q1980 : (Jvm.Cond.methodLink "ColourDuelModel" (186 : Nat) ({ cls := "ColourDuelModel", name := "around", desc := "(I)I" } : Jvm.MethodName)) ∈ lw_all := lw_g (lw_at lw_m8 206 rfl) rfl
theorem q1981 : (Jvm.Cond.privateMethod ({ cls := "ColourDuelModel", name := "around", desc := "(I)I" } : Jvm.MethodName)) ∈ lw_tbl := lw_at lw_m8 207 rfl
theorem q1982 : (Jvm.Cond.instanceMethod ({ cls := "ColourDuelModel", name := "around", desc := "(I)I" } : Jvm.MethodName)) ∈ lw_all := lw_g (lw_at lw_m8 208 rfl) rfl
theorem q1983 : (Jvm.Cond.code ({ cls := "ColourDuelModel", name := "around", desc := "(I)I" } : Jvm.MethodName) prog_16_method_34_code (4 : Nat) (Option.some Jvm.ClassFile.FieldType.int)) ∈ lw_all := lw_g (lw_at lw_m8 209 rfl) rfl
theorem q1984 : (Jvm.Cond.methodLink "ColourDuelModel" (183 : Nat) ({ cls := "ColourDuelModel", name := "colourOf", desc := "(I)I" } : Jvm.MethodName)) ∈ lw_all := lw_g (lw_at lw_m8 210 rfl) rfl
theorem q1985 : (Jvm.Cond.privateMethod ({ cls := "ColourDuelModel", name := "colourOf", desc := "(I)I" } : Jvm.MethodName)) ∈ lw_tbl := lw_at lw_m8 211 rfl
theorem q1986 : (Jvm.Cond.instanceMethod ({ cls := "ColourDuelModel", name := "colourOf", desc := "(I)I" } : Jvm.MethodName)) ∈ lw_all := lw_g (lw_at lw_m8 212 rfl) rfl
theorem q1987 : (Jvm.Cond.code ({ cls := "ColourDuelModel", name := "colourOf", desc := "(I)I" } : Jvm.MethodName) prog_16_method_25_code (2 : Nat) (Option.some Jvm.ClassFile.FieldType.int)) ∈ lw_all := lw_g (lw_at lw_m8 213 rfl) rfl
theorem q1988 : (Jvm.Cond.methodLink "ColourDuelModel" (199 : Nat) ({ cls := "ColourDuelModel", name := "colours", desc := "(I)I" } : Jvm.MethodName)) ∈ lw_all := lw_g (lw_at lw_m8 214 rfl) rfl
theorem q1989 : (Jvm.Cond.privateMethod ({ cls := "ColourDuelModel", name := "colours", desc := "(I)I" } : Jvm.MethodName)) ∈ lw_tbl := lw_at lw_m8 215 rfl
theorem q1990 : (Jvm.Cond.instanceMethod ({ cls := "ColourDuelModel", name := "colours", desc := "(I)I" } : Jvm.MethodName)) ∈ lw_all := lw_g (lw_at lw_m8 216 rfl) rfl
theorem q1991 : (Jvm.Cond.code ({ cls := "ColourDuelModel", name := "colours", desc := "(I)I" } : Jvm.MethodName) prog_16_method_37_code (2 : Nat) (Option.some Jvm.ClassFile.FieldType.int)) ∈ lw_all := lw_g (lw_at lw_m8 217 rfl) rfl
theorem q1992 : (Jvm.Cond.methodLink "ColourDuelModel" (180 : Nat) ({ cls := "ColourDuelModel", name := "freeSet", desc := "()I" } : Jvm.MethodName)) ∈ lw_all := lw_g (lw_at lw_m8 218 rfl) rfl
theorem q1993 : (Jvm.Cond.privateMethod ({ cls := "ColourDuelModel", name := "freeSet", desc := "()I" } : Jvm.MethodName)) ∈ lw_tbl := lw_at lw_m8 219 rfl
theorem q1994 : (Jvm.Cond.instanceMethod ({ cls := "ColourDuelModel", name := "freeSet", desc := "()I" } : Jvm.MethodName)) ∈ lw_all := lw_g (lw_at lw_m8 220 rfl) rfl
theorem q1995 : (Jvm.Cond.code ({ cls := "ColourDuelModel", name := "freeSet", desc := "()I" } : Jvm.MethodName) prog_16_method_27_code (3 : Nat) (Option.some Jvm.ClassFile.FieldType.int)) ∈ lw_all := lw_g (lw_at lw_m8 221 rfl) rfl
theorem q1996 : (Jvm.Cond.methodLink "ColourDuelModel" (177 : Nat) ({ cls := "ColourDuelModel", name := "reached", desc := "(II)I" } : Jvm.MethodName)) ∈ lw_all := lw_g (lw_at lw_m8 222 rfl) rfl
theorem q1997 : (Jvm.Cond.privateMethod ({ cls := "ColourDuelModel", name := "reached", desc := "(II)I" } : Jvm.MethodName)) ∈ lw_tbl := lw_at lw_m8 223 rfl
theorem q1998 : (Jvm.Cond.instanceMethod ({ cls := "ColourDuelModel", name := "reached", desc := "(II)I" } : Jvm.MethodName)) ∈ lw_all := lw_g (lw_at lw_m8 224 rfl) rfl
theorem q1999 : (Jvm.Cond.code ({ cls := "ColourDuelModel", name := "reached", desc := "(II)I" } : Jvm.MethodName) prog_16_method_30_code (6 : Nat) (Option.some Jvm.ClassFile.FieldType.int)) ∈ lw_all := lw_g (lw_at lw_m8 225 rfl) rfl
theorem q2000 : (Jvm.Cond.methodLink "ColourDuelModel" (192 : Nat) ({ cls := "ColourDuelModel", name := "banOf", desc := "(I)I" } : Jvm.MethodName)) ∈ lw_all := lw_g (lw_at lw_m8 226 rfl) rfl
theorem q2001 : (Jvm.Cond.privateMethod ({ cls := "ColourDuelModel", name := "banOf", desc := "(I)I" } : Jvm.MethodName)) ∈ lw_tbl := lw_at lw_m8 227 rfl
theorem q2002 : (Jvm.Cond.instanceMethod ({ cls := "ColourDuelModel", name := "banOf", desc := "(I)I" } : Jvm.MethodName)) ∈ lw_all := lw_g (lw_at lw_m8 228 rfl) rfl
theorem q2003 : (Jvm.Cond.code ({ cls := "ColourDuelModel", name := "banOf", desc := "(I)I" } : Jvm.MethodName) prog_16_method_36_code (2 : Nat) (Option.some Jvm.ClassFile.FieldType.int)) ∈ lw_all := lw_g (lw_at lw_m8 229 rfl) rfl
theorem q2004 : (Jvm.Cond.methodLink "ColourDuelModel" (195 : Nat) ({ cls := "ColourDuelModel", name := "canLay", desc := "(III)I" } : Jvm.MethodName)) ∈ lw_all := lw_g (lw_at lw_m8 230 rfl) rfl
theorem q2005 : (Jvm.Cond.privateMethod ({ cls := "ColourDuelModel", name := "canLay", desc := "(III)I" } : Jvm.MethodName)) ∈ lw_tbl := lw_at lw_m8 231 rfl
theorem q2006 : (Jvm.Cond.instanceMethod ({ cls := "ColourDuelModel", name := "canLay", desc := "(III)I" } : Jvm.MethodName)) ∈ lw_all := lw_g (lw_at lw_m8 232 rfl) rfl
theorem q2007 : (Jvm.Cond.code ({ cls := "ColourDuelModel", name := "canLay", desc := "(III)I" } : Jvm.MethodName) prog_16_method_35_code (5 : Nat) (Option.some Jvm.ClassFile.FieldType.int)) ∈ lw_all := lw_g (lw_at lw_m8 233 rfl) rfl
theorem q2008 : (Jvm.Cond.methodLink "ColourDuelModel" (189 : Nat) ({ cls := "ColourDuelModel", name := "bits", desc := "(I)I" } : Jvm.MethodName)) ∈ lw_all := lw_g (lw_at lw_m8 234 rfl) rfl
theorem q2009 : (Jvm.Cond.static ({ cls := "ColourDuelModel", name := "bits", desc := "(I)I" } : Jvm.MethodName)) ∈ lw_all := lw_g (lw_at lw_m8 235 rfl) rfl
theorem q2010 : (Jvm.Cond.code ({ cls := "ColourDuelModel", name := "bits", desc := "(I)I" } : Jvm.MethodName) prog_16_method_28_code (3 : Nat) (Option.some Jvm.ClassFile.FieldType.int)) ∈ lw_all := lw_g (lw_at lw_m8 236 rfl) rfl
theorem q2011 : (Jvm.Cond.methodLink "ColourDuelModel" (130 : Nat) ({ cls := "ColourDuelModel", name := "lays", desc := "(II)V" } : Jvm.MethodName)) ∈ lw_all := lw_g (lw_at lw_m8 237 rfl) rfl
theorem q2012 : (Jvm.Cond.privateMethod ({ cls := "ColourDuelModel", name := "lays", desc := "(II)V" } : Jvm.MethodName)) ∈ lw_tbl := lw_at lw_m8 238 rfl
theorem q2013 : (Jvm.Cond.instanceMethod ({ cls := "ColourDuelModel", name := "lays", desc := "(II)V" } : Jvm.MethodName)) ∈ lw_all := lw_g (lw_at lw_m8 239 rfl) rfl
theorem q2014 : (Jvm.Cond.code ({ cls := "ColourDuelModel", name := "lays", desc := "(II)V" } : Jvm.MethodName) prog_16_method_73_code (5 : Nat) (Option.none : Option Jvm.ClassFile.FieldType)) ∈ lw_all := lw_g (lw_at lw_m9 0 rfl) rfl
theorem q2015 : (Jvm.Cond.methodLink "ColourDuelModel" (207 : Nat) ({ cls := "ColourDuelModel", name := "partsIn", desc := "(I)I" } : Jvm.MethodName)) ∈ lw_all := lw_g (lw_at lw_m9 1 rfl) rfl
theorem q2016 : (Jvm.Cond.privateMethod ({ cls := "ColourDuelModel", name := "partsIn", desc := "(I)I" } : Jvm.MethodName)) ∈ lw_tbl := lw_at lw_m9 2 rfl
theorem q2017 : (Jvm.Cond.instanceMethod ({ cls := "ColourDuelModel", name := "partsIn", desc := "(I)I" } : Jvm.MethodName)) ∈ lw_all := lw_g (lw_at lw_m9 3 rfl) rfl
theorem q2018 : (Jvm.Cond.code ({ cls := "ColourDuelModel", name := "partsIn", desc := "(I)I" } : Jvm.MethodName) prog_16_method_31_code (4 : Nat) (Option.some Jvm.ClassFile.FieldType.int)) ∈ lw_all := lw_g (lw_at lw_m9 4 rfl) rfl
theorem q2019 : (Jvm.Cond.methodLink "ColourDuelModel" (174 : Nat) ({ cls := "ColourDuelModel", name := "lowest", desc := "(I)I" } : Jvm.MethodName)) ∈ lw_all := lw_g (lw_at lw_m9 5 rfl) rfl
theorem q2020 : (Jvm.Cond.static ({ cls := "ColourDuelModel", name := "lowest", desc := "(I)I" } : Jvm.MethodName)) ∈ lw_all := lw_g (lw_at lw_m9 6 rfl) rfl
theorem q2021 : (Jvm.Cond.code ({ cls := "ColourDuelModel", name := "lowest", desc := "(I)I" } : Jvm.MethodName) prog_16_method_29_code (2 : Nat) (Option.some Jvm.ClassFile.FieldType.int)) ∈ lw_all := lw_g (lw_at lw_m9 7 rfl) rfl
theorem q2022 : (Jvm.Cond.methodLink "ColourDuelModel" (268 : Nat) ({ cls := "ColourDuelModel", name := "notes", desc := "(III)V" } : Jvm.MethodName)) ∈ lw_all := lw_g (lw_at lw_m9 8 rfl) rfl
theorem q2023 : (Jvm.Cond.privateMethod ({ cls := "ColourDuelModel", name := "notes", desc := "(III)V" } : Jvm.MethodName)) ∈ lw_tbl := lw_at lw_m9 9 rfl
theorem q2024 : (Jvm.Cond.instanceMethod ({ cls := "ColourDuelModel", name := "notes", desc := "(III)V" } : Jvm.MethodName)) ∈ lw_all := lw_g (lw_at lw_m9 10 rfl) rfl
theorem q2025 : (Jvm.Cond.code ({ cls := "ColourDuelModel", name := "notes", desc := "(III)V" } : Jvm.MethodName) prog_16_method_72_code (5 : Nat) (Option.none : Option Jvm.ClassFile.FieldType)) ∈ lw_all := lw_g (lw_at lw_m9 11 rfl) rfl
theorem q2026 : (Jvm.Cond.methodLink "ColourDuelModel" (210 : Nat) ({ cls := "ColourDuelModel", name := "turn", desc := "()I" } : Jvm.MethodName)) ∈ lw_all := lw_g (lw_at lw_m9 12 rfl) rfl
theorem q2027 : (Jvm.Cond.privateMethod ({ cls := "ColourDuelModel", name := "turn", desc := "()I" } : Jvm.MethodName)) ∈ lw_tbl := lw_at lw_m9 13 rfl
theorem q2028 : (Jvm.Cond.instanceMethod ({ cls := "ColourDuelModel", name := "turn", desc := "()I" } : Jvm.MethodName)) ∈ lw_all := lw_g (lw_at lw_m9 14 rfl) rfl
theorem q2029 : (Jvm.Cond.code ({ cls := "ColourDuelModel", name := "turn", desc := "()I" } : Jvm.MethodName) prog_16_method_41_code (1 : Nat) (Option.some Jvm.ClassFile.FieldType.int)) ∈ lw_all := lw_g (lw_at lw_m9 15 rfl) rfl
theorem q2030 : (Jvm.Cond.methodLink "ColourDuelModel" (161 : Nat) ({ cls := "ColourDuelModel", name := "readsPass", desc := "()V" } : Jvm.MethodName)) ∈ lw_all := lw_g (lw_at lw_m9 16 rfl) rfl
theorem q2031 : (Jvm.Cond.privateMethod ({ cls := "ColourDuelModel", name := "readsPass", desc := "()V" } : Jvm.MethodName)) ∈ lw_tbl := lw_at lw_m9 17 rfl
theorem q2032 : (Jvm.Cond.instanceMethod ({ cls := "ColourDuelModel", name := "readsPass", desc := "()V" } : Jvm.MethodName)) ∈ lw_all := lw_g (lw_at lw_m9 18 rfl) rfl
theorem q2033 : (Jvm.Cond.code ({ cls := "ColourDuelModel", name := "readsPass", desc := "()V" } : Jvm.MethodName) prog_16_method_20_code (1 : Nat) (Option.none : Option Jvm.ClassFile.FieldType)) ∈ lw_all := lw_g (lw_at lw_m9 19 rfl) rfl
theorem q2034 : (Jvm.Cond.methodLink "ColourDuelModel" (134 : Nat) ({ cls := "ColourDuelModel", name := "passes", desc := "()V" } : Jvm.MethodName)) ∈ lw_all := lw_g (lw_at lw_m9 20 rfl) rfl
theorem q2035 : (Jvm.Cond.privateMethod ({ cls := "ColourDuelModel", name := "passes", desc := "()V" } : Jvm.MethodName)) ∈ lw_tbl := lw_at lw_m9 21 rfl
theorem q2036 : (Jvm.Cond.instanceMethod ({ cls := "ColourDuelModel", name := "passes", desc := "()V" } : Jvm.MethodName)) ∈ lw_all := lw_g (lw_at lw_m9 22 rfl) rfl
theorem q2037 : (Jvm.Cond.code ({ cls := "ColourDuelModel", name := "passes", desc := "()V" } : Jvm.MethodName) prog_16_method_74_code (1 : Nat) (Option.none : Option Jvm.ClassFile.FieldType)) ∈ lw_all := lw_g (lw_at lw_m9 23 rfl) rfl
theorem q2038 : (Jvm.Cond.methodLink "ColourDuelModel" (167 : Nat) ({ cls := "ColourDuelModel", name := "keeps", desc := "()V" } : Jvm.MethodName)) ∈ lw_all := lw_g (lw_at lw_m9 24 rfl) rfl
theorem q2039 : (Jvm.Cond.privateMethod ({ cls := "ColourDuelModel", name := "keeps", desc := "()V" } : Jvm.MethodName)) ∈ lw_tbl := lw_at lw_m9 25 rfl
theorem q2040 : (Jvm.Cond.instanceMethod ({ cls := "ColourDuelModel", name := "keeps", desc := "()V" } : Jvm.MethodName)) ∈ lw_all := lw_g (lw_at lw_m9 26 rfl) rfl
theorem q2041 : (Jvm.Cond.code ({ cls := "ColourDuelModel", name := "keeps", desc := "()V" } : Jvm.MethodName) prog_16_method_5_code (2 : Nat) (Option.none : Option Jvm.ClassFile.FieldType)) ∈ lw_all := lw_g (lw_at lw_m9 27 rfl) rfl
theorem q2043 : (Jvm.Cond.instanceMethod ({ cls := "ColourDuelModel", name := "errorPosition", desc := "()I" } : Jvm.MethodName)) ∈ lw_all := lw_g (lw_at lw_m9 29 rfl) rfl
theorem q2044 : (Jvm.Cond.selects "ColourDuelModel" ({ cls := "ColourDuelModel", name := "errorPosition", desc := "()I" } : Jvm.MethodName) ({ cls := "ColourDuelModel", name := "errorPosition", desc := "()I" } : Jvm.MethodName)) ∈ lw_all := lw_g (lw_at lw_m9 30 rfl) rfl
theorem q2045 : (Jvm.Cond.code ({ cls := "ColourDuelModel", name := "errorPosition", desc := "()I" } : Jvm.MethodName) prog_16_method_23_code (1 : Nat) (Option.some Jvm.ClassFile.FieldType.int)) ∈ lw_all := lw_g (lw_at lw_m9 31 rfl) rfl
theorem q2047 : (Jvm.Cond.instanceMethod ({ cls := "ColourDuelModel", name := "count", desc := "(I)I" } : Jvm.MethodName)) ∈ lw_all := lw_g (lw_at lw_m9 33 rfl) rfl
theorem q2048 : (Jvm.Cond.selects "ColourDuelModel" ({ cls := "ColourDuelModel", name := "count", desc := "(I)I" } : Jvm.MethodName) ({ cls := "ColourDuelModel", name := "count", desc := "(I)I" } : Jvm.MethodName)) ∈ lw_all := lw_g (lw_at lw_m9 34 rfl) rfl
theorem q2049 : (Jvm.Cond.code ({ cls := "ColourDuelModel", name := "count", desc := "(I)I" } : Jvm.MethodName) prog_16_method_44_code (2 : Nat) (Option.some Jvm.ClassFile.FieldType.int)) ∈ lw_all := lw_g (lw_at lw_m9 35 rfl) rfl
theorem q2050 : (Jvm.Cond.methodLink "ColourDuelModel" (204 : Nat) ({ cls := "ColourDuelModel", name := "edgesIn", desc := "(I)I" } : Jvm.MethodName)) ∈ lw_all := lw_g (lw_at lw_m9 36 rfl) rfl
theorem q2051 : (Jvm.Cond.privateMethod ({ cls := "ColourDuelModel", name := "edgesIn", desc := "(I)I" } : Jvm.MethodName)) ∈ lw_tbl := lw_at lw_m9 37 rfl
theorem q2052 : (Jvm.Cond.instanceMethod ({ cls := "ColourDuelModel", name := "edgesIn", desc := "(I)I" } : Jvm.MethodName)) ∈ lw_all := lw_g (lw_at lw_m9 38 rfl) rfl
theorem q2053 : (Jvm.Cond.code ({ cls := "ColourDuelModel", name := "edgesIn", desc := "(I)I" } : Jvm.MethodName) prog_16_method_43_code (4 : Nat) (Option.some Jvm.ClassFile.FieldType.int)) ∈ lw_all := lw_g (lw_at lw_m9 39 rfl) rfl
theorem q2054 : (Jvm.Cond.methodLink "ColourDuelModel" (213 : Nat) ({ cls := "ColourDuelModel", name := "isOver", desc := "()Z" } : Jvm.MethodName)) ∈ lw_all := lw_g (lw_at lw_m9 40 rfl) rfl
theorem q2055 : (Jvm.Cond.privateMethod ({ cls := "ColourDuelModel", name := "isOver", desc := "()Z" } : Jvm.MethodName)) ∈ lw_tbl := lw_at lw_m9 41 rfl
theorem q2056 : (Jvm.Cond.instanceMethod ({ cls := "ColourDuelModel", name := "isOver", desc := "()Z" } : Jvm.MethodName)) ∈ lw_all := lw_g (lw_at lw_m9 42 rfl) rfl
theorem q2057 : (Jvm.Cond.code ({ cls := "ColourDuelModel", name := "isOver", desc := "()Z" } : Jvm.MethodName) prog_16_method_40_code (1 : Nat) (Option.some Jvm.ClassFile.FieldType.boolean)) ∈ lw_all := lw_g (lw_at lw_m9 43 rfl) rfl
theorem q2058 : (Jvm.Cond.methodLink "ColourDuelModel" (201 : Nat) ({ cls := "ColourDuelModel", name := "pairs", desc := "()I" } : Jvm.MethodName)) ∈ lw_all := lw_g (lw_at lw_m9 44 rfl) rfl
theorem q2059 : (Jvm.Cond.privateMethod ({ cls := "ColourDuelModel", name := "pairs", desc := "()I" } : Jvm.MethodName)) ∈ lw_tbl := lw_at lw_m9 45 rfl
theorem q2060 : (Jvm.Cond.instanceMethod ({ cls := "ColourDuelModel", name := "pairs", desc := "()I" } : Jvm.MethodName)) ∈ lw_all := lw_g (lw_at lw_m9 46 rfl) rfl
theorem q2061 : (Jvm.Cond.code ({ cls := "ColourDuelModel", name := "pairs", desc := "()I" } : Jvm.MethodName) prog_16_method_39_code (3 : Nat) (Option.some Jvm.ClassFile.FieldType.int)) ∈ lw_all := lw_g (lw_at lw_m9 47 rfl) rfl
theorem q2062 : (Jvm.Cond.methodLink "ColourDuelModel" (217 : Nat) ({ cls := "ColourDuelModel", name := "stuck", desc := "()I" } : Jvm.MethodName)) ∈ lw_all := lw_g (lw_at lw_m9 48 rfl) rfl
theorem q2063 : (Jvm.Cond.privateMethod ({ cls := "ColourDuelModel", name := "stuck", desc := "()I" } : Jvm.MethodName)) ∈ lw_tbl := lw_at lw_m9 49 rfl
theorem q2064 : (Jvm.Cond.instanceMethod ({ cls := "ColourDuelModel", name := "stuck", desc := "()I" } : Jvm.MethodName)) ∈ lw_all := lw_g (lw_at lw_m9 50 rfl) rfl
theorem q2065 : (Jvm.Cond.code ({ cls := "ColourDuelModel", name := "stuck", desc := "()I" } : Jvm.MethodName) prog_16_method_42_code (3 : Nat) (Option.some Jvm.ClassFile.FieldType.int)) ∈ lw_all := lw_g (lw_at lw_m9 51 rfl) rfl
theorem q2067 : (Jvm.Cond.instanceMethod ({ cls := "ColourDuelModel", name := "vertex", desc := "(II)I" } : Jvm.MethodName)) ∈ lw_all := lw_g (lw_at lw_m9 53 rfl) rfl
theorem q2068 : (Jvm.Cond.selects "ColourDuelModel" ({ cls := "ColourDuelModel", name := "vertex", desc := "(II)I" } : Jvm.MethodName) ({ cls := "ColourDuelModel", name := "vertex", desc := "(II)I" } : Jvm.MethodName)) ∈ lw_all := lw_g (lw_at lw_m9 54 rfl) rfl
theorem q2069 : (Jvm.Cond.code ({ cls := "ColourDuelModel", name := "vertex", desc := "(II)I" } : Jvm.MethodName) prog_16_method_47_code (3 : Nat) (Option.some Jvm.ClassFile.FieldType.int)) ∈ lw_all := lw_g (lw_at lw_m9 55 rfl) rfl
theorem q2070 : (Jvm.Cond.methodLink "ColourDuelModel" (220 : Nat) ({ cls := "ColourDuelModel", name := "isVertex", desc := "(I)Z" } : Jvm.MethodName)) ∈ lw_all := lw_g (lw_at lw_m9 56 rfl) rfl
theorem q2071 : (Jvm.Cond.privateMethod ({ cls := "ColourDuelModel", name := "isVertex", desc := "(I)Z" } : Jvm.MethodName)) ∈ lw_tbl := lw_at lw_m9 57 rfl
theorem q2072 : (Jvm.Cond.instanceMethod ({ cls := "ColourDuelModel", name := "isVertex", desc := "(I)Z" } : Jvm.MethodName)) ∈ lw_all := lw_g (lw_at lw_m9 58 rfl) rfl
theorem q2073 : (Jvm.Cond.code ({ cls := "ColourDuelModel", name := "isVertex", desc := "(I)Z" } : Jvm.MethodName) prog_16_method_45_code (2 : Nat) (Option.some Jvm.ClassFile.FieldType.boolean)) ∈ lw_all := lw_g (lw_at lw_m9 59 rfl) rfl
theorem q2074 : (Jvm.Cond.methodLink "ColourDuelModel" (223 : Nat) ({ cls := "ColourDuelModel", name := "partOf", desc := "(I)I" } : Jvm.MethodName)) ∈ lw_all := lw_g (lw_at lw_m9 60 rfl) rfl
theorem q2075 : (Jvm.Cond.privateMethod ({ cls := "ColourDuelModel", name := "partOf", desc := "(I)I" } : Jvm.MethodName)) ∈ lw_tbl := lw_at lw_m9 61 rfl
theorem q2076 : (Jvm.Cond.instanceMethod ({ cls := "ColourDuelModel", name := "partOf", desc := "(I)I" } : Jvm.MethodName)) ∈ lw_all := lw_g (lw_at lw_m9 62 rfl) rfl
theorem q2077 : (Jvm.Cond.code ({ cls := "ColourDuelModel", name := "partOf", desc := "(I)I" } : Jvm.MethodName) prog_16_method_33_code (5 : Nat) (Option.some Jvm.ClassFile.FieldType.int)) ∈ lw_all := lw_g (lw_at lw_m9 63 rfl) rfl
theorem q2079 : (Jvm.Cond.instanceMethod ({ cls := "ColourDuelModel", name := "reason", desc := "(II)I" } : Jvm.MethodName)) ∈ lw_all := lw_g (lw_at lw_m9 65 rfl) rfl
theorem q2080 : (Jvm.Cond.selects "ColourDuelModel" ({ cls := "ColourDuelModel", name := "reason", desc := "(II)I" } : Jvm.MethodName) ({ cls := "ColourDuelModel", name := "reason", desc := "(II)I" } : Jvm.MethodName)) ∈ lw_all := lw_g (lw_at lw_m9 66 rfl) rfl
theorem q2081 : (Jvm.Cond.code ({ cls := "ColourDuelModel", name := "reason", desc := "(II)I" } : Jvm.MethodName) prog_16_method_48_code (3 : Nat) (Option.some Jvm.ClassFile.FieldType.int)) ∈ lw_all := lw_g (lw_at lw_m9 67 rfl) rfl
theorem q2082 : (Jvm.Cond.methodLink "ColourDuelModel" (226 : Nat) ({ cls := "ColourDuelModel", name := "isColour", desc := "(I)Z" } : Jvm.MethodName)) ∈ lw_all := lw_g (lw_at lw_m9 68 rfl) rfl
theorem q2083 : (Jvm.Cond.privateMethod ({ cls := "ColourDuelModel", name := "isColour", desc := "(I)Z" } : Jvm.MethodName)) ∈ lw_tbl := lw_at lw_m9 69 rfl
theorem q2084 : (Jvm.Cond.instanceMethod ({ cls := "ColourDuelModel", name := "isColour", desc := "(I)Z" } : Jvm.MethodName)) ∈ lw_all := lw_g (lw_at lw_m9 70 rfl) rfl
theorem q2085 : (Jvm.Cond.code ({ cls := "ColourDuelModel", name := "isColour", desc := "(I)Z" } : Jvm.MethodName) prog_16_method_46_code (2 : Nat) (Option.some Jvm.ClassFile.FieldType.boolean)) ∈ lw_all := lw_g (lw_at lw_m9 71 rfl) rfl
theorem q2087 : (Jvm.Cond.instanceMethod ({ cls := "ColourDuelModel", name := "part", desc := "(II)I" } : Jvm.MethodName)) ∈ lw_all := lw_g (lw_at lw_m9 73 rfl) rfl
theorem q2088 : (Jvm.Cond.selects "ColourDuelModel" ({ cls := "ColourDuelModel", name := "part", desc := "(II)I" } : Jvm.MethodName) ({ cls := "ColourDuelModel", name := "part", desc := "(II)I" } : Jvm.MethodName)) ∈ lw_all := lw_g (lw_at lw_m9 74 rfl) rfl
theorem q2089 : (Jvm.Cond.code ({ cls := "ColourDuelModel", name := "part", desc := "(II)I" } : Jvm.MethodName) prog_16_method_58_code (5 : Nat) (Option.some Jvm.ClassFile.FieldType.int)) ∈ lw_all := lw_g (lw_at lw_m9 75 rfl) rfl
theorem q2090 : (Jvm.Cond.methodLink "ColourDuelModel" (244 : Nat) ({ cls := "ColourDuelModel", name := "partSet", desc := "(I)I" } : Jvm.MethodName)) ∈ lw_all := lw_g (lw_at lw_m9 76 rfl) rfl
theorem q2091 : (Jvm.Cond.privateMethod ({ cls := "ColourDuelModel", name := "partSet", desc := "(I)I" } : Jvm.MethodName)) ∈ lw_tbl := lw_at lw_m9 77 rfl
theorem q2092 : (Jvm.Cond.instanceMethod ({ cls := "ColourDuelModel", name := "partSet", desc := "(I)I" } : Jvm.MethodName)) ∈ lw_all := lw_g (lw_at lw_m9 78 rfl) rfl
theorem q2093 : (Jvm.Cond.code ({ cls := "ColourDuelModel", name := "partSet", desc := "(I)I" } : Jvm.MethodName) prog_16_method_32_code (5 : Nat) (Option.some Jvm.ClassFile.FieldType.int)) ∈ lw_all := lw_g (lw_at lw_m9 79 rfl) rfl
theorem q2094 : (Jvm.Cond.methodLink "ColourDuelModel" (247 : Nat) ({ cls := "ColourDuelModel", name := "pairsIn", desc := "(I)I" } : Jvm.MethodName)) ∈ lw_all := lw_g (lw_at lw_m9 80 rfl) rfl
theorem q2095 : (Jvm.Cond.privateMethod ({ cls := "ColourDuelModel", name := "pairsIn", desc := "(I)I" } : Jvm.MethodName)) ∈ lw_tbl := lw_at lw_m9 81 rfl
theorem q2096 : (Jvm.Cond.instanceMethod ({ cls := "ColourDuelModel", name := "pairsIn", desc := "(I)I" } : Jvm.MethodName)) ∈ lw_all := lw_g (lw_at lw_m9 82 rfl) rfl
theorem q2097 : (Jvm.Cond.code ({ cls := "ColourDuelModel", name := "pairsIn", desc := "(I)I" } : Jvm.MethodName) prog_16_method_59_code (4 : Nat) (Option.some Jvm.ClassFile.FieldType.int)) ∈ lw_all := lw_g (lw_at lw_m9 83 rfl) rfl
theorem q2098 : (Jvm.Cond.methodLink "ColourDuelModel" (250 : Nat) ({ cls := "ColourDuelModel", name := "ofPart", desc := "(III)I" } : Jvm.MethodName)) ∈ lw_all := lw_g (lw_at lw_m9 84 rfl) rfl
theorem q2099 : (Jvm.Cond.privateMethod ({ cls := "ColourDuelModel", name := "ofPart", desc := "(III)I" } : Jvm.MethodName)) ∈ lw_tbl := lw_at lw_m9 85 rfl
theorem q2100 : (Jvm.Cond.instanceMethod ({ cls := "ColourDuelModel", name := "ofPart", desc := "(III)I" } : Jvm.MethodName)) ∈ lw_all := lw_g (lw_at lw_m9 86 rfl) rfl
theorem q2101 : (Jvm.Cond.code ({ cls := "ColourDuelModel", name := "ofPart", desc := "(III)I" } : Jvm.MethodName) prog_16_method_60_code (5 : Nat) (Option.some Jvm.ClassFile.FieldType.int)) ∈ lw_all := lw_g (lw_at lw_m9 87 rfl) rfl
theorem q2102 : (Jvm.Cond.methodLink "ColourDuelModel" (253 : Nat) ({ cls := "ColourDuelModel", name := "forgets", desc := "()V" } : Jvm.MethodName)) ∈ lw_all := lw_g (lw_at lw_m9 88 rfl) rfl
theorem q2103 : (Jvm.Cond.privateMethod ({ cls := "ColourDuelModel", name := "forgets", desc := "()V" } : Jvm.MethodName)) ∈ lw_tbl := lw_at lw_m9 89 rfl
theorem q2104 : (Jvm.Cond.instanceMethod ({ cls := "ColourDuelModel", name := "forgets", desc := "()V" } : Jvm.MethodName)) ∈ lw_all := lw_g (lw_at lw_m9 90 rfl) rfl
theorem q2105 : (Jvm.Cond.code ({ cls := "ColourDuelModel", name := "forgets", desc := "()V" } : Jvm.MethodName) prog_16_method_49_code (2 : Nat) (Option.none : Option Jvm.ClassFile.FieldType)) ∈ lw_all := lw_g (lw_at lw_m9 91 rfl) rfl
theorem q2106 : (Jvm.Cond.methodLink "ColourDuelModel" (229 : Nat) ({ cls := "ColourDuelModel", name := "knownOf", desc := "(II)I" } : Jvm.MethodName)) ∈ lw_all := lw_g (lw_at lw_m9 92 rfl) rfl
theorem q2107 : (Jvm.Cond.privateMethod ({ cls := "ColourDuelModel", name := "knownOf", desc := "(II)I" } : Jvm.MethodName)) ∈ lw_tbl := lw_at lw_m9 93 rfl
theorem q2108 : (Jvm.Cond.instanceMethod ({ cls := "ColourDuelModel", name := "knownOf", desc := "(II)I" } : Jvm.MethodName)) ∈ lw_all := lw_g (lw_at lw_m9 94 rfl) rfl
theorem q2109 : (Jvm.Cond.code ({ cls := "ColourDuelModel", name := "knownOf", desc := "(II)I" } : Jvm.MethodName) prog_16_method_52_code (13 : Nat) (Option.some Jvm.ClassFile.FieldType.int)) ∈ lw_all := lw_g (lw_at lw_m9 95 rfl) rfl
theorem q2110 : (Jvm.Cond.methodLink "ColourDuelModel" (232 : Nat) ({ cls := "ColourDuelModel", name := "placeOf", desc := "(II)I" } : Jvm.MethodName)) ∈ lw_all := lw_g (lw_at lw_m9 96 rfl) rfl
theorem q2111 : (Jvm.Cond.privateMethod ({ cls := "ColourDuelModel", name := "placeOf", desc := "(II)I" } : Jvm.MethodName)) ∈ lw_tbl := lw_at lw_m9 97 rfl
theorem q2112 : (Jvm.Cond.instanceMethod ({ cls := "ColourDuelModel", name := "placeOf", desc := "(II)I" } : Jvm.MethodName)) ∈ lw_all := lw_g (lw_at lw_m9 98 rfl) rfl
theorem q2113 : (Jvm.Cond.code ({ cls := "ColourDuelModel", name := "placeOf", desc := "(II)I" } : Jvm.MethodName) prog_16_method_50_code (7 : Nat) (Option.some Jvm.ClassFile.FieldType.int)) ∈ lw_all := lw_g (lw_at lw_m9 99 rfl) rfl
theorem q2114 : (Jvm.Cond.methodLink "ColourDuelModel" (235 : Nat) ({ cls := "ColourDuelModel", name := "together", desc := "(II)I" } : Jvm.MethodName)) ∈ lw_all := lw_g (lw_at lw_m9 100 rfl) rfl
theorem q2115 : (Jvm.Cond.privateMethod ({ cls := "ColourDuelModel", name := "together", desc := "(II)I" } : Jvm.MethodName)) ∈ lw_tbl := lw_at lw_m9 101 rfl
theorem q2116 : (Jvm.Cond.instanceMethod ({ cls := "ColourDuelModel", name := "together", desc := "(II)I" } : Jvm.MethodName)) ∈ lw_all := lw_g (lw_at lw_m9 102 rfl) rfl
theorem q2117 : (Jvm.Cond.code ({ cls := "ColourDuelModel", name := "together", desc := "(II)I" } : Jvm.MethodName) prog_16_method_51_code (9 : Nat) (Option.some Jvm.ClassFile.FieldType.int)) ∈ lw_all := lw_g (lw_at lw_m9 103 rfl) rfl
theorem q2119 : (Jvm.Cond.instanceMethod ({ cls := "ColourDuelModel", name := "value", desc := "()I" } : Jvm.MethodName)) ∈ lw_all := lw_g (lw_at lw_m9 105 rfl) rfl
theorem q2120 : (Jvm.Cond.selects "ColourDuelModel" ({ cls := "ColourDuelModel", name := "value", desc := "()I" } : Jvm.MethodName) ({ cls := "ColourDuelModel", name := "value", desc := "()I" } : Jvm.MethodName)) ∈ lw_all := lw_g (lw_at lw_m9 106 rfl) rfl
theorem q2121 : (Jvm.Cond.code ({ cls := "ColourDuelModel", name := "value", desc := "()I" } : Jvm.MethodName) prog_16_method_61_code (1 : Nat) (Option.some Jvm.ClassFile.FieldType.int)) ∈ lw_all := lw_g (lw_at lw_m9 107 rfl) rfl
theorem q2122 : (Jvm.Cond.methodLink "ColourDuelModel" (256 : Nat) ({ cls := "ColourDuelModel", name := "valueNow", desc := "()I" } : Jvm.MethodName)) ∈ lw_all := lw_g (lw_at lw_m9 108 rfl) rfl
theorem q2123 : (Jvm.Cond.privateMethod ({ cls := "ColourDuelModel", name := "valueNow", desc := "()I" } : Jvm.MethodName)) ∈ lw_tbl := lw_at lw_m9 109 rfl
theorem q2124 : (Jvm.Cond.instanceMethod ({ cls := "ColourDuelModel", name := "valueNow", desc := "()I" } : Jvm.MethodName)) ∈ lw_all := lw_g (lw_at lw_m9 110 rfl) rfl
theorem q2125 : (Jvm.Cond.code ({ cls := "ColourDuelModel", name := "valueNow", desc := "()I" } : Jvm.MethodName) prog_16_method_54_code (1 : Nat) (Option.some Jvm.ClassFile.FieldType.int)) ∈ lw_all := lw_g (lw_at lw_m9 111 rfl) rfl
theorem q2126 : (Jvm.Cond.methodLink "ColourDuelModel" (238 : Nat) ({ cls := "ColourDuelModel", name := "board", desc := "()I" } : Jvm.MethodName)) ∈ lw_all := lw_g (lw_at lw_m9 112 rfl) rfl
theorem q2127 : (Jvm.Cond.privateMethod ({ cls := "ColourDuelModel", name := "board", desc := "()I" } : Jvm.MethodName)) ∈ lw_tbl := lw_at lw_m9 113 rfl
theorem q2128 : (Jvm.Cond.instanceMethod ({ cls := "ColourDuelModel", name := "board", desc := "()I" } : Jvm.MethodName)) ∈ lw_all := lw_g (lw_at lw_m9 114 rfl) rfl
theorem q2129 : (Jvm.Cond.code ({ cls := "ColourDuelModel", name := "board", desc := "()I" } : Jvm.MethodName) prog_16_method_53_code (8 : Nat) (Option.some Jvm.ClassFile.FieldType.int)) ∈ lw_all := lw_g (lw_at lw_m9 115 rfl) rfl
theorem q2131 : (Jvm.Cond.instanceMethod ({ cls := "ColourDuelModel", name := "valueIf", desc := "(II)I" } : Jvm.MethodName)) ∈ lw_all := lw_g (lw_at lw_m9 117 rfl) rfl
theorem q2132 : (Jvm.Cond.selects "ColourDuelModel" ({ cls := "ColourDuelModel", name := "valueIf", desc := "(II)I" } : Jvm.MethodName) ({ cls := "ColourDuelModel", name := "valueIf", desc := "(II)I" } : Jvm.MethodName)) ∈ lw_all := lw_g (lw_at lw_m9 118 rfl) rfl
theorem q2133 : (Jvm.Cond.code ({ cls := "ColourDuelModel", name := "valueIf", desc := "(II)I" } : Jvm.MethodName) prog_16_method_62_code (3 : Nat) (Option.some Jvm.ClassFile.FieldType.int)) ∈ lw_all := lw_g (lw_at lw_m9 119 rfl) rfl
theorem q2134 : (Jvm.Cond.methodLink "ColourDuelModel" (241 : Nat) ({ cls := "ColourDuelModel", name := "boardIf", desc := "(II)I" } : Jvm.MethodName)) ∈ lw_all := lw_g (lw_at lw_m9 120 rfl) rfl
theorem q2135 : (Jvm.Cond.privateMethod ({ cls := "ColourDuelModel", name := "boardIf", desc := "(II)I" } : Jvm.MethodName)) ∈ lw_tbl := lw_at lw_m9 121 rfl
theorem q2136 : (Jvm.Cond.instanceMethod ({ cls := "ColourDuelModel", name := "boardIf", desc := "(II)I" } : Jvm.MethodName)) ∈ lw_all := lw_g (lw_at lw_m9 122 rfl) rfl
theorem q2137 : (Jvm.Cond.code ({ cls := "ColourDuelModel", name := "boardIf", desc := "(II)I" } : Jvm.MethodName) prog_16_method_55_code (6 : Nat) (Option.some Jvm.ClassFile.FieldType.int)) ∈ lw_all := lw_g (lw_at lw_m9 123 rfl) rfl
theorem q2139 : (Jvm.Cond.instanceMethod ({ cls := "ColourDuelModel", name := "winningMoves", desc := "()I" } : Jvm.MethodName)) ∈ lw_all := lw_g (lw_at lw_m9 125 rfl) rfl
theorem q2140 : (Jvm.Cond.selects "ColourDuelModel" ({ cls := "ColourDuelModel", name := "winningMoves", desc := "()I" } : Jvm.MethodName) ({ cls := "ColourDuelModel", name := "winningMoves", desc := "()I" } : Jvm.MethodName)) ∈ lw_all := lw_g (lw_at lw_m9 126 rfl) rfl
theorem q2141 : (Jvm.Cond.code ({ cls := "ColourDuelModel", name := "winningMoves", desc := "()I" } : Jvm.MethodName) prog_16_method_63_code (3 : Nat) (Option.some Jvm.ClassFile.FieldType.int)) ∈ lw_all := lw_g (lw_at lw_m9 127 rfl) rfl
theorem q2142 : (Jvm.Cond.methodLink "ColourDuelModel" (259 : Nat) ({ cls := "ColourDuelModel", name := "passWins", desc := "()Z" } : Jvm.MethodName)) ∈ lw_all := lw_g (lw_at lw_m9 128 rfl) rfl
theorem q2143 : (Jvm.Cond.privateMethod ({ cls := "ColourDuelModel", name := "passWins", desc := "()Z" } : Jvm.MethodName)) ∈ lw_tbl := lw_at lw_m9 129 rfl
theorem q2144 : (Jvm.Cond.instanceMethod ({ cls := "ColourDuelModel", name := "passWins", desc := "()Z" } : Jvm.MethodName)) ∈ lw_all := lw_g (lw_at lw_m9 130 rfl) rfl
theorem q2145 : (Jvm.Cond.code ({ cls := "ColourDuelModel", name := "passWins", desc := "()Z" } : Jvm.MethodName) prog_16_method_57_code (1 : Nat) (Option.some Jvm.ClassFile.FieldType.boolean)) ∈ lw_all := lw_g (lw_at lw_m9 131 rfl) rfl
theorem q2146 : (Jvm.Cond.methodLink "ColourDuelModel" (262 : Nat) ({ cls := "ColourDuelModel", name := "winningOn", desc := "(I)I" } : Jvm.MethodName)) ∈ lw_all := lw_g (lw_at lw_m9 132 rfl) rfl
theorem q2147 : (Jvm.Cond.privateMethod ({ cls := "ColourDuelModel", name := "winningOn", desc := "(I)I" } : Jvm.MethodName)) ∈ lw_tbl := lw_at lw_m9 133 rfl
theorem q2148 : (Jvm.Cond.instanceMethod ({ cls := "ColourDuelModel", name := "winningOn", desc := "(I)I" } : Jvm.MethodName)) ∈ lw_all := lw_g (lw_at lw_m9 134 rfl) rfl
theorem q2149 : (Jvm.Cond.code ({ cls := "ColourDuelModel", name := "winningOn", desc := "(I)I" } : Jvm.MethodName) prog_16_method_56_code (5 : Nat) (Option.some Jvm.ClassFile.FieldType.int)) ∈ lw_all := lw_g (lw_at lw_m9 135 rfl) rfl
theorem q2151 : (Jvm.Cond.instanceMethod ({ cls := "ColourDuelModel", name := "winningColours", desc := "(I)I" } : Jvm.MethodName)) ∈ lw_all := lw_g (lw_at lw_m9 137 rfl) rfl
theorem q2152 : (Jvm.Cond.selects "ColourDuelModel" ({ cls := "ColourDuelModel", name := "winningColours", desc := "(I)I" } : Jvm.MethodName) ({ cls := "ColourDuelModel", name := "winningColours", desc := "(I)I" } : Jvm.MethodName)) ∈ lw_all := lw_g (lw_at lw_m9 138 rfl) rfl
theorem q2153 : (Jvm.Cond.code ({ cls := "ColourDuelModel", name := "winningColours", desc := "(I)I" } : Jvm.MethodName) prog_16_method_64_code (2 : Nat) (Option.some Jvm.ClassFile.FieldType.int)) ∈ lw_all := lw_g (lw_at lw_m9 139 rfl) rfl
theorem q2155 : (Jvm.Cond.instanceMethod ({ cls := "ColourDuelModel", name := "bestMove", desc := "()I" } : Jvm.MethodName)) ∈ lw_all := lw_g (lw_at lw_m9 141 rfl) rfl
theorem q2156 : (Jvm.Cond.selects "ColourDuelModel" ({ cls := "ColourDuelModel", name := "bestMove", desc := "()I" } : Jvm.MethodName) ({ cls := "ColourDuelModel", name := "bestMove", desc := "()I" } : Jvm.MethodName)) ∈ lw_all := lw_g (lw_at lw_m9 142 rfl) rfl
theorem q2157 : (Jvm.Cond.code ({ cls := "ColourDuelModel", name := "bestMove", desc := "()I" } : Jvm.MethodName) prog_16_method_66_code (1 : Nat) (Option.some Jvm.ClassFile.FieldType.int)) ∈ lw_all := lw_g (lw_at lw_m9 143 rfl) rfl
theorem q2158 : (Jvm.Cond.methodLink "ColourDuelModel" (265 : Nat) ({ cls := "ColourDuelModel", name := "best", desc := "()I" } : Jvm.MethodName)) ∈ lw_all := lw_g (lw_at lw_m9 144 rfl) rfl
theorem q2159 : (Jvm.Cond.privateMethod ({ cls := "ColourDuelModel", name := "best", desc := "()I" } : Jvm.MethodName)) ∈ lw_tbl := lw_at lw_m9 145 rfl
theorem q2160 : (Jvm.Cond.instanceMethod ({ cls := "ColourDuelModel", name := "best", desc := "()I" } : Jvm.MethodName)) ∈ lw_all := lw_g (lw_at lw_m9 146 rfl) rfl
theorem q2161 : (Jvm.Cond.code ({ cls := "ColourDuelModel", name := "best", desc := "()I" } : Jvm.MethodName) prog_16_method_65_code (7 : Nat) (Option.some Jvm.ClassFile.FieldType.int)) ∈ lw_all := lw_g (lw_at lw_m9 147 rfl) rfl
theorem q2163 : (Jvm.Cond.instanceMethod ({ cls := "ColourDuelModel", name := "longest", desc := "()I" } : Jvm.MethodName)) ∈ lw_all := lw_g (lw_at lw_m9 149 rfl) rfl
theorem q2164 : (Jvm.Cond.selects "ColourDuelModel" ({ cls := "ColourDuelModel", name := "longest", desc := "()I" } : Jvm.MethodName) ({ cls := "ColourDuelModel", name := "longest", desc := "()I" } : Jvm.MethodName)) ∈ lw_all := lw_g (lw_at lw_m9 150 rfl) rfl
theorem q2165 : (Jvm.Cond.code ({ cls := "ColourDuelModel", name := "longest", desc := "()I" } : Jvm.MethodName) prog_16_method_67_code (1 : Nat) (Option.some Jvm.ClassFile.FieldType.int)) ∈ lw_all := lw_g (lw_at lw_m9 151 rfl) rfl
theorem q2167 : (Jvm.Cond.instanceMethod ({ cls := "ColourDuelModel", name := "shortest", desc := "()I" } : Jvm.MethodName)) ∈ lw_all := lw_g (lw_at lw_m9 153 rfl) rfl
theorem q2168 : (Jvm.Cond.selects "ColourDuelModel" ({ cls := "ColourDuelModel", name := "shortest", desc := "()I" } : Jvm.MethodName) ({ cls := "ColourDuelModel", name := "shortest", desc := "()I" } : Jvm.MethodName)) ∈ lw_all := lw_g (lw_at lw_m9 154 rfl) rfl
theorem q2169 : (Jvm.Cond.code ({ cls := "ColourDuelModel", name := "shortest", desc := "()I" } : Jvm.MethodName) prog_16_method_68_code (1 : Nat) (Option.some Jvm.ClassFile.FieldType.int)) ∈ lw_all := lw_g (lw_at lw_m9 155 rfl) rfl
theorem q2171 : (Jvm.Cond.instanceMethod ({ cls := "ColourDuelModel", name := "meanValue", desc := "()F" } : Jvm.MethodName)) ∈ lw_all := lw_g (lw_at lw_m9 157 rfl) rfl
theorem q2172 : (Jvm.Cond.selects "ColourDuelModel" ({ cls := "ColourDuelModel", name := "meanValue", desc := "()F" } : Jvm.MethodName) ({ cls := "ColourDuelModel", name := "meanValue", desc := "()F" } : Jvm.MethodName)) ∈ lw_all := lw_g (lw_at lw_m9 158 rfl) rfl
theorem q2173 : (Jvm.Cond.code ({ cls := "ColourDuelModel", name := "meanValue", desc := "()F" } : Jvm.MethodName) prog_16_method_69_code (4 : Nat) (Option.some Jvm.ClassFile.FieldType.float)) ∈ lw_all := lw_g (lw_at lw_m9 159 rfl) rfl
theorem q2175 : (Jvm.Cond.instanceMethod ({ cls := "ColourDuelModel", name := "falls", desc := "(I)I" } : Jvm.MethodName)) ∈ lw_all := lw_g (lw_at lw_m9 161 rfl) rfl
theorem q2176 : (Jvm.Cond.selects "ColourDuelModel" ({ cls := "ColourDuelModel", name := "falls", desc := "(I)I" } : Jvm.MethodName) ({ cls := "ColourDuelModel", name := "falls", desc := "(I)I" } : Jvm.MethodName)) ∈ lw_all := lw_g (lw_at lw_m9 162 rfl) rfl
theorem q2177 : (Jvm.Cond.code ({ cls := "ColourDuelModel", name := "falls", desc := "(I)I" } : Jvm.MethodName) prog_16_method_70_code (2 : Nat) (Option.some Jvm.ClassFile.FieldType.int)) ∈ lw_all := lw_g (lw_at lw_m9 163 rfl) rfl
theorem q2179 : (Jvm.Cond.instanceMethod ({ cls := "ColourDuelModel", name := "valueWithout", desc := "(I)I" } : Jvm.MethodName)) ∈ lw_all := lw_g (lw_at lw_m9 165 rfl) rfl
theorem q2180 : (Jvm.Cond.selects "ColourDuelModel" ({ cls := "ColourDuelModel", name := "valueWithout", desc := "(I)I" } : Jvm.MethodName) ({ cls := "ColourDuelModel", name := "valueWithout", desc := "(I)I" } : Jvm.MethodName)) ∈ lw_all := lw_g (lw_at lw_m9 166 rfl) rfl
theorem q2181 : (Jvm.Cond.code ({ cls := "ColourDuelModel", name := "valueWithout", desc := "(I)I" } : Jvm.MethodName) prog_16_method_71_code (7 : Nat) (Option.some Jvm.ClassFile.FieldType.int)) ∈ lw_all := lw_g (lw_at lw_m9 167 rfl) rfl
theorem q2183 : (Jvm.Cond.instanceMethod ({ cls := "ColourDuelModel", name := "lay", desc := "(II)I" } : Jvm.MethodName)) ∈ lw_all := lw_g (lw_at lw_m9 169 rfl) rfl
theorem q2184 : (Jvm.Cond.selects "ColourDuelModel" ({ cls := "ColourDuelModel", name := "lay", desc := "(II)I" } : Jvm.MethodName) ({ cls := "ColourDuelModel", name := "lay", desc := "(II)I" } : Jvm.MethodName)) ∈ lw_all := lw_g (lw_at lw_m9 170 rfl) rfl
theorem q2185 : (Jvm.Cond.code ({ cls := "ColourDuelModel", name := "lay", desc := "(II)I" } : Jvm.MethodName) prog_16_method_75_code (3 : Nat) (Option.some Jvm.ClassFile.FieldType.int)) ∈ lw_all := lw_g (lw_at lw_m9 171 rfl) rfl
theorem q2187 : (Jvm.Cond.instanceMethod ({ cls := "ColourDuelModel", name := "pass", desc := "()I" } : Jvm.MethodName)) ∈ lw_all := lw_g (lw_at lw_m9 173 rfl) rfl
theorem q2188 : (Jvm.Cond.selects "ColourDuelModel" ({ cls := "ColourDuelModel", name := "pass", desc := "()I" } : Jvm.MethodName) ({ cls := "ColourDuelModel", name := "pass", desc := "()I" } : Jvm.MethodName)) ∈ lw_all := lw_g (lw_at lw_m9 174 rfl) rfl
theorem q2189 : (Jvm.Cond.code ({ cls := "ColourDuelModel", name := "pass", desc := "()I" } : Jvm.MethodName) prog_16_method_76_code (1 : Nat) (Option.some Jvm.ClassFile.FieldType.int)) ∈ lw_all := lw_g (lw_at lw_m9 175 rfl) rfl
theorem q2191 : (Jvm.Cond.instanceMethod ({ cls := "ColourDuelModel", name := "playOut", desc := "(I)I" } : Jvm.MethodName)) ∈ lw_all := lw_g (lw_at lw_m9 177 rfl) rfl
theorem q2192 : (Jvm.Cond.selects "ColourDuelModel" ({ cls := "ColourDuelModel", name := "playOut", desc := "(I)I" } : Jvm.MethodName) ({ cls := "ColourDuelModel", name := "playOut", desc := "(I)I" } : Jvm.MethodName)) ∈ lw_all := lw_g (lw_at lw_m9 178 rfl) rfl
theorem q2193 : (Jvm.Cond.code ({ cls := "ColourDuelModel", name := "playOut", desc := "(I)I" } : Jvm.MethodName) prog_16_method_77_code (4 : Nat) (Option.some Jvm.ClassFile.FieldType.int)) ∈ lw_all := lw_g (lw_at lw_m9 179 rfl) rfl
theorem q2195 : (Jvm.Cond.instanceMethod ({ cls := "ColourDuelModel", name := "setPasses", desc := "(I)I" } : Jvm.MethodName)) ∈ lw_all := lw_g (lw_at lw_m9 181 rfl) rfl
theorem q2196 : (Jvm.Cond.selects "ColourDuelModel" ({ cls := "ColourDuelModel", name := "setPasses", desc := "(I)I" } : Jvm.MethodName) ({ cls := "ColourDuelModel", name := "setPasses", desc := "(I)I" } : Jvm.MethodName)) ∈ lw_all := lw_g (lw_at lw_m9 182 rfl) rfl
theorem q2197 : (Jvm.Cond.code ({ cls := "ColourDuelModel", name := "setPasses", desc := "(I)I" } : Jvm.MethodName) prog_16_method_78_code (3 : Nat) (Option.some Jvm.ClassFile.FieldType.int)) ∈ lw_all := lw_g (lw_at lw_m9 183 rfl) rfl
theorem q2199 : (Jvm.Cond.instanceMethod ({ cls := "ColourDuelModel", name := "move", desc := "(II)I" } : Jvm.MethodName)) ∈ lw_all := lw_g (lw_at lw_m9 185 rfl) rfl
theorem q2200 : (Jvm.Cond.selects "ColourDuelModel" ({ cls := "ColourDuelModel", name := "move", desc := "(II)I" } : Jvm.MethodName) ({ cls := "ColourDuelModel", name := "move", desc := "(II)I" } : Jvm.MethodName)) ∈ lw_all := lw_g (lw_at lw_m9 186 rfl) rfl
theorem q2201 : (Jvm.Cond.code ({ cls := "ColourDuelModel", name := "move", desc := "(II)I" } : Jvm.MethodName) prog_16_method_80_code (3 : Nat) (Option.some Jvm.ClassFile.FieldType.int)) ∈ lw_all := lw_g (lw_at lw_m9 187 rfl) rfl
theorem q2202 : (Jvm.Cond.methodLink "ColourDuelModel" (272 : Nat) ({ cls := "ColourDuelModel", name := "moved", desc := "(II)I" } : Jvm.MethodName)) ∈ lw_all := lw_g (lw_at lw_m9 188 rfl) rfl
theorem q2203 : (Jvm.Cond.privateMethod ({ cls := "ColourDuelModel", name := "moved", desc := "(II)I" } : Jvm.MethodName)) ∈ lw_tbl := lw_at lw_m9 189 rfl
theorem q2204 : (Jvm.Cond.instanceMethod ({ cls := "ColourDuelModel", name := "moved", desc := "(II)I" } : Jvm.MethodName)) ∈ lw_all := lw_g (lw_at lw_m9 190 rfl) rfl
theorem q2205 : (Jvm.Cond.code ({ cls := "ColourDuelModel", name := "moved", desc := "(II)I" } : Jvm.MethodName) prog_16_method_79_code (4 : Nat) (Option.some Jvm.ClassFile.FieldType.int)) ∈ lw_all := lw_g (lw_at lw_m9 191 rfl) rfl
theorem q2207 : (Jvm.Cond.instanceMethod ({ cls := "ColourDuelModel", name := "account", desc := "(II)I" } : Jvm.MethodName)) ∈ lw_all := lw_g (lw_at lw_m9 193 rfl) rfl
theorem q2208 : (Jvm.Cond.selects "ColourDuelModel" ({ cls := "ColourDuelModel", name := "account", desc := "(II)I" } : Jvm.MethodName) ({ cls := "ColourDuelModel", name := "account", desc := "(II)I" } : Jvm.MethodName)) ∈ lw_all := lw_g (lw_at lw_m9 194 rfl) rfl
theorem q2209 : (Jvm.Cond.code ({ cls := "ColourDuelModel", name := "account", desc := "(II)I" } : Jvm.MethodName) prog_16_method_82_code (6 : Nat) (Option.some Jvm.ClassFile.FieldType.int)) ∈ lw_all := lw_g (lw_at lw_m9 195 rfl) rfl
theorem q2210 : (Jvm.Cond.methodLink "ColourDuelModel" (275 : Nat) ({ cls := "ColourDuelModel", name := "counts", desc := "(II)Z" } : Jvm.MethodName)) ∈ lw_all := lw_g (lw_at lw_m9 196 rfl) rfl
theorem q2211 : (Jvm.Cond.privateMethod ({ cls := "ColourDuelModel", name := "counts", desc := "(II)Z" } : Jvm.MethodName)) ∈ lw_tbl := lw_at lw_m9 197 rfl
theorem q2212 : (Jvm.Cond.instanceMethod ({ cls := "ColourDuelModel", name := "counts", desc := "(II)Z" } : Jvm.MethodName)) ∈ lw_all := lw_g (lw_at lw_m9 198 rfl) rfl
theorem q2213 : (Jvm.Cond.code ({ cls := "ColourDuelModel", name := "counts", desc := "(II)Z" } : Jvm.MethodName) prog_16_method_81_code (4 : Nat) (Option.some Jvm.ClassFile.FieldType.boolean)) ∈ lw_all := lw_g (lw_at lw_m9 199 rfl) rfl
theorem q2215 : (Jvm.Cond.instanceMethod ({ cls := "ColourDuelModel", name := "writeBoard", desc := "()I" } : Jvm.MethodName)) ∈ lw_all := lw_g (lw_at lw_m9 201 rfl) rfl
theorem q2216 : (Jvm.Cond.selects "ColourDuelModel" ({ cls := "ColourDuelModel", name := "writeBoard", desc := "()I" } : Jvm.MethodName) ({ cls := "ColourDuelModel", name := "writeBoard", desc := "()I" } : Jvm.MethodName)) ∈ lw_all := lw_g (lw_at lw_m9 202 rfl) rfl
theorem q2217 : (Jvm.Cond.code ({ cls := "ColourDuelModel", name := "writeBoard", desc := "()I" } : Jvm.MethodName) prog_16_method_84_code (2 : Nat) (Option.some Jvm.ClassFile.FieldType.int)) ∈ lw_all := lw_g (lw_at lw_m9 203 rfl) rfl
theorem q2218 : (Jvm.Cond.methodLink "ColourDuelModel" (281 : Nat) ({ cls := "ColourDuelModel", name := "says", desc := "(I)V" } : Jvm.MethodName)) ∈ lw_all := lw_g (lw_at lw_m9 204 rfl) rfl
theorem q2219 : (Jvm.Cond.privateMethod ({ cls := "ColourDuelModel", name := "says", desc := "(I)V" } : Jvm.MethodName)) ∈ lw_tbl := lw_at lw_m9 205 rfl
theorem q2220 : (Jvm.Cond.instanceMethod ({ cls := "ColourDuelModel", name := "says", desc := "(I)V" } : Jvm.MethodName)) ∈ lw_all := lw_g (lw_at lw_m9 206 rfl) rfl
theorem q2221 : (Jvm.Cond.code ({ cls := "ColourDuelModel", name := "says", desc := "(I)V" } : Jvm.MethodName) prog_16_method_83_code (2 : Nat) (Option.none : Option Jvm.ClassFile.FieldType)) ∈ lw_all := lw_g (lw_at lw_m9 207 rfl) rfl
theorem q2223 : (Jvm.Cond.instanceMethod ({ cls := "ColourDuelModel", name := "writtenByte", desc := "(I)I" } : Jvm.MethodName)) ∈ lw_all := lw_g (lw_at lw_m9 209 rfl) rfl
theorem q2224 : (Jvm.Cond.selects "ColourDuelModel" ({ cls := "ColourDuelModel", name := "writtenByte", desc := "(I)I" } : Jvm.MethodName) ({ cls := "ColourDuelModel", name := "writtenByte", desc := "(I)I" } : Jvm.MethodName)) ∈ lw_all := lw_g (lw_at lw_m9 210 rfl) rfl
theorem q2225 : (Jvm.Cond.code ({ cls := "ColourDuelModel", name := "writtenByte", desc := "(I)I" } : Jvm.MethodName) prog_16_method_85_code (2 : Nat) (Option.some Jvm.ClassFile.FieldType.int)) ∈ lw_all := lw_g (lw_at lw_m9 211 rfl) rfl
theorem q2227 : (Jvm.Cond.instanceMethod ({ cls := "ColourDuelModel", name := "save", desc := "(I)I" } : Jvm.MethodName)) ∈ lw_all := lw_g (lw_at lw_m9 213 rfl) rfl
theorem q2228 : (Jvm.Cond.selects "ColourDuelModel" ({ cls := "ColourDuelModel", name := "save", desc := "(I)I" } : Jvm.MethodName) ({ cls := "ColourDuelModel", name := "save", desc := "(I)I" } : Jvm.MethodName)) ∈ lw_all := lw_g (lw_at lw_m9 214 rfl) rfl
theorem q2229 : (Jvm.Cond.code ({ cls := "ColourDuelModel", name := "save", desc := "(I)I" } : Jvm.MethodName) prog_16_method_86_code (2 : Nat) (Option.some Jvm.ClassFile.FieldType.int)) ∈ lw_all := lw_g (lw_at lw_m9 215 rfl) rfl
theorem q2231 : (Jvm.Cond.instanceMethod ({ cls := "ColourDuelModel", name := "restore", desc := "(I)I" } : Jvm.MethodName)) ∈ lw_all := lw_g (lw_at lw_m9 217 rfl) rfl
theorem q2232 : (Jvm.Cond.selects "ColourDuelModel" ({ cls := "ColourDuelModel", name := "restore", desc := "(I)I" } : Jvm.MethodName) ({ cls := "ColourDuelModel", name := "restore", desc := "(I)I" } : Jvm.MethodName)) ∈ lw_all := lw_g (lw_at lw_m9 218 rfl) rfl
theorem q2233 : (Jvm.Cond.code ({ cls := "ColourDuelModel", name := "restore", desc := "(I)I" } : Jvm.MethodName) prog_16_method_87_code (2 : Nat) (Option.some Jvm.ClassFile.FieldType.int)) ∈ lw_all := lw_g (lw_at lw_m9 219 rfl) rfl
theorem q2261 : (Jvm.Cond.castable "ColourDuelModel" "java/lang/Object") ∈ lw_tbl := lw_at lw_m10 7 rfl
theorem in_X6 : ∀ w ∈ wsX60, w ∈ lw_all := lw_in wsX60 [1840, 1842, 1844, 1846, 1848, 1850, 1852, 1854, 1856, 1858, 1860, 1862, 1864, 1866, 1868, 1870, 1872, 1874, 1876, 1878, 1880, 1882] (by decide +kernel) (by decide +kernel)
