/-! ColourDuel$Search -/
set_option maxRecDepth 100000
def RX2 : String := "ColourDuel$Search"
def TX2 : u_T := fun k => match k with
  | 0 => ("ColourDuel$Search", "keys", "[J", true)
  | 1 => ("ColourDuel$Search", "found", "[I", true)
  | 2 => ("ColourDuel$Search", "stamps", "[I", true)
  | 3 => ("ColourDuel$Search", "pieces", "[[I", true)
  | 4 => ("ColourDuel$Search", "bits", "[I", true)
  | 5 => ("ColourDuel$Search", "graph", "LColourDuel$Graph;", false)
  | 6 => ("ColourDuel$Search", "stamp", "I", false)
  | 7 => ("ColourDuel$Search", "known", "I", false)
  | _ => ("ColourDuel$Search", "this$0", "LColourDuel;", true)
def tyX2 : Nat → FieldType := fun k => match k with
  | 0 => .array .long
  | 1 => .array .int
  | 2 => .array .int
  | 3 => .array (.array .int)
  | 4 => .array .int
  | 5 => .object "ColourDuel$Graph"
  | 6 => .int
  | 7 => .int
  | _ => .object "ColourDuel"
abbrev wsX20 : List Cond := u_ws RX2 TX2 9
theorem nmX2 : ∀ a, a < 9 → ∀ b, b < 9 → a ≠ b → (TX2 a).2.1 ≠ (TX2 b).2.1 := by decide +kernel
theorem tyX2_ok : ∀ k, k < 9 → parseFieldDescriptor (TX2 k).2.2.1 = some (tyX2 k) := by decide +kernel
abbrev cX2_init : ByteArray := prog_13_method_1_code
def yX2_init : MethodName := ⟨RX2, "<init>", "(LColourDuel;)V"⟩
def dkwX2_init_4 : List UInt8 := [167, 0, 4, 3, 128, 79, 132, 3, 1, 167, 255, 220, 132, 2, 1, 167, 255, 203, 177]
abbrev dktX2_init_4 : List UInt8 := dkwX2_init_4 ++ []
def dkwX2_init_3 : List UInt8 := [162, 0, 36, 42, 180, 0, 32, 28, 92, 46, 28, 29, 184, 0, 35, 153, 0, 12, 16, 7, 6, 29, 104, 120]
abbrev dktX2_init_3 : List UInt8 := dkwX2_init_3 ++ dktX2_init_4
def dkwX2_init_2 : List UInt8 := [17, 2, 0, 188, 10, 181, 0, 32, 3, 61, 28, 42, 180, 0, 32, 190, 162, 0, 50, 3, 62, 29, 16, 9]
abbrev dktX2_init_2 : List UInt8 := dkwX2_init_2 ++ dktX2_init_3
def dkwX2_init_1 : List UInt8 := [181, 0, 20, 42, 18, 15, 188, 10, 181, 0, 24, 42, 16, 10, 16, 9, 197, 0, 27, 2, 181, 0, 29, 42]
abbrev dktX2_init_1 : List UInt8 := dkwX2_init_1 ++ dktX2_init_2
def dkwX2_init_0 : List UInt8 := [42, 43, 181, 0, 3, 42, 183, 0, 9, 42, 18, 15, 188, 11, 181, 0, 16, 42, 18, 15, 188, 10]
abbrev dktX2_init_0 : List UInt8 := dkwX2_init_0 ++ dktX2_init_1
theorem dksX2_init_0 : cX2_init.data.toList.drop 0 = dktX2_init_0 := by decide +kernel
theorem dksX2_init_1 : cX2_init.data.toList.drop 22 = dktX2_init_1 := dk_seg dksX2_init_0 22 rfl rfl
theorem dksX2_init_2 : cX2_init.data.toList.drop 46 = dktX2_init_2 := dk_seg dksX2_init_1 24 rfl rfl
theorem dksX2_init_3 : cX2_init.data.toList.drop 70 = dktX2_init_3 := dk_seg dksX2_init_2 24 rfl rfl
theorem dksX2_init_4 : cX2_init.data.toList.drop 94 = dktX2_init_4 := dk_seg dksX2_init_3 24 rfl rfl
theorem dX2_init_0 : decode cX2_init 0 = .ok (.aload_n 0, 1) := dk_42 (dk_at dksX2_init_0 0 rfl rfl)
theorem dX2_init_1 : decode cX2_init 1 = .ok (.aload_n 1, 1) := dk_43 (dk_at dksX2_init_0 1 rfl rfl)
theorem dX2_init_2 : decode cX2_init 2 = .ok (.putfield 3, 3) := dk_181 0 3 (dk_at dksX2_init_0 2 rfl rfl)
theorem dX2_init_5 : decode cX2_init 5 = .ok (.aload_n 0, 1) := dk_42 (dk_at dksX2_init_0 5 rfl rfl)
theorem dX2_init_6 : decode cX2_init 6 = .ok (.invokespecial 9, 3) := dk_183 0 9 (dk_at dksX2_init_0 6 rfl rfl)
theorem dX2_init_9 : decode cX2_init 9 = .ok (.aload_n 0, 1) := dk_42 (dk_at dksX2_init_0 9 rfl rfl)
theorem dX2_init_10 : decode cX2_init 10 = .ok (.ldc 15, 2) := dk_18 15 (dk_at dksX2_init_0 10 rfl rfl)
theorem dX2_init_12 : decode cX2_init 12 = .ok (.newarray .long, 2) := dk_188_11 (dk_at dksX2_init_0 12 rfl rfl)
theorem dX2_init_14 : decode cX2_init 14 = .ok (.putfield 16, 3) := dk_181 0 16 (dk_at dksX2_init_0 14 rfl rfl)
theorem dX2_init_17 : decode cX2_init 17 = .ok (.aload_n 0, 1) := dk_42 (dk_at dksX2_init_0 17 rfl rfl)
theorem dX2_init_18 : decode cX2_init 18 = .ok (.ldc 15, 2) := dk_18 15 (dk_at dksX2_init_0 18 rfl rfl)
theorem dX2_init_20 : decode cX2_init 20 = .ok (.newarray .int, 2) := dk_188_10 (dk_at dksX2_init_0 20 rfl rfl)
theorem dX2_init_22 : decode cX2_init 22 = .ok (.putfield 20, 3) := dk_181 0 20 (dk_at dksX2_init_1 0 rfl rfl)
theorem dX2_init_25 : decode cX2_init 25 = .ok (.aload_n 0, 1) := dk_42 (dk_at dksX2_init_1 3 rfl rfl)
theorem dX2_init_26 : decode cX2_init 26 = .ok (.ldc 15, 2) := dk_18 15 (dk_at dksX2_init_1 4 rfl rfl)
theorem dX2_init_28 : decode cX2_init 28 = .ok (.newarray .int, 2) := dk_188_10 (dk_at dksX2_init_1 6 rfl rfl)
theorem dX2_init_30 : decode cX2_init 30 = .ok (.putfield 24, 3) := dk_181 0 24 (dk_at dksX2_init_1 8 rfl rfl)
theorem dX2_init_33 : decode cX2_init 33 = .ok (.aload_n 0, 1) := dk_42 (dk_at dksX2_init_1 11 rfl rfl)
theorem dX2_init_34 : decode cX2_init 34 = .ok (.bipush 10, 2) := dk_16 10 (dk_at dksX2_init_1 12 rfl rfl)
theorem dX2_init_36 : decode cX2_init 36 = .ok (.bipush 9, 2) := dk_16 9 (dk_at dksX2_init_1 14 rfl rfl)
theorem dX2_init_38 : decode cX2_init 38 = .ok (.multianewarray 27 2, 4) := by decide +kernel
theorem dX2_init_42 : decode cX2_init 42 = .ok (.putfield 29, 3) := dk_181 0 29 (dk_at dksX2_init_1 20 rfl rfl)
theorem dX2_init_45 : decode cX2_init 45 = .ok (.aload_n 0, 1) := dk_42 (dk_at dksX2_init_1 23 rfl rfl)
theorem dX2_init_46 : decode cX2_init 46 = .ok (.sipush 512, 3) := dk_17 2 0 (dk_at dksX2_init_2 0 rfl rfl)
theorem dX2_init_49 : decode cX2_init 49 = .ok (.newarray .int, 2) := dk_188_10 (dk_at dksX2_init_2 3 rfl rfl)
theorem dX2_init_51 : decode cX2_init 51 = .ok (.putfield 32, 3) := dk_181 0 32 (dk_at dksX2_init_2 5 rfl rfl)
theorem dX2_init_54 : decode cX2_init 54 = .ok (.iconst 0, 1) := dk_3 (dk_at dksX2_init_2 8 rfl rfl)
theorem dX2_init_55 : decode cX2_init 55 = .ok (.istore_n 2, 1) := dk_61 (dk_at dksX2_init_2 9 rfl rfl)
theorem dX2_init_56 : decode cX2_init 56 = .ok (.iload_n 2, 1) := dk_28 (dk_at dksX2_init_2 10 rfl rfl)
theorem dX2_init_57 : decode cX2_init 57 = .ok (.aload_n 0, 1) := dk_42 (dk_at dksX2_init_2 11 rfl rfl)
theorem dX2_init_58 : decode cX2_init 58 = .ok (.getfield 32, 3) := dk_180 0 32 (dk_at dksX2_init_2 12 rfl rfl)
theorem dX2_init_61 : decode cX2_init 61 = .ok (.arraylength, 1) := dk_190 (dk_at dksX2_init_2 15 rfl rfl)
theorem dX2_init_62 : decode cX2_init 62 = .ok (.if_icmp .ge 50, 3) := dk_162 0 50 (dk_at dksX2_init_2 16 rfl rfl)
theorem dX2_init_65 : decode cX2_init 65 = .ok (.iconst 0, 1) := dk_3 (dk_at dksX2_init_2 19 rfl rfl)
theorem dX2_init_66 : decode cX2_init 66 = .ok (.istore_n 3, 1) := dk_62 (dk_at dksX2_init_2 20 rfl rfl)
theorem dX2_init_67 : decode cX2_init 67 = .ok (.iload_n 3, 1) := dk_29 (dk_at dksX2_init_2 21 rfl rfl)
theorem dX2_init_68 : decode cX2_init 68 = .ok (.bipush 9, 2) := dk_16 9 (dk_at dksX2_init_2 22 rfl rfl)
theorem dX2_init_70 : decode cX2_init 70 = .ok (.if_icmp .ge 36, 3) := dk_162 0 36 (dk_at dksX2_init_3 0 rfl rfl)
theorem dX2_init_73 : decode cX2_init 73 = .ok (.aload_n 0, 1) := dk_42 (dk_at dksX2_init_3 3 rfl rfl)
theorem dX2_init_74 : decode cX2_init 74 = .ok (.getfield 32, 3) := dk_180 0 32 (dk_at dksX2_init_3 4 rfl rfl)
theorem dX2_init_77 : decode cX2_init 77 = .ok (.iload_n 2, 1) := dk_28 (dk_at dksX2_init_3 7 rfl rfl)
theorem dX2_init_78 : decode cX2_init 78 = .ok (.dup2, 1) := dk_92 (dk_at dksX2_init_3 8 rfl rfl)
theorem dX2_init_79 : decode cX2_init 79 = .ok (.iaload, 1) := dk_46 (dk_at dksX2_init_3 9 rfl rfl)
theorem dX2_init_80 : decode cX2_init 80 = .ok (.iload_n 2, 1) := dk_28 (dk_at dksX2_init_3 10 rfl rfl)
theorem dX2_init_81 : decode cX2_init 81 = .ok (.iload_n 3, 1) := dk_29 (dk_at dksX2_init_3 11 rfl rfl)
theorem dX2_init_82 : decode cX2_init 82 = .ok (.invokestatic 35, 3) := dk_184 0 35 (dk_at dksX2_init_3 12 rfl rfl)
theorem dX2_init_85 : decode cX2_init 85 = .ok (.ifCond .eq 12, 3) := dk_153 0 12 (dk_at dksX2_init_3 15 rfl rfl)
theorem dX2_init_88 : decode cX2_init 88 = .ok (.bipush 7, 2) := dk_16 7 (dk_at dksX2_init_3 18 rfl rfl)
theorem dX2_init_90 : decode cX2_init 90 = .ok (.iconst 3, 1) := dk_6 (dk_at dksX2_init_3 20 rfl rfl)
theorem dX2_init_91 : decode cX2_init 91 = .ok (.iload_n 3, 1) := dk_29 (dk_at dksX2_init_3 21 rfl rfl)
theorem dX2_init_92 : decode cX2_init 92 = .ok (.imul, 1) := dk_104 (dk_at dksX2_init_3 22 rfl rfl)
theorem dX2_init_93 : decode cX2_init 93 = .ok (.ishl, 1) := dk_120 (dk_at dksX2_init_3 23 rfl rfl)
theorem dX2_init_94 : decode cX2_init 94 = .ok (.goto 4, 3) := dk_167 0 4 (dk_at dksX2_init_4 0 rfl rfl)
theorem dX2_init_97 : decode cX2_init 97 = .ok (.iconst 0, 1) := dk_3 (dk_at dksX2_init_4 3 rfl rfl)
theorem dX2_init_98 : decode cX2_init 98 = .ok (.ior, 1) := dk_128 (dk_at dksX2_init_4 4 rfl rfl)
theorem dX2_init_99 : decode cX2_init 99 = .ok (.iastore, 1) := dk_79 (dk_at dksX2_init_4 5 rfl rfl)
theorem dX2_init_100 : decode cX2_init 100 = .ok (.iinc 3 1, 3) := dk_132 3 1 (dk_at dksX2_init_4 6 rfl rfl)
theorem dX2_init_103 : decode cX2_init 103 = .ok (.goto (-36), 3) := dk_167 255 220 (dk_at dksX2_init_4 9 rfl rfl)
theorem dX2_init_106 : decode cX2_init 106 = .ok (.iinc 2 1, 3) := dk_132 2 1 (dk_at dksX2_init_4 12 rfl rfl)
theorem dX2_init_109 : decode cX2_init 109 = .ok (.goto (-53), 3) := dk_167 255 203 (dk_at dksX2_init_4 15 rfl rfl)
theorem dX2_init_112 : decode cX2_init 112 = .ok (.return_, 1) := dk_177 (dk_at dksX2_init_4 18 rfl rfl)
abbrev cX2_together : ByteArray := prog_13_method_5_code
def yX2_together : MethodName := ⟨RX2, "together", "(LColourDuel$Board;I)I"⟩
def dkwX2_together_4 : List UInt8 := [184, 0, 98, 172]
abbrev dktX2_together_4 : List UInt8 := dkwX2_together_4 ++ []
def dkwX2_together_3 : List UInt8 := [184, 0, 95, 96, 54, 5, 21, 6, 21, 7, 2, 130, 126, 54, 6, 167, 255, 184, 29, 21, 4, 21, 5]
abbrev dktX2_together_3 : List UInt8 := dkwX2_together_3 ++ dktX2_together_4
def dkwX2_together_2 : List UInt8 := [29, 21, 8, 184, 0, 89, 130, 62, 21, 4, 21, 8, 184, 0, 92, 96, 54, 4, 21, 5, 21, 8]
abbrev dktX2_together_2 : List UInt8 := dkwX2_together_2 ++ dktX2_together_3
def dkwX2_together_1 : List UInt8 := [182, 0, 72, 54, 7, 42, 43, 21, 7, 43, 180, 0, 77, 21, 7, 184, 0, 80, 46, 182, 0, 85, 54, 8]
abbrev dktX2_together_1 : List UInt8 := dkwX2_together_1 ++ dktX2_together_2
def dkwX2_together_0 : List UInt8 := [3, 62, 3, 54, 4, 3, 54, 5, 28, 54, 6, 21, 6, 153, 0, 73, 43, 180, 0, 53, 21, 6]
abbrev dktX2_together_0 : List UInt8 := dkwX2_together_0 ++ dktX2_together_1
theorem dksX2_together_0 : cX2_together.data.toList.drop 0 = dktX2_together_0 := by decide +kernel
theorem dksX2_together_1 : cX2_together.data.toList.drop 22 = dktX2_together_1 := dk_seg dksX2_together_0 22 rfl rfl
theorem dksX2_together_2 : cX2_together.data.toList.drop 46 = dktX2_together_2 := dk_seg dksX2_together_1 24 rfl rfl
theorem dksX2_together_3 : cX2_together.data.toList.drop 68 = dktX2_together_3 := dk_seg dksX2_together_2 22 rfl rfl
theorem dksX2_together_4 : cX2_together.data.toList.drop 91 = dktX2_together_4 := dk_seg dksX2_together_3 23 rfl rfl
theorem dX2_together_0 : decode cX2_together 0 = .ok (.iconst 0, 1) := dk_3 (dk_at dksX2_together_0 0 rfl rfl)
theorem dX2_together_1 : decode cX2_together 1 = .ok (.istore_n 3, 1) := dk_62 (dk_at dksX2_together_0 1 rfl rfl)
theorem dX2_together_2 : decode cX2_together 2 = .ok (.iconst 0, 1) := dk_3 (dk_at dksX2_together_0 2 rfl rfl)
theorem dX2_together_3 : decode cX2_together 3 = .ok (.istore 4, 2) := dk_54 4 (dk_at dksX2_together_0 3 rfl rfl)
theorem dX2_together_5 : decode cX2_together 5 = .ok (.iconst 0, 1) := dk_3 (dk_at dksX2_together_0 5 rfl rfl)
theorem dX2_together_6 : decode cX2_together 6 = .ok (.istore 5, 2) := dk_54 5 (dk_at dksX2_together_0 6 rfl rfl)
theorem dX2_together_8 : decode cX2_together 8 = .ok (.iload_n 2, 1) := dk_28 (dk_at dksX2_together_0 8 rfl rfl)
theorem dX2_together_9 : decode cX2_together 9 = .ok (.istore 6, 2) := dk_54 6 (dk_at dksX2_together_0 9 rfl rfl)
theorem dX2_together_11 : decode cX2_together 11 = .ok (.iload 6, 2) := dk_21 6 (dk_at dksX2_together_0 11 rfl rfl)
theorem dX2_together_13 : decode cX2_together 13 = .ok (.ifCond .eq 73, 3) := dk_153 0 73 (dk_at dksX2_together_0 13 rfl rfl)
theorem dX2_together_16 : decode cX2_together 16 = .ok (.aload_n 1, 1) := dk_43 (dk_at dksX2_together_0 16 rfl rfl)
theorem dX2_together_17 : decode cX2_together 17 = .ok (.getfield 53, 3) := dk_180 0 53 (dk_at dksX2_together_0 17 rfl rfl)
theorem dX2_together_20 : decode cX2_together 20 = .ok (.iload 6, 2) := dk_21 6 (dk_at dksX2_together_0 20 rfl rfl)
theorem dX2_together_22 : decode cX2_together 22 = .ok (.invokevirtual 72, 3) := dk_182 0 72 (dk_at dksX2_together_1 0 rfl rfl)
theorem dX2_together_25 : decode cX2_together 25 = .ok (.istore 7, 2) := dk_54 7 (dk_at dksX2_together_1 3 rfl rfl)
theorem dX2_together_27 : decode cX2_together 27 = .ok (.aload_n 0, 1) := dk_42 (dk_at dksX2_together_1 5 rfl rfl)
theorem dX2_together_28 : decode cX2_together 28 = .ok (.aload_n 1, 1) := dk_43 (dk_at dksX2_together_1 6 rfl rfl)
theorem dX2_together_29 : decode cX2_together 29 = .ok (.iload 7, 2) := dk_21 7 (dk_at dksX2_together_1 7 rfl rfl)
theorem dX2_together_31 : decode cX2_together 31 = .ok (.aload_n 1, 1) := dk_43 (dk_at dksX2_together_1 9 rfl rfl)
theorem dX2_together_32 : decode cX2_together 32 = .ok (.getfield 77, 3) := dk_180 0 77 (dk_at dksX2_together_1 10 rfl rfl)
theorem dX2_together_35 : decode cX2_together 35 = .ok (.iload 7, 2) := dk_21 7 (dk_at dksX2_together_1 13 rfl rfl)
theorem dX2_together_37 : decode cX2_together 37 = .ok (.invokestatic 80, 3) := dk_184 0 80 (dk_at dksX2_together_1 15 rfl rfl)
theorem dX2_together_40 : decode cX2_together 40 = .ok (.iaload, 1) := dk_46 (dk_at dksX2_together_1 18 rfl rfl)
theorem dX2_together_41 : decode cX2_together 41 = .ok (.invokevirtual 85, 3) := dk_182 0 85 (dk_at dksX2_together_1 19 rfl rfl)
theorem dX2_together_44 : decode cX2_together 44 = .ok (.istore 8, 2) := dk_54 8 (dk_at dksX2_together_1 22 rfl rfl)
theorem dX2_together_46 : decode cX2_together 46 = .ok (.iload_n 3, 1) := dk_29 (dk_at dksX2_together_2 0 rfl rfl)
theorem dX2_together_47 : decode cX2_together 47 = .ok (.iload 8, 2) := dk_21 8 (dk_at dksX2_together_2 1 rfl rfl)
theorem dX2_together_49 : decode cX2_together 49 = .ok (.invokestatic 89, 3) := dk_184 0 89 (dk_at dksX2_together_2 3 rfl rfl)
theorem dX2_together_52 : decode cX2_together 52 = .ok (.ixor, 1) := dk_130 (dk_at dksX2_together_2 6 rfl rfl)
theorem dX2_together_53 : decode cX2_together 53 = .ok (.istore_n 3, 1) := dk_62 (dk_at dksX2_together_2 7 rfl rfl)
theorem dX2_together_54 : decode cX2_together 54 = .ok (.iload 4, 2) := dk_21 4 (dk_at dksX2_together_2 8 rfl rfl)
theorem dX2_together_56 : decode cX2_together 56 = .ok (.iload 8, 2) := dk_21 8 (dk_at dksX2_together_2 10 rfl rfl)
theorem dX2_together_58 : decode cX2_together 58 = .ok (.invokestatic 92, 3) := dk_184 0 92 (dk_at dksX2_together_2 12 rfl rfl)
theorem dX2_together_61 : decode cX2_together 61 = .ok (.iadd, 1) := dk_96 (dk_at dksX2_together_2 15 rfl rfl)
theorem dX2_together_62 : decode cX2_together 62 = .ok (.istore 4, 2) := dk_54 4 (dk_at dksX2_together_2 16 rfl rfl)
theorem dX2_together_64 : decode cX2_together 64 = .ok (.iload 5, 2) := dk_21 5 (dk_at dksX2_together_2 18 rfl rfl)
theorem dX2_together_66 : decode cX2_together 66 = .ok (.iload 8, 2) := dk_21 8 (dk_at dksX2_together_2 20 rfl rfl)
theorem dX2_together_68 : decode cX2_together 68 = .ok (.invokestatic 95, 3) := dk_184 0 95 (dk_at dksX2_together_3 0 rfl rfl)
theorem dX2_together_71 : decode cX2_together 71 = .ok (.iadd, 1) := dk_96 (dk_at dksX2_together_3 3 rfl rfl)
theorem dX2_together_72 : decode cX2_together 72 = .ok (.istore 5, 2) := dk_54 5 (dk_at dksX2_together_3 4 rfl rfl)
theorem dX2_together_74 : decode cX2_together 74 = .ok (.iload 6, 2) := dk_21 6 (dk_at dksX2_together_3 6 rfl rfl)
theorem dX2_together_76 : decode cX2_together 76 = .ok (.iload 7, 2) := dk_21 7 (dk_at dksX2_together_3 8 rfl rfl)
theorem dX2_together_78 : decode cX2_together 78 = .ok (.iconst (-1), 1) := dk_2 (dk_at dksX2_together_3 10 rfl rfl)
theorem dX2_together_79 : decode cX2_together 79 = .ok (.ixor, 1) := dk_130 (dk_at dksX2_together_3 11 rfl rfl)
theorem dX2_together_80 : decode cX2_together 80 = .ok (.iand, 1) := dk_126 (dk_at dksX2_together_3 12 rfl rfl)
theorem dX2_together_81 : decode cX2_together 81 = .ok (.istore 6, 2) := dk_54 6 (dk_at dksX2_together_3 13 rfl rfl)
theorem dX2_together_83 : decode cX2_together 83 = .ok (.goto (-72), 3) := dk_167 255 184 (dk_at dksX2_together_3 15 rfl rfl)
theorem dX2_together_86 : decode cX2_together 86 = .ok (.iload_n 3, 1) := dk_29 (dk_at dksX2_together_3 18 rfl rfl)
theorem dX2_together_87 : decode cX2_together 87 = .ok (.iload 4, 2) := dk_21 4 (dk_at dksX2_together_3 19 rfl rfl)
theorem dX2_together_89 : decode cX2_together 89 = .ok (.iload 5, 2) := dk_21 5 (dk_at dksX2_together_3 21 rfl rfl)
theorem dX2_together_91 : decode cX2_together 91 = .ok (.invokestatic 98, 3) := dk_184 0 98 (dk_at dksX2_together_4 0 rfl rfl)
theorem dX2_together_94 : decode cX2_together 94 = .ok (.ireturn, 1) := dk_172 (dk_at dksX2_together_4 3 rfl rfl)
abbrev cX2_part : ByteArray := prog_13_method_4_code
def yX2_part : MethodName := ⟨RX2, "part", "(LColourDuel$Board;II)I"⟩
def dkwX2_part_1 : List UInt8 := [172]
abbrev dktX2_part_1 : List UInt8 := dkwX2_part_1 ++ []
def dkwX2_part_0 : List UInt8 := [42, 43, 180, 0, 53, 182, 0, 56, 42, 28, 43, 28, 182, 0, 60, 28, 29, 184, 0, 64, 3, 182, 0, 68]
abbrev dktX2_part_0 : List UInt8 := dkwX2_part_0 ++ dktX2_part_1
theorem dksX2_part_0 : cX2_part.data.toList.drop 0 = dktX2_part_0 := by decide +kernel
theorem dksX2_part_1 : cX2_part.data.toList.drop 24 = dktX2_part_1 := dk_seg dksX2_part_0 24 rfl rfl
theorem dX2_part_0 : decode cX2_part 0 = .ok (.aload_n 0, 1) := dk_42 (dk_at dksX2_part_0 0 rfl rfl)
theorem dX2_part_1 : decode cX2_part 1 = .ok (.aload_n 1, 1) := dk_43 (dk_at dksX2_part_0 1 rfl rfl)
theorem dX2_part_2 : decode cX2_part 2 = .ok (.getfield 53, 3) := dk_180 0 53 (dk_at dksX2_part_0 2 rfl rfl)
theorem dX2_part_5 : decode cX2_part 5 = .ok (.invokevirtual 56, 3) := dk_182 0 56 (dk_at dksX2_part_0 5 rfl rfl)
theorem dX2_part_8 : decode cX2_part 8 = .ok (.aload_n 0, 1) := dk_42 (dk_at dksX2_part_0 8 rfl rfl)
theorem dX2_part_9 : decode cX2_part 9 = .ok (.iload_n 2, 1) := dk_28 (dk_at dksX2_part_0 9 rfl rfl)
theorem dX2_part_10 : decode cX2_part 10 = .ok (.aload_n 1, 1) := dk_43 (dk_at dksX2_part_0 10 rfl rfl)
theorem dX2_part_11 : decode cX2_part 11 = .ok (.iload_n 2, 1) := dk_28 (dk_at dksX2_part_0 11 rfl rfl)
theorem dX2_part_12 : decode cX2_part 12 = .ok (.invokevirtual 60, 3) := dk_182 0 60 (dk_at dksX2_part_0 12 rfl rfl)
theorem dX2_part_15 : decode cX2_part 15 = .ok (.iload_n 2, 1) := dk_28 (dk_at dksX2_part_0 15 rfl rfl)
theorem dX2_part_16 : decode cX2_part 16 = .ok (.iload_n 3, 1) := dk_29 (dk_at dksX2_part_0 16 rfl rfl)
theorem dX2_part_17 : decode cX2_part 17 = .ok (.invokestatic 64, 3) := dk_184 0 64 (dk_at dksX2_part_0 17 rfl rfl)
theorem dX2_part_20 : decode cX2_part 20 = .ok (.iconst 0, 1) := dk_3 (dk_at dksX2_part_0 20 rfl rfl)
theorem dX2_part_21 : decode cX2_part 21 = .ok (.invokevirtual 68, 3) := dk_182 0 68 (dk_at dksX2_part_0 21 rfl rfl)
theorem dX2_part_24 : decode cX2_part 24 = .ok (.ireturn, 1) := dk_172 (dk_at dksX2_part_1 0 rfl rfl)
abbrev cX2_begin : ByteArray := prog_13_method_2_code
def yX2_begin : MethodName := ⟨RX2, "begin", "(LColourDuel$Graph;)V"⟩
def dkwX2_begin_1 : List UInt8 := [42, 3, 181, 0, 47, 177]
abbrev dktX2_begin_1 : List UInt8 := dkwX2_begin_1 ++ []
def dkwX2_begin_0 : List UInt8 := [42, 180, 0, 39, 43, 166, 0, 4, 177, 42, 43, 181, 0, 39, 42, 89, 180, 0, 43, 4, 96, 181, 0, 43]
abbrev dktX2_begin_0 : List UInt8 := dkwX2_begin_0 ++ dktX2_begin_1
theorem dksX2_begin_0 : cX2_begin.data.toList.drop 0 = dktX2_begin_0 := by decide +kernel
theorem dksX2_begin_1 : cX2_begin.data.toList.drop 24 = dktX2_begin_1 := dk_seg dksX2_begin_0 24 rfl rfl
theorem dX2_begin_0 : decode cX2_begin 0 = .ok (.aload_n 0, 1) := dk_42 (dk_at dksX2_begin_0 0 rfl rfl)
theorem dX2_begin_1 : decode cX2_begin 1 = .ok (.getfield 39, 3) := dk_180 0 39 (dk_at dksX2_begin_0 1 rfl rfl)
theorem dX2_begin_4 : decode cX2_begin 4 = .ok (.aload_n 1, 1) := dk_43 (dk_at dksX2_begin_0 4 rfl rfl)
theorem dX2_begin_5 : decode cX2_begin 5 = .ok (.if_acmp .ne 4, 3) := dk_166 0 4 (dk_at dksX2_begin_0 5 rfl rfl)
theorem dX2_begin_8 : decode cX2_begin 8 = .ok (.return_, 1) := dk_177 (dk_at dksX2_begin_0 8 rfl rfl)
theorem dX2_begin_9 : decode cX2_begin 9 = .ok (.aload_n 0, 1) := dk_42 (dk_at dksX2_begin_0 9 rfl rfl)
theorem dX2_begin_10 : decode cX2_begin 10 = .ok (.aload_n 1, 1) := dk_43 (dk_at dksX2_begin_0 10 rfl rfl)
theorem dX2_begin_11 : decode cX2_begin 11 = .ok (.putfield 39, 3) := dk_181 0 39 (dk_at dksX2_begin_0 11 rfl rfl)
theorem dX2_begin_14 : decode cX2_begin 14 = .ok (.aload_n 0, 1) := dk_42 (dk_at dksX2_begin_0 14 rfl rfl)
theorem dX2_begin_15 : decode cX2_begin 15 = .ok (.dup, 1) := dk_89 (dk_at dksX2_begin_0 15 rfl rfl)
theorem dX2_begin_16 : decode cX2_begin 16 = .ok (.getfield 43, 3) := dk_180 0 43 (dk_at dksX2_begin_0 16 rfl rfl)
theorem dX2_begin_19 : decode cX2_begin 19 = .ok (.iconst 1, 1) := dk_4 (dk_at dksX2_begin_0 19 rfl rfl)
theorem dX2_begin_20 : decode cX2_begin 20 = .ok (.iadd, 1) := dk_96 (dk_at dksX2_begin_0 20 rfl rfl)
theorem dX2_begin_21 : decode cX2_begin 21 = .ok (.putfield 43, 3) := dk_181 0 43 (dk_at dksX2_begin_0 21 rfl rfl)
theorem dX2_begin_24 : decode cX2_begin 24 = .ok (.aload_n 0, 1) := dk_42 (dk_at dksX2_begin_1 0 rfl rfl)
theorem dX2_begin_25 : decode cX2_begin 25 = .ok (.iconst 0, 1) := dk_3 (dk_at dksX2_begin_1 1 rfl rfl)
theorem dX2_begin_26 : decode cX2_begin 26 = .ok (.putfield 47, 3) := dk_181 0 47 (dk_at dksX2_begin_1 2 rfl rfl)
theorem dX2_begin_29 : decode cX2_begin 29 = .ok (.return_, 1) := dk_177 (dk_at dksX2_begin_1 5 rfl rfl)
abbrev cX2_solve : ByteArray := prog_13_method_6_code
def yX2_solve : MethodName := ⟨RX2, "solve", "(IIII)I"⟩
def dkwX2_solve_5 : List UInt8 := [180, 0, 16, 21, 7, 22, 5, 80, 42, 180, 0, 20, 21, 7, 21, 8, 79, 21, 8, 172]
abbrev dktX2_solve_5 : List UInt8 := dkwX2_solve_5 ++ []
def dkwX2_solve_4 : List UInt8 := [160, 0, 7, 3, 167, 0, 4, 4, 96, 181, 0, 47, 42, 180, 0, 24, 21, 7, 42, 180, 0, 43, 79, 42]
abbrev dktX2_solve_4 : List UInt8 := dkwX2_solve_4 ++ dktX2_solve_5
def dkwX2_solve_3 : List UInt8 := [22, 5, 182, 0, 102, 54, 7, 42, 89, 180, 0, 47, 42, 180, 0, 24, 21, 7, 46, 42, 180, 0, 43]
abbrev dktX2_solve_3 : List UInt8 := dkwX2_solve_3 ++ dktX2_solve_4
def dkwX2_solve_2 : List UInt8 := [42, 27, 28, 29, 21, 4, 182, 0, 106, 54, 8, 42, 180, 0, 47, 18, 109, 160, 0, 6, 21, 8, 172, 42]
abbrev dktX2_solve_2 : List UInt8 := dkwX2_solve_2 ++ dktX2_solve_3
def dkwX2_solve_1 : List UInt8 := [54, 7, 42, 180, 0, 24, 21, 7, 46, 42, 180, 0, 43, 160, 0, 11, 42, 180, 0, 20, 21, 7, 46, 172]
abbrev dktX2_solve_1 : List UInt8 := dkwX2_solve_1 ++ dktX2_solve_2
def dkwX2_solve_0 : List UInt8 := [28, 133, 16, 9, 121, 27, 133, 129, 5, 121, 29, 4, 96, 133, 129, 55, 5, 42, 22, 5, 182, 0, 102]
abbrev dktX2_solve_0 : List UInt8 := dkwX2_solve_0 ++ dktX2_solve_1
theorem dksX2_solve_0 : cX2_solve.data.toList.drop 0 = dktX2_solve_0 := by decide +kernel
theorem dksX2_solve_1 : cX2_solve.data.toList.drop 23 = dktX2_solve_1 := dk_seg dksX2_solve_0 23 rfl rfl
theorem dksX2_solve_2 : cX2_solve.data.toList.drop 47 = dktX2_solve_2 := dk_seg dksX2_solve_1 24 rfl rfl
theorem dksX2_solve_3 : cX2_solve.data.toList.drop 71 = dktX2_solve_3 := dk_seg dksX2_solve_2 24 rfl rfl
theorem dksX2_solve_4 : cX2_solve.data.toList.drop 94 = dktX2_solve_4 := dk_seg dksX2_solve_3 23 rfl rfl
theorem dksX2_solve_5 : cX2_solve.data.toList.drop 118 = dktX2_solve_5 := dk_seg dksX2_solve_4 24 rfl rfl
theorem dX2_solve_0 : decode cX2_solve 0 = .ok (.iload_n 2, 1) := dk_28 (dk_at dksX2_solve_0 0 rfl rfl)
theorem dX2_solve_1 : decode cX2_solve 1 = .ok (.i2l, 1) := dk_133 (dk_at dksX2_solve_0 1 rfl rfl)
theorem dX2_solve_2 : decode cX2_solve 2 = .ok (.bipush 9, 2) := dk_16 9 (dk_at dksX2_solve_0 2 rfl rfl)
theorem dX2_solve_4 : decode cX2_solve 4 = .ok (.lshl, 1) := dk_121 (dk_at dksX2_solve_0 4 rfl rfl)
theorem dX2_solve_5 : decode cX2_solve 5 = .ok (.iload_n 1, 1) := dk_27 (dk_at dksX2_solve_0 5 rfl rfl)
theorem dX2_solve_6 : decode cX2_solve 6 = .ok (.i2l, 1) := dk_133 (dk_at dksX2_solve_0 6 rfl rfl)
theorem dX2_solve_7 : decode cX2_solve 7 = .ok (.lor, 1) := dk_129 (dk_at dksX2_solve_0 7 rfl rfl)
theorem dX2_solve_8 : decode cX2_solve 8 = .ok (.iconst 2, 1) := dk_5 (dk_at dksX2_solve_0 8 rfl rfl)
theorem dX2_solve_9 : decode cX2_solve 9 = .ok (.lshl, 1) := dk_121 (dk_at dksX2_solve_0 9 rfl rfl)
theorem dX2_solve_10 : decode cX2_solve 10 = .ok (.iload_n 3, 1) := dk_29 (dk_at dksX2_solve_0 10 rfl rfl)
theorem dX2_solve_11 : decode cX2_solve 11 = .ok (.iconst 1, 1) := dk_4 (dk_at dksX2_solve_0 11 rfl rfl)
theorem dX2_solve_12 : decode cX2_solve 12 = .ok (.iadd, 1) := dk_96 (dk_at dksX2_solve_0 12 rfl rfl)
theorem dX2_solve_13 : decode cX2_solve 13 = .ok (.i2l, 1) := dk_133 (dk_at dksX2_solve_0 13 rfl rfl)
theorem dX2_solve_14 : decode cX2_solve 14 = .ok (.lor, 1) := dk_129 (dk_at dksX2_solve_0 14 rfl rfl)
theorem dX2_solve_15 : decode cX2_solve 15 = .ok (.lstore 5, 2) := dk_55 5 (dk_at dksX2_solve_0 15 rfl rfl)
theorem dX2_solve_17 : decode cX2_solve 17 = .ok (.aload_n 0, 1) := dk_42 (dk_at dksX2_solve_0 17 rfl rfl)
theorem dX2_solve_18 : decode cX2_solve 18 = .ok (.lload 5, 2) := dk_22 5 (dk_at dksX2_solve_0 18 rfl rfl)
theorem dX2_solve_20 : decode cX2_solve 20 = .ok (.invokevirtual 102, 3) := dk_182 0 102 (dk_at dksX2_solve_0 20 rfl rfl)
theorem dX2_solve_23 : decode cX2_solve 23 = .ok (.istore 7, 2) := dk_54 7 (dk_at dksX2_solve_1 0 rfl rfl)
theorem dX2_solve_25 : decode cX2_solve 25 = .ok (.aload_n 0, 1) := dk_42 (dk_at dksX2_solve_1 2 rfl rfl)
theorem dX2_solve_26 : decode cX2_solve 26 = .ok (.getfield 24, 3) := dk_180 0 24 (dk_at dksX2_solve_1 3 rfl rfl)
theorem dX2_solve_29 : decode cX2_solve 29 = .ok (.iload 7, 2) := dk_21 7 (dk_at dksX2_solve_1 6 rfl rfl)
theorem dX2_solve_31 : decode cX2_solve 31 = .ok (.iaload, 1) := dk_46 (dk_at dksX2_solve_1 8 rfl rfl)
theorem dX2_solve_32 : decode cX2_solve 32 = .ok (.aload_n 0, 1) := dk_42 (dk_at dksX2_solve_1 9 rfl rfl)
theorem dX2_solve_33 : decode cX2_solve 33 = .ok (.getfield 43, 3) := dk_180 0 43 (dk_at dksX2_solve_1 10 rfl rfl)
theorem dX2_solve_36 : decode cX2_solve 36 = .ok (.if_icmp .ne 11, 3) := dk_160 0 11 (dk_at dksX2_solve_1 13 rfl rfl)
theorem dX2_solve_39 : decode cX2_solve 39 = .ok (.aload_n 0, 1) := dk_42 (dk_at dksX2_solve_1 16 rfl rfl)
theorem dX2_solve_40 : decode cX2_solve 40 = .ok (.getfield 20, 3) := dk_180 0 20 (dk_at dksX2_solve_1 17 rfl rfl)
theorem dX2_solve_43 : decode cX2_solve 43 = .ok (.iload 7, 2) := dk_21 7 (dk_at dksX2_solve_1 20 rfl rfl)
theorem dX2_solve_45 : decode cX2_solve 45 = .ok (.iaload, 1) := dk_46 (dk_at dksX2_solve_1 22 rfl rfl)
theorem dX2_solve_46 : decode cX2_solve 46 = .ok (.ireturn, 1) := dk_172 (dk_at dksX2_solve_1 23 rfl rfl)
theorem dX2_solve_47 : decode cX2_solve 47 = .ok (.aload_n 0, 1) := dk_42 (dk_at dksX2_solve_2 0 rfl rfl)
theorem dX2_solve_48 : decode cX2_solve 48 = .ok (.iload_n 1, 1) := dk_27 (dk_at dksX2_solve_2 1 rfl rfl)
theorem dX2_solve_49 : decode cX2_solve 49 = .ok (.iload_n 2, 1) := dk_28 (dk_at dksX2_solve_2 2 rfl rfl)
theorem dX2_solve_50 : decode cX2_solve 50 = .ok (.iload_n 3, 1) := dk_29 (dk_at dksX2_solve_2 3 rfl rfl)
theorem dX2_solve_51 : decode cX2_solve 51 = .ok (.iload 4, 2) := dk_21 4 (dk_at dksX2_solve_2 4 rfl rfl)
theorem dX2_solve_53 : decode cX2_solve 53 = .ok (.invokevirtual 106, 3) := dk_182 0 106 (dk_at dksX2_solve_2 6 rfl rfl)
theorem dX2_solve_56 : decode cX2_solve 56 = .ok (.istore 8, 2) := dk_54 8 (dk_at dksX2_solve_2 9 rfl rfl)
theorem dX2_solve_58 : decode cX2_solve 58 = .ok (.aload_n 0, 1) := dk_42 (dk_at dksX2_solve_2 11 rfl rfl)
theorem dX2_solve_59 : decode cX2_solve 59 = .ok (.getfield 47, 3) := dk_180 0 47 (dk_at dksX2_solve_2 12 rfl rfl)
theorem dX2_solve_62 : decode cX2_solve 62 = .ok (.ldc 109, 2) := dk_18 109 (dk_at dksX2_solve_2 15 rfl rfl)
theorem dX2_solve_64 : decode cX2_solve 64 = .ok (.if_icmp .ne 6, 3) := dk_160 0 6 (dk_at dksX2_solve_2 17 rfl rfl)
theorem dX2_solve_67 : decode cX2_solve 67 = .ok (.iload 8, 2) := dk_21 8 (dk_at dksX2_solve_2 20 rfl rfl)
theorem dX2_solve_69 : decode cX2_solve 69 = .ok (.ireturn, 1) := dk_172 (dk_at dksX2_solve_2 22 rfl rfl)
theorem dX2_solve_70 : decode cX2_solve 70 = .ok (.aload_n 0, 1) := dk_42 (dk_at dksX2_solve_2 23 rfl rfl)
theorem dX2_solve_71 : decode cX2_solve 71 = .ok (.lload 5, 2) := dk_22 5 (dk_at dksX2_solve_3 0 rfl rfl)
theorem dX2_solve_73 : decode cX2_solve 73 = .ok (.invokevirtual 102, 3) := dk_182 0 102 (dk_at dksX2_solve_3 2 rfl rfl)
theorem dX2_solve_76 : decode cX2_solve 76 = .ok (.istore 7, 2) := dk_54 7 (dk_at dksX2_solve_3 5 rfl rfl)
theorem dX2_solve_78 : decode cX2_solve 78 = .ok (.aload_n 0, 1) := dk_42 (dk_at dksX2_solve_3 7 rfl rfl)
theorem dX2_solve_79 : decode cX2_solve 79 = .ok (.dup, 1) := dk_89 (dk_at dksX2_solve_3 8 rfl rfl)
theorem dX2_solve_80 : decode cX2_solve 80 = .ok (.getfield 47, 3) := dk_180 0 47 (dk_at dksX2_solve_3 9 rfl rfl)
theorem dX2_solve_83 : decode cX2_solve 83 = .ok (.aload_n 0, 1) := dk_42 (dk_at dksX2_solve_3 12 rfl rfl)
theorem dX2_solve_84 : decode cX2_solve 84 = .ok (.getfield 24, 3) := dk_180 0 24 (dk_at dksX2_solve_3 13 rfl rfl)
theorem dX2_solve_87 : decode cX2_solve 87 = .ok (.iload 7, 2) := dk_21 7 (dk_at dksX2_solve_3 16 rfl rfl)
theorem dX2_solve_89 : decode cX2_solve 89 = .ok (.iaload, 1) := dk_46 (dk_at dksX2_solve_3 18 rfl rfl)
theorem dX2_solve_90 : decode cX2_solve 90 = .ok (.aload_n 0, 1) := dk_42 (dk_at dksX2_solve_3 19 rfl rfl)
theorem dX2_solve_91 : decode cX2_solve 91 = .ok (.getfield 43, 3) := dk_180 0 43 (dk_at dksX2_solve_3 20 rfl rfl)
theorem dX2_solve_94 : decode cX2_solve 94 = .ok (.if_icmp .ne 7, 3) := dk_160 0 7 (dk_at dksX2_solve_4 0 rfl rfl)
theorem dX2_solve_97 : decode cX2_solve 97 = .ok (.iconst 0, 1) := dk_3 (dk_at dksX2_solve_4 3 rfl rfl)
theorem dX2_solve_98 : decode cX2_solve 98 = .ok (.goto 4, 3) := dk_167 0 4 (dk_at dksX2_solve_4 4 rfl rfl)
theorem dX2_solve_101 : decode cX2_solve 101 = .ok (.iconst 1, 1) := dk_4 (dk_at dksX2_solve_4 7 rfl rfl)
theorem dX2_solve_102 : decode cX2_solve 102 = .ok (.iadd, 1) := dk_96 (dk_at dksX2_solve_4 8 rfl rfl)
theorem dX2_solve_103 : decode cX2_solve 103 = .ok (.putfield 47, 3) := dk_181 0 47 (dk_at dksX2_solve_4 9 rfl rfl)
theorem dX2_solve_106 : decode cX2_solve 106 = .ok (.aload_n 0, 1) := dk_42 (dk_at dksX2_solve_4 12 rfl rfl)
theorem dX2_solve_107 : decode cX2_solve 107 = .ok (.getfield 24, 3) := dk_180 0 24 (dk_at dksX2_solve_4 13 rfl rfl)
theorem dX2_solve_110 : decode cX2_solve 110 = .ok (.iload 7, 2) := dk_21 7 (dk_at dksX2_solve_4 16 rfl rfl)
theorem dX2_solve_112 : decode cX2_solve 112 = .ok (.aload_n 0, 1) := dk_42 (dk_at dksX2_solve_4 18 rfl rfl)
theorem dX2_solve_113 : decode cX2_solve 113 = .ok (.getfield 43, 3) := dk_180 0 43 (dk_at dksX2_solve_4 19 rfl rfl)
theorem dX2_solve_116 : decode cX2_solve 116 = .ok (.iastore, 1) := dk_79 (dk_at dksX2_solve_4 22 rfl rfl)
theorem dX2_solve_117 : decode cX2_solve 117 = .ok (.aload_n 0, 1) := dk_42 (dk_at dksX2_solve_4 23 rfl rfl)
theorem dX2_solve_118 : decode cX2_solve 118 = .ok (.getfield 16, 3) := dk_180 0 16 (dk_at dksX2_solve_5 0 rfl rfl)
theorem dX2_solve_121 : decode cX2_solve 121 = .ok (.iload 7, 2) := dk_21 7 (dk_at dksX2_solve_5 3 rfl rfl)
theorem dX2_solve_123 : decode cX2_solve 123 = .ok (.lload 5, 2) := dk_22 5 (dk_at dksX2_solve_5 5 rfl rfl)
theorem dX2_solve_125 : decode cX2_solve 125 = .ok (.lastore, 1) := dk_80 (dk_at dksX2_solve_5 7 rfl rfl)
theorem dX2_solve_126 : decode cX2_solve 126 = .ok (.aload_n 0, 1) := dk_42 (dk_at dksX2_solve_5 8 rfl rfl)
theorem dX2_solve_127 : decode cX2_solve 127 = .ok (.getfield 20, 3) := dk_180 0 20 (dk_at dksX2_solve_5 9 rfl rfl)
theorem dX2_solve_130 : decode cX2_solve 130 = .ok (.iload 7, 2) := dk_21 7 (dk_at dksX2_solve_5 12 rfl rfl)
theorem dX2_solve_132 : decode cX2_solve 132 = .ok (.iload 8, 2) := dk_21 8 (dk_at dksX2_solve_5 14 rfl rfl)
theorem dX2_solve_134 : decode cX2_solve 134 = .ok (.iastore, 1) := dk_79 (dk_at dksX2_solve_5 16 rfl rfl)
theorem dX2_solve_135 : decode cX2_solve 135 = .ok (.iload 8, 2) := dk_21 8 (dk_at dksX2_solve_5 17 rfl rfl)
theorem dX2_solve_137 : decode cX2_solve 137 = .ok (.ireturn, 1) := dk_172 (dk_at dksX2_solve_5 19 rfl rfl)
abbrev cX2_place : ByteArray := prog_13_method_3_code
def yX2_place : MethodName := ⟨RX2, "place", "(J)I"⟩
def dkwX2_place_2 : List UInt8 := [29, 172]
abbrev dktX2_place_2 : List UInt8 := dkwX2_place_2 ++ []
def dkwX2_place_1 : List UInt8 := [160, 0, 24, 42, 180, 0, 16, 29, 47, 31, 148, 153, 0, 13, 29, 4, 96, 18, 52, 126, 62, 167, 255, 225]
abbrev dktX2_place_1 : List UInt8 := dkwX2_place_1 ++ dktX2_place_2
def dkwX2_place_0 : List UInt8 := [31, 20, 0, 50, 105, 16, 48, 125, 136, 18, 52, 126, 62, 42, 180, 0, 24, 29, 46, 42, 180, 0, 43]
abbrev dktX2_place_0 : List UInt8 := dkwX2_place_0 ++ dktX2_place_1
theorem dksX2_place_0 : cX2_place.data.toList.drop 0 = dktX2_place_0 := by decide +kernel
theorem dksX2_place_1 : cX2_place.data.toList.drop 23 = dktX2_place_1 := dk_seg dksX2_place_0 23 rfl rfl
theorem dksX2_place_2 : cX2_place.data.toList.drop 47 = dktX2_place_2 := dk_seg dksX2_place_1 24 rfl rfl
theorem dX2_place_0 : decode cX2_place 0 = .ok (.lload_n 1, 1) := dk_31 (dk_at dksX2_place_0 0 rfl rfl)
theorem dX2_place_1 : decode cX2_place 1 = .ok (.ldc2_w 50, 3) := dk_20 0 50 (dk_at dksX2_place_0 1 rfl rfl)
theorem dX2_place_4 : decode cX2_place 4 = .ok (.lmul, 1) := dk_105 (dk_at dksX2_place_0 4 rfl rfl)
theorem dX2_place_5 : decode cX2_place 5 = .ok (.bipush 48, 2) := dk_16 48 (dk_at dksX2_place_0 5 rfl rfl)
theorem dX2_place_7 : decode cX2_place 7 = .ok (.lushr, 1) := dk_125 (dk_at dksX2_place_0 7 rfl rfl)
theorem dX2_place_8 : decode cX2_place 8 = .ok (.l2i, 1) := dk_136 (dk_at dksX2_place_0 8 rfl rfl)
theorem dX2_place_9 : decode cX2_place 9 = .ok (.ldc 52, 2) := dk_18 52 (dk_at dksX2_place_0 9 rfl rfl)
theorem dX2_place_11 : decode cX2_place 11 = .ok (.iand, 1) := dk_126 (dk_at dksX2_place_0 11 rfl rfl)
theorem dX2_place_12 : decode cX2_place 12 = .ok (.istore_n 3, 1) := dk_62 (dk_at dksX2_place_0 12 rfl rfl)
theorem dX2_place_13 : decode cX2_place 13 = .ok (.aload_n 0, 1) := dk_42 (dk_at dksX2_place_0 13 rfl rfl)
theorem dX2_place_14 : decode cX2_place 14 = .ok (.getfield 24, 3) := dk_180 0 24 (dk_at dksX2_place_0 14 rfl rfl)
theorem dX2_place_17 : decode cX2_place 17 = .ok (.iload_n 3, 1) := dk_29 (dk_at dksX2_place_0 17 rfl rfl)
theorem dX2_place_18 : decode cX2_place 18 = .ok (.iaload, 1) := dk_46 (dk_at dksX2_place_0 18 rfl rfl)
theorem dX2_place_19 : decode cX2_place 19 = .ok (.aload_n 0, 1) := dk_42 (dk_at dksX2_place_0 19 rfl rfl)
theorem dX2_place_20 : decode cX2_place 20 = .ok (.getfield 43, 3) := dk_180 0 43 (dk_at dksX2_place_0 20 rfl rfl)
theorem dX2_place_23 : decode cX2_place 23 = .ok (.if_icmp .ne 24, 3) := dk_160 0 24 (dk_at dksX2_place_1 0 rfl rfl)
theorem dX2_place_26 : decode cX2_place 26 = .ok (.aload_n 0, 1) := dk_42 (dk_at dksX2_place_1 3 rfl rfl)
theorem dX2_place_27 : decode cX2_place 27 = .ok (.getfield 16, 3) := dk_180 0 16 (dk_at dksX2_place_1 4 rfl rfl)
theorem dX2_place_30 : decode cX2_place 30 = .ok (.iload_n 3, 1) := dk_29 (dk_at dksX2_place_1 7 rfl rfl)
theorem dX2_place_31 : decode cX2_place 31 = .ok (.laload, 1) := dk_47 (dk_at dksX2_place_1 8 rfl rfl)
theorem dX2_place_32 : decode cX2_place 32 = .ok (.lload_n 1, 1) := dk_31 (dk_at dksX2_place_1 9 rfl rfl)
theorem dX2_place_33 : decode cX2_place 33 = .ok (.lcmp, 1) := dk_148 (dk_at dksX2_place_1 10 rfl rfl)
theorem dX2_place_34 : decode cX2_place 34 = .ok (.ifCond .eq 13, 3) := dk_153 0 13 (dk_at dksX2_place_1 11 rfl rfl)
theorem dX2_place_37 : decode cX2_place 37 = .ok (.iload_n 3, 1) := dk_29 (dk_at dksX2_place_1 14 rfl rfl)
theorem dX2_place_38 : decode cX2_place 38 = .ok (.iconst 1, 1) := dk_4 (dk_at dksX2_place_1 15 rfl rfl)
theorem dX2_place_39 : decode cX2_place 39 = .ok (.iadd, 1) := dk_96 (dk_at dksX2_place_1 16 rfl rfl)
theorem dX2_place_40 : decode cX2_place 40 = .ok (.ldc 52, 2) := dk_18 52 (dk_at dksX2_place_1 17 rfl rfl)
theorem dX2_place_42 : decode cX2_place 42 = .ok (.iand, 1) := dk_126 (dk_at dksX2_place_1 19 rfl rfl)
theorem dX2_place_43 : decode cX2_place 43 = .ok (.istore_n 3, 1) := dk_62 (dk_at dksX2_place_1 20 rfl rfl)
theorem dX2_place_44 : decode cX2_place 44 = .ok (.goto (-31), 3) := dk_167 255 225 (dk_at dksX2_place_1 21 rfl rfl)
theorem dX2_place_47 : decode cX2_place 47 = .ok (.iload_n 3, 1) := dk_29 (dk_at dksX2_place_2 0 rfl rfl)
theorem dX2_place_48 : decode cX2_place 48 = .ok (.ireturn, 1) := dk_172 (dk_at dksX2_place_2 1 rfl rfl)
abbrev cX2_look : ByteArray := prog_13_method_7_code
def yX2_look : MethodName := ⟨RX2, "look", "(IIII)I"⟩
def dkwX2_look_9 : List UInt8 := [21, 6, 3, 21, 7, 184, 0, 122, 184, 0, 98, 172]
abbrev dktX2_look_9 : List UInt8 := dkwX2_look_9 ++ []
def dkwX2_look_8 : List UInt8 := [184, 0, 127, 54, 7, 132, 11, 1, 167, 255, 154, 132, 8, 1, 167, 255, 69, 21, 5, 2, 130, 184, 0, 80]
abbrev dktX2_look_8 : List UInt8 := dkwX2_look_8 ++ dktX2_look_9
def dkwX2_look_7 : List UInt8 := [160, 0, 13, 4, 21, 12, 184, 0, 95, 96, 167, 0, 15, 21, 7, 4, 21, 12, 184, 0, 95, 96]
abbrev dktX2_look_7 : List UInt8 := dkwX2_look_7 ++ dktX2_look_8
def dkwX2_look_6 : List UInt8 := [184, 0, 89, 120, 128, 54, 5, 21, 6, 4, 21, 12, 184, 0, 92, 96, 184, 0, 122, 54, 6, 21, 7, 2]
abbrev dktX2_look_6 : List UInt8 := dkwX2_look_6 ++ dktX2_look_7
def dkwX2_look_5 : List UInt8 := [182, 0, 116, 2, 130, 126, 21, 10, 21, 11, 21, 4, 182, 0, 119, 54, 12, 21, 5, 4, 21, 12]
abbrev dktX2_look_5 : List UInt8 := dkwX2_look_5 ++ dktX2_look_6
def dkwX2_look_4 : List UInt8 := [6, 162, 0, 102, 21, 9, 21, 11, 184, 0, 35, 154, 0, 6, 167, 0, 83, 42, 28, 42, 21, 8, 21, 11]
abbrev dktX2_look_4 : List UInt8 := dkwX2_look_4 ++ dktX2_look_5
def dkwX2_look_3 : List UInt8 := [167, 0, 17, 42, 27, 4, 21, 8, 120, 2, 130, 126, 21, 4, 182, 0, 113, 54, 10, 3, 54, 11, 21, 11]
abbrev dktX2_look_3 : List UInt8 := dkwX2_look_3 ++ dktX2_look_4
def dkwX2_look_2 : List UInt8 := [160, 0, 8, 16, 7, 167, 0, 8, 4, 29, 120, 2, 130, 126, 54, 9, 21, 9, 154, 0, 7, 3]
abbrev dktX2_look_2 : List UInt8 := dkwX2_look_2 ++ dktX2_look_3
def dkwX2_look_1 : List UInt8 := [27, 21, 8, 184, 0, 35, 154, 0, 6, 167, 0, 163, 28, 6, 21, 8, 104, 122, 16, 7, 126, 29, 2]
abbrev dktX2_look_1 : List UInt8 := dkwX2_look_1 ++ dktX2_look_2
def dkwX2_look_0 : List UInt8 := [3, 54, 5, 3, 54, 6, 2, 54, 7, 3, 54, 8, 21, 8, 42, 180, 0, 39, 180, 0, 110, 162, 0, 181]
abbrev dktX2_look_0 : List UInt8 := dkwX2_look_0 ++ dktX2_look_1
theorem dksX2_look_0 : cX2_look.data.toList.drop 0 = dktX2_look_0 := by decide +kernel
theorem dksX2_look_1 : cX2_look.data.toList.drop 24 = dktX2_look_1 := dk_seg dksX2_look_0 24 rfl rfl
theorem dksX2_look_2 : cX2_look.data.toList.drop 47 = dktX2_look_2 := dk_seg dksX2_look_1 23 rfl rfl
theorem dksX2_look_3 : cX2_look.data.toList.drop 69 = dktX2_look_3 := dk_seg dksX2_look_2 22 rfl rfl
theorem dksX2_look_4 : cX2_look.data.toList.drop 93 = dktX2_look_4 := dk_seg dksX2_look_3 24 rfl rfl
theorem dksX2_look_5 : cX2_look.data.toList.drop 117 = dktX2_look_5 := dk_seg dksX2_look_4 24 rfl rfl
theorem dksX2_look_6 : cX2_look.data.toList.drop 139 = dktX2_look_6 := dk_seg dksX2_look_5 22 rfl rfl
theorem dksX2_look_7 : cX2_look.data.toList.drop 163 = dktX2_look_7 := dk_seg dksX2_look_6 24 rfl rfl
theorem dksX2_look_8 : cX2_look.data.toList.drop 185 = dktX2_look_8 := dk_seg dksX2_look_7 22 rfl rfl
theorem dksX2_look_9 : cX2_look.data.toList.drop 209 = dktX2_look_9 := dk_seg dksX2_look_8 24 rfl rfl
theorem dX2_look_0 : decode cX2_look 0 = .ok (.iconst 0, 1) := dk_3 (dk_at dksX2_look_0 0 rfl rfl)
theorem dX2_look_1 : decode cX2_look 1 = .ok (.istore 5, 2) := dk_54 5 (dk_at dksX2_look_0 1 rfl rfl)
theorem dX2_look_3 : decode cX2_look 3 = .ok (.iconst 0, 1) := dk_3 (dk_at dksX2_look_0 3 rfl rfl)
theorem dX2_look_4 : decode cX2_look 4 = .ok (.istore 6, 2) := dk_54 6 (dk_at dksX2_look_0 4 rfl rfl)
theorem dX2_look_6 : decode cX2_look 6 = .ok (.iconst (-1), 1) := dk_2 (dk_at dksX2_look_0 6 rfl rfl)
theorem dX2_look_7 : decode cX2_look 7 = .ok (.istore 7, 2) := dk_54 7 (dk_at dksX2_look_0 7 rfl rfl)
theorem dX2_look_9 : decode cX2_look 9 = .ok (.iconst 0, 1) := dk_3 (dk_at dksX2_look_0 9 rfl rfl)
theorem dX2_look_10 : decode cX2_look 10 = .ok (.istore 8, 2) := dk_54 8 (dk_at dksX2_look_0 10 rfl rfl)
theorem dX2_look_12 : decode cX2_look 12 = .ok (.iload 8, 2) := dk_21 8 (dk_at dksX2_look_0 12 rfl rfl)
theorem dX2_look_14 : decode cX2_look 14 = .ok (.aload_n 0, 1) := dk_42 (dk_at dksX2_look_0 14 rfl rfl)
theorem dX2_look_15 : decode cX2_look 15 = .ok (.getfield 39, 3) := dk_180 0 39 (dk_at dksX2_look_0 15 rfl rfl)
theorem dX2_look_18 : decode cX2_look 18 = .ok (.getfield 110, 3) := dk_180 0 110 (dk_at dksX2_look_0 18 rfl rfl)
theorem dX2_look_21 : decode cX2_look 21 = .ok (.if_icmp .ge 181, 3) := dk_162 0 181 (dk_at dksX2_look_0 21 rfl rfl)
theorem dX2_look_24 : decode cX2_look 24 = .ok (.iload_n 1, 1) := dk_27 (dk_at dksX2_look_1 0 rfl rfl)
theorem dX2_look_25 : decode cX2_look 25 = .ok (.iload 8, 2) := dk_21 8 (dk_at dksX2_look_1 1 rfl rfl)
theorem dX2_look_27 : decode cX2_look 27 = .ok (.invokestatic 35, 3) := dk_184 0 35 (dk_at dksX2_look_1 3 rfl rfl)
theorem dX2_look_30 : decode cX2_look 30 = .ok (.ifCond .ne 6, 3) := dk_154 0 6 (dk_at dksX2_look_1 6 rfl rfl)
theorem dX2_look_33 : decode cX2_look 33 = .ok (.goto 163, 3) := dk_167 0 163 (dk_at dksX2_look_1 9 rfl rfl)
theorem dX2_look_36 : decode cX2_look 36 = .ok (.iload_n 2, 1) := dk_28 (dk_at dksX2_look_1 12 rfl rfl)
theorem dX2_look_37 : decode cX2_look 37 = .ok (.iconst 3, 1) := dk_6 (dk_at dksX2_look_1 13 rfl rfl)
theorem dX2_look_38 : decode cX2_look 38 = .ok (.iload 8, 2) := dk_21 8 (dk_at dksX2_look_1 14 rfl rfl)
theorem dX2_look_40 : decode cX2_look 40 = .ok (.imul, 1) := dk_104 (dk_at dksX2_look_1 16 rfl rfl)
theorem dX2_look_41 : decode cX2_look 41 = .ok (.ishr, 1) := dk_122 (dk_at dksX2_look_1 17 rfl rfl)
theorem dX2_look_42 : decode cX2_look 42 = .ok (.bipush 7, 2) := dk_16 7 (dk_at dksX2_look_1 18 rfl rfl)
theorem dX2_look_44 : decode cX2_look 44 = .ok (.iand, 1) := dk_126 (dk_at dksX2_look_1 20 rfl rfl)
theorem dX2_look_45 : decode cX2_look 45 = .ok (.iload_n 3, 1) := dk_29 (dk_at dksX2_look_1 21 rfl rfl)
theorem dX2_look_46 : decode cX2_look 46 = .ok (.iconst (-1), 1) := dk_2 (dk_at dksX2_look_1 22 rfl rfl)
theorem dX2_look_47 : decode cX2_look 47 = .ok (.if_icmp .ne 8, 3) := dk_160 0 8 (dk_at dksX2_look_2 0 rfl rfl)
theorem dX2_look_50 : decode cX2_look 50 = .ok (.bipush 7, 2) := dk_16 7 (dk_at dksX2_look_2 3 rfl rfl)
theorem dX2_look_52 : decode cX2_look 52 = .ok (.goto 8, 3) := dk_167 0 8 (dk_at dksX2_look_2 5 rfl rfl)
theorem dX2_look_55 : decode cX2_look 55 = .ok (.iconst 1, 1) := dk_4 (dk_at dksX2_look_2 8 rfl rfl)
theorem dX2_look_56 : decode cX2_look 56 = .ok (.iload_n 3, 1) := dk_29 (dk_at dksX2_look_2 9 rfl rfl)
theorem dX2_look_57 : decode cX2_look 57 = .ok (.ishl, 1) := dk_120 (dk_at dksX2_look_2 10 rfl rfl)
theorem dX2_look_58 : decode cX2_look 58 = .ok (.iconst (-1), 1) := dk_2 (dk_at dksX2_look_2 11 rfl rfl)
theorem dX2_look_59 : decode cX2_look 59 = .ok (.ixor, 1) := dk_130 (dk_at dksX2_look_2 12 rfl rfl)
theorem dX2_look_60 : decode cX2_look 60 = .ok (.iand, 1) := dk_126 (dk_at dksX2_look_2 13 rfl rfl)
theorem dX2_look_61 : decode cX2_look 61 = .ok (.istore 9, 2) := dk_54 9 (dk_at dksX2_look_2 14 rfl rfl)
theorem dX2_look_63 : decode cX2_look 63 = .ok (.iload 9, 2) := dk_21 9 (dk_at dksX2_look_2 16 rfl rfl)
theorem dX2_look_65 : decode cX2_look 65 = .ok (.ifCond .ne 7, 3) := dk_154 0 7 (dk_at dksX2_look_2 18 rfl rfl)
theorem dX2_look_68 : decode cX2_look 68 = .ok (.iconst 0, 1) := dk_3 (dk_at dksX2_look_2 21 rfl rfl)
theorem dX2_look_69 : decode cX2_look 69 = .ok (.goto 17, 3) := dk_167 0 17 (dk_at dksX2_look_3 0 rfl rfl)
theorem dX2_look_72 : decode cX2_look 72 = .ok (.aload_n 0, 1) := dk_42 (dk_at dksX2_look_3 3 rfl rfl)
theorem dX2_look_73 : decode cX2_look 73 = .ok (.iload_n 1, 1) := dk_27 (dk_at dksX2_look_3 4 rfl rfl)
theorem dX2_look_74 : decode cX2_look 74 = .ok (.iconst 1, 1) := dk_4 (dk_at dksX2_look_3 5 rfl rfl)
theorem dX2_look_75 : decode cX2_look 75 = .ok (.iload 8, 2) := dk_21 8 (dk_at dksX2_look_3 6 rfl rfl)
theorem dX2_look_77 : decode cX2_look 77 = .ok (.ishl, 1) := dk_120 (dk_at dksX2_look_3 8 rfl rfl)
theorem dX2_look_78 : decode cX2_look 78 = .ok (.iconst (-1), 1) := dk_2 (dk_at dksX2_look_3 9 rfl rfl)
theorem dX2_look_79 : decode cX2_look 79 = .ok (.ixor, 1) := dk_130 (dk_at dksX2_look_3 10 rfl rfl)
theorem dX2_look_80 : decode cX2_look 80 = .ok (.iand, 1) := dk_126 (dk_at dksX2_look_3 11 rfl rfl)
theorem dX2_look_81 : decode cX2_look 81 = .ok (.iload 4, 2) := dk_21 4 (dk_at dksX2_look_3 12 rfl rfl)
theorem dX2_look_83 : decode cX2_look 83 = .ok (.invokevirtual 113, 3) := dk_182 0 113 (dk_at dksX2_look_3 14 rfl rfl)
theorem dX2_look_86 : decode cX2_look 86 = .ok (.istore 10, 2) := dk_54 10 (dk_at dksX2_look_3 17 rfl rfl)
theorem dX2_look_88 : decode cX2_look 88 = .ok (.iconst 0, 1) := dk_3 (dk_at dksX2_look_3 19 rfl rfl)
theorem dX2_look_89 : decode cX2_look 89 = .ok (.istore 11, 2) := dk_54 11 (dk_at dksX2_look_3 20 rfl rfl)
theorem dX2_look_91 : decode cX2_look 91 = .ok (.iload 11, 2) := dk_21 11 (dk_at dksX2_look_3 22 rfl rfl)
theorem dX2_look_93 : decode cX2_look 93 = .ok (.iconst 3, 1) := dk_6 (dk_at dksX2_look_4 0 rfl rfl)
theorem dX2_look_94 : decode cX2_look 94 = .ok (.if_icmp .ge 102, 3) := dk_162 0 102 (dk_at dksX2_look_4 1 rfl rfl)
theorem dX2_look_97 : decode cX2_look 97 = .ok (.iload 9, 2) := dk_21 9 (dk_at dksX2_look_4 4 rfl rfl)
theorem dX2_look_99 : decode cX2_look 99 = .ok (.iload 11, 2) := dk_21 11 (dk_at dksX2_look_4 6 rfl rfl)
theorem dX2_look_101 : decode cX2_look 101 = .ok (.invokestatic 35, 3) := dk_184 0 35 (dk_at dksX2_look_4 8 rfl rfl)
theorem dX2_look_104 : decode cX2_look 104 = .ok (.ifCond .ne 6, 3) := dk_154 0 6 (dk_at dksX2_look_4 11 rfl rfl)
theorem dX2_look_107 : decode cX2_look 107 = .ok (.goto 83, 3) := dk_167 0 83 (dk_at dksX2_look_4 14 rfl rfl)
theorem dX2_look_110 : decode cX2_look 110 = .ok (.aload_n 0, 1) := dk_42 (dk_at dksX2_look_4 17 rfl rfl)
theorem dX2_look_111 : decode cX2_look 111 = .ok (.iload_n 2, 1) := dk_28 (dk_at dksX2_look_4 18 rfl rfl)
theorem dX2_look_112 : decode cX2_look 112 = .ok (.aload_n 0, 1) := dk_42 (dk_at dksX2_look_4 19 rfl rfl)
theorem dX2_look_113 : decode cX2_look 113 = .ok (.iload 8, 2) := dk_21 8 (dk_at dksX2_look_4 20 rfl rfl)
theorem dX2_look_115 : decode cX2_look 115 = .ok (.iload 11, 2) := dk_21 11 (dk_at dksX2_look_4 22 rfl rfl)
theorem dX2_look_117 : decode cX2_look 117 = .ok (.invokevirtual 116, 3) := dk_182 0 116 (dk_at dksX2_look_5 0 rfl rfl)
theorem dX2_look_120 : decode cX2_look 120 = .ok (.iconst (-1), 1) := dk_2 (dk_at dksX2_look_5 3 rfl rfl)
theorem dX2_look_121 : decode cX2_look 121 = .ok (.ixor, 1) := dk_130 (dk_at dksX2_look_5 4 rfl rfl)
theorem dX2_look_122 : decode cX2_look 122 = .ok (.iand, 1) := dk_126 (dk_at dksX2_look_5 5 rfl rfl)
theorem dX2_look_123 : decode cX2_look 123 = .ok (.iload 10, 2) := dk_21 10 (dk_at dksX2_look_5 6 rfl rfl)
theorem dX2_look_125 : decode cX2_look 125 = .ok (.iload 11, 2) := dk_21 11 (dk_at dksX2_look_5 8 rfl rfl)
theorem dX2_look_127 : decode cX2_look 127 = .ok (.iload 4, 2) := dk_21 4 (dk_at dksX2_look_5 10 rfl rfl)
theorem dX2_look_129 : decode cX2_look 129 = .ok (.invokevirtual 119, 3) := dk_182 0 119 (dk_at dksX2_look_5 12 rfl rfl)
theorem dX2_look_132 : decode cX2_look 132 = .ok (.istore 12, 2) := dk_54 12 (dk_at dksX2_look_5 15 rfl rfl)
theorem dX2_look_134 : decode cX2_look 134 = .ok (.iload 5, 2) := dk_21 5 (dk_at dksX2_look_5 17 rfl rfl)
theorem dX2_look_136 : decode cX2_look 136 = .ok (.iconst 1, 1) := dk_4 (dk_at dksX2_look_5 19 rfl rfl)
theorem dX2_look_137 : decode cX2_look 137 = .ok (.iload 12, 2) := dk_21 12 (dk_at dksX2_look_5 20 rfl rfl)
theorem dX2_look_139 : decode cX2_look 139 = .ok (.invokestatic 89, 3) := dk_184 0 89 (dk_at dksX2_look_6 0 rfl rfl)
theorem dX2_look_142 : decode cX2_look 142 = .ok (.ishl, 1) := dk_120 (dk_at dksX2_look_6 3 rfl rfl)
theorem dX2_look_143 : decode cX2_look 143 = .ok (.ior, 1) := dk_128 (dk_at dksX2_look_6 4 rfl rfl)
theorem dX2_look_144 : decode cX2_look 144 = .ok (.istore 5, 2) := dk_54 5 (dk_at dksX2_look_6 5 rfl rfl)
theorem dX2_look_146 : decode cX2_look 146 = .ok (.iload 6, 2) := dk_21 6 (dk_at dksX2_look_6 7 rfl rfl)
theorem dX2_look_148 : decode cX2_look 148 = .ok (.iconst 1, 1) := dk_4 (dk_at dksX2_look_6 9 rfl rfl)
theorem dX2_look_149 : decode cX2_look 149 = .ok (.iload 12, 2) := dk_21 12 (dk_at dksX2_look_6 10 rfl rfl)
theorem dX2_look_151 : decode cX2_look 151 = .ok (.invokestatic 92, 3) := dk_184 0 92 (dk_at dksX2_look_6 12 rfl rfl)
theorem dX2_look_154 : decode cX2_look 154 = .ok (.iadd, 1) := dk_96 (dk_at dksX2_look_6 15 rfl rfl)
theorem dX2_look_155 : decode cX2_look 155 = .ok (.invokestatic 122, 3) := dk_184 0 122 (dk_at dksX2_look_6 16 rfl rfl)
theorem dX2_look_158 : decode cX2_look 158 = .ok (.istore 6, 2) := dk_54 6 (dk_at dksX2_look_6 19 rfl rfl)
theorem dX2_look_160 : decode cX2_look 160 = .ok (.iload 7, 2) := dk_21 7 (dk_at dksX2_look_6 21 rfl rfl)
theorem dX2_look_162 : decode cX2_look 162 = .ok (.iconst (-1), 1) := dk_2 (dk_at dksX2_look_6 23 rfl rfl)
theorem dX2_look_163 : decode cX2_look 163 = .ok (.if_icmp .ne 13, 3) := dk_160 0 13 (dk_at dksX2_look_7 0 rfl rfl)
theorem dX2_look_166 : decode cX2_look 166 = .ok (.iconst 1, 1) := dk_4 (dk_at dksX2_look_7 3 rfl rfl)
theorem dX2_look_167 : decode cX2_look 167 = .ok (.iload 12, 2) := dk_21 12 (dk_at dksX2_look_7 4 rfl rfl)
theorem dX2_look_169 : decode cX2_look 169 = .ok (.invokestatic 95, 3) := dk_184 0 95 (dk_at dksX2_look_7 6 rfl rfl)
theorem dX2_look_172 : decode cX2_look 172 = .ok (.iadd, 1) := dk_96 (dk_at dksX2_look_7 9 rfl rfl)
theorem dX2_look_173 : decode cX2_look 173 = .ok (.goto 15, 3) := dk_167 0 15 (dk_at dksX2_look_7 10 rfl rfl)
theorem dX2_look_176 : decode cX2_look 176 = .ok (.iload 7, 2) := dk_21 7 (dk_at dksX2_look_7 13 rfl rfl)
theorem dX2_look_178 : decode cX2_look 178 = .ok (.iconst 1, 1) := dk_4 (dk_at dksX2_look_7 15 rfl rfl)
theorem dX2_look_179 : decode cX2_look 179 = .ok (.iload 12, 2) := dk_21 12 (dk_at dksX2_look_7 16 rfl rfl)
theorem dX2_look_181 : decode cX2_look 181 = .ok (.invokestatic 95, 3) := dk_184 0 95 (dk_at dksX2_look_7 18 rfl rfl)
theorem dX2_look_184 : decode cX2_look 184 = .ok (.iadd, 1) := dk_96 (dk_at dksX2_look_7 21 rfl rfl)
theorem dX2_look_185 : decode cX2_look 185 = .ok (.invokestatic 127, 3) := dk_184 0 127 (dk_at dksX2_look_8 0 rfl rfl)
theorem dX2_look_188 : decode cX2_look 188 = .ok (.istore 7, 2) := dk_54 7 (dk_at dksX2_look_8 3 rfl rfl)
theorem dX2_look_190 : decode cX2_look 190 = .ok (.iinc 11 1, 3) := dk_132 11 1 (dk_at dksX2_look_8 5 rfl rfl)
theorem dX2_look_193 : decode cX2_look 193 = .ok (.goto (-102), 3) := dk_167 255 154 (dk_at dksX2_look_8 8 rfl rfl)
theorem dX2_look_196 : decode cX2_look 196 = .ok (.iinc 8 1, 3) := dk_132 8 1 (dk_at dksX2_look_8 11 rfl rfl)
theorem dX2_look_199 : decode cX2_look 199 = .ok (.goto (-187), 3) := dk_167 255 69 (dk_at dksX2_look_8 14 rfl rfl)
theorem dX2_look_202 : decode cX2_look 202 = .ok (.iload 5, 2) := dk_21 5 (dk_at dksX2_look_8 17 rfl rfl)
theorem dX2_look_204 : decode cX2_look 204 = .ok (.iconst (-1), 1) := dk_2 (dk_at dksX2_look_8 19 rfl rfl)
theorem dX2_look_205 : decode cX2_look 205 = .ok (.ixor, 1) := dk_130 (dk_at dksX2_look_8 20 rfl rfl)
theorem dX2_look_206 : decode cX2_look 206 = .ok (.invokestatic 80, 3) := dk_184 0 80 (dk_at dksX2_look_8 21 rfl rfl)
theorem dX2_look_209 : decode cX2_look 209 = .ok (.iload 6, 2) := dk_21 6 (dk_at dksX2_look_9 0 rfl rfl)
theorem dX2_look_211 : decode cX2_look 211 = .ok (.iconst 0, 1) := dk_3 (dk_at dksX2_look_9 2 rfl rfl)
theorem dX2_look_212 : decode cX2_look 212 = .ok (.iload 7, 2) := dk_21 7 (dk_at dksX2_look_9 3 rfl rfl)
theorem dX2_look_214 : decode cX2_look 214 = .ok (.invokestatic 122, 3) := dk_184 0 122 (dk_at dksX2_look_9 5 rfl rfl)
theorem dX2_look_217 : decode cX2_look 217 = .ok (.invokestatic 98, 3) := dk_184 0 98 (dk_at dksX2_look_9 8 rfl rfl)
theorem dX2_look_220 : decode cX2_look 220 = .ok (.ireturn, 1) := dk_172 (dk_at dksX2_look_9 11 rfl rfl)
abbrev cX2_split : ByteArray := prog_13_method_9_code
def yX2_split : MethodName := ⟨RX2, "split", "(II)I"⟩
def dkwX2_split_2 : List UInt8 := [167, 255, 216, 29, 172]
abbrev dktX2_split_2 : List UInt8 := dkwX2_split_2 ++ []
def dkwX2_split_1 : List UInt8 := [182, 0, 72, 79, 21, 4, 42, 180, 0, 29, 28, 50, 29, 46, 2, 130, 126, 54, 4, 132, 3, 1]
abbrev dktX2_split_1 : List UInt8 := dkwX2_split_1 ++ dktX2_split_2
def dkwX2_split_0 : List UInt8 := [3, 62, 27, 54, 4, 21, 4, 153, 0, 41, 42, 180, 0, 29, 28, 50, 29, 42, 180, 0, 39, 21, 4]
abbrev dktX2_split_0 : List UInt8 := dkwX2_split_0 ++ dktX2_split_1
theorem dksX2_split_0 : cX2_split.data.toList.drop 0 = dktX2_split_0 := by decide +kernel
theorem dksX2_split_1 : cX2_split.data.toList.drop 23 = dktX2_split_1 := dk_seg dksX2_split_0 23 rfl rfl
theorem dksX2_split_2 : cX2_split.data.toList.drop 45 = dktX2_split_2 := dk_seg dksX2_split_1 22 rfl rfl
theorem dX2_split_0 : decode cX2_split 0 = .ok (.iconst 0, 1) := dk_3 (dk_at dksX2_split_0 0 rfl rfl)
theorem dX2_split_1 : decode cX2_split 1 = .ok (.istore_n 3, 1) := dk_62 (dk_at dksX2_split_0 1 rfl rfl)
theorem dX2_split_2 : decode cX2_split 2 = .ok (.iload_n 1, 1) := dk_27 (dk_at dksX2_split_0 2 rfl rfl)
theorem dX2_split_3 : decode cX2_split 3 = .ok (.istore 4, 2) := dk_54 4 (dk_at dksX2_split_0 3 rfl rfl)
theorem dX2_split_5 : decode cX2_split 5 = .ok (.iload 4, 2) := dk_21 4 (dk_at dksX2_split_0 5 rfl rfl)
theorem dX2_split_7 : decode cX2_split 7 = .ok (.ifCond .eq 41, 3) := dk_153 0 41 (dk_at dksX2_split_0 7 rfl rfl)
theorem dX2_split_10 : decode cX2_split 10 = .ok (.aload_n 0, 1) := dk_42 (dk_at dksX2_split_0 10 rfl rfl)
theorem dX2_split_11 : decode cX2_split 11 = .ok (.getfield 29, 3) := dk_180 0 29 (dk_at dksX2_split_0 11 rfl rfl)
theorem dX2_split_14 : decode cX2_split 14 = .ok (.iload_n 2, 1) := dk_28 (dk_at dksX2_split_0 14 rfl rfl)
theorem dX2_split_15 : decode cX2_split 15 = .ok (.aaload, 1) := dk_50 (dk_at dksX2_split_0 15 rfl rfl)
theorem dX2_split_16 : decode cX2_split 16 = .ok (.iload_n 3, 1) := dk_29 (dk_at dksX2_split_0 16 rfl rfl)
theorem dX2_split_17 : decode cX2_split 17 = .ok (.aload_n 0, 1) := dk_42 (dk_at dksX2_split_0 17 rfl rfl)
theorem dX2_split_18 : decode cX2_split 18 = .ok (.getfield 39, 3) := dk_180 0 39 (dk_at dksX2_split_0 18 rfl rfl)
theorem dX2_split_21 : decode cX2_split 21 = .ok (.iload 4, 2) := dk_21 4 (dk_at dksX2_split_0 21 rfl rfl)
theorem dX2_split_23 : decode cX2_split 23 = .ok (.invokevirtual 72, 3) := dk_182 0 72 (dk_at dksX2_split_1 0 rfl rfl)
theorem dX2_split_26 : decode cX2_split 26 = .ok (.iastore, 1) := dk_79 (dk_at dksX2_split_1 3 rfl rfl)
theorem dX2_split_27 : decode cX2_split 27 = .ok (.iload 4, 2) := dk_21 4 (dk_at dksX2_split_1 4 rfl rfl)
theorem dX2_split_29 : decode cX2_split 29 = .ok (.aload_n 0, 1) := dk_42 (dk_at dksX2_split_1 6 rfl rfl)
theorem dX2_split_30 : decode cX2_split 30 = .ok (.getfield 29, 3) := dk_180 0 29 (dk_at dksX2_split_1 7 rfl rfl)
theorem dX2_split_33 : decode cX2_split 33 = .ok (.iload_n 2, 1) := dk_28 (dk_at dksX2_split_1 10 rfl rfl)
theorem dX2_split_34 : decode cX2_split 34 = .ok (.aaload, 1) := dk_50 (dk_at dksX2_split_1 11 rfl rfl)
theorem dX2_split_35 : decode cX2_split 35 = .ok (.iload_n 3, 1) := dk_29 (dk_at dksX2_split_1 12 rfl rfl)
theorem dX2_split_36 : decode cX2_split 36 = .ok (.iaload, 1) := dk_46 (dk_at dksX2_split_1 13 rfl rfl)
theorem dX2_split_37 : decode cX2_split 37 = .ok (.iconst (-1), 1) := dk_2 (dk_at dksX2_split_1 14 rfl rfl)
theorem dX2_split_38 : decode cX2_split 38 = .ok (.ixor, 1) := dk_130 (dk_at dksX2_split_1 15 rfl rfl)
theorem dX2_split_39 : decode cX2_split 39 = .ok (.iand, 1) := dk_126 (dk_at dksX2_split_1 16 rfl rfl)
theorem dX2_split_40 : decode cX2_split 40 = .ok (.istore 4, 2) := dk_54 4 (dk_at dksX2_split_1 17 rfl rfl)
theorem dX2_split_42 : decode cX2_split 42 = .ok (.iinc 3 1, 3) := dk_132 3 1 (dk_at dksX2_split_1 19 rfl rfl)
theorem dX2_split_45 : decode cX2_split 45 = .ok (.goto (-40), 3) := dk_167 255 216 (dk_at dksX2_split_2 0 rfl rfl)
theorem dX2_split_48 : decode cX2_split 48 = .ok (.iload_n 3, 1) := dk_29 (dk_at dksX2_split_2 3 rfl rfl)
theorem dX2_split_49 : decode cX2_split 49 = .ok (.ireturn, 1) := dk_172 (dk_at dksX2_split_2 4 rfl rfl)
abbrev cX2_near : ByteArray := prog_13_method_8_code
def yX2_near : MethodName := ⟨RX2, "near", "(II)I"⟩
def dkwX2_near_2 : List UInt8 := [3, 128, 62, 132, 4, 1, 167, 255, 209, 29, 172]
abbrev dktX2_near_2 : List UInt8 := dkwX2_near_2 ++ []
def dkwX2_near_1 : List UInt8 := [180, 0, 130, 27, 46, 21, 4, 184, 0, 35, 153, 0, 14, 4, 6, 21, 4, 104, 28, 96, 120, 167, 0, 4]
abbrev dktX2_near_1 : List UInt8 := dkwX2_near_1 ++ dktX2_near_2
def dkwX2_near_0 : List UInt8 := [3, 62, 3, 54, 4, 21, 4, 42, 180, 0, 39, 180, 0, 110, 162, 0, 41, 29, 42, 180, 0, 39]
abbrev dktX2_near_0 : List UInt8 := dkwX2_near_0 ++ dktX2_near_1
theorem dksX2_near_0 : cX2_near.data.toList.drop 0 = dktX2_near_0 := by decide +kernel
theorem dksX2_near_1 : cX2_near.data.toList.drop 22 = dktX2_near_1 := dk_seg dksX2_near_0 22 rfl rfl
theorem dksX2_near_2 : cX2_near.data.toList.drop 46 = dktX2_near_2 := dk_seg dksX2_near_1 24 rfl rfl
theorem dX2_near_0 : decode cX2_near 0 = .ok (.iconst 0, 1) := dk_3 (dk_at dksX2_near_0 0 rfl rfl)
theorem dX2_near_1 : decode cX2_near 1 = .ok (.istore_n 3, 1) := dk_62 (dk_at dksX2_near_0 1 rfl rfl)
theorem dX2_near_2 : decode cX2_near 2 = .ok (.iconst 0, 1) := dk_3 (dk_at dksX2_near_0 2 rfl rfl)
theorem dX2_near_3 : decode cX2_near 3 = .ok (.istore 4, 2) := dk_54 4 (dk_at dksX2_near_0 3 rfl rfl)
theorem dX2_near_5 : decode cX2_near 5 = .ok (.iload 4, 2) := dk_21 4 (dk_at dksX2_near_0 5 rfl rfl)
theorem dX2_near_7 : decode cX2_near 7 = .ok (.aload_n 0, 1) := dk_42 (dk_at dksX2_near_0 7 rfl rfl)
theorem dX2_near_8 : decode cX2_near 8 = .ok (.getfield 39, 3) := dk_180 0 39 (dk_at dksX2_near_0 8 rfl rfl)
theorem dX2_near_11 : decode cX2_near 11 = .ok (.getfield 110, 3) := dk_180 0 110 (dk_at dksX2_near_0 11 rfl rfl)
theorem dX2_near_14 : decode cX2_near 14 = .ok (.if_icmp .ge 41, 3) := dk_162 0 41 (dk_at dksX2_near_0 14 rfl rfl)
theorem dX2_near_17 : decode cX2_near 17 = .ok (.iload_n 3, 1) := dk_29 (dk_at dksX2_near_0 17 rfl rfl)
theorem dX2_near_18 : decode cX2_near 18 = .ok (.aload_n 0, 1) := dk_42 (dk_at dksX2_near_0 18 rfl rfl)
theorem dX2_near_19 : decode cX2_near 19 = .ok (.getfield 39, 3) := dk_180 0 39 (dk_at dksX2_near_0 19 rfl rfl)
theorem dX2_near_22 : decode cX2_near 22 = .ok (.getfield 130, 3) := dk_180 0 130 (dk_at dksX2_near_1 0 rfl rfl)
theorem dX2_near_25 : decode cX2_near 25 = .ok (.iload_n 1, 1) := dk_27 (dk_at dksX2_near_1 3 rfl rfl)
theorem dX2_near_26 : decode cX2_near 26 = .ok (.iaload, 1) := dk_46 (dk_at dksX2_near_1 4 rfl rfl)
theorem dX2_near_27 : decode cX2_near 27 = .ok (.iload 4, 2) := dk_21 4 (dk_at dksX2_near_1 5 rfl rfl)
theorem dX2_near_29 : decode cX2_near 29 = .ok (.invokestatic 35, 3) := dk_184 0 35 (dk_at dksX2_near_1 7 rfl rfl)
theorem dX2_near_32 : decode cX2_near 32 = .ok (.ifCond .eq 14, 3) := dk_153 0 14 (dk_at dksX2_near_1 10 rfl rfl)
theorem dX2_near_35 : decode cX2_near 35 = .ok (.iconst 1, 1) := dk_4 (dk_at dksX2_near_1 13 rfl rfl)
theorem dX2_near_36 : decode cX2_near 36 = .ok (.iconst 3, 1) := dk_6 (dk_at dksX2_near_1 14 rfl rfl)
theorem dX2_near_37 : decode cX2_near 37 = .ok (.iload 4, 2) := dk_21 4 (dk_at dksX2_near_1 15 rfl rfl)
theorem dX2_near_39 : decode cX2_near 39 = .ok (.imul, 1) := dk_104 (dk_at dksX2_near_1 17 rfl rfl)
theorem dX2_near_40 : decode cX2_near 40 = .ok (.iload_n 2, 1) := dk_28 (dk_at dksX2_near_1 18 rfl rfl)
theorem dX2_near_41 : decode cX2_near 41 = .ok (.iadd, 1) := dk_96 (dk_at dksX2_near_1 19 rfl rfl)
theorem dX2_near_42 : decode cX2_near 42 = .ok (.ishl, 1) := dk_120 (dk_at dksX2_near_1 20 rfl rfl)
theorem dX2_near_43 : decode cX2_near 43 = .ok (.goto 4, 3) := dk_167 0 4 (dk_at dksX2_near_1 21 rfl rfl)
theorem dX2_near_46 : decode cX2_near 46 = .ok (.iconst 0, 1) := dk_3 (dk_at dksX2_near_2 0 rfl rfl)
theorem dX2_near_47 : decode cX2_near 47 = .ok (.ior, 1) := dk_128 (dk_at dksX2_near_2 1 rfl rfl)
theorem dX2_near_48 : decode cX2_near 48 = .ok (.istore_n 3, 1) := dk_62 (dk_at dksX2_near_2 2 rfl rfl)
theorem dX2_near_49 : decode cX2_near 49 = .ok (.iinc 4 1, 3) := dk_132 4 1 (dk_at dksX2_near_2 3 rfl rfl)
theorem dX2_near_52 : decode cX2_near 52 = .ok (.goto (-47), 3) := dk_167 255 209 (dk_at dksX2_near_2 6 rfl rfl)
theorem dX2_near_55 : decode cX2_near 55 = .ok (.iload_n 3, 1) := dk_29 (dk_at dksX2_near_2 9 rfl rfl)
theorem dX2_near_56 : decode cX2_near 56 = .ok (.ireturn, 1) := dk_172 (dk_at dksX2_near_2 10 rfl rfl)
abbrev cX2_behind : ByteArray := prog_13_method_10_code
def yX2_behind : MethodName := ⟨RX2, "behind", "(IIII)I"⟩
def dkwX2_behind_4 : List UInt8 := [21, 6, 21, 7, 184, 0, 98, 172]
abbrev dktX2_behind_4 : List UInt8 := dkwX2_behind_4 ++ []
def dkwX2_behind_3 : List UInt8 := [184, 0, 92, 96, 54, 6, 21, 7, 21, 10, 184, 0, 95, 96, 54, 7, 132, 8, 1, 167, 255, 178, 21, 5]
abbrev dktX2_behind_3 : List UInt8 := dkwX2_behind_3 ++ dktX2_behind_4
def dkwX2_behind_2 : List UInt8 := [21, 4, 4, 96, 182, 0, 68, 54, 10, 21, 5, 21, 10, 184, 0, 89, 130, 54, 5, 21, 6, 21, 10]
abbrev dktX2_behind_2 : List UInt8 := dkwX2_behind_2 ++ dktX2_behind_3
def dkwX2_behind_1 : List UInt8 := [50, 21, 8, 46, 54, 9, 42, 21, 9, 27, 42, 180, 0, 32, 21, 9, 46, 126, 21, 9, 29, 184, 0, 64]
abbrev dktX2_behind_1 : List UInt8 := dkwX2_behind_1 ++ dktX2_behind_2
def dkwX2_behind_0 : List UInt8 := [3, 54, 5, 3, 54, 6, 3, 54, 7, 3, 54, 8, 21, 8, 28, 162, 0, 78, 42, 180, 0, 29, 21, 4]
abbrev dktX2_behind_0 : List UInt8 := dkwX2_behind_0 ++ dktX2_behind_1
theorem dksX2_behind_0 : cX2_behind.data.toList.drop 0 = dktX2_behind_0 := by decide +kernel
theorem dksX2_behind_1 : cX2_behind.data.toList.drop 24 = dktX2_behind_1 := dk_seg dksX2_behind_0 24 rfl rfl
theorem dksX2_behind_2 : cX2_behind.data.toList.drop 48 = dktX2_behind_2 := dk_seg dksX2_behind_1 24 rfl rfl
theorem dksX2_behind_3 : cX2_behind.data.toList.drop 71 = dktX2_behind_3 := dk_seg dksX2_behind_2 23 rfl rfl
theorem dksX2_behind_4 : cX2_behind.data.toList.drop 95 = dktX2_behind_4 := dk_seg dksX2_behind_3 24 rfl rfl
theorem dX2_behind_0 : decode cX2_behind 0 = .ok (.iconst 0, 1) := dk_3 (dk_at dksX2_behind_0 0 rfl rfl)
theorem dX2_behind_1 : decode cX2_behind 1 = .ok (.istore 5, 2) := dk_54 5 (dk_at dksX2_behind_0 1 rfl rfl)
theorem dX2_behind_3 : decode cX2_behind 3 = .ok (.iconst 0, 1) := dk_3 (dk_at dksX2_behind_0 3 rfl rfl)
theorem dX2_behind_4 : decode cX2_behind 4 = .ok (.istore 6, 2) := dk_54 6 (dk_at dksX2_behind_0 4 rfl rfl)
theorem dX2_behind_6 : decode cX2_behind 6 = .ok (.iconst 0, 1) := dk_3 (dk_at dksX2_behind_0 6 rfl rfl)
theorem dX2_behind_7 : decode cX2_behind 7 = .ok (.istore 7, 2) := dk_54 7 (dk_at dksX2_behind_0 7 rfl rfl)
theorem dX2_behind_9 : decode cX2_behind 9 = .ok (.iconst 0, 1) := dk_3 (dk_at dksX2_behind_0 9 rfl rfl)
theorem dX2_behind_10 : decode cX2_behind 10 = .ok (.istore 8, 2) := dk_54 8 (dk_at dksX2_behind_0 10 rfl rfl)
theorem dX2_behind_12 : decode cX2_behind 12 = .ok (.iload 8, 2) := dk_21 8 (dk_at dksX2_behind_0 12 rfl rfl)
theorem dX2_behind_14 : decode cX2_behind 14 = .ok (.iload_n 2, 1) := dk_28 (dk_at dksX2_behind_0 14 rfl rfl)
theorem dX2_behind_15 : decode cX2_behind 15 = .ok (.if_icmp .ge 78, 3) := dk_162 0 78 (dk_at dksX2_behind_0 15 rfl rfl)
theorem dX2_behind_18 : decode cX2_behind 18 = .ok (.aload_n 0, 1) := dk_42 (dk_at dksX2_behind_0 18 rfl rfl)
theorem dX2_behind_19 : decode cX2_behind 19 = .ok (.getfield 29, 3) := dk_180 0 29 (dk_at dksX2_behind_0 19 rfl rfl)
theorem dX2_behind_22 : decode cX2_behind 22 = .ok (.iload 4, 2) := dk_21 4 (dk_at dksX2_behind_0 22 rfl rfl)
theorem dX2_behind_24 : decode cX2_behind 24 = .ok (.aaload, 1) := dk_50 (dk_at dksX2_behind_1 0 rfl rfl)
theorem dX2_behind_25 : decode cX2_behind 25 = .ok (.iload 8, 2) := dk_21 8 (dk_at dksX2_behind_1 1 rfl rfl)
theorem dX2_behind_27 : decode cX2_behind 27 = .ok (.iaload, 1) := dk_46 (dk_at dksX2_behind_1 3 rfl rfl)
theorem dX2_behind_28 : decode cX2_behind 28 = .ok (.istore 9, 2) := dk_54 9 (dk_at dksX2_behind_1 4 rfl rfl)
theorem dX2_behind_30 : decode cX2_behind 30 = .ok (.aload_n 0, 1) := dk_42 (dk_at dksX2_behind_1 6 rfl rfl)
theorem dX2_behind_31 : decode cX2_behind 31 = .ok (.iload 9, 2) := dk_21 9 (dk_at dksX2_behind_1 7 rfl rfl)
theorem dX2_behind_33 : decode cX2_behind 33 = .ok (.iload_n 1, 1) := dk_27 (dk_at dksX2_behind_1 9 rfl rfl)
theorem dX2_behind_34 : decode cX2_behind 34 = .ok (.aload_n 0, 1) := dk_42 (dk_at dksX2_behind_1 10 rfl rfl)
theorem dX2_behind_35 : decode cX2_behind 35 = .ok (.getfield 32, 3) := dk_180 0 32 (dk_at dksX2_behind_1 11 rfl rfl)
theorem dX2_behind_38 : decode cX2_behind 38 = .ok (.iload 9, 2) := dk_21 9 (dk_at dksX2_behind_1 14 rfl rfl)
theorem dX2_behind_40 : decode cX2_behind 40 = .ok (.iaload, 1) := dk_46 (dk_at dksX2_behind_1 16 rfl rfl)
theorem dX2_behind_41 : decode cX2_behind 41 = .ok (.iand, 1) := dk_126 (dk_at dksX2_behind_1 17 rfl rfl)
theorem dX2_behind_42 : decode cX2_behind 42 = .ok (.iload 9, 2) := dk_21 9 (dk_at dksX2_behind_1 18 rfl rfl)
theorem dX2_behind_44 : decode cX2_behind 44 = .ok (.iload_n 3, 1) := dk_29 (dk_at dksX2_behind_1 20 rfl rfl)
theorem dX2_behind_45 : decode cX2_behind 45 = .ok (.invokestatic 64, 3) := dk_184 0 64 (dk_at dksX2_behind_1 21 rfl rfl)
theorem dX2_behind_48 : decode cX2_behind 48 = .ok (.iload 4, 2) := dk_21 4 (dk_at dksX2_behind_2 0 rfl rfl)
theorem dX2_behind_50 : decode cX2_behind 50 = .ok (.iconst 1, 1) := dk_4 (dk_at dksX2_behind_2 2 rfl rfl)
theorem dX2_behind_51 : decode cX2_behind 51 = .ok (.iadd, 1) := dk_96 (dk_at dksX2_behind_2 3 rfl rfl)
theorem dX2_behind_52 : decode cX2_behind 52 = .ok (.invokevirtual 68, 3) := dk_182 0 68 (dk_at dksX2_behind_2 4 rfl rfl)
theorem dX2_behind_55 : decode cX2_behind 55 = .ok (.istore 10, 2) := dk_54 10 (dk_at dksX2_behind_2 7 rfl rfl)
theorem dX2_behind_57 : decode cX2_behind 57 = .ok (.iload 5, 2) := dk_21 5 (dk_at dksX2_behind_2 9 rfl rfl)
theorem dX2_behind_59 : decode cX2_behind 59 = .ok (.iload 10, 2) := dk_21 10 (dk_at dksX2_behind_2 11 rfl rfl)
theorem dX2_behind_61 : decode cX2_behind 61 = .ok (.invokestatic 89, 3) := dk_184 0 89 (dk_at dksX2_behind_2 13 rfl rfl)
theorem dX2_behind_64 : decode cX2_behind 64 = .ok (.ixor, 1) := dk_130 (dk_at dksX2_behind_2 16 rfl rfl)
theorem dX2_behind_65 : decode cX2_behind 65 = .ok (.istore 5, 2) := dk_54 5 (dk_at dksX2_behind_2 17 rfl rfl)
theorem dX2_behind_67 : decode cX2_behind 67 = .ok (.iload 6, 2) := dk_21 6 (dk_at dksX2_behind_2 19 rfl rfl)
theorem dX2_behind_69 : decode cX2_behind 69 = .ok (.iload 10, 2) := dk_21 10 (dk_at dksX2_behind_2 21 rfl rfl)
theorem dX2_behind_71 : decode cX2_behind 71 = .ok (.invokestatic 92, 3) := dk_184 0 92 (dk_at dksX2_behind_3 0 rfl rfl)
theorem dX2_behind_74 : decode cX2_behind 74 = .ok (.iadd, 1) := dk_96 (dk_at dksX2_behind_3 3 rfl rfl)
theorem dX2_behind_75 : decode cX2_behind 75 = .ok (.istore 6, 2) := dk_54 6 (dk_at dksX2_behind_3 4 rfl rfl)
theorem dX2_behind_77 : decode cX2_behind 77 = .ok (.iload 7, 2) := dk_21 7 (dk_at dksX2_behind_3 6 rfl rfl)
theorem dX2_behind_79 : decode cX2_behind 79 = .ok (.iload 10, 2) := dk_21 10 (dk_at dksX2_behind_3 8 rfl rfl)
theorem dX2_behind_81 : decode cX2_behind 81 = .ok (.invokestatic 95, 3) := dk_184 0 95 (dk_at dksX2_behind_3 10 rfl rfl)
theorem dX2_behind_84 : decode cX2_behind 84 = .ok (.iadd, 1) := dk_96 (dk_at dksX2_behind_3 13 rfl rfl)
theorem dX2_behind_85 : decode cX2_behind 85 = .ok (.istore 7, 2) := dk_54 7 (dk_at dksX2_behind_3 14 rfl rfl)
theorem dX2_behind_87 : decode cX2_behind 87 = .ok (.iinc 8 1, 3) := dk_132 8 1 (dk_at dksX2_behind_3 16 rfl rfl)
theorem dX2_behind_90 : decode cX2_behind 90 = .ok (.goto (-78), 3) := dk_167 255 178 (dk_at dksX2_behind_3 19 rfl rfl)
theorem dX2_behind_93 : decode cX2_behind 93 = .ok (.iload 5, 2) := dk_21 5 (dk_at dksX2_behind_3 22 rfl rfl)
theorem dX2_behind_95 : decode cX2_behind 95 = .ok (.iload 6, 2) := dk_21 6 (dk_at dksX2_behind_4 0 rfl rfl)
theorem dX2_behind_97 : decode cX2_behind 97 = .ok (.iload 7, 2) := dk_21 7 (dk_at dksX2_behind_4 2 rfl rfl)
theorem dX2_behind_99 : decode cX2_behind 99 = .ok (.invokestatic 98, 3) := dk_184 0 98 (dk_at dksX2_behind_4 4 rfl rfl)
theorem dX2_behind_102 : decode cX2_behind 102 = .ok (.ireturn, 1) := dk_172 (dk_at dksX2_behind_4 7 rfl rfl)
theorem q96 : (Jvm.Cond.initialized "ColourDuel$Search") ∈ lw_all := lw_g (lw_at lw_m1 2 rfl) rfl
theorem q145 : (Jvm.Cond.instantiable "ColourDuel$Search" (9 : Nat)) ∈ lw_all := lw_g (lw_at lw_m1 51 rfl) rfl
theorem q147 : (Jvm.Cond.instanceMethod ({ cls := "ColourDuel$Search", name := "<init>", desc := "(LColourDuel;)V" } : Jvm.MethodName)) ∈ lw_all := lw_g (lw_at lw_m1 53 rfl) rfl
theorem q148 : (Jvm.Cond.code ({ cls := "ColourDuel$Search", name := "<init>", desc := "(LColourDuel;)V" } : Jvm.MethodName) prog_13_method_1_code (4 : Nat) (Option.none : Option Jvm.ClassFile.FieldType)) ∈ lw_all := lw_g (lw_at lw_m1 54 rfl) rfl
theorem q149 : (Jvm.Cond.methodLink "ColourDuel$Search" (9 : Nat) ({ cls := "java/lang/Object", name := "<init>", desc := "()V" } : Jvm.MethodName)) ∈ lw_all := lw_g (lw_at lw_m1 55 rfl) rfl
theorem q150 : (Jvm.Cond.constant "ColourDuel$Search" (15 : Nat) (65536 : Int32)) ∈ lw_all := lw_g (lw_at lw_m1 56 rfl) rfl
theorem q151 : (Jvm.Cond.classLink "ColourDuel$Search" (27 : Nat) "[[I") ∈ lw_all := lw_g (lw_at lw_m1 57 rfl) rfl
theorem q153 : (Jvm.Cond.methodLinkNest "ColourDuel$Search" (35 : Nat) ({ cls := "ColourDuel", name := "has", desc := "(II)Z" } : Jvm.MethodName) "ColourDuel") ∈ lw_tbl := lw_at lw_m1 59 rfl
theorem q156 : (Jvm.Cond.fieldLink "ColourDuel$Search" (16 : Nat) "ColourDuel$Search" "keys" "[J") ∈ lw_all := lw_g (lw_at lw_m1 62 rfl) rfl
theorem q157 : (Jvm.Cond.fieldLink "ColourDuel$Search" (20 : Nat) "ColourDuel$Search" "found" "[I") ∈ lw_all := lw_g (lw_at lw_m1 63 rfl) rfl
theorem q158 : (Jvm.Cond.fieldLink "ColourDuel$Search" (24 : Nat) "ColourDuel$Search" "stamps" "[I") ∈ lw_all := lw_g (lw_at lw_m1 64 rfl) rfl
theorem q159 : (Jvm.Cond.fieldLink "ColourDuel$Search" (29 : Nat) "ColourDuel$Search" "pieces" "[[I") ∈ lw_all := lw_g (lw_at lw_m1 65 rfl) rfl
theorem q160 : (Jvm.Cond.fieldLink "ColourDuel$Search" (32 : Nat) "ColourDuel$Search" "bits" "[I") ∈ lw_all := lw_g (lw_at lw_m1 66 rfl) rfl
theorem q161 : (Jvm.Cond.fieldLink "ColourDuel$Search" (39 : Nat) "ColourDuel$Search" "graph" "LColourDuel$Graph;") ∈ lw_all := lw_g (lw_at lw_m1 67 rfl) rfl
theorem q162 : (Jvm.Cond.fieldLink "ColourDuel$Search" (43 : Nat) "ColourDuel$Search" "stamp" "I") ∈ lw_all := lw_g (lw_at lw_m1 68 rfl) rfl
theorem q163 : (Jvm.Cond.fieldLink "ColourDuel$Search" (47 : Nat) "ColourDuel$Search" "known" "I") ∈ lw_all := lw_g (lw_at lw_m1 69 rfl) rfl
theorem q164 : (Jvm.Cond.fieldLink "ColourDuel$Search" (3 : Nat) "ColourDuel$Search" "this$0" "LColourDuel;") ∈ lw_all := lw_g (lw_at lw_m1 70 rfl) rfl
theorem q165 : (Jvm.Cond.laysFinal "ColourDuel$Search" "ColourDuel$Search" "keys" "[J") ∈ lw_all := lw_g (lw_at lw_m1 71 rfl) rfl
theorem q166 : (Jvm.Cond.soleField "ColourDuel$Search" "keys") ∈ lw_all := lw_g (lw_at lw_m1 72 rfl) rfl
theorem q167 : (Jvm.Cond.laysFinal "ColourDuel$Search" "ColourDuel$Search" "found" "[I") ∈ lw_all := lw_g (lw_at lw_m1 73 rfl) rfl
theorem q168 : (Jvm.Cond.soleField "ColourDuel$Search" "found") ∈ lw_all := lw_g (lw_at lw_m1 74 rfl) rfl
theorem q169 : (Jvm.Cond.laysFinal "ColourDuel$Search" "ColourDuel$Search" "stamps" "[I") ∈ lw_all := lw_g (lw_at lw_m1 75 rfl) rfl
theorem q170 : (Jvm.Cond.soleField "ColourDuel$Search" "stamps") ∈ lw_all := lw_g (lw_at lw_m1 76 rfl) rfl
theorem q171 : (Jvm.Cond.laysFinal "ColourDuel$Search" "ColourDuel$Search" "pieces" "[[I") ∈ lw_all := lw_g (lw_at lw_m1 77 rfl) rfl
theorem q172 : (Jvm.Cond.soleField "ColourDuel$Search" "pieces") ∈ lw_all := lw_g (lw_at lw_m1 78 rfl) rfl
theorem q173 : (Jvm.Cond.laysFinal "ColourDuel$Search" "ColourDuel$Search" "bits" "[I") ∈ lw_all := lw_g (lw_at lw_m1 79 rfl) rfl
theorem q174 : (Jvm.Cond.soleField "ColourDuel$Search" "bits") ∈ lw_all := lw_g (lw_at lw_m1 80 rfl) rfl
theorem q175 : (Jvm.Cond.lays "ColourDuel$Search" "ColourDuel$Search" "graph" "LColourDuel$Graph;") ∈ lw_all := lw_g (lw_at lw_m1 81 rfl) rfl
theorem q176 : (Jvm.Cond.soleField "ColourDuel$Search" "graph") ∈ lw_all := lw_g (lw_at lw_m1 82 rfl) rfl
theorem q177 : (Jvm.Cond.lays "ColourDuel$Search" "ColourDuel$Search" "stamp" "I") ∈ lw_all := lw_g (lw_at lw_m1 83 rfl) rfl
theorem q178 : (Jvm.Cond.soleField "ColourDuel$Search" "stamp") ∈ lw_all := lw_g (lw_at lw_m1 84 rfl) rfl
theorem q179 : (Jvm.Cond.lays "ColourDuel$Search" "ColourDuel$Search" "known" "I") ∈ lw_all := lw_g (lw_at lw_m1 85 rfl) rfl
theorem q180 : (Jvm.Cond.soleField "ColourDuel$Search" "known") ∈ lw_all := lw_g (lw_at lw_m1 86 rfl) rfl
theorem q181 : (Jvm.Cond.laysFinal "ColourDuel$Search" "ColourDuel$Search" "this$0" "LColourDuel;") ∈ lw_all := lw_g (lw_at lw_m1 87 rfl) rfl
theorem q182 : (Jvm.Cond.soleField "ColourDuel$Search" "this$0") ∈ lw_all := lw_g (lw_at lw_m1 88 rfl) rfl
theorem q183 : (Jvm.Cond.superclass "ColourDuel$Search" "java/lang/Object") ∈ lw_all := lw_g (lw_at lw_m1 89 rfl) rfl
theorem q209 : (Jvm.Cond.fieldLinkNest "ColourDuel$Search" (130 : Nat) "ColourDuel$Graph" "near" "[I" "ColourDuel") ∈ lw_tbl := lw_at lw_m1 115 rfl
theorem q215 : (Jvm.Cond.fieldLinkNest "ColourDuel$Search" (110 : Nat) "ColourDuel$Graph" "size" "I" "ColourDuel") ∈ lw_tbl := lw_at lw_m1 121 rfl
theorem q611 : (Jvm.Cond.fieldLinkNest "ColourDuel$Search" (53 : Nat) "ColourDuel$Board" "graph" "LColourDuel$Graph;" "ColourDuel") ∈ lw_tbl := lw_at lw_m3 37 rfl
theorem q618 : (Jvm.Cond.fieldLinkNest "ColourDuel$Search" (77 : Nat) "ColourDuel$Board" "bans" "[I" "ColourDuel") ∈ lw_tbl := lw_at lw_m3 44 rfl
theorem q710 : (Jvm.Cond.instanceMethod ({ cls := "ColourDuel$Search", name := "together", desc := "(LColourDuel$Board;I)I" } : Jvm.MethodName)) ∈ lw_all := lw_g (lw_at lw_m3 136 rfl) rfl
theorem q711 : (Jvm.Cond.selects "ColourDuel$Search" ({ cls := "ColourDuel$Search", name := "together", desc := "(LColourDuel$Board;I)I" } : Jvm.MethodName) ({ cls := "ColourDuel$Search", name := "together", desc := "(LColourDuel$Board;I)I" } : Jvm.MethodName)) ∈ lw_all := lw_g (lw_at lw_m3 137 rfl) rfl
theorem q712 : (Jvm.Cond.code ({ cls := "ColourDuel$Search", name := "together", desc := "(LColourDuel$Board;I)I" } : Jvm.MethodName) prog_13_method_5_code (9 : Nat) (Option.some Jvm.ClassFile.FieldType.int)) ∈ lw_all := lw_g (lw_at lw_m3 138 rfl) rfl
theorem q713 : (Jvm.Cond.methodLink "ColourDuel$Search" (72 : Nat) ({ cls := "ColourDuel$Graph", name := "firstPart", desc := "(I)I" } : Jvm.MethodName)) ∈ lw_all := lw_g (lw_at lw_m3 139 rfl) rfl
theorem q725 : (Jvm.Cond.methodLink "ColourDuel$Search" (80 : Nat) ({ cls := "java/lang/Integer", name := "numberOfTrailingZeros", desc := "(I)I" } : Jvm.MethodName)) ∈ lw_all := lw_g (lw_at lw_m3 151 rfl) rfl
theorem q729 : (Jvm.Cond.methodLink "ColourDuel$Search" (85 : Nat) ({ cls := "ColourDuel$Search", name := "part", desc := "(LColourDuel$Board;II)I" } : Jvm.MethodName)) ∈ lw_all := lw_g (lw_at lw_m3 155 rfl) rfl
theorem q730 : (Jvm.Cond.instanceMethod ({ cls := "ColourDuel$Search", name := "part", desc := "(LColourDuel$Board;II)I" } : Jvm.MethodName)) ∈ lw_all := lw_g (lw_at lw_m3 156 rfl) rfl
theorem q731 : (Jvm.Cond.selects "ColourDuel$Search" ({ cls := "ColourDuel$Search", name := "part", desc := "(LColourDuel$Board;II)I" } : Jvm.MethodName) ({ cls := "ColourDuel$Search", name := "part", desc := "(LColourDuel$Board;II)I" } : Jvm.MethodName)) ∈ lw_all := lw_g (lw_at lw_m3 157 rfl) rfl
theorem q732 : (Jvm.Cond.code ({ cls := "ColourDuel$Search", name := "part", desc := "(LColourDuel$Board;II)I" } : Jvm.MethodName) prog_13_method_4_code (4 : Nat) (Option.some Jvm.ClassFile.FieldType.int)) ∈ lw_all := lw_g (lw_at lw_m3 158 rfl) rfl
theorem q733 : (Jvm.Cond.methodLink "ColourDuel$Search" (56 : Nat) ({ cls := "ColourDuel$Search", name := "begin", desc := "(LColourDuel$Graph;)V" } : Jvm.MethodName)) ∈ lw_all := lw_g (lw_at lw_m3 159 rfl) rfl
theorem q734 : (Jvm.Cond.privateMethod ({ cls := "ColourDuel$Search", name := "begin", desc := "(LColourDuel$Graph;)V" } : Jvm.MethodName)) ∈ lw_tbl := lw_at lw_m3 160 rfl
theorem q735 : (Jvm.Cond.instanceMethod ({ cls := "ColourDuel$Search", name := "begin", desc := "(LColourDuel$Graph;)V" } : Jvm.MethodName)) ∈ lw_all := lw_g (lw_at lw_m3 161 rfl) rfl
theorem q736 : (Jvm.Cond.code ({ cls := "ColourDuel$Search", name := "begin", desc := "(LColourDuel$Graph;)V" } : Jvm.MethodName) prog_13_method_2_code (2 : Nat) (Option.none : Option Jvm.ClassFile.FieldType)) ∈ lw_all := lw_g (lw_at lw_m3 162 rfl) rfl
theorem q737 : (Jvm.Cond.methodLink "ColourDuel$Search" (60 : Nat) ({ cls := "ColourDuel$Board", name := "masks", desc := "(I)I" } : Jvm.MethodName)) ∈ lw_all := lw_g (lw_at lw_m3 163 rfl) rfl
theorem q746 : (Jvm.Cond.methodLinkNest "ColourDuel$Search" (64 : Nat) ({ cls := "ColourDuel", name := "counting", desc := "(II)I" } : Jvm.MethodName) "ColourDuel") ∈ lw_tbl := lw_at lw_m3 172 rfl
theorem q755 : (Jvm.Cond.methodLink "ColourDuel$Search" (68 : Nat) ({ cls := "ColourDuel$Search", name := "solve", desc := "(IIII)I" } : Jvm.MethodName)) ∈ lw_all := lw_g (lw_at lw_m3 181 rfl) rfl
theorem q756 : (Jvm.Cond.privateMethod ({ cls := "ColourDuel$Search", name := "solve", desc := "(IIII)I" } : Jvm.MethodName)) ∈ lw_tbl := lw_at lw_m3 182 rfl
theorem q757 : (Jvm.Cond.instanceMethod ({ cls := "ColourDuel$Search", name := "solve", desc := "(IIII)I" } : Jvm.MethodName)) ∈ lw_all := lw_g (lw_at lw_m3 183 rfl) rfl
theorem q758 : (Jvm.Cond.code ({ cls := "ColourDuel$Search", name := "solve", desc := "(IIII)I" } : Jvm.MethodName) prog_13_method_6_code (9 : Nat) (Option.some Jvm.ClassFile.FieldType.int)) ∈ lw_all := lw_g (lw_at lw_m3 184 rfl) rfl
theorem q759 : (Jvm.Cond.methodLink "ColourDuel$Search" (102 : Nat) ({ cls := "ColourDuel$Search", name := "place", desc := "(J)I" } : Jvm.MethodName)) ∈ lw_all := lw_g (lw_at lw_m3 185 rfl) rfl
theorem q760 : (Jvm.Cond.privateMethod ({ cls := "ColourDuel$Search", name := "place", desc := "(J)I" } : Jvm.MethodName)) ∈ lw_tbl := lw_at lw_m3 186 rfl
theorem q761 : (Jvm.Cond.instanceMethod ({ cls := "ColourDuel$Search", name := "place", desc := "(J)I" } : Jvm.MethodName)) ∈ lw_all := lw_g (lw_at lw_m3 187 rfl) rfl
theorem q762 : (Jvm.Cond.code ({ cls := "ColourDuel$Search", name := "place", desc := "(J)I" } : Jvm.MethodName) prog_13_method_3_code (4 : Nat) (Option.some Jvm.ClassFile.FieldType.int)) ∈ lw_all := lw_g (lw_at lw_m3 188 rfl) rfl
theorem q763 : (Jvm.Cond.constantLong "ColourDuel$Search" (50 : Nat) (-7046029254386353131 : Int64)) ∈ lw_all := lw_g (lw_at lw_m3 189 rfl) rfl
theorem q764 : (Jvm.Cond.constant "ColourDuel$Search" (52 : Nat) (65535 : Int32)) ∈ lw_all := lw_g (lw_at lw_m3 190 rfl) rfl
theorem q765 : (Jvm.Cond.methodLink "ColourDuel$Search" (106 : Nat) ({ cls := "ColourDuel$Search", name := "look", desc := "(IIII)I" } : Jvm.MethodName)) ∈ lw_all := lw_g (lw_at lw_m3 191 rfl) rfl
theorem q766 : (Jvm.Cond.privateMethod ({ cls := "ColourDuel$Search", name := "look", desc := "(IIII)I" } : Jvm.MethodName)) ∈ lw_tbl := lw_at lw_m3 192 rfl
theorem q767 : (Jvm.Cond.instanceMethod ({ cls := "ColourDuel$Search", name := "look", desc := "(IIII)I" } : Jvm.MethodName)) ∈ lw_all := lw_g (lw_at lw_m3 193 rfl) rfl
theorem q768 : (Jvm.Cond.code ({ cls := "ColourDuel$Search", name := "look", desc := "(IIII)I" } : Jvm.MethodName) prog_13_method_7_code (13 : Nat) (Option.some Jvm.ClassFile.FieldType.int)) ∈ lw_all := lw_g (lw_at lw_m3 194 rfl) rfl
theorem q769 : (Jvm.Cond.methodLink "ColourDuel$Search" (113 : Nat) ({ cls := "ColourDuel$Search", name := "split", desc := "(II)I" } : Jvm.MethodName)) ∈ lw_all := lw_g (lw_at lw_m3 195 rfl) rfl
theorem q770 : (Jvm.Cond.privateMethod ({ cls := "ColourDuel$Search", name := "split", desc := "(II)I" } : Jvm.MethodName)) ∈ lw_tbl := lw_at lw_m3 196 rfl
theorem q771 : (Jvm.Cond.instanceMethod ({ cls := "ColourDuel$Search", name := "split", desc := "(II)I" } : Jvm.MethodName)) ∈ lw_all := lw_g (lw_at lw_m3 197 rfl) rfl
theorem q772 : (Jvm.Cond.code ({ cls := "ColourDuel$Search", name := "split", desc := "(II)I" } : Jvm.MethodName) prog_13_method_9_code (5 : Nat) (Option.some Jvm.ClassFile.FieldType.int)) ∈ lw_all := lw_g (lw_at lw_m3 198 rfl) rfl
theorem q773 : (Jvm.Cond.methodLink "ColourDuel$Search" (116 : Nat) ({ cls := "ColourDuel$Search", name := "near", desc := "(II)I" } : Jvm.MethodName)) ∈ lw_all := lw_g (lw_at lw_m3 199 rfl) rfl
theorem q774 : (Jvm.Cond.privateMethod ({ cls := "ColourDuel$Search", name := "near", desc := "(II)I" } : Jvm.MethodName)) ∈ lw_tbl := lw_at lw_m3 200 rfl
theorem q775 : (Jvm.Cond.instanceMethod ({ cls := "ColourDuel$Search", name := "near", desc := "(II)I" } : Jvm.MethodName)) ∈ lw_all := lw_g (lw_at lw_m3 201 rfl) rfl
theorem q776 : (Jvm.Cond.code ({ cls := "ColourDuel$Search", name := "near", desc := "(II)I" } : Jvm.MethodName) prog_13_method_8_code (5 : Nat) (Option.some Jvm.ClassFile.FieldType.int)) ∈ lw_all := lw_g (lw_at lw_m3 202 rfl) rfl
theorem q777 : (Jvm.Cond.methodLink "ColourDuel$Search" (119 : Nat) ({ cls := "ColourDuel$Search", name := "behind", desc := "(IIII)I" } : Jvm.MethodName)) ∈ lw_all := lw_g (lw_at lw_m3 203 rfl) rfl
theorem q778 : (Jvm.Cond.privateMethod ({ cls := "ColourDuel$Search", name := "behind", desc := "(IIII)I" } : Jvm.MethodName)) ∈ lw_tbl := lw_at lw_m3 204 rfl
theorem q779 : (Jvm.Cond.instanceMethod ({ cls := "ColourDuel$Search", name := "behind", desc := "(IIII)I" } : Jvm.MethodName)) ∈ lw_all := lw_g (lw_at lw_m3 205 rfl) rfl
theorem q780 : (Jvm.Cond.code ({ cls := "ColourDuel$Search", name := "behind", desc := "(IIII)I" } : Jvm.MethodName) prog_13_method_10_code (11 : Nat) (Option.some Jvm.ClassFile.FieldType.int)) ∈ lw_all := lw_g (lw_at lw_m3 206 rfl) rfl
theorem q781 : (Jvm.Cond.methodLinkNest "ColourDuel$Search" (89 : Nat) ({ cls := "ColourDuel", name := "value", desc := "(I)I" } : Jvm.MethodName) "ColourDuel") ∈ lw_tbl := lw_at lw_m3 207 rfl
theorem q784 : (Jvm.Cond.methodLinkNest "ColourDuel$Search" (92 : Nat) ({ cls := "ColourDuel", name := "longest", desc := "(I)I" } : Jvm.MethodName) "ColourDuel") ∈ lw_tbl := lw_at lw_m3 210 rfl
theorem q787 : (Jvm.Cond.methodLinkNest "ColourDuel$Search" (95 : Nat) ({ cls := "ColourDuel", name := "shortest", desc := "(I)I" } : Jvm.MethodName) "ColourDuel") ∈ lw_tbl := lw_at lw_m3 213 rfl
theorem q790 : (Jvm.Cond.methodLinkNest "ColourDuel$Search" (98 : Nat) ({ cls := "ColourDuel", name := "packed", desc := "(III)I" } : Jvm.MethodName) "ColourDuel") ∈ lw_tbl := lw_at lw_m3 216 rfl
theorem q793 : (Jvm.Cond.methodLink "ColourDuel$Search" (122 : Nat) ({ cls := "java/lang/Math", name := "max", desc := "(II)I" } : Jvm.MethodName)) ∈ lw_all := lw_g (lw_at lw_m3 219 rfl) rfl
theorem q794 : (Jvm.Cond.methodLink "ColourDuel$Search" (127 : Nat) ({ cls := "java/lang/Math", name := "min", desc := "(II)I" } : Jvm.MethodName)) ∈ lw_all := lw_g (lw_at lw_m3 220 rfl) rfl
theorem q795 : (Jvm.Cond.constant "ColourDuel$Search" (109 : Nat) (50000 : Int32)) ∈ lw_all := lw_g (lw_at lw_m3 221 rfl) rfl
theorem q953 : (Jvm.Cond.selects "ColourDuel$Search" ({ cls := "java/lang/Object", name := "getClass", desc := "()Ljava/lang/Class;" } : Jvm.MethodName) ({ cls := "java/lang/Object", name := "getClass", desc := "()Ljava/lang/Class;" } : Jvm.MethodName)) ∈ lw_all := lw_g (lw_at lw_m4 139 rfl) rfl
theorem q2254 : (Jvm.Cond.castable "ColourDuel$Search" "java/lang/Object") ∈ lw_tbl := lw_at lw_m10 0 rfl
theorem in_X2 : ∀ w ∈ wsX20, w ∈ lw_all := lw_in wsX20 [165, 167, 169, 171, 173, 175, 177, 179, 181] (by decide +kernel) (by decide +kernel)
/-! ColourDuel$Board -/
set_option maxRecDepth 100000
def RX3 : String := "ColourDuel$Board"
def TX3 : u_T := fun k => match k with
  | 0 => ("ColourDuel$Board", "graph", "LColourDuel$Graph;", true)
  | 1 => ("ColourDuel$Board", "colourOf", "[I", true)
  | 2 => ("ColourDuel$Board", "bans", "[I", true)
  | 3 => ("ColourDuel$Board", "accounts", "[LColourDuel$Account;", true)
  | 4 => ("ColourDuel$Board", "moves", "Ljava/util/List;", true)
  | 5 => ("ColourDuel$Board", "passes", "I", false)
  | _ => ("ColourDuel$Board", "mover", "I", false)
def tyX3 : Nat → FieldType := fun k => match k with
  | 0 => .object "ColourDuel$Graph"
  | 1 => .array .int
  | 2 => .array .int
  | 3 => .array (.object "ColourDuel$Account")
  | 4 => .object "java/util/List"
  | 5 => .int
  | _ => .int
abbrev wsX30 : List Cond := u_ws RX3 TX3 7
theorem nmX3 : ∀ a, a < 7 → ∀ b, b < 7 → a ≠ b → (TX3 a).2.1 ≠ (TX3 b).2.1 := by decide +kernel
theorem tyX3_ok : ∀ k, k < 7 → parseFieldDescriptor (TX3 k).2.2.1 = some (tyX3 k) := by decide +kernel
abbrev cX3_init : ByteArray := prog_4_method_1_code
def yX3_init : MethodName := ⟨RX3, "<init>", "(LColourDuel$Graph;)V"⟩
def dkwX3_init_4 : List UInt8 := [167, 255, 233, 177]
abbrev dktX3_init_4 : List UInt8 := dkwX3_init_4 ++ []
def dkwX3_init_3 : List UInt8 := [16, 9, 162, 0, 23, 42, 180, 0, 9, 28, 2, 79, 42, 180, 0, 15, 28, 2, 79, 132, 2, 1]
abbrev dktX3_init_3 : List UInt8 := dkwX3_init_3 ++ dktX3_init_4
def dkwX3_init_2 : List UInt8 := [181, 0, 21, 42, 187, 0, 25, 89, 16, 8, 183, 0, 27, 181, 0, 30, 42, 43, 181, 0, 34, 3, 61, 28]
abbrev dktX3_init_2 : List UInt8 := dkwX3_init_2 ++ dktX3_init_3
def dkwX3_init_1 : List UInt8 := [189, 0, 18, 89, 3, 187, 0, 18, 89, 183, 0, 20, 83, 89, 4, 187, 0, 18, 89, 183, 0, 20, 83]
abbrev dktX3_init_1 : List UInt8 := dkwX3_init_1 ++ dktX3_init_2
def dkwX3_init_0 : List UInt8 := [42, 183, 0, 3, 42, 16, 9, 188, 10, 181, 0, 9, 42, 16, 9, 188, 10, 181, 0, 15, 42, 5]
abbrev dktX3_init_0 : List UInt8 := dkwX3_init_0 ++ dktX3_init_1
theorem dksX3_init_0 : cX3_init.data.toList.drop 0 = dktX3_init_0 := by decide +kernel
theorem dksX3_init_1 : cX3_init.data.toList.drop 22 = dktX3_init_1 := dk_seg dksX3_init_0 22 rfl rfl
theorem dksX3_init_2 : cX3_init.data.toList.drop 45 = dktX3_init_2 := dk_seg dksX3_init_1 23 rfl rfl
theorem dksX3_init_3 : cX3_init.data.toList.drop 69 = dktX3_init_3 := dk_seg dksX3_init_2 24 rfl rfl
theorem dksX3_init_4 : cX3_init.data.toList.drop 91 = dktX3_init_4 := dk_seg dksX3_init_3 22 rfl rfl
theorem dX3_init_0 : decode cX3_init 0 = .ok (.aload_n 0, 1) := dk_42 (dk_at dksX3_init_0 0 rfl rfl)
theorem dX3_init_1 : decode cX3_init 1 = .ok (.invokespecial 3, 3) := dk_183 0 3 (dk_at dksX3_init_0 1 rfl rfl)
theorem dX3_init_4 : decode cX3_init 4 = .ok (.aload_n 0, 1) := dk_42 (dk_at dksX3_init_0 4 rfl rfl)
theorem dX3_init_5 : decode cX3_init 5 = .ok (.bipush 9, 2) := dk_16 9 (dk_at dksX3_init_0 5 rfl rfl)
theorem dX3_init_7 : decode cX3_init 7 = .ok (.newarray .int, 2) := dk_188_10 (dk_at dksX3_init_0 7 rfl rfl)
theorem dX3_init_9 : decode cX3_init 9 = .ok (.putfield 9, 3) := dk_181 0 9 (dk_at dksX3_init_0 9 rfl rfl)
theorem dX3_init_12 : decode cX3_init 12 = .ok (.aload_n 0, 1) := dk_42 (dk_at dksX3_init_0 12 rfl rfl)
theorem dX3_init_13 : decode cX3_init 13 = .ok (.bipush 9, 2) := dk_16 9 (dk_at dksX3_init_0 13 rfl rfl)
theorem dX3_init_15 : decode cX3_init 15 = .ok (.newarray .int, 2) := dk_188_10 (dk_at dksX3_init_0 15 rfl rfl)
theorem dX3_init_17 : decode cX3_init 17 = .ok (.putfield 15, 3) := dk_181 0 15 (dk_at dksX3_init_0 17 rfl rfl)
theorem dX3_init_20 : decode cX3_init 20 = .ok (.aload_n 0, 1) := dk_42 (dk_at dksX3_init_0 20 rfl rfl)
theorem dX3_init_21 : decode cX3_init 21 = .ok (.iconst 2, 1) := dk_5 (dk_at dksX3_init_0 21 rfl rfl)
theorem dX3_init_22 : decode cX3_init 22 = .ok (.anewarray 18, 3) := dk_189 0 18 (dk_at dksX3_init_1 0 rfl rfl)
theorem dX3_init_25 : decode cX3_init 25 = .ok (.dup, 1) := dk_89 (dk_at dksX3_init_1 3 rfl rfl)
theorem dX3_init_26 : decode cX3_init 26 = .ok (.iconst 0, 1) := dk_3 (dk_at dksX3_init_1 4 rfl rfl)
theorem dX3_init_27 : decode cX3_init 27 = .ok (.new 18, 3) := dk_187 0 18 (dk_at dksX3_init_1 5 rfl rfl)
theorem dX3_init_30 : decode cX3_init 30 = .ok (.dup, 1) := dk_89 (dk_at dksX3_init_1 8 rfl rfl)
theorem dX3_init_31 : decode cX3_init 31 = .ok (.invokespecial 20, 3) := dk_183 0 20 (dk_at dksX3_init_1 9 rfl rfl)
theorem dX3_init_34 : decode cX3_init 34 = .ok (.aastore, 1) := dk_83 (dk_at dksX3_init_1 12 rfl rfl)
theorem dX3_init_35 : decode cX3_init 35 = .ok (.dup, 1) := dk_89 (dk_at dksX3_init_1 13 rfl rfl)
theorem dX3_init_36 : decode cX3_init 36 = .ok (.iconst 1, 1) := dk_4 (dk_at dksX3_init_1 14 rfl rfl)
theorem dX3_init_37 : decode cX3_init 37 = .ok (.new 18, 3) := dk_187 0 18 (dk_at dksX3_init_1 15 rfl rfl)
theorem dX3_init_40 : decode cX3_init 40 = .ok (.dup, 1) := dk_89 (dk_at dksX3_init_1 18 rfl rfl)
theorem dX3_init_41 : decode cX3_init 41 = .ok (.invokespecial 20, 3) := dk_183 0 20 (dk_at dksX3_init_1 19 rfl rfl)
theorem dX3_init_44 : decode cX3_init 44 = .ok (.aastore, 1) := dk_83 (dk_at dksX3_init_1 22 rfl rfl)
theorem dX3_init_45 : decode cX3_init 45 = .ok (.putfield 21, 3) := dk_181 0 21 (dk_at dksX3_init_2 0 rfl rfl)
theorem dX3_init_48 : decode cX3_init 48 = .ok (.aload_n 0, 1) := dk_42 (dk_at dksX3_init_2 3 rfl rfl)
theorem dX3_init_49 : decode cX3_init 49 = .ok (.new 25, 3) := dk_187 0 25 (dk_at dksX3_init_2 4 rfl rfl)
theorem dX3_init_52 : decode cX3_init 52 = .ok (.dup, 1) := dk_89 (dk_at dksX3_init_2 7 rfl rfl)
theorem dX3_init_53 : decode cX3_init 53 = .ok (.bipush 8, 2) := dk_16 8 (dk_at dksX3_init_2 8 rfl rfl)
theorem dX3_init_55 : decode cX3_init 55 = .ok (.invokespecial 27, 3) := dk_183 0 27 (dk_at dksX3_init_2 10 rfl rfl)
theorem dX3_init_58 : decode cX3_init 58 = .ok (.putfield 30, 3) := dk_181 0 30 (dk_at dksX3_init_2 13 rfl rfl)
theorem dX3_init_61 : decode cX3_init 61 = .ok (.aload_n 0, 1) := dk_42 (dk_at dksX3_init_2 16 rfl rfl)
theorem dX3_init_62 : decode cX3_init 62 = .ok (.aload_n 1, 1) := dk_43 (dk_at dksX3_init_2 17 rfl rfl)
theorem dX3_init_63 : decode cX3_init 63 = .ok (.putfield 34, 3) := dk_181 0 34 (dk_at dksX3_init_2 18 rfl rfl)
theorem dX3_init_66 : decode cX3_init 66 = .ok (.iconst 0, 1) := dk_3 (dk_at dksX3_init_2 21 rfl rfl)
theorem dX3_init_67 : decode cX3_init 67 = .ok (.istore_n 2, 1) := dk_61 (dk_at dksX3_init_2 22 rfl rfl)
theorem dX3_init_68 : decode cX3_init 68 = .ok (.iload_n 2, 1) := dk_28 (dk_at dksX3_init_2 23 rfl rfl)
theorem dX3_init_69 : decode cX3_init 69 = .ok (.bipush 9, 2) := dk_16 9 (dk_at dksX3_init_3 0 rfl rfl)
theorem dX3_init_71 : decode cX3_init 71 = .ok (.if_icmp .ge 23, 3) := dk_162 0 23 (dk_at dksX3_init_3 2 rfl rfl)
theorem dX3_init_74 : decode cX3_init 74 = .ok (.aload_n 0, 1) := dk_42 (dk_at dksX3_init_3 5 rfl rfl)
theorem dX3_init_75 : decode cX3_init 75 = .ok (.getfield 9, 3) := dk_180 0 9 (dk_at dksX3_init_3 6 rfl rfl)
theorem dX3_init_78 : decode cX3_init 78 = .ok (.iload_n 2, 1) := dk_28 (dk_at dksX3_init_3 9 rfl rfl)
theorem dX3_init_79 : decode cX3_init 79 = .ok (.iconst (-1), 1) := dk_2 (dk_at dksX3_init_3 10 rfl rfl)
theorem dX3_init_80 : decode cX3_init 80 = .ok (.iastore, 1) := dk_79 (dk_at dksX3_init_3 11 rfl rfl)
theorem dX3_init_81 : decode cX3_init 81 = .ok (.aload_n 0, 1) := dk_42 (dk_at dksX3_init_3 12 rfl rfl)
theorem dX3_init_82 : decode cX3_init 82 = .ok (.getfield 15, 3) := dk_180 0 15 (dk_at dksX3_init_3 13 rfl rfl)
theorem dX3_init_85 : decode cX3_init 85 = .ok (.iload_n 2, 1) := dk_28 (dk_at dksX3_init_3 16 rfl rfl)
theorem dX3_init_86 : decode cX3_init 86 = .ok (.iconst (-1), 1) := dk_2 (dk_at dksX3_init_3 17 rfl rfl)
theorem dX3_init_87 : decode cX3_init 87 = .ok (.iastore, 1) := dk_79 (dk_at dksX3_init_3 18 rfl rfl)
theorem dX3_init_88 : decode cX3_init 88 = .ok (.iinc 2 1, 3) := dk_132 2 1 (dk_at dksX3_init_3 19 rfl rfl)
theorem dX3_init_91 : decode cX3_init 91 = .ok (.goto (-23), 3) := dk_167 255 233 (dk_at dksX3_init_4 0 rfl rfl)
theorem dX3_init_94 : decode cX3_init 94 = .ok (.return_, 1) := dk_177 (dk_at dksX3_init_4 3 rfl rfl)
abbrev cX3_free : ByteArray := prog_4_method_3_code
def yX3_free : MethodName := ⟨RX3, "free", "()I"⟩
def dkwX3_free_1 : List UInt8 := [160, 0, 9, 4, 28, 120, 167, 0, 4, 3, 128, 60, 132, 2, 1, 167, 255, 222, 27, 172]
abbrev dktX3_free_1 : List UInt8 := dkwX3_free_1 ++ []
def dkwX3_free_0 : List UInt8 := [3, 60, 3, 61, 28, 42, 180, 0, 34, 180, 0, 64, 162, 0, 29, 27, 42, 180, 0, 9, 28, 46, 2]
abbrev dktX3_free_0 : List UInt8 := dkwX3_free_0 ++ dktX3_free_1
theorem dksX3_free_0 : cX3_free.data.toList.drop 0 = dktX3_free_0 := by decide +kernel
theorem dksX3_free_1 : cX3_free.data.toList.drop 23 = dktX3_free_1 := dk_seg dksX3_free_0 23 rfl rfl
theorem dX3_free_0 : decode cX3_free 0 = .ok (.iconst 0, 1) := dk_3 (dk_at dksX3_free_0 0 rfl rfl)
theorem dX3_free_1 : decode cX3_free 1 = .ok (.istore_n 1, 1) := dk_60 (dk_at dksX3_free_0 1 rfl rfl)
theorem dX3_free_2 : decode cX3_free 2 = .ok (.iconst 0, 1) := dk_3 (dk_at dksX3_free_0 2 rfl rfl)
theorem dX3_free_3 : decode cX3_free 3 = .ok (.istore_n 2, 1) := dk_61 (dk_at dksX3_free_0 3 rfl rfl)
theorem dX3_free_4 : decode cX3_free 4 = .ok (.iload_n 2, 1) := dk_28 (dk_at dksX3_free_0 4 rfl rfl)
theorem dX3_free_5 : decode cX3_free 5 = .ok (.aload_n 0, 1) := dk_42 (dk_at dksX3_free_0 5 rfl rfl)
theorem dX3_free_6 : decode cX3_free 6 = .ok (.getfield 34, 3) := dk_180 0 34 (dk_at dksX3_free_0 6 rfl rfl)
theorem dX3_free_9 : decode cX3_free 9 = .ok (.getfield 64, 3) := dk_180 0 64 (dk_at dksX3_free_0 9 rfl rfl)
theorem dX3_free_12 : decode cX3_free 12 = .ok (.if_icmp .ge 29, 3) := dk_162 0 29 (dk_at dksX3_free_0 12 rfl rfl)
theorem dX3_free_15 : decode cX3_free 15 = .ok (.iload_n 1, 1) := dk_27 (dk_at dksX3_free_0 15 rfl rfl)
theorem dX3_free_16 : decode cX3_free 16 = .ok (.aload_n 0, 1) := dk_42 (dk_at dksX3_free_0 16 rfl rfl)
theorem dX3_free_17 : decode cX3_free 17 = .ok (.getfield 9, 3) := dk_180 0 9 (dk_at dksX3_free_0 17 rfl rfl)
theorem dX3_free_20 : decode cX3_free 20 = .ok (.iload_n 2, 1) := dk_28 (dk_at dksX3_free_0 20 rfl rfl)
theorem dX3_free_21 : decode cX3_free 21 = .ok (.iaload, 1) := dk_46 (dk_at dksX3_free_0 21 rfl rfl)
theorem dX3_free_22 : decode cX3_free 22 = .ok (.iconst (-1), 1) := dk_2 (dk_at dksX3_free_0 22 rfl rfl)
theorem dX3_free_23 : decode cX3_free 23 = .ok (.if_icmp .ne 9, 3) := dk_160 0 9 (dk_at dksX3_free_1 0 rfl rfl)
theorem dX3_free_26 : decode cX3_free 26 = .ok (.iconst 1, 1) := dk_4 (dk_at dksX3_free_1 3 rfl rfl)
theorem dX3_free_27 : decode cX3_free 27 = .ok (.iload_n 2, 1) := dk_28 (dk_at dksX3_free_1 4 rfl rfl)
theorem dX3_free_28 : decode cX3_free 28 = .ok (.ishl, 1) := dk_120 (dk_at dksX3_free_1 5 rfl rfl)
theorem dX3_free_29 : decode cX3_free 29 = .ok (.goto 4, 3) := dk_167 0 4 (dk_at dksX3_free_1 6 rfl rfl)
theorem dX3_free_32 : decode cX3_free 32 = .ok (.iconst 0, 1) := dk_3 (dk_at dksX3_free_1 9 rfl rfl)
theorem dX3_free_33 : decode cX3_free 33 = .ok (.ior, 1) := dk_128 (dk_at dksX3_free_1 10 rfl rfl)
theorem dX3_free_34 : decode cX3_free 34 = .ok (.istore_n 1, 1) := dk_60 (dk_at dksX3_free_1 11 rfl rfl)
theorem dX3_free_35 : decode cX3_free 35 = .ok (.iinc 2 1, 3) := dk_132 2 1 (dk_at dksX3_free_1 12 rfl rfl)
theorem dX3_free_38 : decode cX3_free 38 = .ok (.goto (-34), 3) := dk_167 255 222 (dk_at dksX3_free_1 15 rfl rfl)
theorem dX3_free_41 : decode cX3_free 41 = .ok (.iload_n 1, 1) := dk_27 (dk_at dksX3_free_1 18 rfl rfl)
theorem dX3_free_42 : decode cX3_free 42 = .ok (.ireturn, 1) := dk_172 (dk_at dksX3_free_1 19 rfl rfl)
abbrev cX3_masks : ByteArray := prog_4_method_8_code
def yX3_masks : MethodName := ⟨RX3, "masks", "(I)I"⟩
def dkwX3_masks_2 : List UInt8 := [132, 3, 1, 167, 255, 210, 28, 172]
abbrev dktX3_masks_2 : List UInt8 := dkwX3_masks_2 ++ []
def dkwX3_masks_1 : List UInt8 := [42, 180, 0, 34, 180, 0, 115, 29, 46, 42, 29, 182, 0, 118, 2, 130, 126, 6, 29, 104, 120, 128, 61]
abbrev dktX3_masks_1 : List UInt8 := dkwX3_masks_1 ++ dktX3_masks_2
def dkwX3_masks_0 : List UInt8 := [3, 61, 3, 62, 29, 42, 180, 0, 34, 180, 0, 64, 162, 0, 41, 27, 29, 184, 0, 104, 153, 0, 27, 28]
abbrev dktX3_masks_0 : List UInt8 := dkwX3_masks_0 ++ dktX3_masks_1
theorem dksX3_masks_0 : cX3_masks.data.toList.drop 0 = dktX3_masks_0 := by decide +kernel
theorem dksX3_masks_1 : cX3_masks.data.toList.drop 24 = dktX3_masks_1 := dk_seg dksX3_masks_0 24 rfl rfl
theorem dksX3_masks_2 : cX3_masks.data.toList.drop 47 = dktX3_masks_2 := dk_seg dksX3_masks_1 23 rfl rfl
theorem dX3_masks_0 : decode cX3_masks 0 = .ok (.iconst 0, 1) := dk_3 (dk_at dksX3_masks_0 0 rfl rfl)
theorem dX3_masks_1 : decode cX3_masks 1 = .ok (.istore_n 2, 1) := dk_61 (dk_at dksX3_masks_0 1 rfl rfl)
theorem dX3_masks_2 : decode cX3_masks 2 = .ok (.iconst 0, 1) := dk_3 (dk_at dksX3_masks_0 2 rfl rfl)
theorem dX3_masks_3 : decode cX3_masks 3 = .ok (.istore_n 3, 1) := dk_62 (dk_at dksX3_masks_0 3 rfl rfl)
theorem dX3_masks_4 : decode cX3_masks 4 = .ok (.iload_n 3, 1) := dk_29 (dk_at dksX3_masks_0 4 rfl rfl)
theorem dX3_masks_5 : decode cX3_masks 5 = .ok (.aload_n 0, 1) := dk_42 (dk_at dksX3_masks_0 5 rfl rfl)
theorem dX3_masks_6 : decode cX3_masks 6 = .ok (.getfield 34, 3) := dk_180 0 34 (dk_at dksX3_masks_0 6 rfl rfl)
theorem dX3_masks_9 : decode cX3_masks 9 = .ok (.getfield 64, 3) := dk_180 0 64 (dk_at dksX3_masks_0 9 rfl rfl)
theorem dX3_masks_12 : decode cX3_masks 12 = .ok (.if_icmp .ge 41, 3) := dk_162 0 41 (dk_at dksX3_masks_0 12 rfl rfl)
theorem dX3_masks_15 : decode cX3_masks 15 = .ok (.iload_n 1, 1) := dk_27 (dk_at dksX3_masks_0 15 rfl rfl)
theorem dX3_masks_16 : decode cX3_masks 16 = .ok (.iload_n 3, 1) := dk_29 (dk_at dksX3_masks_0 16 rfl rfl)
theorem dX3_masks_17 : decode cX3_masks 17 = .ok (.invokestatic 104, 3) := dk_184 0 104 (dk_at dksX3_masks_0 17 rfl rfl)
theorem dX3_masks_20 : decode cX3_masks 20 = .ok (.ifCond .eq 27, 3) := dk_153 0 27 (dk_at dksX3_masks_0 20 rfl rfl)
theorem dX3_masks_23 : decode cX3_masks 23 = .ok (.iload_n 2, 1) := dk_28 (dk_at dksX3_masks_0 23 rfl rfl)
theorem dX3_masks_24 : decode cX3_masks 24 = .ok (.aload_n 0, 1) := dk_42 (dk_at dksX3_masks_1 0 rfl rfl)
theorem dX3_masks_25 : decode cX3_masks 25 = .ok (.getfield 34, 3) := dk_180 0 34 (dk_at dksX3_masks_1 1 rfl rfl)
theorem dX3_masks_28 : decode cX3_masks 28 = .ok (.getfield 115, 3) := dk_180 0 115 (dk_at dksX3_masks_1 4 rfl rfl)
theorem dX3_masks_31 : decode cX3_masks 31 = .ok (.iload_n 3, 1) := dk_29 (dk_at dksX3_masks_1 7 rfl rfl)
theorem dX3_masks_32 : decode cX3_masks 32 = .ok (.iaload, 1) := dk_46 (dk_at dksX3_masks_1 8 rfl rfl)
theorem dX3_masks_33 : decode cX3_masks 33 = .ok (.aload_n 0, 1) := dk_42 (dk_at dksX3_masks_1 9 rfl rfl)
theorem dX3_masks_34 : decode cX3_masks 34 = .ok (.iload_n 3, 1) := dk_29 (dk_at dksX3_masks_1 10 rfl rfl)
theorem dX3_masks_35 : decode cX3_masks 35 = .ok (.invokevirtual 118, 3) := dk_182 0 118 (dk_at dksX3_masks_1 11 rfl rfl)
theorem dX3_masks_38 : decode cX3_masks 38 = .ok (.iconst (-1), 1) := dk_2 (dk_at dksX3_masks_1 14 rfl rfl)
theorem dX3_masks_39 : decode cX3_masks 39 = .ok (.ixor, 1) := dk_130 (dk_at dksX3_masks_1 15 rfl rfl)
theorem dX3_masks_40 : decode cX3_masks 40 = .ok (.iand, 1) := dk_126 (dk_at dksX3_masks_1 16 rfl rfl)
theorem dX3_masks_41 : decode cX3_masks 41 = .ok (.iconst 3, 1) := dk_6 (dk_at dksX3_masks_1 17 rfl rfl)
theorem dX3_masks_42 : decode cX3_masks 42 = .ok (.iload_n 3, 1) := dk_29 (dk_at dksX3_masks_1 18 rfl rfl)
theorem dX3_masks_43 : decode cX3_masks 43 = .ok (.imul, 1) := dk_104 (dk_at dksX3_masks_1 19 rfl rfl)
theorem dX3_masks_44 : decode cX3_masks 44 = .ok (.ishl, 1) := dk_120 (dk_at dksX3_masks_1 20 rfl rfl)
theorem dX3_masks_45 : decode cX3_masks 45 = .ok (.ior, 1) := dk_128 (dk_at dksX3_masks_1 21 rfl rfl)
theorem dX3_masks_46 : decode cX3_masks 46 = .ok (.istore_n 2, 1) := dk_61 (dk_at dksX3_masks_1 22 rfl rfl)
theorem dX3_masks_47 : decode cX3_masks 47 = .ok (.iinc 3 1, 3) := dk_132 3 1 (dk_at dksX3_masks_2 0 rfl rfl)
theorem dX3_masks_50 : decode cX3_masks 50 = .ok (.goto (-46), 3) := dk_167 255 210 (dk_at dksX3_masks_2 3 rfl rfl)
theorem dX3_masks_53 : decode cX3_masks 53 = .ok (.iload_n 2, 1) := dk_28 (dk_at dksX3_masks_2 6 rfl rfl)
theorem dX3_masks_54 : decode cX3_masks 54 = .ok (.ireturn, 1) := dk_172 (dk_at dksX3_masks_2 7 rfl rfl)
abbrev cX3_coloursNear : ByteArray := prog_4_method_7_code
def yX3_coloursNear : MethodName := ⟨RX3, "coloursNear", "(I)I"⟩
def dkwX3_coloursNear_2 : List UInt8 := [46, 120, 167, 0, 4, 3, 128, 61, 132, 3, 1, 167, 255, 201, 28, 172]
abbrev dktX3_coloursNear_2 : List UInt8 := dkwX3_coloursNear_2 ++ []
def dkwX3_coloursNear_1 : List UInt8 := [46, 29, 184, 0, 104, 153, 0, 24, 42, 180, 0, 9, 29, 46, 2, 159, 0, 14, 4, 42, 180, 0, 9, 29]
abbrev dktX3_coloursNear_1 : List UInt8 := dkwX3_coloursNear_1 ++ dktX3_coloursNear_2
def dkwX3_coloursNear_0 : List UInt8 := [3, 61, 3, 62, 29, 42, 180, 0, 34, 180, 0, 64, 162, 0, 50, 28, 42, 180, 0, 34, 180, 0, 112, 27]
abbrev dktX3_coloursNear_0 : List UInt8 := dkwX3_coloursNear_0 ++ dktX3_coloursNear_1
theorem dksX3_coloursNear_0 : cX3_coloursNear.data.toList.drop 0 = dktX3_coloursNear_0 := by decide +kernel
theorem dksX3_coloursNear_1 : cX3_coloursNear.data.toList.drop 24 = dktX3_coloursNear_1 := dk_seg dksX3_coloursNear_0 24 rfl rfl
theorem dksX3_coloursNear_2 : cX3_coloursNear.data.toList.drop 48 = dktX3_coloursNear_2 := dk_seg dksX3_coloursNear_1 24 rfl rfl
theorem dX3_coloursNear_0 : decode cX3_coloursNear 0 = .ok (.iconst 0, 1) := dk_3 (dk_at dksX3_coloursNear_0 0 rfl rfl)
theorem dX3_coloursNear_1 : decode cX3_coloursNear 1 = .ok (.istore_n 2, 1) := dk_61 (dk_at dksX3_coloursNear_0 1 rfl rfl)
theorem dX3_coloursNear_2 : decode cX3_coloursNear 2 = .ok (.iconst 0, 1) := dk_3 (dk_at dksX3_coloursNear_0 2 rfl rfl)
theorem dX3_coloursNear_3 : decode cX3_coloursNear 3 = .ok (.istore_n 3, 1) := dk_62 (dk_at dksX3_coloursNear_0 3 rfl rfl)
theorem dX3_coloursNear_4 : decode cX3_coloursNear 4 = .ok (.iload_n 3, 1) := dk_29 (dk_at dksX3_coloursNear_0 4 rfl rfl)
theorem dX3_coloursNear_5 : decode cX3_coloursNear 5 = .ok (.aload_n 0, 1) := dk_42 (dk_at dksX3_coloursNear_0 5 rfl rfl)
theorem dX3_coloursNear_6 : decode cX3_coloursNear 6 = .ok (.getfield 34, 3) := dk_180 0 34 (dk_at dksX3_coloursNear_0 6 rfl rfl)
theorem dX3_coloursNear_9 : decode cX3_coloursNear 9 = .ok (.getfield 64, 3) := dk_180 0 64 (dk_at dksX3_coloursNear_0 9 rfl rfl)
theorem dX3_coloursNear_12 : decode cX3_coloursNear 12 = .ok (.if_icmp .ge 50, 3) := dk_162 0 50 (dk_at dksX3_coloursNear_0 12 rfl rfl)
theorem dX3_coloursNear_15 : decode cX3_coloursNear 15 = .ok (.iload_n 2, 1) := dk_28 (dk_at dksX3_coloursNear_0 15 rfl rfl)
theorem dX3_coloursNear_16 : decode cX3_coloursNear 16 = .ok (.aload_n 0, 1) := dk_42 (dk_at dksX3_coloursNear_0 16 rfl rfl)
theorem dX3_coloursNear_17 : decode cX3_coloursNear 17 = .ok (.getfield 34, 3) := dk_180 0 34 (dk_at dksX3_coloursNear_0 17 rfl rfl)
theorem dX3_coloursNear_20 : decode cX3_coloursNear 20 = .ok (.getfield 112, 3) := dk_180 0 112 (dk_at dksX3_coloursNear_0 20 rfl rfl)
theorem dX3_coloursNear_23 : decode cX3_coloursNear 23 = .ok (.iload_n 1, 1) := dk_27 (dk_at dksX3_coloursNear_0 23 rfl rfl)
theorem dX3_coloursNear_24 : decode cX3_coloursNear 24 = .ok (.iaload, 1) := dk_46 (dk_at dksX3_coloursNear_1 0 rfl rfl)
theorem dX3_coloursNear_25 : decode cX3_coloursNear 25 = .ok (.iload_n 3, 1) := dk_29 (dk_at dksX3_coloursNear_1 1 rfl rfl)
theorem dX3_coloursNear_26 : decode cX3_coloursNear 26 = .ok (.invokestatic 104, 3) := dk_184 0 104 (dk_at dksX3_coloursNear_1 2 rfl rfl)
theorem dX3_coloursNear_29 : decode cX3_coloursNear 29 = .ok (.ifCond .eq 24, 3) := dk_153 0 24 (dk_at dksX3_coloursNear_1 5 rfl rfl)
theorem dX3_coloursNear_32 : decode cX3_coloursNear 32 = .ok (.aload_n 0, 1) := dk_42 (dk_at dksX3_coloursNear_1 8 rfl rfl)
theorem dX3_coloursNear_33 : decode cX3_coloursNear 33 = .ok (.getfield 9, 3) := dk_180 0 9 (dk_at dksX3_coloursNear_1 9 rfl rfl)
theorem dX3_coloursNear_36 : decode cX3_coloursNear 36 = .ok (.iload_n 3, 1) := dk_29 (dk_at dksX3_coloursNear_1 12 rfl rfl)
theorem dX3_coloursNear_37 : decode cX3_coloursNear 37 = .ok (.iaload, 1) := dk_46 (dk_at dksX3_coloursNear_1 13 rfl rfl)
theorem dX3_coloursNear_38 : decode cX3_coloursNear 38 = .ok (.iconst (-1), 1) := dk_2 (dk_at dksX3_coloursNear_1 14 rfl rfl)
theorem dX3_coloursNear_39 : decode cX3_coloursNear 39 = .ok (.if_icmp .eq 14, 3) := dk_159 0 14 (dk_at dksX3_coloursNear_1 15 rfl rfl)
theorem dX3_coloursNear_42 : decode cX3_coloursNear 42 = .ok (.iconst 1, 1) := dk_4 (dk_at dksX3_coloursNear_1 18 rfl rfl)
theorem dX3_coloursNear_43 : decode cX3_coloursNear 43 = .ok (.aload_n 0, 1) := dk_42 (dk_at dksX3_coloursNear_1 19 rfl rfl)
theorem dX3_coloursNear_44 : decode cX3_coloursNear 44 = .ok (.getfield 9, 3) := dk_180 0 9 (dk_at dksX3_coloursNear_1 20 rfl rfl)
theorem dX3_coloursNear_47 : decode cX3_coloursNear 47 = .ok (.iload_n 3, 1) := dk_29 (dk_at dksX3_coloursNear_1 23 rfl rfl)
theorem dX3_coloursNear_48 : decode cX3_coloursNear 48 = .ok (.iaload, 1) := dk_46 (dk_at dksX3_coloursNear_2 0 rfl rfl)
theorem dX3_coloursNear_49 : decode cX3_coloursNear 49 = .ok (.ishl, 1) := dk_120 (dk_at dksX3_coloursNear_2 1 rfl rfl)
theorem dX3_coloursNear_50 : decode cX3_coloursNear 50 = .ok (.goto 4, 3) := dk_167 0 4 (dk_at dksX3_coloursNear_2 2 rfl rfl)
theorem dX3_coloursNear_53 : decode cX3_coloursNear 53 = .ok (.iconst 0, 1) := dk_3 (dk_at dksX3_coloursNear_2 5 rfl rfl)
theorem dX3_coloursNear_54 : decode cX3_coloursNear 54 = .ok (.ior, 1) := dk_128 (dk_at dksX3_coloursNear_2 6 rfl rfl)
theorem dX3_coloursNear_55 : decode cX3_coloursNear 55 = .ok (.istore_n 2, 1) := dk_61 (dk_at dksX3_coloursNear_2 7 rfl rfl)
theorem dX3_coloursNear_56 : decode cX3_coloursNear 56 = .ok (.iinc 3 1, 3) := dk_132 3 1 (dk_at dksX3_coloursNear_2 8 rfl rfl)
theorem dX3_coloursNear_59 : decode cX3_coloursNear 59 = .ok (.goto (-55), 3) := dk_167 255 201 (dk_at dksX3_coloursNear_2 11 rfl rfl)
theorem dX3_coloursNear_62 : decode cX3_coloursNear 62 = .ok (.iload_n 2, 1) := dk_28 (dk_at dksX3_coloursNear_2 14 rfl rfl)
theorem dX3_coloursNear_63 : decode cX3_coloursNear 63 = .ok (.ireturn, 1) := dk_172 (dk_at dksX3_coloursNear_2 15 rfl rfl)
abbrev cX3_allMoves : ByteArray := prog_4_method_17_code
def yX3_allMoves : MethodName := ⟨RX3, "allMoves", "()LColourDuel$Board$Moves;"⟩
def dkwX3_allMoves_0 : List UInt8 := [187, 0, 174, 89, 42, 183, 0, 176, 176]
abbrev dktX3_allMoves_0 : List UInt8 := dkwX3_allMoves_0 ++ []
theorem dksX3_allMoves_0 : cX3_allMoves.data.toList.drop 0 = dktX3_allMoves_0 := by decide +kernel
theorem dX3_allMoves_0 : decode cX3_allMoves 0 = .ok (.new 174, 3) := dk_187 0 174 (dk_at dksX3_allMoves_0 0 rfl rfl)
theorem dX3_allMoves_3 : decode cX3_allMoves 3 = .ok (.dup, 1) := dk_89 (dk_at dksX3_allMoves_0 3 rfl rfl)
theorem dX3_allMoves_4 : decode cX3_allMoves 4 = .ok (.aload_n 0, 1) := dk_42 (dk_at dksX3_allMoves_0 4 rfl rfl)
theorem dX3_allMoves_5 : decode cX3_allMoves 5 = .ok (.invokespecial 176, 3) := dk_183 0 176 (dk_at dksX3_allMoves_0 5 rfl rfl)
theorem dX3_allMoves_8 : decode cX3_allMoves 8 = .ok (.areturn, 1) := dk_176 (dk_at dksX3_allMoves_0 8 rfl rfl)
abbrev cX3_partSet : ByteArray := prog_4_method_6_code
def yX3_partSet : MethodName := ⟨RX3, "partSet", "(I)I"⟩
def dkwX3_partSet_0 : List UInt8 := [42, 180, 0, 34, 4, 27, 120, 42, 182, 0, 69, 182, 0, 108, 172]
abbrev dktX3_partSet_0 : List UInt8 := dkwX3_partSet_0 ++ []
theorem dksX3_partSet_0 : cX3_partSet.data.toList.drop 0 = dktX3_partSet_0 := by decide +kernel
theorem dX3_partSet_0 : decode cX3_partSet 0 = .ok (.aload_n 0, 1) := dk_42 (dk_at dksX3_partSet_0 0 rfl rfl)
theorem dX3_partSet_1 : decode cX3_partSet 1 = .ok (.getfield 34, 3) := dk_180 0 34 (dk_at dksX3_partSet_0 1 rfl rfl)
theorem dX3_partSet_4 : decode cX3_partSet 4 = .ok (.iconst 1, 1) := dk_4 (dk_at dksX3_partSet_0 4 rfl rfl)
theorem dX3_partSet_5 : decode cX3_partSet 5 = .ok (.iload_n 1, 1) := dk_27 (dk_at dksX3_partSet_0 5 rfl rfl)
theorem dX3_partSet_6 : decode cX3_partSet 6 = .ok (.ishl, 1) := dk_120 (dk_at dksX3_partSet_0 6 rfl rfl)
theorem dX3_partSet_7 : decode cX3_partSet 7 = .ok (.aload_n 0, 1) := dk_42 (dk_at dksX3_partSet_0 7 rfl rfl)
theorem dX3_partSet_8 : decode cX3_partSet 8 = .ok (.invokevirtual 69, 3) := dk_182 0 69 (dk_at dksX3_partSet_0 8 rfl rfl)
theorem dX3_partSet_11 : decode cX3_partSet 11 = .ok (.invokevirtual 108, 3) := dk_182 0 108 (dk_at dksX3_partSet_0 11 rfl rfl)
theorem dX3_partSet_14 : decode cX3_partSet 14 = .ok (.ireturn, 1) := dk_172 (dk_at dksX3_partSet_0 14 rfl rfl)
abbrev cX3_copy : ByteArray := prog_4_method_2_code
def yX3_copy : MethodName := ⟨RX3, "copy", "()LColourDuel$Board;"⟩
def dkwX3_copy_4 : List UInt8 := [180, 0, 61, 181, 0, 61, 43, 176]
abbrev dktX3_copy_4 : List UInt8 := dkwX3_copy_4 ++ []
def dkwX3_copy_3 : List UInt8 := [43, 180, 0, 30, 42, 180, 0, 30, 185, 0, 51, 2, 0, 87, 43, 42, 180, 0, 57, 181, 0, 57, 43, 42]
abbrev dktX3_copy_3 : List UInt8 := dkwX3_copy_3 ++ dktX3_copy_4
def dkwX3_copy_2 : List UInt8 := [162, 0, 24, 43, 180, 0, 21, 28, 42, 180, 0, 21, 28, 50, 182, 0, 47, 83, 132, 2, 1, 167, 255, 233]
abbrev dktX3_copy_2 : List UInt8 := dkwX3_copy_2 ++ dktX3_copy_3
def dkwX3_copy_1 : List UInt8 := [184, 0, 41, 42, 180, 0, 15, 3, 43, 180, 0, 15, 3, 16, 9, 184, 0, 41, 3, 61, 28, 5]
abbrev dktX3_copy_1 : List UInt8 := dkwX3_copy_1 ++ dktX3_copy_2
def dkwX3_copy_0 : List UInt8 := [187, 0, 10, 89, 42, 180, 0, 34, 183, 0, 38, 76, 42, 180, 0, 9, 3, 43, 180, 0, 9, 3, 16, 9]
abbrev dktX3_copy_0 : List UInt8 := dkwX3_copy_0 ++ dktX3_copy_1
theorem dksX3_copy_0 : cX3_copy.data.toList.drop 0 = dktX3_copy_0 := by decide +kernel
theorem dksX3_copy_1 : cX3_copy.data.toList.drop 24 = dktX3_copy_1 := dk_seg dksX3_copy_0 24 rfl rfl
theorem dksX3_copy_2 : cX3_copy.data.toList.drop 46 = dktX3_copy_2 := dk_seg dksX3_copy_1 22 rfl rfl
theorem dksX3_copy_3 : cX3_copy.data.toList.drop 70 = dktX3_copy_3 := dk_seg dksX3_copy_2 24 rfl rfl
theorem dksX3_copy_4 : cX3_copy.data.toList.drop 94 = dktX3_copy_4 := dk_seg dksX3_copy_3 24 rfl rfl
theorem dX3_copy_0 : decode cX3_copy 0 = .ok (.new 10, 3) := dk_187 0 10 (dk_at dksX3_copy_0 0 rfl rfl)
theorem dX3_copy_3 : decode cX3_copy 3 = .ok (.dup, 1) := dk_89 (dk_at dksX3_copy_0 3 rfl rfl)
theorem dX3_copy_4 : decode cX3_copy 4 = .ok (.aload_n 0, 1) := dk_42 (dk_at dksX3_copy_0 4 rfl rfl)
theorem dX3_copy_5 : decode cX3_copy 5 = .ok (.getfield 34, 3) := dk_180 0 34 (dk_at dksX3_copy_0 5 rfl rfl)
theorem dX3_copy_8 : decode cX3_copy 8 = .ok (.invokespecial 38, 3) := dk_183 0 38 (dk_at dksX3_copy_0 8 rfl rfl)
theorem dX3_copy_11 : decode cX3_copy 11 = .ok (.astore_n 1, 1) := dk_76 (dk_at dksX3_copy_0 11 rfl rfl)
theorem dX3_copy_12 : decode cX3_copy 12 = .ok (.aload_n 0, 1) := dk_42 (dk_at dksX3_copy_0 12 rfl rfl)
theorem dX3_copy_13 : decode cX3_copy 13 = .ok (.getfield 9, 3) := dk_180 0 9 (dk_at dksX3_copy_0 13 rfl rfl)
theorem dX3_copy_16 : decode cX3_copy 16 = .ok (.iconst 0, 1) := dk_3 (dk_at dksX3_copy_0 16 rfl rfl)
theorem dX3_copy_17 : decode cX3_copy 17 = .ok (.aload_n 1, 1) := dk_43 (dk_at dksX3_copy_0 17 rfl rfl)
theorem dX3_copy_18 : decode cX3_copy 18 = .ok (.getfield 9, 3) := dk_180 0 9 (dk_at dksX3_copy_0 18 rfl rfl)
theorem dX3_copy_21 : decode cX3_copy 21 = .ok (.iconst 0, 1) := dk_3 (dk_at dksX3_copy_0 21 rfl rfl)
theorem dX3_copy_22 : decode cX3_copy 22 = .ok (.bipush 9, 2) := dk_16 9 (dk_at dksX3_copy_0 22 rfl rfl)
theorem dX3_copy_24 : decode cX3_copy 24 = .ok (.invokestatic 41, 3) := dk_184 0 41 (dk_at dksX3_copy_1 0 rfl rfl)
theorem dX3_copy_27 : decode cX3_copy 27 = .ok (.aload_n 0, 1) := dk_42 (dk_at dksX3_copy_1 3 rfl rfl)
theorem dX3_copy_28 : decode cX3_copy 28 = .ok (.getfield 15, 3) := dk_180 0 15 (dk_at dksX3_copy_1 4 rfl rfl)
theorem dX3_copy_31 : decode cX3_copy 31 = .ok (.iconst 0, 1) := dk_3 (dk_at dksX3_copy_1 7 rfl rfl)
theorem dX3_copy_32 : decode cX3_copy 32 = .ok (.aload_n 1, 1) := dk_43 (dk_at dksX3_copy_1 8 rfl rfl)
theorem dX3_copy_33 : decode cX3_copy 33 = .ok (.getfield 15, 3) := dk_180 0 15 (dk_at dksX3_copy_1 9 rfl rfl)
theorem dX3_copy_36 : decode cX3_copy 36 = .ok (.iconst 0, 1) := dk_3 (dk_at dksX3_copy_1 12 rfl rfl)
theorem dX3_copy_37 : decode cX3_copy 37 = .ok (.bipush 9, 2) := dk_16 9 (dk_at dksX3_copy_1 13 rfl rfl)
theorem dX3_copy_39 : decode cX3_copy 39 = .ok (.invokestatic 41, 3) := dk_184 0 41 (dk_at dksX3_copy_1 15 rfl rfl)
theorem dX3_copy_42 : decode cX3_copy 42 = .ok (.iconst 0, 1) := dk_3 (dk_at dksX3_copy_1 18 rfl rfl)
theorem dX3_copy_43 : decode cX3_copy 43 = .ok (.istore_n 2, 1) := dk_61 (dk_at dksX3_copy_1 19 rfl rfl)
theorem dX3_copy_44 : decode cX3_copy 44 = .ok (.iload_n 2, 1) := dk_28 (dk_at dksX3_copy_1 20 rfl rfl)
theorem dX3_copy_45 : decode cX3_copy 45 = .ok (.iconst 2, 1) := dk_5 (dk_at dksX3_copy_1 21 rfl rfl)
theorem dX3_copy_46 : decode cX3_copy 46 = .ok (.if_icmp .ge 24, 3) := dk_162 0 24 (dk_at dksX3_copy_2 0 rfl rfl)
theorem dX3_copy_49 : decode cX3_copy 49 = .ok (.aload_n 1, 1) := dk_43 (dk_at dksX3_copy_2 3 rfl rfl)
theorem dX3_copy_50 : decode cX3_copy 50 = .ok (.getfield 21, 3) := dk_180 0 21 (dk_at dksX3_copy_2 4 rfl rfl)
theorem dX3_copy_53 : decode cX3_copy 53 = .ok (.iload_n 2, 1) := dk_28 (dk_at dksX3_copy_2 7 rfl rfl)
theorem dX3_copy_54 : decode cX3_copy 54 = .ok (.aload_n 0, 1) := dk_42 (dk_at dksX3_copy_2 8 rfl rfl)
theorem dX3_copy_55 : decode cX3_copy 55 = .ok (.getfield 21, 3) := dk_180 0 21 (dk_at dksX3_copy_2 9 rfl rfl)
theorem dX3_copy_58 : decode cX3_copy 58 = .ok (.iload_n 2, 1) := dk_28 (dk_at dksX3_copy_2 12 rfl rfl)
theorem dX3_copy_59 : decode cX3_copy 59 = .ok (.aaload, 1) := dk_50 (dk_at dksX3_copy_2 13 rfl rfl)
theorem dX3_copy_60 : decode cX3_copy 60 = .ok (.invokevirtual 47, 3) := dk_182 0 47 (dk_at dksX3_copy_2 14 rfl rfl)
theorem dX3_copy_63 : decode cX3_copy 63 = .ok (.aastore, 1) := dk_83 (dk_at dksX3_copy_2 17 rfl rfl)
theorem dX3_copy_64 : decode cX3_copy 64 = .ok (.iinc 2 1, 3) := dk_132 2 1 (dk_at dksX3_copy_2 18 rfl rfl)
theorem dX3_copy_67 : decode cX3_copy 67 = .ok (.goto (-23), 3) := dk_167 255 233 (dk_at dksX3_copy_2 21 rfl rfl)
theorem dX3_copy_70 : decode cX3_copy 70 = .ok (.aload_n 1, 1) := dk_43 (dk_at dksX3_copy_3 0 rfl rfl)
theorem dX3_copy_71 : decode cX3_copy 71 = .ok (.getfield 30, 3) := dk_180 0 30 (dk_at dksX3_copy_3 1 rfl rfl)
theorem dX3_copy_74 : decode cX3_copy 74 = .ok (.aload_n 0, 1) := dk_42 (dk_at dksX3_copy_3 4 rfl rfl)
theorem dX3_copy_75 : decode cX3_copy 75 = .ok (.getfield 30, 3) := dk_180 0 30 (dk_at dksX3_copy_3 5 rfl rfl)
theorem dX3_copy_78 : decode cX3_copy 78 = .ok (.invokeinterface 51 2, 5) := by decide +kernel
theorem dX3_copy_83 : decode cX3_copy 83 = .ok (.pop, 1) := dk_87 (dk_at dksX3_copy_3 13 rfl rfl)
theorem dX3_copy_84 : decode cX3_copy 84 = .ok (.aload_n 1, 1) := dk_43 (dk_at dksX3_copy_3 14 rfl rfl)
theorem dX3_copy_85 : decode cX3_copy 85 = .ok (.aload_n 0, 1) := dk_42 (dk_at dksX3_copy_3 15 rfl rfl)
theorem dX3_copy_86 : decode cX3_copy 86 = .ok (.getfield 57, 3) := dk_180 0 57 (dk_at dksX3_copy_3 16 rfl rfl)
theorem dX3_copy_89 : decode cX3_copy 89 = .ok (.putfield 57, 3) := dk_181 0 57 (dk_at dksX3_copy_3 19 rfl rfl)
theorem dX3_copy_92 : decode cX3_copy 92 = .ok (.aload_n 1, 1) := dk_43 (dk_at dksX3_copy_3 22 rfl rfl)
theorem dX3_copy_93 : decode cX3_copy 93 = .ok (.aload_n 0, 1) := dk_42 (dk_at dksX3_copy_3 23 rfl rfl)
theorem dX3_copy_94 : decode cX3_copy 94 = .ok (.getfield 61, 3) := dk_180 0 61 (dk_at dksX3_copy_4 0 rfl rfl)
theorem dX3_copy_97 : decode cX3_copy 97 = .ok (.putfield 61, 3) := dk_181 0 61 (dk_at dksX3_copy_4 3 rfl rfl)
theorem dX3_copy_100 : decode cX3_copy 100 = .ok (.aload_n 1, 1) := dk_43 (dk_at dksX3_copy_4 6 rfl rfl)
theorem dX3_copy_101 : decode cX3_copy 101 = .ok (.areturn, 1) := dk_176 (dk_at dksX3_copy_4 7 rfl rfl)
abbrev cX3_makes : ByteArray := prog_4_method_16_code
def yX3_makes : MethodName := ⟨RX3, "makes", "(I)V"⟩
def dkwX3_makes_0 : List UInt8 := [27, 16, 100, 160, 0, 10, 42, 182, 0, 168, 167, 0, 13, 42, 27, 7, 108, 27, 7, 112, 182, 0, 171, 177]
abbrev dktX3_makes_0 : List UInt8 := dkwX3_makes_0 ++ []
theorem dksX3_makes_0 : cX3_makes.data.toList.drop 0 = dktX3_makes_0 := by decide +kernel
theorem dX3_makes_0 : decode cX3_makes 0 = .ok (.iload_n 1, 1) := dk_27 (dk_at dksX3_makes_0 0 rfl rfl)
theorem dX3_makes_1 : decode cX3_makes 1 = .ok (.bipush 100, 2) := dk_16 100 (dk_at dksX3_makes_0 1 rfl rfl)
theorem dX3_makes_3 : decode cX3_makes 3 = .ok (.if_icmp .ne 10, 3) := dk_160 0 10 (dk_at dksX3_makes_0 3 rfl rfl)
theorem dX3_makes_6 : decode cX3_makes 6 = .ok (.aload_n 0, 1) := dk_42 (dk_at dksX3_makes_0 6 rfl rfl)
theorem dX3_makes_7 : decode cX3_makes 7 = .ok (.invokevirtual 168, 3) := dk_182 0 168 (dk_at dksX3_makes_0 7 rfl rfl)
theorem dX3_makes_10 : decode cX3_makes 10 = .ok (.goto 13, 3) := dk_167 0 13 (dk_at dksX3_makes_0 10 rfl rfl)
theorem dX3_makes_13 : decode cX3_makes 13 = .ok (.aload_n 0, 1) := dk_42 (dk_at dksX3_makes_0 13 rfl rfl)
theorem dX3_makes_14 : decode cX3_makes 14 = .ok (.iload_n 1, 1) := dk_27 (dk_at dksX3_makes_0 14 rfl rfl)
theorem dX3_makes_15 : decode cX3_makes 15 = .ok (.iconst 4, 1) := dk_7 (dk_at dksX3_makes_0 15 rfl rfl)
theorem dX3_makes_16 : decode cX3_makes 16 = .ok (.idiv, 1) := dk_108 (dk_at dksX3_makes_0 16 rfl rfl)
theorem dX3_makes_17 : decode cX3_makes 17 = .ok (.iload_n 1, 1) := dk_27 (dk_at dksX3_makes_0 17 rfl rfl)
theorem dX3_makes_18 : decode cX3_makes 18 = .ok (.iconst 4, 1) := dk_7 (dk_at dksX3_makes_0 18 rfl rfl)
theorem dX3_makes_19 : decode cX3_makes 19 = .ok (.irem, 1) := dk_112 (dk_at dksX3_makes_0 19 rfl rfl)
theorem dX3_makes_20 : decode cX3_makes 20 = .ok (.invokevirtual 171, 3) := dk_182 0 171 (dk_at dksX3_makes_0 20 rfl rfl)
theorem dX3_makes_23 : decode cX3_makes 23 = .ok (.return_, 1) := dk_177 (dk_at dksX3_makes_0 23 rfl rfl)
abbrev cX3_pass : ByteArray := prog_4_method_15_code
def yX3_pass : MethodName := ⟨RX3, "pass", "()V"⟩
def dkwX3_pass_1 : List UInt8 := [96, 181, 0, 167, 42, 2, 2, 182, 0, 164, 177]
abbrev dktX3_pass_1 : List UInt8 := dkwX3_pass_1 ++ []
def dkwX3_pass_0 : List UInt8 := [42, 89, 180, 0, 57, 4, 100, 181, 0, 57, 42, 180, 0, 21, 42, 180, 0, 61, 50, 89, 180, 0, 167, 4]
abbrev dktX3_pass_0 : List UInt8 := dkwX3_pass_0 ++ dktX3_pass_1
theorem dksX3_pass_0 : cX3_pass.data.toList.drop 0 = dktX3_pass_0 := by decide +kernel
theorem dksX3_pass_1 : cX3_pass.data.toList.drop 24 = dktX3_pass_1 := dk_seg dksX3_pass_0 24 rfl rfl
theorem dX3_pass_0 : decode cX3_pass 0 = .ok (.aload_n 0, 1) := dk_42 (dk_at dksX3_pass_0 0 rfl rfl)
theorem dX3_pass_1 : decode cX3_pass 1 = .ok (.dup, 1) := dk_89 (dk_at dksX3_pass_0 1 rfl rfl)
theorem dX3_pass_2 : decode cX3_pass 2 = .ok (.getfield 57, 3) := dk_180 0 57 (dk_at dksX3_pass_0 2 rfl rfl)
theorem dX3_pass_5 : decode cX3_pass 5 = .ok (.iconst 1, 1) := dk_4 (dk_at dksX3_pass_0 5 rfl rfl)
theorem dX3_pass_6 : decode cX3_pass 6 = .ok (.isub, 1) := dk_100 (dk_at dksX3_pass_0 6 rfl rfl)
theorem dX3_pass_7 : decode cX3_pass 7 = .ok (.putfield 57, 3) := dk_181 0 57 (dk_at dksX3_pass_0 7 rfl rfl)
theorem dX3_pass_10 : decode cX3_pass 10 = .ok (.aload_n 0, 1) := dk_42 (dk_at dksX3_pass_0 10 rfl rfl)
theorem dX3_pass_11 : decode cX3_pass 11 = .ok (.getfield 21, 3) := dk_180 0 21 (dk_at dksX3_pass_0 11 rfl rfl)
theorem dX3_pass_14 : decode cX3_pass 14 = .ok (.aload_n 0, 1) := dk_42 (dk_at dksX3_pass_0 14 rfl rfl)
theorem dX3_pass_15 : decode cX3_pass 15 = .ok (.getfield 61, 3) := dk_180 0 61 (dk_at dksX3_pass_0 15 rfl rfl)
theorem dX3_pass_18 : decode cX3_pass 18 = .ok (.aaload, 1) := dk_50 (dk_at dksX3_pass_0 18 rfl rfl)
theorem dX3_pass_19 : decode cX3_pass 19 = .ok (.dup, 1) := dk_89 (dk_at dksX3_pass_0 19 rfl rfl)
theorem dX3_pass_20 : decode cX3_pass 20 = .ok (.getfield 167, 3) := dk_180 0 167 (dk_at dksX3_pass_0 20 rfl rfl)
theorem dX3_pass_23 : decode cX3_pass 23 = .ok (.iconst 1, 1) := dk_4 (dk_at dksX3_pass_0 23 rfl rfl)
theorem dX3_pass_24 : decode cX3_pass 24 = .ok (.iadd, 1) := dk_96 (dk_at dksX3_pass_1 0 rfl rfl)
theorem dX3_pass_25 : decode cX3_pass 25 = .ok (.putfield 167, 3) := dk_181 0 167 (dk_at dksX3_pass_1 1 rfl rfl)
theorem dX3_pass_28 : decode cX3_pass 28 = .ok (.aload_n 0, 1) := dk_42 (dk_at dksX3_pass_1 4 rfl rfl)
theorem dX3_pass_29 : decode cX3_pass 29 = .ok (.iconst (-1), 1) := dk_2 (dk_at dksX3_pass_1 5 rfl rfl)
theorem dX3_pass_30 : decode cX3_pass 30 = .ok (.iconst (-1), 1) := dk_2 (dk_at dksX3_pass_1 6 rfl rfl)
theorem dX3_pass_31 : decode cX3_pass 31 = .ok (.invokevirtual 164, 3) := dk_182 0 164 (dk_at dksX3_pass_1 7 rfl rfl)
theorem dX3_pass_34 : decode cX3_pass 34 = .ok (.return_, 1) := dk_177 (dk_at dksX3_pass_1 10 rfl rfl)
abbrev cX3_goesOn : ByteArray := prog_4_method_13_code
def yX3_goesOn : MethodName := ⟨RX3, "goesOn", "(II)V"⟩
def dkwX3_goesOn_1 : List UInt8 := [182, 0, 145, 183, 0, 148, 185, 0, 87, 2, 0, 87, 42, 4, 42, 180, 0, 61, 100, 181, 0, 61, 177]
abbrev dktX3_goesOn_1 : List UInt8 := dkwX3_goesOn_1 ++ []
def dkwX3_goesOn_0 : List UInt8 := [42, 180, 0, 30, 187, 0, 143, 89, 42, 180, 0, 61, 27, 28, 42, 180, 0, 34, 42, 182, 0, 69]
abbrev dktX3_goesOn_0 : List UInt8 := dkwX3_goesOn_0 ++ dktX3_goesOn_1
theorem dksX3_goesOn_0 : cX3_goesOn.data.toList.drop 0 = dktX3_goesOn_0 := by decide +kernel
theorem dksX3_goesOn_1 : cX3_goesOn.data.toList.drop 22 = dktX3_goesOn_1 := dk_seg dksX3_goesOn_0 22 rfl rfl
theorem dX3_goesOn_0 : decode cX3_goesOn 0 = .ok (.aload_n 0, 1) := dk_42 (dk_at dksX3_goesOn_0 0 rfl rfl)
theorem dX3_goesOn_1 : decode cX3_goesOn 1 = .ok (.getfield 30, 3) := dk_180 0 30 (dk_at dksX3_goesOn_0 1 rfl rfl)
theorem dX3_goesOn_4 : decode cX3_goesOn 4 = .ok (.new 143, 3) := dk_187 0 143 (dk_at dksX3_goesOn_0 4 rfl rfl)
theorem dX3_goesOn_7 : decode cX3_goesOn 7 = .ok (.dup, 1) := dk_89 (dk_at dksX3_goesOn_0 7 rfl rfl)
theorem dX3_goesOn_8 : decode cX3_goesOn 8 = .ok (.aload_n 0, 1) := dk_42 (dk_at dksX3_goesOn_0 8 rfl rfl)
theorem dX3_goesOn_9 : decode cX3_goesOn 9 = .ok (.getfield 61, 3) := dk_180 0 61 (dk_at dksX3_goesOn_0 9 rfl rfl)
theorem dX3_goesOn_12 : decode cX3_goesOn 12 = .ok (.iload_n 1, 1) := dk_27 (dk_at dksX3_goesOn_0 12 rfl rfl)
theorem dX3_goesOn_13 : decode cX3_goesOn 13 = .ok (.iload_n 2, 1) := dk_28 (dk_at dksX3_goesOn_0 13 rfl rfl)
theorem dX3_goesOn_14 : decode cX3_goesOn 14 = .ok (.aload_n 0, 1) := dk_42 (dk_at dksX3_goesOn_0 14 rfl rfl)
theorem dX3_goesOn_15 : decode cX3_goesOn 15 = .ok (.getfield 34, 3) := dk_180 0 34 (dk_at dksX3_goesOn_0 15 rfl rfl)
theorem dX3_goesOn_18 : decode cX3_goesOn 18 = .ok (.aload_n 0, 1) := dk_42 (dk_at dksX3_goesOn_0 18 rfl rfl)
theorem dX3_goesOn_19 : decode cX3_goesOn 19 = .ok (.invokevirtual 69, 3) := dk_182 0 69 (dk_at dksX3_goesOn_0 19 rfl rfl)
theorem dX3_goesOn_22 : decode cX3_goesOn 22 = .ok (.invokevirtual 145, 3) := dk_182 0 145 (dk_at dksX3_goesOn_1 0 rfl rfl)
theorem dX3_goesOn_25 : decode cX3_goesOn 25 = .ok (.invokespecial 148, 3) := dk_183 0 148 (dk_at dksX3_goesOn_1 3 rfl rfl)
theorem dX3_goesOn_28 : decode cX3_goesOn 28 = .ok (.invokeinterface 87 2, 5) := by decide +kernel
theorem dX3_goesOn_33 : decode cX3_goesOn 33 = .ok (.pop, 1) := dk_87 (dk_at dksX3_goesOn_1 11 rfl rfl)
theorem dX3_goesOn_34 : decode cX3_goesOn 34 = .ok (.aload_n 0, 1) := dk_42 (dk_at dksX3_goesOn_1 12 rfl rfl)
theorem dX3_goesOn_35 : decode cX3_goesOn 35 = .ok (.iconst 1, 1) := dk_4 (dk_at dksX3_goesOn_1 13 rfl rfl)
theorem dX3_goesOn_36 : decode cX3_goesOn 36 = .ok (.aload_n 0, 1) := dk_42 (dk_at dksX3_goesOn_1 14 rfl rfl)
theorem dX3_goesOn_37 : decode cX3_goesOn 37 = .ok (.getfield 61, 3) := dk_180 0 61 (dk_at dksX3_goesOn_1 15 rfl rfl)
theorem dX3_goesOn_40 : decode cX3_goesOn 40 = .ok (.isub, 1) := dk_100 (dk_at dksX3_goesOn_1 18 rfl rfl)
theorem dX3_goesOn_41 : decode cX3_goesOn 41 = .ok (.putfield 61, 3) := dk_181 0 61 (dk_at dksX3_goesOn_1 19 rfl rfl)
theorem dX3_goesOn_44 : decode cX3_goesOn 44 = .ok (.return_, 1) := dk_177 (dk_at dksX3_goesOn_1 22 rfl rfl)
abbrev cX3_lay : ByteArray := prog_4_method_14_code
def yX3_lay : MethodName := ⟨RX3, "lay", "(II)V"⟩
def dkwX3_lay_6 : List UInt8 := [180, 0, 15, 21, 5, 46, 79, 132, 5, 1, 167, 255, 214, 42, 27, 28, 182, 0, 164, 177]
abbrev dktX3_lay_6 : List UInt8 := dkwX3_lay_6 ++ []
def dkwX3_lay_5 : List UInt8 := [162, 0, 36, 42, 180, 0, 15, 21, 5, 29, 21, 5, 184, 0, 104, 153, 0, 7, 28, 167, 0, 10, 42]
abbrev dktX3_lay_5 : List UInt8 := dkwX3_lay_5 ++ dktX3_lay_6
def dkwX3_lay_4 : List UInt8 := [181, 0, 163, 42, 180, 0, 9, 27, 28, 79, 3, 54, 5, 21, 5, 42, 180, 0, 34, 180, 0, 64]
abbrev dktX3_lay_4 : List UInt8 := dkwX3_lay_4 ++ dktX3_lay_5
def dkwX3_lay_3 : List UInt8 := [154, 0, 7, 4, 167, 0, 4, 3, 96, 181, 0, 160, 25, 4, 89, 180, 0, 163, 4, 28, 120, 128]
abbrev dktX3_lay_3 : List UInt8 := dkwX3_lay_3 ++ dktX3_lay_4
def dkwX3_lay_2 : List UInt8 := [182, 0, 145, 4, 164, 0, 7, 4, 167, 0, 4, 3, 96, 181, 0, 157, 25, 4, 89, 180, 0, 160, 29]
abbrev dktX3_lay_2 : List UInt8 := dkwX3_lay_2 ++ dktX3_lay_3
def dkwX3_lay_1 : List UInt8 := [25, 4, 89, 180, 0, 154, 4, 96, 181, 0, 154, 25, 4, 89, 180, 0, 157, 42, 180, 0, 34, 29]
abbrev dktX3_lay_1 : List UInt8 := dkwX3_lay_1 ++ dktX3_lay_2
def dkwX3_lay_0 : List UInt8 := [42, 27, 182, 0, 151, 4, 27, 120, 2, 130, 126, 62, 42, 180, 0, 21, 42, 180, 0, 61, 50, 58, 4]
abbrev dktX3_lay_0 : List UInt8 := dkwX3_lay_0 ++ dktX3_lay_1
theorem dksX3_lay_0 : cX3_lay.data.toList.drop 0 = dktX3_lay_0 := by decide +kernel
theorem dksX3_lay_1 : cX3_lay.data.toList.drop 23 = dktX3_lay_1 := dk_seg dksX3_lay_0 23 rfl rfl
theorem dksX3_lay_2 : cX3_lay.data.toList.drop 45 = dktX3_lay_2 := dk_seg dksX3_lay_1 22 rfl rfl
theorem dksX3_lay_3 : cX3_lay.data.toList.drop 68 = dktX3_lay_3 := dk_seg dksX3_lay_2 23 rfl rfl
theorem dksX3_lay_4 : cX3_lay.data.toList.drop 90 = dktX3_lay_4 := dk_seg dksX3_lay_3 22 rfl rfl
theorem dksX3_lay_5 : cX3_lay.data.toList.drop 112 = dktX3_lay_5 := dk_seg dksX3_lay_4 22 rfl rfl
theorem dksX3_lay_6 : cX3_lay.data.toList.drop 135 = dktX3_lay_6 := dk_seg dksX3_lay_5 23 rfl rfl
theorem dX3_lay_0 : decode cX3_lay 0 = .ok (.aload_n 0, 1) := dk_42 (dk_at dksX3_lay_0 0 rfl rfl)
theorem dX3_lay_1 : decode cX3_lay 1 = .ok (.iload_n 1, 1) := dk_27 (dk_at dksX3_lay_0 1 rfl rfl)
theorem dX3_lay_2 : decode cX3_lay 2 = .ok (.invokevirtual 151, 3) := dk_182 0 151 (dk_at dksX3_lay_0 2 rfl rfl)
theorem dX3_lay_5 : decode cX3_lay 5 = .ok (.iconst 1, 1) := dk_4 (dk_at dksX3_lay_0 5 rfl rfl)
theorem dX3_lay_6 : decode cX3_lay 6 = .ok (.iload_n 1, 1) := dk_27 (dk_at dksX3_lay_0 6 rfl rfl)
theorem dX3_lay_7 : decode cX3_lay 7 = .ok (.ishl, 1) := dk_120 (dk_at dksX3_lay_0 7 rfl rfl)
theorem dX3_lay_8 : decode cX3_lay 8 = .ok (.iconst (-1), 1) := dk_2 (dk_at dksX3_lay_0 8 rfl rfl)
theorem dX3_lay_9 : decode cX3_lay 9 = .ok (.ixor, 1) := dk_130 (dk_at dksX3_lay_0 9 rfl rfl)
theorem dX3_lay_10 : decode cX3_lay 10 = .ok (.iand, 1) := dk_126 (dk_at dksX3_lay_0 10 rfl rfl)
theorem dX3_lay_11 : decode cX3_lay 11 = .ok (.istore_n 3, 1) := dk_62 (dk_at dksX3_lay_0 11 rfl rfl)
theorem dX3_lay_12 : decode cX3_lay 12 = .ok (.aload_n 0, 1) := dk_42 (dk_at dksX3_lay_0 12 rfl rfl)
theorem dX3_lay_13 : decode cX3_lay 13 = .ok (.getfield 21, 3) := dk_180 0 21 (dk_at dksX3_lay_0 13 rfl rfl)
theorem dX3_lay_16 : decode cX3_lay 16 = .ok (.aload_n 0, 1) := dk_42 (dk_at dksX3_lay_0 16 rfl rfl)
theorem dX3_lay_17 : decode cX3_lay 17 = .ok (.getfield 61, 3) := dk_180 0 61 (dk_at dksX3_lay_0 17 rfl rfl)
theorem dX3_lay_20 : decode cX3_lay 20 = .ok (.aaload, 1) := dk_50 (dk_at dksX3_lay_0 20 rfl rfl)
theorem dX3_lay_21 : decode cX3_lay 21 = .ok (.astore 4, 2) := dk_58 4 (dk_at dksX3_lay_0 21 rfl rfl)
theorem dX3_lay_23 : decode cX3_lay 23 = .ok (.aload 4, 2) := dk_25 4 (dk_at dksX3_lay_1 0 rfl rfl)
theorem dX3_lay_25 : decode cX3_lay 25 = .ok (.dup, 1) := dk_89 (dk_at dksX3_lay_1 2 rfl rfl)
theorem dX3_lay_26 : decode cX3_lay 26 = .ok (.getfield 154, 3) := dk_180 0 154 (dk_at dksX3_lay_1 3 rfl rfl)
theorem dX3_lay_29 : decode cX3_lay 29 = .ok (.iconst 1, 1) := dk_4 (dk_at dksX3_lay_1 6 rfl rfl)
theorem dX3_lay_30 : decode cX3_lay 30 = .ok (.iadd, 1) := dk_96 (dk_at dksX3_lay_1 7 rfl rfl)
theorem dX3_lay_31 : decode cX3_lay 31 = .ok (.putfield 154, 3) := dk_181 0 154 (dk_at dksX3_lay_1 8 rfl rfl)
theorem dX3_lay_34 : decode cX3_lay 34 = .ok (.aload 4, 2) := dk_25 4 (dk_at dksX3_lay_1 11 rfl rfl)
theorem dX3_lay_36 : decode cX3_lay 36 = .ok (.dup, 1) := dk_89 (dk_at dksX3_lay_1 13 rfl rfl)
theorem dX3_lay_37 : decode cX3_lay 37 = .ok (.getfield 157, 3) := dk_180 0 157 (dk_at dksX3_lay_1 14 rfl rfl)
theorem dX3_lay_40 : decode cX3_lay 40 = .ok (.aload_n 0, 1) := dk_42 (dk_at dksX3_lay_1 17 rfl rfl)
theorem dX3_lay_41 : decode cX3_lay 41 = .ok (.getfield 34, 3) := dk_180 0 34 (dk_at dksX3_lay_1 18 rfl rfl)
theorem dX3_lay_44 : decode cX3_lay 44 = .ok (.iload_n 3, 1) := dk_29 (dk_at dksX3_lay_1 21 rfl rfl)
theorem dX3_lay_45 : decode cX3_lay 45 = .ok (.invokevirtual 145, 3) := dk_182 0 145 (dk_at dksX3_lay_2 0 rfl rfl)
theorem dX3_lay_48 : decode cX3_lay 48 = .ok (.iconst 1, 1) := dk_4 (dk_at dksX3_lay_2 3 rfl rfl)
theorem dX3_lay_49 : decode cX3_lay 49 = .ok (.if_icmp .le 7, 3) := dk_164 0 7 (dk_at dksX3_lay_2 4 rfl rfl)
theorem dX3_lay_52 : decode cX3_lay 52 = .ok (.iconst 1, 1) := dk_4 (dk_at dksX3_lay_2 7 rfl rfl)
theorem dX3_lay_53 : decode cX3_lay 53 = .ok (.goto 4, 3) := dk_167 0 4 (dk_at dksX3_lay_2 8 rfl rfl)
theorem dX3_lay_56 : decode cX3_lay 56 = .ok (.iconst 0, 1) := dk_3 (dk_at dksX3_lay_2 11 rfl rfl)
theorem dX3_lay_57 : decode cX3_lay 57 = .ok (.iadd, 1) := dk_96 (dk_at dksX3_lay_2 12 rfl rfl)
theorem dX3_lay_58 : decode cX3_lay 58 = .ok (.putfield 157, 3) := dk_181 0 157 (dk_at dksX3_lay_2 13 rfl rfl)
theorem dX3_lay_61 : decode cX3_lay 61 = .ok (.aload 4, 2) := dk_25 4 (dk_at dksX3_lay_2 16 rfl rfl)
theorem dX3_lay_63 : decode cX3_lay 63 = .ok (.dup, 1) := dk_89 (dk_at dksX3_lay_2 18 rfl rfl)
theorem dX3_lay_64 : decode cX3_lay 64 = .ok (.getfield 160, 3) := dk_180 0 160 (dk_at dksX3_lay_2 19 rfl rfl)
theorem dX3_lay_67 : decode cX3_lay 67 = .ok (.iload_n 3, 1) := dk_29 (dk_at dksX3_lay_2 22 rfl rfl)
theorem dX3_lay_68 : decode cX3_lay 68 = .ok (.ifCond .ne 7, 3) := dk_154 0 7 (dk_at dksX3_lay_3 0 rfl rfl)
theorem dX3_lay_71 : decode cX3_lay 71 = .ok (.iconst 1, 1) := dk_4 (dk_at dksX3_lay_3 3 rfl rfl)
theorem dX3_lay_72 : decode cX3_lay 72 = .ok (.goto 4, 3) := dk_167 0 4 (dk_at dksX3_lay_3 4 rfl rfl)
theorem dX3_lay_75 : decode cX3_lay 75 = .ok (.iconst 0, 1) := dk_3 (dk_at dksX3_lay_3 7 rfl rfl)
theorem dX3_lay_76 : decode cX3_lay 76 = .ok (.iadd, 1) := dk_96 (dk_at dksX3_lay_3 8 rfl rfl)
theorem dX3_lay_77 : decode cX3_lay 77 = .ok (.putfield 160, 3) := dk_181 0 160 (dk_at dksX3_lay_3 9 rfl rfl)
theorem dX3_lay_80 : decode cX3_lay 80 = .ok (.aload 4, 2) := dk_25 4 (dk_at dksX3_lay_3 12 rfl rfl)
theorem dX3_lay_82 : decode cX3_lay 82 = .ok (.dup, 1) := dk_89 (dk_at dksX3_lay_3 14 rfl rfl)
theorem dX3_lay_83 : decode cX3_lay 83 = .ok (.getfield 163, 3) := dk_180 0 163 (dk_at dksX3_lay_3 15 rfl rfl)
theorem dX3_lay_86 : decode cX3_lay 86 = .ok (.iconst 1, 1) := dk_4 (dk_at dksX3_lay_3 18 rfl rfl)
theorem dX3_lay_87 : decode cX3_lay 87 = .ok (.iload_n 2, 1) := dk_28 (dk_at dksX3_lay_3 19 rfl rfl)
theorem dX3_lay_88 : decode cX3_lay 88 = .ok (.ishl, 1) := dk_120 (dk_at dksX3_lay_3 20 rfl rfl)
theorem dX3_lay_89 : decode cX3_lay 89 = .ok (.ior, 1) := dk_128 (dk_at dksX3_lay_3 21 rfl rfl)
theorem dX3_lay_90 : decode cX3_lay 90 = .ok (.putfield 163, 3) := dk_181 0 163 (dk_at dksX3_lay_4 0 rfl rfl)
theorem dX3_lay_93 : decode cX3_lay 93 = .ok (.aload_n 0, 1) := dk_42 (dk_at dksX3_lay_4 3 rfl rfl)
theorem dX3_lay_94 : decode cX3_lay 94 = .ok (.getfield 9, 3) := dk_180 0 9 (dk_at dksX3_lay_4 4 rfl rfl)
theorem dX3_lay_97 : decode cX3_lay 97 = .ok (.iload_n 1, 1) := dk_27 (dk_at dksX3_lay_4 7 rfl rfl)
theorem dX3_lay_98 : decode cX3_lay 98 = .ok (.iload_n 2, 1) := dk_28 (dk_at dksX3_lay_4 8 rfl rfl)
theorem dX3_lay_99 : decode cX3_lay 99 = .ok (.iastore, 1) := dk_79 (dk_at dksX3_lay_4 9 rfl rfl)
theorem dX3_lay_100 : decode cX3_lay 100 = .ok (.iconst 0, 1) := dk_3 (dk_at dksX3_lay_4 10 rfl rfl)
theorem dX3_lay_101 : decode cX3_lay 101 = .ok (.istore 5, 2) := dk_54 5 (dk_at dksX3_lay_4 11 rfl rfl)
theorem dX3_lay_103 : decode cX3_lay 103 = .ok (.iload 5, 2) := dk_21 5 (dk_at dksX3_lay_4 13 rfl rfl)
theorem dX3_lay_105 : decode cX3_lay 105 = .ok (.aload_n 0, 1) := dk_42 (dk_at dksX3_lay_4 15 rfl rfl)
theorem dX3_lay_106 : decode cX3_lay 106 = .ok (.getfield 34, 3) := dk_180 0 34 (dk_at dksX3_lay_4 16 rfl rfl)
theorem dX3_lay_109 : decode cX3_lay 109 = .ok (.getfield 64, 3) := dk_180 0 64 (dk_at dksX3_lay_4 19 rfl rfl)
theorem dX3_lay_112 : decode cX3_lay 112 = .ok (.if_icmp .ge 36, 3) := dk_162 0 36 (dk_at dksX3_lay_5 0 rfl rfl)
theorem dX3_lay_115 : decode cX3_lay 115 = .ok (.aload_n 0, 1) := dk_42 (dk_at dksX3_lay_5 3 rfl rfl)
theorem dX3_lay_116 : decode cX3_lay 116 = .ok (.getfield 15, 3) := dk_180 0 15 (dk_at dksX3_lay_5 4 rfl rfl)
theorem dX3_lay_119 : decode cX3_lay 119 = .ok (.iload 5, 2) := dk_21 5 (dk_at dksX3_lay_5 7 rfl rfl)
theorem dX3_lay_121 : decode cX3_lay 121 = .ok (.iload_n 3, 1) := dk_29 (dk_at dksX3_lay_5 9 rfl rfl)
theorem dX3_lay_122 : decode cX3_lay 122 = .ok (.iload 5, 2) := dk_21 5 (dk_at dksX3_lay_5 10 rfl rfl)
theorem dX3_lay_124 : decode cX3_lay 124 = .ok (.invokestatic 104, 3) := dk_184 0 104 (dk_at dksX3_lay_5 12 rfl rfl)
theorem dX3_lay_127 : decode cX3_lay 127 = .ok (.ifCond .eq 7, 3) := dk_153 0 7 (dk_at dksX3_lay_5 15 rfl rfl)
theorem dX3_lay_130 : decode cX3_lay 130 = .ok (.iload_n 2, 1) := dk_28 (dk_at dksX3_lay_5 18 rfl rfl)
theorem dX3_lay_131 : decode cX3_lay 131 = .ok (.goto 10, 3) := dk_167 0 10 (dk_at dksX3_lay_5 19 rfl rfl)
theorem dX3_lay_134 : decode cX3_lay 134 = .ok (.aload_n 0, 1) := dk_42 (dk_at dksX3_lay_5 22 rfl rfl)
theorem dX3_lay_135 : decode cX3_lay 135 = .ok (.getfield 15, 3) := dk_180 0 15 (dk_at dksX3_lay_6 0 rfl rfl)
theorem dX3_lay_138 : decode cX3_lay 138 = .ok (.iload 5, 2) := dk_21 5 (dk_at dksX3_lay_6 3 rfl rfl)
theorem dX3_lay_140 : decode cX3_lay 140 = .ok (.iaload, 1) := dk_46 (dk_at dksX3_lay_6 5 rfl rfl)
theorem dX3_lay_141 : decode cX3_lay 141 = .ok (.iastore, 1) := dk_79 (dk_at dksX3_lay_6 6 rfl rfl)
theorem dX3_lay_142 : decode cX3_lay 142 = .ok (.iinc 5 1, 3) := dk_132 5 1 (dk_at dksX3_lay_6 7 rfl rfl)
theorem dX3_lay_145 : decode cX3_lay 145 = .ok (.goto (-42), 3) := dk_167 255 214 (dk_at dksX3_lay_6 10 rfl rfl)
theorem dX3_lay_148 : decode cX3_lay 148 = .ok (.aload_n 0, 1) := dk_42 (dk_at dksX3_lay_6 13 rfl rfl)
theorem dX3_lay_149 : decode cX3_lay 149 = .ok (.iload_n 1, 1) := dk_27 (dk_at dksX3_lay_6 14 rfl rfl)
theorem dX3_lay_150 : decode cX3_lay 150 = .ok (.iload_n 2, 1) := dk_28 (dk_at dksX3_lay_6 15 rfl rfl)
theorem dX3_lay_151 : decode cX3_lay 151 = .ok (.invokevirtual 164, 3) := dk_182 0 164 (dk_at dksX3_lay_6 16 rfl rfl)
theorem dX3_lay_154 : decode cX3_lay 154 = .ok (.return_, 1) := dk_177 (dk_at dksX3_lay_6 19 rfl rfl)
abbrev cX3_parts : ByteArray := prog_4_method_4_code
def yX3_parts : MethodName := ⟨RX3, "parts", "()Ljava/util/List;"⟩
def dkwX3_parts_2 : List UInt8 := [185, 0, 87, 2, 0, 87, 28, 45, 182, 0, 91, 2, 130, 126, 61, 167, 255, 210, 43, 176]
abbrev dktX3_parts_2 : List UInt8 := dkwX3_parts_2 ++ []
def dkwX3_parts_1 : List UInt8 := [180, 0, 34, 28, 182, 0, 75, 42, 180, 0, 15, 28, 184, 0, 79, 46, 183, 0, 84, 78, 43, 45]
abbrev dktX3_parts_1 : List UInt8 := dkwX3_parts_1 ++ dktX3_parts_2
def dkwX3_parts_0 : List UInt8 := [187, 0, 25, 89, 7, 183, 0, 27, 76, 42, 182, 0, 69, 61, 28, 153, 0, 48, 187, 0, 73, 89, 42]
abbrev dktX3_parts_0 : List UInt8 := dkwX3_parts_0 ++ dktX3_parts_1
theorem dksX3_parts_0 : cX3_parts.data.toList.drop 0 = dktX3_parts_0 := by decide +kernel
theorem dksX3_parts_1 : cX3_parts.data.toList.drop 23 = dktX3_parts_1 := dk_seg dksX3_parts_0 23 rfl rfl
theorem dksX3_parts_2 : cX3_parts.data.toList.drop 45 = dktX3_parts_2 := dk_seg dksX3_parts_1 22 rfl rfl
theorem dX3_parts_0 : decode cX3_parts 0 = .ok (.new 25, 3) := dk_187 0 25 (dk_at dksX3_parts_0 0 rfl rfl)
theorem dX3_parts_3 : decode cX3_parts 3 = .ok (.dup, 1) := dk_89 (dk_at dksX3_parts_0 3 rfl rfl)
theorem dX3_parts_4 : decode cX3_parts 4 = .ok (.iconst 4, 1) := dk_7 (dk_at dksX3_parts_0 4 rfl rfl)
theorem dX3_parts_5 : decode cX3_parts 5 = .ok (.invokespecial 27, 3) := dk_183 0 27 (dk_at dksX3_parts_0 5 rfl rfl)
theorem dX3_parts_8 : decode cX3_parts 8 = .ok (.astore_n 1, 1) := dk_76 (dk_at dksX3_parts_0 8 rfl rfl)
theorem dX3_parts_9 : decode cX3_parts 9 = .ok (.aload_n 0, 1) := dk_42 (dk_at dksX3_parts_0 9 rfl rfl)
theorem dX3_parts_10 : decode cX3_parts 10 = .ok (.invokevirtual 69, 3) := dk_182 0 69 (dk_at dksX3_parts_0 10 rfl rfl)
theorem dX3_parts_13 : decode cX3_parts 13 = .ok (.istore_n 2, 1) := dk_61 (dk_at dksX3_parts_0 13 rfl rfl)
theorem dX3_parts_14 : decode cX3_parts 14 = .ok (.iload_n 2, 1) := dk_28 (dk_at dksX3_parts_0 14 rfl rfl)
theorem dX3_parts_15 : decode cX3_parts 15 = .ok (.ifCond .eq 48, 3) := dk_153 0 48 (dk_at dksX3_parts_0 15 rfl rfl)
theorem dX3_parts_18 : decode cX3_parts 18 = .ok (.new 73, 3) := dk_187 0 73 (dk_at dksX3_parts_0 18 rfl rfl)
theorem dX3_parts_21 : decode cX3_parts 21 = .ok (.dup, 1) := dk_89 (dk_at dksX3_parts_0 21 rfl rfl)
theorem dX3_parts_22 : decode cX3_parts 22 = .ok (.aload_n 0, 1) := dk_42 (dk_at dksX3_parts_0 22 rfl rfl)
theorem dX3_parts_23 : decode cX3_parts 23 = .ok (.getfield 34, 3) := dk_180 0 34 (dk_at dksX3_parts_1 0 rfl rfl)
theorem dX3_parts_26 : decode cX3_parts 26 = .ok (.iload_n 2, 1) := dk_28 (dk_at dksX3_parts_1 3 rfl rfl)
theorem dX3_parts_27 : decode cX3_parts 27 = .ok (.invokevirtual 75, 3) := dk_182 0 75 (dk_at dksX3_parts_1 4 rfl rfl)
theorem dX3_parts_30 : decode cX3_parts 30 = .ok (.aload_n 0, 1) := dk_42 (dk_at dksX3_parts_1 7 rfl rfl)
theorem dX3_parts_31 : decode cX3_parts 31 = .ok (.getfield 15, 3) := dk_180 0 15 (dk_at dksX3_parts_1 8 rfl rfl)
theorem dX3_parts_34 : decode cX3_parts 34 = .ok (.iload_n 2, 1) := dk_28 (dk_at dksX3_parts_1 11 rfl rfl)
theorem dX3_parts_35 : decode cX3_parts 35 = .ok (.invokestatic 79, 3) := dk_184 0 79 (dk_at dksX3_parts_1 12 rfl rfl)
theorem dX3_parts_38 : decode cX3_parts 38 = .ok (.iaload, 1) := dk_46 (dk_at dksX3_parts_1 15 rfl rfl)
theorem dX3_parts_39 : decode cX3_parts 39 = .ok (.invokespecial 84, 3) := dk_183 0 84 (dk_at dksX3_parts_1 16 rfl rfl)
theorem dX3_parts_42 : decode cX3_parts 42 = .ok (.astore_n 3, 1) := dk_78 (dk_at dksX3_parts_1 19 rfl rfl)
theorem dX3_parts_43 : decode cX3_parts 43 = .ok (.aload_n 1, 1) := dk_43 (dk_at dksX3_parts_1 20 rfl rfl)
theorem dX3_parts_44 : decode cX3_parts 44 = .ok (.aload_n 3, 1) := dk_45 (dk_at dksX3_parts_1 21 rfl rfl)
theorem dX3_parts_45 : decode cX3_parts 45 = .ok (.invokeinterface 87 2, 5) := by decide +kernel
theorem dX3_parts_50 : decode cX3_parts 50 = .ok (.pop, 1) := dk_87 (dk_at dksX3_parts_2 5 rfl rfl)
theorem dX3_parts_51 : decode cX3_parts 51 = .ok (.iload_n 2, 1) := dk_28 (dk_at dksX3_parts_2 6 rfl rfl)
theorem dX3_parts_52 : decode cX3_parts 52 = .ok (.aload_n 3, 1) := dk_45 (dk_at dksX3_parts_2 7 rfl rfl)
theorem dX3_parts_53 : decode cX3_parts 53 = .ok (.invokevirtual 91, 3) := dk_182 0 91 (dk_at dksX3_parts_2 8 rfl rfl)
theorem dX3_parts_56 : decode cX3_parts 56 = .ok (.iconst (-1), 1) := dk_2 (dk_at dksX3_parts_2 11 rfl rfl)
theorem dX3_parts_57 : decode cX3_parts 57 = .ok (.ixor, 1) := dk_130 (dk_at dksX3_parts_2 12 rfl rfl)
theorem dX3_parts_58 : decode cX3_parts 58 = .ok (.iand, 1) := dk_126 (dk_at dksX3_parts_2 13 rfl rfl)
theorem dX3_parts_59 : decode cX3_parts 59 = .ok (.istore_n 2, 1) := dk_61 (dk_at dksX3_parts_2 14 rfl rfl)
theorem dX3_parts_60 : decode cX3_parts 60 = .ok (.goto (-46), 3) := dk_167 255 210 (dk_at dksX3_parts_2 15 rfl rfl)
theorem dX3_parts_63 : decode cX3_parts 63 = .ok (.aload_n 1, 1) := dk_43 (dk_at dksX3_parts_2 18 rfl rfl)
theorem dX3_parts_64 : decode cX3_parts 64 = .ok (.areturn, 1) := dk_176 (dk_at dksX3_parts_2 19 rfl rfl)
abbrev cX3_isOver : ByteArray := prog_4_method_12_code
def yX3_isOver : MethodName := ⟨RX3, "isOver", "()Z"⟩
def dkwX3_isOver_0 : List UInt8 := [42, 180, 0, 57, 154, 0, 18, 42, 42, 182, 0, 69, 182, 0, 140, 154, 0, 7, 4, 167, 0, 4, 3, 172]
abbrev dktX3_isOver_0 : List UInt8 := dkwX3_isOver_0 ++ []
theorem dksX3_isOver_0 : cX3_isOver.data.toList.drop 0 = dktX3_isOver_0 := by decide +kernel
theorem dX3_isOver_0 : decode cX3_isOver 0 = .ok (.aload_n 0, 1) := dk_42 (dk_at dksX3_isOver_0 0 rfl rfl)
theorem dX3_isOver_1 : decode cX3_isOver 1 = .ok (.getfield 57, 3) := dk_180 0 57 (dk_at dksX3_isOver_0 1 rfl rfl)
theorem dX3_isOver_4 : decode cX3_isOver 4 = .ok (.ifCond .ne 18, 3) := dk_154 0 18 (dk_at dksX3_isOver_0 4 rfl rfl)
theorem dX3_isOver_7 : decode cX3_isOver 7 = .ok (.aload_n 0, 1) := dk_42 (dk_at dksX3_isOver_0 7 rfl rfl)
theorem dX3_isOver_8 : decode cX3_isOver 8 = .ok (.aload_n 0, 1) := dk_42 (dk_at dksX3_isOver_0 8 rfl rfl)
theorem dX3_isOver_9 : decode cX3_isOver 9 = .ok (.invokevirtual 69, 3) := dk_182 0 69 (dk_at dksX3_isOver_0 9 rfl rfl)
theorem dX3_isOver_12 : decode cX3_isOver 12 = .ok (.invokevirtual 140, 3) := dk_182 0 140 (dk_at dksX3_isOver_0 12 rfl rfl)
theorem dX3_isOver_15 : decode cX3_isOver 15 = .ok (.ifCond .ne 7, 3) := dk_154 0 7 (dk_at dksX3_isOver_0 15 rfl rfl)
theorem dX3_isOver_18 : decode cX3_isOver 18 = .ok (.iconst 1, 1) := dk_4 (dk_at dksX3_isOver_0 18 rfl rfl)
theorem dX3_isOver_19 : decode cX3_isOver 19 = .ok (.goto 4, 3) := dk_167 0 4 (dk_at dksX3_isOver_0 19 rfl rfl)
theorem dX3_isOver_22 : decode cX3_isOver 22 = .ok (.iconst 0, 1) := dk_3 (dk_at dksX3_isOver_0 22 rfl rfl)
theorem dX3_isOver_23 : decode cX3_isOver 23 = .ok (.ireturn, 1) := dk_172 (dk_at dksX3_isOver_0 23 rfl rfl)
abbrev cX3_pairs : ByteArray := prog_4_method_10_code
def yX3_pairs : MethodName := ⟨RX3, "pairs", "(I)I"⟩
def dkwX3_pairs_1 : List UInt8 := [42, 29, 182, 0, 134, 184, 0, 137, 167, 0, 4, 3, 96, 61, 132, 3, 1, 167, 255, 219, 28, 172]
abbrev dktX3_pairs_1 : List UInt8 := dkwX3_pairs_1 ++ []
def dkwX3_pairs_0 : List UInt8 := [3, 61, 3, 62, 29, 42, 180, 0, 34, 180, 0, 64, 162, 0, 32, 28, 27, 29, 184, 0, 104, 153, 0, 14]
abbrev dktX3_pairs_0 : List UInt8 := dkwX3_pairs_0 ++ dktX3_pairs_1
theorem dksX3_pairs_0 : cX3_pairs.data.toList.drop 0 = dktX3_pairs_0 := by decide +kernel
theorem dksX3_pairs_1 : cX3_pairs.data.toList.drop 24 = dktX3_pairs_1 := dk_seg dksX3_pairs_0 24 rfl rfl
theorem dX3_pairs_0 : decode cX3_pairs 0 = .ok (.iconst 0, 1) := dk_3 (dk_at dksX3_pairs_0 0 rfl rfl)
theorem dX3_pairs_1 : decode cX3_pairs 1 = .ok (.istore_n 2, 1) := dk_61 (dk_at dksX3_pairs_0 1 rfl rfl)
theorem dX3_pairs_2 : decode cX3_pairs 2 = .ok (.iconst 0, 1) := dk_3 (dk_at dksX3_pairs_0 2 rfl rfl)
theorem dX3_pairs_3 : decode cX3_pairs 3 = .ok (.istore_n 3, 1) := dk_62 (dk_at dksX3_pairs_0 3 rfl rfl)
theorem dX3_pairs_4 : decode cX3_pairs 4 = .ok (.iload_n 3, 1) := dk_29 (dk_at dksX3_pairs_0 4 rfl rfl)
theorem dX3_pairs_5 : decode cX3_pairs 5 = .ok (.aload_n 0, 1) := dk_42 (dk_at dksX3_pairs_0 5 rfl rfl)
theorem dX3_pairs_6 : decode cX3_pairs 6 = .ok (.getfield 34, 3) := dk_180 0 34 (dk_at dksX3_pairs_0 6 rfl rfl)
theorem dX3_pairs_9 : decode cX3_pairs 9 = .ok (.getfield 64, 3) := dk_180 0 64 (dk_at dksX3_pairs_0 9 rfl rfl)
theorem dX3_pairs_12 : decode cX3_pairs 12 = .ok (.if_icmp .ge 32, 3) := dk_162 0 32 (dk_at dksX3_pairs_0 12 rfl rfl)
theorem dX3_pairs_15 : decode cX3_pairs 15 = .ok (.iload_n 2, 1) := dk_28 (dk_at dksX3_pairs_0 15 rfl rfl)
theorem dX3_pairs_16 : decode cX3_pairs 16 = .ok (.iload_n 1, 1) := dk_27 (dk_at dksX3_pairs_0 16 rfl rfl)
theorem dX3_pairs_17 : decode cX3_pairs 17 = .ok (.iload_n 3, 1) := dk_29 (dk_at dksX3_pairs_0 17 rfl rfl)
theorem dX3_pairs_18 : decode cX3_pairs 18 = .ok (.invokestatic 104, 3) := dk_184 0 104 (dk_at dksX3_pairs_0 18 rfl rfl)
theorem dX3_pairs_21 : decode cX3_pairs 21 = .ok (.ifCond .eq 14, 3) := dk_153 0 14 (dk_at dksX3_pairs_0 21 rfl rfl)
theorem dX3_pairs_24 : decode cX3_pairs 24 = .ok (.aload_n 0, 1) := dk_42 (dk_at dksX3_pairs_1 0 rfl rfl)
theorem dX3_pairs_25 : decode cX3_pairs 25 = .ok (.iload_n 3, 1) := dk_29 (dk_at dksX3_pairs_1 1 rfl rfl)
theorem dX3_pairs_26 : decode cX3_pairs 26 = .ok (.invokevirtual 134, 3) := dk_182 0 134 (dk_at dksX3_pairs_1 2 rfl rfl)
theorem dX3_pairs_29 : decode cX3_pairs 29 = .ok (.invokestatic 137, 3) := dk_184 0 137 (dk_at dksX3_pairs_1 5 rfl rfl)
theorem dX3_pairs_32 : decode cX3_pairs 32 = .ok (.goto 4, 3) := dk_167 0 4 (dk_at dksX3_pairs_1 8 rfl rfl)
theorem dX3_pairs_35 : decode cX3_pairs 35 = .ok (.iconst 0, 1) := dk_3 (dk_at dksX3_pairs_1 11 rfl rfl)
theorem dX3_pairs_36 : decode cX3_pairs 36 = .ok (.iadd, 1) := dk_96 (dk_at dksX3_pairs_1 12 rfl rfl)
theorem dX3_pairs_37 : decode cX3_pairs 37 = .ok (.istore_n 2, 1) := dk_61 (dk_at dksX3_pairs_1 13 rfl rfl)
theorem dX3_pairs_38 : decode cX3_pairs 38 = .ok (.iinc 3 1, 3) := dk_132 3 1 (dk_at dksX3_pairs_1 14 rfl rfl)
theorem dX3_pairs_41 : decode cX3_pairs 41 = .ok (.goto (-37), 3) := dk_167 255 219 (dk_at dksX3_pairs_1 17 rfl rfl)
theorem dX3_pairs_44 : decode cX3_pairs 44 = .ok (.iload_n 2, 1) := dk_28 (dk_at dksX3_pairs_1 20 rfl rfl)
theorem dX3_pairs_45 : decode cX3_pairs 45 = .ok (.ireturn, 1) := dk_172 (dk_at dksX3_pairs_1 21 rfl rfl)
abbrev cX3_layable : ByteArray := prog_4_method_9_code
def yX3_layable : MethodName := ⟨RX3, "layable", "(I)I"⟩
def dkwX3_layable_2 : List UInt8 := [61, 132, 3, 1, 167, 255, 220, 28, 172]
abbrev dktX3_layable_2 : List UInt8 := dkwX3_layable_2 ++ []
def dkwX3_layable_1 : List UInt8 := [162, 0, 31, 28, 178, 0, 124, 42, 27, 29, 182, 0, 128, 154, 0, 9, 4, 29, 120, 167, 0, 4, 3, 128]
abbrev dktX3_layable_1 : List UInt8 := dkwX3_layable_1 ++ dktX3_layable_2
def dkwX3_layable_0 : List UInt8 := [42, 180, 0, 9, 27, 46, 2, 159, 0, 5, 3, 172, 3, 61, 3, 62, 29, 42, 180, 0, 34, 180, 0, 121]
abbrev dktX3_layable_0 : List UInt8 := dkwX3_layable_0 ++ dktX3_layable_1
theorem dksX3_layable_0 : cX3_layable.data.toList.drop 0 = dktX3_layable_0 := by decide +kernel
theorem dksX3_layable_1 : cX3_layable.data.toList.drop 24 = dktX3_layable_1 := dk_seg dksX3_layable_0 24 rfl rfl
theorem dksX3_layable_2 : cX3_layable.data.toList.drop 48 = dktX3_layable_2 := dk_seg dksX3_layable_1 24 rfl rfl
theorem dX3_layable_0 : decode cX3_layable 0 = .ok (.aload_n 0, 1) := dk_42 (dk_at dksX3_layable_0 0 rfl rfl)
theorem dX3_layable_1 : decode cX3_layable 1 = .ok (.getfield 9, 3) := dk_180 0 9 (dk_at dksX3_layable_0 1 rfl rfl)
theorem dX3_layable_4 : decode cX3_layable 4 = .ok (.iload_n 1, 1) := dk_27 (dk_at dksX3_layable_0 4 rfl rfl)
theorem dX3_layable_5 : decode cX3_layable 5 = .ok (.iaload, 1) := dk_46 (dk_at dksX3_layable_0 5 rfl rfl)
theorem dX3_layable_6 : decode cX3_layable 6 = .ok (.iconst (-1), 1) := dk_2 (dk_at dksX3_layable_0 6 rfl rfl)
theorem dX3_layable_7 : decode cX3_layable 7 = .ok (.if_icmp .eq 5, 3) := dk_159 0 5 (dk_at dksX3_layable_0 7 rfl rfl)
theorem dX3_layable_10 : decode cX3_layable 10 = .ok (.iconst 0, 1) := dk_3 (dk_at dksX3_layable_0 10 rfl rfl)
theorem dX3_layable_11 : decode cX3_layable 11 = .ok (.ireturn, 1) := dk_172 (dk_at dksX3_layable_0 11 rfl rfl)
theorem dX3_layable_12 : decode cX3_layable 12 = .ok (.iconst 0, 1) := dk_3 (dk_at dksX3_layable_0 12 rfl rfl)
theorem dX3_layable_13 : decode cX3_layable 13 = .ok (.istore_n 2, 1) := dk_61 (dk_at dksX3_layable_0 13 rfl rfl)
theorem dX3_layable_14 : decode cX3_layable 14 = .ok (.iconst 0, 1) := dk_3 (dk_at dksX3_layable_0 14 rfl rfl)
theorem dX3_layable_15 : decode cX3_layable 15 = .ok (.istore_n 3, 1) := dk_62 (dk_at dksX3_layable_0 15 rfl rfl)
theorem dX3_layable_16 : decode cX3_layable 16 = .ok (.iload_n 3, 1) := dk_29 (dk_at dksX3_layable_0 16 rfl rfl)
theorem dX3_layable_17 : decode cX3_layable 17 = .ok (.aload_n 0, 1) := dk_42 (dk_at dksX3_layable_0 17 rfl rfl)
theorem dX3_layable_18 : decode cX3_layable 18 = .ok (.getfield 34, 3) := dk_180 0 34 (dk_at dksX3_layable_0 18 rfl rfl)
theorem dX3_layable_21 : decode cX3_layable 21 = .ok (.getfield 121, 3) := dk_180 0 121 (dk_at dksX3_layable_0 21 rfl rfl)
theorem dX3_layable_24 : decode cX3_layable 24 = .ok (.if_icmp .ge 31, 3) := dk_162 0 31 (dk_at dksX3_layable_1 0 rfl rfl)
theorem dX3_layable_27 : decode cX3_layable 27 = .ok (.iload_n 2, 1) := dk_28 (dk_at dksX3_layable_1 3 rfl rfl)
theorem dX3_layable_28 : decode cX3_layable 28 = .ok (.getstatic 124, 3) := dk_178 0 124 (dk_at dksX3_layable_1 4 rfl rfl)
theorem dX3_layable_31 : decode cX3_layable 31 = .ok (.aload_n 0, 1) := dk_42 (dk_at dksX3_layable_1 7 rfl rfl)
theorem dX3_layable_32 : decode cX3_layable 32 = .ok (.iload_n 1, 1) := dk_27 (dk_at dksX3_layable_1 8 rfl rfl)
theorem dX3_layable_33 : decode cX3_layable 33 = .ok (.iload_n 3, 1) := dk_29 (dk_at dksX3_layable_1 9 rfl rfl)
theorem dX3_layable_34 : decode cX3_layable 34 = .ok (.invokevirtual 128, 3) := dk_182 0 128 (dk_at dksX3_layable_1 10 rfl rfl)
theorem dX3_layable_37 : decode cX3_layable 37 = .ok (.ifCond .ne 9, 3) := dk_154 0 9 (dk_at dksX3_layable_1 13 rfl rfl)
theorem dX3_layable_40 : decode cX3_layable 40 = .ok (.iconst 1, 1) := dk_4 (dk_at dksX3_layable_1 16 rfl rfl)
theorem dX3_layable_41 : decode cX3_layable 41 = .ok (.iload_n 3, 1) := dk_29 (dk_at dksX3_layable_1 17 rfl rfl)
theorem dX3_layable_42 : decode cX3_layable 42 = .ok (.ishl, 1) := dk_120 (dk_at dksX3_layable_1 18 rfl rfl)
theorem dX3_layable_43 : decode cX3_layable 43 = .ok (.goto 4, 3) := dk_167 0 4 (dk_at dksX3_layable_1 19 rfl rfl)
theorem dX3_layable_46 : decode cX3_layable 46 = .ok (.iconst 0, 1) := dk_3 (dk_at dksX3_layable_1 22 rfl rfl)
theorem dX3_layable_47 : decode cX3_layable 47 = .ok (.ior, 1) := dk_128 (dk_at dksX3_layable_1 23 rfl rfl)
theorem dX3_layable_48 : decode cX3_layable 48 = .ok (.istore_n 2, 1) := dk_61 (dk_at dksX3_layable_2 0 rfl rfl)
theorem dX3_layable_49 : decode cX3_layable 49 = .ok (.iinc 3 1, 3) := dk_132 3 1 (dk_at dksX3_layable_2 1 rfl rfl)
theorem dX3_layable_52 : decode cX3_layable 52 = .ok (.goto (-36), 3) := dk_167 255 220 (dk_at dksX3_layable_2 4 rfl rfl)
theorem dX3_layable_55 : decode cX3_layable 55 = .ok (.iload_n 2, 1) := dk_28 (dk_at dksX3_layable_2 7 rfl rfl)
theorem dX3_layable_56 : decode cX3_layable 56 = .ok (.ireturn, 1) := dk_172 (dk_at dksX3_layable_2 8 rfl rfl)
abbrev cX3_deadVertices : ByteArray := prog_4_method_11_code
def yX3_deadVertices : MethodName := ⟨RX3, "deadVertices", "()I"⟩
def dkwX3_deadVertices_2 : List UInt8 := [27, 172]
abbrev dktX3_deadVertices_2 : List UInt8 := dkwX3_deadVertices_2 ++ []
def dkwX3_deadVertices_1 : List UInt8 := [160, 0, 15, 42, 28, 182, 0, 134, 154, 0, 7, 4, 167, 0, 4, 3, 96, 60, 132, 2, 1, 167, 255, 216]
abbrev dktX3_deadVertices_1 : List UInt8 := dkwX3_deadVertices_1 ++ dktX3_deadVertices_2
def dkwX3_deadVertices_0 : List UInt8 := [3, 60, 3, 61, 28, 42, 180, 0, 34, 180, 0, 64, 162, 0, 35, 27, 42, 180, 0, 9, 28, 46, 2]
abbrev dktX3_deadVertices_0 : List UInt8 := dkwX3_deadVertices_0 ++ dktX3_deadVertices_1
theorem dksX3_deadVertices_0 : cX3_deadVertices.data.toList.drop 0 = dktX3_deadVertices_0 := by decide +kernel
theorem dksX3_deadVertices_1 : cX3_deadVertices.data.toList.drop 23 = dktX3_deadVertices_1 := dk_seg dksX3_deadVertices_0 23 rfl rfl
theorem dksX3_deadVertices_2 : cX3_deadVertices.data.toList.drop 47 = dktX3_deadVertices_2 := dk_seg dksX3_deadVertices_1 24 rfl rfl
theorem dX3_deadVertices_0 : decode cX3_deadVertices 0 = .ok (.iconst 0, 1) := dk_3 (dk_at dksX3_deadVertices_0 0 rfl rfl)
theorem dX3_deadVertices_1 : decode cX3_deadVertices 1 = .ok (.istore_n 1, 1) := dk_60 (dk_at dksX3_deadVertices_0 1 rfl rfl)
theorem dX3_deadVertices_2 : decode cX3_deadVertices 2 = .ok (.iconst 0, 1) := dk_3 (dk_at dksX3_deadVertices_0 2 rfl rfl)
theorem dX3_deadVertices_3 : decode cX3_deadVertices 3 = .ok (.istore_n 2, 1) := dk_61 (dk_at dksX3_deadVertices_0 3 rfl rfl)
theorem dX3_deadVertices_4 : decode cX3_deadVertices 4 = .ok (.iload_n 2, 1) := dk_28 (dk_at dksX3_deadVertices_0 4 rfl rfl)
theorem dX3_deadVertices_5 : decode cX3_deadVertices 5 = .ok (.aload_n 0, 1) := dk_42 (dk_at dksX3_deadVertices_0 5 rfl rfl)
theorem dX3_deadVertices_6 : decode cX3_deadVertices 6 = .ok (.getfield 34, 3) := dk_180 0 34 (dk_at dksX3_deadVertices_0 6 rfl rfl)
theorem dX3_deadVertices_9 : decode cX3_deadVertices 9 = .ok (.getfield 64, 3) := dk_180 0 64 (dk_at dksX3_deadVertices_0 9 rfl rfl)
theorem dX3_deadVertices_12 : decode cX3_deadVertices 12 = .ok (.if_icmp .ge 35, 3) := dk_162 0 35 (dk_at dksX3_deadVertices_0 12 rfl rfl)
theorem dX3_deadVertices_15 : decode cX3_deadVertices 15 = .ok (.iload_n 1, 1) := dk_27 (dk_at dksX3_deadVertices_0 15 rfl rfl)
theorem dX3_deadVertices_16 : decode cX3_deadVertices 16 = .ok (.aload_n 0, 1) := dk_42 (dk_at dksX3_deadVertices_0 16 rfl rfl)
theorem dX3_deadVertices_17 : decode cX3_deadVertices 17 = .ok (.getfield 9, 3) := dk_180 0 9 (dk_at dksX3_deadVertices_0 17 rfl rfl)
theorem dX3_deadVertices_20 : decode cX3_deadVertices 20 = .ok (.iload_n 2, 1) := dk_28 (dk_at dksX3_deadVertices_0 20 rfl rfl)
theorem dX3_deadVertices_21 : decode cX3_deadVertices 21 = .ok (.iaload, 1) := dk_46 (dk_at dksX3_deadVertices_0 21 rfl rfl)
theorem dX3_deadVertices_22 : decode cX3_deadVertices 22 = .ok (.iconst (-1), 1) := dk_2 (dk_at dksX3_deadVertices_0 22 rfl rfl)
theorem dX3_deadVertices_23 : decode cX3_deadVertices 23 = .ok (.if_icmp .ne 15, 3) := dk_160 0 15 (dk_at dksX3_deadVertices_1 0 rfl rfl)
theorem dX3_deadVertices_26 : decode cX3_deadVertices 26 = .ok (.aload_n 0, 1) := dk_42 (dk_at dksX3_deadVertices_1 3 rfl rfl)
theorem dX3_deadVertices_27 : decode cX3_deadVertices 27 = .ok (.iload_n 2, 1) := dk_28 (dk_at dksX3_deadVertices_1 4 rfl rfl)
theorem dX3_deadVertices_28 : decode cX3_deadVertices 28 = .ok (.invokevirtual 134, 3) := dk_182 0 134 (dk_at dksX3_deadVertices_1 5 rfl rfl)
theorem dX3_deadVertices_31 : decode cX3_deadVertices 31 = .ok (.ifCond .ne 7, 3) := dk_154 0 7 (dk_at dksX3_deadVertices_1 8 rfl rfl)
theorem dX3_deadVertices_34 : decode cX3_deadVertices 34 = .ok (.iconst 1, 1) := dk_4 (dk_at dksX3_deadVertices_1 11 rfl rfl)
theorem dX3_deadVertices_35 : decode cX3_deadVertices 35 = .ok (.goto 4, 3) := dk_167 0 4 (dk_at dksX3_deadVertices_1 12 rfl rfl)
theorem dX3_deadVertices_38 : decode cX3_deadVertices 38 = .ok (.iconst 0, 1) := dk_3 (dk_at dksX3_deadVertices_1 15 rfl rfl)
theorem dX3_deadVertices_39 : decode cX3_deadVertices 39 = .ok (.iadd, 1) := dk_96 (dk_at dksX3_deadVertices_1 16 rfl rfl)
theorem dX3_deadVertices_40 : decode cX3_deadVertices 40 = .ok (.istore_n 1, 1) := dk_60 (dk_at dksX3_deadVertices_1 17 rfl rfl)
theorem dX3_deadVertices_41 : decode cX3_deadVertices 41 = .ok (.iinc 2 1, 3) := dk_132 2 1 (dk_at dksX3_deadVertices_1 18 rfl rfl)
theorem dX3_deadVertices_44 : decode cX3_deadVertices 44 = .ok (.goto (-40), 3) := dk_167 255 216 (dk_at dksX3_deadVertices_1 21 rfl rfl)
theorem dX3_deadVertices_47 : decode cX3_deadVertices 47 = .ok (.iload_n 1, 1) := dk_27 (dk_at dksX3_deadVertices_2 0 rfl rfl)
theorem dX3_deadVertices_48 : decode cX3_deadVertices 48 = .ok (.ireturn, 1) := dk_172 (dk_at dksX3_deadVertices_2 1 rfl rfl)
abbrev cX3_partNumber : ByteArray := prog_4_method_5_code
def yX3_partNumber : MethodName := ⟨RX3, "partNumber", "(I)I"⟩
def dkwX3_partNumber_1 : List UInt8 := [192, 0, 73, 182, 0, 91, 27, 184, 0, 104, 153, 0, 5, 29, 172, 132, 3, 1, 167, 255, 221, 2, 172]
abbrev dktX3_partNumber_1 : List UInt8 := dkwX3_partNumber_1 ++ []
def dkwX3_partNumber_0 : List UInt8 := [42, 182, 0, 94, 77, 3, 62, 29, 44, 185, 0, 98, 1, 0, 162, 0, 31, 44, 29, 185, 0, 100, 2, 0]
abbrev dktX3_partNumber_0 : List UInt8 := dkwX3_partNumber_0 ++ dktX3_partNumber_1
theorem dksX3_partNumber_0 : cX3_partNumber.data.toList.drop 0 = dktX3_partNumber_0 := by decide +kernel
theorem dksX3_partNumber_1 : cX3_partNumber.data.toList.drop 24 = dktX3_partNumber_1 := dk_seg dksX3_partNumber_0 24 rfl rfl
theorem dX3_partNumber_0 : decode cX3_partNumber 0 = .ok (.aload_n 0, 1) := dk_42 (dk_at dksX3_partNumber_0 0 rfl rfl)
theorem dX3_partNumber_1 : decode cX3_partNumber 1 = .ok (.invokevirtual 94, 3) := dk_182 0 94 (dk_at dksX3_partNumber_0 1 rfl rfl)
theorem dX3_partNumber_4 : decode cX3_partNumber 4 = .ok (.astore_n 2, 1) := dk_77 (dk_at dksX3_partNumber_0 4 rfl rfl)
theorem dX3_partNumber_5 : decode cX3_partNumber 5 = .ok (.iconst 0, 1) := dk_3 (dk_at dksX3_partNumber_0 5 rfl rfl)
theorem dX3_partNumber_6 : decode cX3_partNumber 6 = .ok (.istore_n 3, 1) := dk_62 (dk_at dksX3_partNumber_0 6 rfl rfl)
theorem dX3_partNumber_7 : decode cX3_partNumber 7 = .ok (.iload_n 3, 1) := dk_29 (dk_at dksX3_partNumber_0 7 rfl rfl)
theorem dX3_partNumber_8 : decode cX3_partNumber 8 = .ok (.aload_n 2, 1) := dk_44 (dk_at dksX3_partNumber_0 8 rfl rfl)
theorem dX3_partNumber_9 : decode cX3_partNumber 9 = .ok (.invokeinterface 98 1, 5) := by decide +kernel
theorem dX3_partNumber_14 : decode cX3_partNumber 14 = .ok (.if_icmp .ge 31, 3) := dk_162 0 31 (dk_at dksX3_partNumber_0 14 rfl rfl)
theorem dX3_partNumber_17 : decode cX3_partNumber 17 = .ok (.aload_n 2, 1) := dk_44 (dk_at dksX3_partNumber_0 17 rfl rfl)
theorem dX3_partNumber_18 : decode cX3_partNumber 18 = .ok (.iload_n 3, 1) := dk_29 (dk_at dksX3_partNumber_0 18 rfl rfl)
theorem dX3_partNumber_19 : decode cX3_partNumber 19 = .ok (.invokeinterface 100 2, 5) := by decide +kernel
theorem dX3_partNumber_24 : decode cX3_partNumber 24 = .ok (.checkcast 73, 3) := dk_192 0 73 (dk_at dksX3_partNumber_1 0 rfl rfl)
theorem dX3_partNumber_27 : decode cX3_partNumber 27 = .ok (.invokevirtual 91, 3) := dk_182 0 91 (dk_at dksX3_partNumber_1 3 rfl rfl)
theorem dX3_partNumber_30 : decode cX3_partNumber 30 = .ok (.iload_n 1, 1) := dk_27 (dk_at dksX3_partNumber_1 6 rfl rfl)
theorem dX3_partNumber_31 : decode cX3_partNumber 31 = .ok (.invokestatic 104, 3) := dk_184 0 104 (dk_at dksX3_partNumber_1 7 rfl rfl)
theorem dX3_partNumber_34 : decode cX3_partNumber 34 = .ok (.ifCond .eq 5, 3) := dk_153 0 5 (dk_at dksX3_partNumber_1 10 rfl rfl)
theorem dX3_partNumber_37 : decode cX3_partNumber 37 = .ok (.iload_n 3, 1) := dk_29 (dk_at dksX3_partNumber_1 13 rfl rfl)
theorem dX3_partNumber_38 : decode cX3_partNumber 38 = .ok (.ireturn, 1) := dk_172 (dk_at dksX3_partNumber_1 14 rfl rfl)
theorem dX3_partNumber_39 : decode cX3_partNumber 39 = .ok (.iinc 3 1, 3) := dk_132 3 1 (dk_at dksX3_partNumber_1 15 rfl rfl)
theorem dX3_partNumber_42 : decode cX3_partNumber 42 = .ok (.goto (-35), 3) := dk_167 255 221 (dk_at dksX3_partNumber_1 18 rfl rfl)
theorem dX3_partNumber_45 : decode cX3_partNumber 45 = .ok (.iconst (-1), 1) := dk_2 (dk_at dksX3_partNumber_1 21 rfl rfl)
theorem dX3_partNumber_46 : decode cX3_partNumber 46 = .ok (.ireturn, 1) := dk_172 (dk_at dksX3_partNumber_1 22 rfl rfl)
theorem q97 : (Jvm.Cond.initialized "ColourDuel$Board") ∈ lw_all := lw_g (lw_at lw_m1 3 rfl) rfl
theorem q187 : (Jvm.Cond.instantiable "ColourDuel$Board" (7 : Nat)) ∈ lw_all := lw_g (lw_at lw_m1 93 rfl) rfl
theorem q200 : (Jvm.Cond.fieldLinkNest "ColourDuel$Board" (121 : Nat) "ColourDuel$Graph" "colours" "I" "ColourDuel") ∈ lw_tbl := lw_at lw_m1 106 rfl
theorem q204 : (Jvm.Cond.fieldLinkNest "ColourDuel$Board" (115 : Nat) "ColourDuel$Graph" "lists" "[I" "ColourDuel") ∈ lw_tbl := lw_at lw_m1 110 rfl
theorem q208 : (Jvm.Cond.fieldLinkNest "ColourDuel$Board" (112 : Nat) "ColourDuel$Graph" "near" "[I" "ColourDuel") ∈ lw_tbl := lw_at lw_m1 114 rfl
theorem q213 : (Jvm.Cond.fieldLinkNest "ColourDuel$Board" (64 : Nat) "ColourDuel$Graph" "size" "I" "ColourDuel") ∈ lw_tbl := lw_at lw_m1 119 rfl
theorem q232 : (Jvm.Cond.instanceMethod ({ cls := "ColourDuel$Board", name := "<init>", desc := "(LColourDuel$Graph;)V" } : Jvm.MethodName)) ∈ lw_all := lw_g (lw_at lw_m1 138 rfl) rfl
theorem q233 : (Jvm.Cond.code ({ cls := "ColourDuel$Board", name := "<init>", desc := "(LColourDuel$Graph;)V" } : Jvm.MethodName) prog_4_method_1_code (3 : Nat) (Option.none : Option Jvm.ClassFile.FieldType)) ∈ lw_all := lw_g (lw_at lw_m1 139 rfl) rfl
theorem q234 : (Jvm.Cond.methodLink "ColourDuel$Board" (3 : Nat) ({ cls := "java/lang/Object", name := "<init>", desc := "()V" } : Jvm.MethodName)) ∈ lw_all := lw_g (lw_at lw_m1 140 rfl) rfl
theorem q235 : (Jvm.Cond.classLink "ColourDuel$Board" (18 : Nat) "ColourDuel$Account") ∈ lw_all := lw_g (lw_at lw_m1 141 rfl) rfl
theorem q238 : (Jvm.Cond.methodLinkNest "ColourDuel$Board" (20 : Nat) ({ cls := "ColourDuel$Account", name := "<init>", desc := "()V" } : Jvm.MethodName) "ColourDuel") ∈ lw_tbl := lw_at lw_m1 144 rfl
theorem q243 : (Jvm.Cond.fieldLinkNest "ColourDuel$Board" (154 : Nat) "ColourDuel$Account" "lays" "I" "ColourDuel") ∈ lw_tbl := lw_at lw_m1 149 rfl
theorem q245 : (Jvm.Cond.fieldLinkNest "ColourDuel$Board" (167 : Nat) "ColourDuel$Account" "passes" "I" "ColourDuel") ∈ lw_tbl := lw_at lw_m1 151 rfl
theorem q247 : (Jvm.Cond.fieldLinkNest "ColourDuel$Board" (157 : Nat) "ColourDuel$Account" "falls" "I" "ColourDuel") ∈ lw_tbl := lw_at lw_m1 153 rfl
theorem q249 : (Jvm.Cond.fieldLinkNest "ColourDuel$Board" (160 : Nat) "ColourDuel$Account" "lasts" "I" "ColourDuel") ∈ lw_tbl := lw_at lw_m1 155 rfl
theorem q251 : (Jvm.Cond.fieldLinkNest "ColourDuel$Board" (163 : Nat) "ColourDuel$Account" "colours" "I" "ColourDuel") ∈ lw_tbl := lw_at lw_m1 157 rfl
theorem q263 : (Jvm.Cond.classLink "ColourDuel$Board" (25 : Nat) "java/util/ArrayList") ∈ lw_all := lw_g (lw_at lw_m1 169 rfl) rfl
theorem q265 : (Jvm.Cond.methodLink "ColourDuel$Board" (27 : Nat) ({ cls := "java/util/ArrayList", name := "<init>", desc := "(I)V" } : Jvm.MethodName)) ∈ lw_all := lw_g (lw_at lw_m1 171 rfl) rfl
theorem q609 : (Jvm.Cond.fieldLink "ColourDuel$Board" (34 : Nat) "ColourDuel$Board" "graph" "LColourDuel$Graph;") ∈ lw_all := lw_g (lw_at lw_m3 35 rfl) rfl
theorem q614 : (Jvm.Cond.fieldLink "ColourDuel$Board" (9 : Nat) "ColourDuel$Board" "colourOf" "[I") ∈ lw_all := lw_g (lw_at lw_m3 40 rfl) rfl
theorem q616 : (Jvm.Cond.fieldLink "ColourDuel$Board" (15 : Nat) "ColourDuel$Board" "bans" "[I") ∈ lw_all := lw_g (lw_at lw_m3 42 rfl) rfl
theorem q619 : (Jvm.Cond.fieldLink "ColourDuel$Board" (21 : Nat) "ColourDuel$Board" "accounts" "[LColourDuel$Account;") ∈ lw_all := lw_g (lw_at lw_m3 45 rfl) rfl
theorem q621 : (Jvm.Cond.fieldLink "ColourDuel$Board" (30 : Nat) "ColourDuel$Board" "moves" "Ljava/util/List;") ∈ lw_all := lw_g (lw_at lw_m3 47 rfl) rfl
theorem q623 : (Jvm.Cond.fieldLink "ColourDuel$Board" (57 : Nat) "ColourDuel$Board" "passes" "I") ∈ lw_all := lw_g (lw_at lw_m3 49 rfl) rfl
theorem q627 : (Jvm.Cond.fieldLink "ColourDuel$Board" (61 : Nat) "ColourDuel$Board" "mover" "I") ∈ lw_all := lw_g (lw_at lw_m3 53 rfl) rfl
theorem q629 : (Jvm.Cond.laysFinal "ColourDuel$Board" "ColourDuel$Board" "graph" "LColourDuel$Graph;") ∈ lw_all := lw_g (lw_at lw_m3 55 rfl) rfl
theorem q630 : (Jvm.Cond.soleField "ColourDuel$Board" "graph") ∈ lw_all := lw_g (lw_at lw_m3 56 rfl) rfl
theorem q631 : (Jvm.Cond.laysFinal "ColourDuel$Board" "ColourDuel$Board" "colourOf" "[I") ∈ lw_all := lw_g (lw_at lw_m3 57 rfl) rfl
theorem q632 : (Jvm.Cond.soleField "ColourDuel$Board" "colourOf") ∈ lw_all := lw_g (lw_at lw_m3 58 rfl) rfl
theorem q633 : (Jvm.Cond.laysFinal "ColourDuel$Board" "ColourDuel$Board" "bans" "[I") ∈ lw_all := lw_g (lw_at lw_m3 59 rfl) rfl
theorem q634 : (Jvm.Cond.soleField "ColourDuel$Board" "bans") ∈ lw_all := lw_g (lw_at lw_m3 60 rfl) rfl
theorem q635 : (Jvm.Cond.laysFinal "ColourDuel$Board" "ColourDuel$Board" "accounts" "[LColourDuel$Account;") ∈ lw_all := lw_g (lw_at lw_m3 61 rfl) rfl
theorem q636 : (Jvm.Cond.soleField "ColourDuel$Board" "accounts") ∈ lw_all := lw_g (lw_at lw_m3 62 rfl) rfl
theorem q637 : (Jvm.Cond.laysFinal "ColourDuel$Board" "ColourDuel$Board" "moves" "Ljava/util/List;") ∈ lw_all := lw_g (lw_at lw_m3 63 rfl) rfl
theorem q638 : (Jvm.Cond.soleField "ColourDuel$Board" "moves") ∈ lw_all := lw_g (lw_at lw_m3 64 rfl) rfl
theorem q639 : (Jvm.Cond.lays "ColourDuel$Board" "ColourDuel$Board" "passes" "I") ∈ lw_all := lw_g (lw_at lw_m3 65 rfl) rfl
theorem q640 : (Jvm.Cond.soleField "ColourDuel$Board" "passes") ∈ lw_all := lw_g (lw_at lw_m3 66 rfl) rfl
theorem q641 : (Jvm.Cond.lays "ColourDuel$Board" "ColourDuel$Board" "mover" "I") ∈ lw_all := lw_g (lw_at lw_m3 67 rfl) rfl
theorem q642 : (Jvm.Cond.soleField "ColourDuel$Board" "mover") ∈ lw_all := lw_g (lw_at lw_m3 68 rfl) rfl
theorem q643 : (Jvm.Cond.superclass "ColourDuel$Board" "java/lang/Object") ∈ lw_all := lw_g (lw_at lw_m3 69 rfl) rfl
theorem q706 : (Jvm.Cond.instanceMethod ({ cls := "ColourDuel$Board", name := "free", desc := "()I" } : Jvm.MethodName)) ∈ lw_all := lw_g (lw_at lw_m3 132 rfl) rfl
theorem q707 : (Jvm.Cond.selects "ColourDuel$Board" ({ cls := "ColourDuel$Board", name := "free", desc := "()I" } : Jvm.MethodName) ({ cls := "ColourDuel$Board", name := "free", desc := "()I" } : Jvm.MethodName)) ∈ lw_all := lw_g (lw_at lw_m3 133 rfl) rfl
theorem q708 : (Jvm.Cond.code ({ cls := "ColourDuel$Board", name := "free", desc := "()I" } : Jvm.MethodName) prog_4_method_3_code (3 : Nat) (Option.some Jvm.ClassFile.FieldType.int)) ∈ lw_all := lw_g (lw_at lw_m3 134 rfl) rfl
theorem q738 : (Jvm.Cond.instanceMethod ({ cls := "ColourDuel$Board", name := "masks", desc := "(I)I" } : Jvm.MethodName)) ∈ lw_all := lw_g (lw_at lw_m3 164 rfl) rfl
theorem q739 : (Jvm.Cond.selects "ColourDuel$Board" ({ cls := "ColourDuel$Board", name := "masks", desc := "(I)I" } : Jvm.MethodName) ({ cls := "ColourDuel$Board", name := "masks", desc := "(I)I" } : Jvm.MethodName)) ∈ lw_all := lw_g (lw_at lw_m3 165 rfl) rfl
theorem q740 : (Jvm.Cond.code ({ cls := "ColourDuel$Board", name := "masks", desc := "(I)I" } : Jvm.MethodName) prog_4_method_8_code (4 : Nat) (Option.some Jvm.ClassFile.FieldType.int)) ∈ lw_all := lw_g (lw_at lw_m3 166 rfl) rfl
theorem q741 : (Jvm.Cond.methodLinkNest "ColourDuel$Board" (104 : Nat) ({ cls := "ColourDuel", name := "has", desc := "(II)Z" } : Jvm.MethodName) "ColourDuel") ∈ lw_tbl := lw_at lw_m3 167 rfl
theorem q742 : (Jvm.Cond.methodLink "ColourDuel$Board" (118 : Nat) ({ cls := "ColourDuel$Board", name := "coloursNear", desc := "(I)I" } : Jvm.MethodName)) ∈ lw_all := lw_g (lw_at lw_m3 168 rfl) rfl
theorem q743 : (Jvm.Cond.instanceMethod ({ cls := "ColourDuel$Board", name := "coloursNear", desc := "(I)I" } : Jvm.MethodName)) ∈ lw_all := lw_g (lw_at lw_m3 169 rfl) rfl
theorem q744 : (Jvm.Cond.selects "ColourDuel$Board" ({ cls := "ColourDuel$Board", name := "coloursNear", desc := "(I)I" } : Jvm.MethodName) ({ cls := "ColourDuel$Board", name := "coloursNear", desc := "(I)I" } : Jvm.MethodName)) ∈ lw_all := lw_g (lw_at lw_m3 170 rfl) rfl
theorem q745 : (Jvm.Cond.code ({ cls := "ColourDuel$Board", name := "coloursNear", desc := "(I)I" } : Jvm.MethodName) prog_4_method_7_code (4 : Nat) (Option.some Jvm.ClassFile.FieldType.int)) ∈ lw_all := lw_g (lw_at lw_m3 171 rfl) rfl
theorem q802 : (Jvm.Cond.instanceMethod ({ cls := "ColourDuel$Board", name := "allMoves", desc := "()LColourDuel$Board$Moves;" } : Jvm.MethodName)) ∈ lw_all := lw_g (lw_at lw_m3 228 rfl) rfl
theorem q803 : (Jvm.Cond.selects "ColourDuel$Board" ({ cls := "ColourDuel$Board", name := "allMoves", desc := "()LColourDuel$Board$Moves;" } : Jvm.MethodName) ({ cls := "ColourDuel$Board", name := "allMoves", desc := "()LColourDuel$Board$Moves;" } : Jvm.MethodName)) ∈ lw_all := lw_g (lw_at lw_m3 229 rfl) rfl
theorem q804 : (Jvm.Cond.code ({ cls := "ColourDuel$Board", name := "allMoves", desc := "()LColourDuel$Board$Moves;" } : Jvm.MethodName) prog_4_method_17_code (1 : Nat) (Option.some (Jvm.ClassFile.FieldType.object "ColourDuel$Board$Moves"))) ∈ lw_all := lw_g (lw_at lw_m3 230 rfl) rfl
theorem q805 : (Jvm.Cond.classLink "ColourDuel$Board" (174 : Nat) "ColourDuel$Board$Moves") ∈ lw_all := lw_g (lw_at lw_m3 231 rfl) rfl
theorem q807 : (Jvm.Cond.methodLink "ColourDuel$Board" (176 : Nat) ({ cls := "ColourDuel$Board$Moves", name := "<init>", desc := "(LColourDuel$Board;)V" } : Jvm.MethodName)) ∈ lw_all := lw_g (lw_at lw_m3 233 rfl) rfl
theorem q820 : (Jvm.Cond.laysStatic "ColourDuel$Board" "RULE" "LColourDuel$FullRule;") ∈ lw_tbl := lw_at lw_m4 6 rfl
theorem q834 : (Jvm.Cond.instanceMethod ({ cls := "ColourDuel$Board", name := "partSet", desc := "(I)I" } : Jvm.MethodName)) ∈ lw_all := lw_g (lw_at lw_m4 20 rfl) rfl
theorem q835 : (Jvm.Cond.selects "ColourDuel$Board" ({ cls := "ColourDuel$Board", name := "partSet", desc := "(I)I" } : Jvm.MethodName) ({ cls := "ColourDuel$Board", name := "partSet", desc := "(I)I" } : Jvm.MethodName)) ∈ lw_all := lw_g (lw_at lw_m4 21 rfl) rfl
theorem q836 : (Jvm.Cond.code ({ cls := "ColourDuel$Board", name := "partSet", desc := "(I)I" } : Jvm.MethodName) prog_4_method_6_code (2 : Nat) (Option.some Jvm.ClassFile.FieldType.int)) ∈ lw_all := lw_g (lw_at lw_m4 22 rfl) rfl
theorem q837 : (Jvm.Cond.methodLink "ColourDuel$Board" (69 : Nat) ({ cls := "ColourDuel$Board", name := "free", desc := "()I" } : Jvm.MethodName)) ∈ lw_all := lw_g (lw_at lw_m4 23 rfl) rfl
theorem q838 : (Jvm.Cond.methodLink "ColourDuel$Board" (108 : Nat) ({ cls := "ColourDuel$Graph", name := "partFrom", desc := "(II)I" } : Jvm.MethodName)) ∈ lw_all := lw_g (lw_at lw_m4 24 rfl) rfl
theorem q888 : (Jvm.Cond.instanceMethod ({ cls := "ColourDuel$Board", name := "copy", desc := "()LColourDuel$Board;" } : Jvm.MethodName)) ∈ lw_all := lw_g (lw_at lw_m4 74 rfl) rfl
theorem q889 : (Jvm.Cond.selects "ColourDuel$Board" ({ cls := "ColourDuel$Board", name := "copy", desc := "()LColourDuel$Board;" } : Jvm.MethodName) ({ cls := "ColourDuel$Board", name := "copy", desc := "()LColourDuel$Board;" } : Jvm.MethodName)) ∈ lw_all := lw_g (lw_at lw_m4 75 rfl) rfl
theorem q890 : (Jvm.Cond.code ({ cls := "ColourDuel$Board", name := "copy", desc := "()LColourDuel$Board;" } : Jvm.MethodName) prog_4_method_2_code (3 : Nat) (Option.some (Jvm.ClassFile.FieldType.object "ColourDuel$Board"))) ∈ lw_all := lw_g (lw_at lw_m4 76 rfl) rfl
theorem q891 : (Jvm.Cond.classLink "ColourDuel$Board" (10 : Nat) "ColourDuel$Board") ∈ lw_all := lw_g (lw_at lw_m4 77 rfl) rfl
theorem q892 : (Jvm.Cond.methodLink "ColourDuel$Board" (38 : Nat) ({ cls := "ColourDuel$Board", name := "<init>", desc := "(LColourDuel$Graph;)V" } : Jvm.MethodName)) ∈ lw_all := lw_g (lw_at lw_m4 78 rfl) rfl
theorem q893 : (Jvm.Cond.methodLink "ColourDuel$Board" (41 : Nat) ({ cls := "java/lang/System", name := "arraycopy", desc := "(Ljava/lang/Object;ILjava/lang/Object;II)V" } : Jvm.MethodName)) ∈ lw_all := lw_g (lw_at lw_m4 79 rfl) rfl
theorem q894 : (Jvm.Cond.methodLink "ColourDuel$Board" (47 : Nat) ({ cls := "ColourDuel$Account", name := "copy", desc := "()LColourDuel$Account;" } : Jvm.MethodName)) ∈ lw_all := lw_g (lw_at lw_m4 80 rfl) rfl
theorem q900 : (Jvm.Cond.interfaceEntry "ColourDuel$Board" (51 : Nat)) ∈ lw_tbl := lw_at lw_m4 86 rfl
theorem q901 : (Jvm.Cond.methodLink "ColourDuel$Board" (51 : Nat) ({ cls := "java/util/List", name := "addAll", desc := "(Ljava/util/Collection;)Z" } : Jvm.MethodName)) ∈ lw_all := lw_g (lw_at lw_m4 87 rfl) rfl
theorem q946 : (Jvm.Cond.selects "ColourDuel$Board" ({ cls := "java/lang/Object", name := "getClass", desc := "()Ljava/lang/Class;" } : Jvm.MethodName) ({ cls := "java/lang/Object", name := "getClass", desc := "()Ljava/lang/Class;" } : Jvm.MethodName)) ∈ lw_all := lw_g (lw_at lw_m4 132 rfl) rfl
theorem q981 : (Jvm.Cond.instanceMethod ({ cls := "ColourDuel$Board", name := "makes", desc := "(I)V" } : Jvm.MethodName)) ∈ lw_all := lw_g (lw_at lw_m4 167 rfl) rfl
theorem q982 : (Jvm.Cond.selects "ColourDuel$Board" ({ cls := "ColourDuel$Board", name := "makes", desc := "(I)V" } : Jvm.MethodName) ({ cls := "ColourDuel$Board", name := "makes", desc := "(I)V" } : Jvm.MethodName)) ∈ lw_all := lw_g (lw_at lw_m4 168 rfl) rfl
theorem q983 : (Jvm.Cond.code ({ cls := "ColourDuel$Board", name := "makes", desc := "(I)V" } : Jvm.MethodName) prog_4_method_16_code (2 : Nat) (Option.none : Option Jvm.ClassFile.FieldType)) ∈ lw_all := lw_g (lw_at lw_m4 169 rfl) rfl
theorem q984 : (Jvm.Cond.methodLink "ColourDuel$Board" (168 : Nat) ({ cls := "ColourDuel$Board", name := "pass", desc := "()V" } : Jvm.MethodName)) ∈ lw_all := lw_g (lw_at lw_m4 170 rfl) rfl
theorem q985 : (Jvm.Cond.instanceMethod ({ cls := "ColourDuel$Board", name := "pass", desc := "()V" } : Jvm.MethodName)) ∈ lw_all := lw_g (lw_at lw_m4 171 rfl) rfl
theorem q986 : (Jvm.Cond.selects "ColourDuel$Board" ({ cls := "ColourDuel$Board", name := "pass", desc := "()V" } : Jvm.MethodName) ({ cls := "ColourDuel$Board", name := "pass", desc := "()V" } : Jvm.MethodName)) ∈ lw_all := lw_g (lw_at lw_m4 172 rfl) rfl
theorem q987 : (Jvm.Cond.code ({ cls := "ColourDuel$Board", name := "pass", desc := "()V" } : Jvm.MethodName) prog_4_method_15_code (1 : Nat) (Option.none : Option Jvm.ClassFile.FieldType)) ∈ lw_all := lw_g (lw_at lw_m4 173 rfl) rfl
theorem q988 : (Jvm.Cond.methodLink "ColourDuel$Board" (164 : Nat) ({ cls := "ColourDuel$Board", name := "goesOn", desc := "(II)V" } : Jvm.MethodName)) ∈ lw_all := lw_g (lw_at lw_m4 174 rfl) rfl
theorem q989 : (Jvm.Cond.privateMethod ({ cls := "ColourDuel$Board", name := "goesOn", desc := "(II)V" } : Jvm.MethodName)) ∈ lw_tbl := lw_at lw_m4 175 rfl
theorem q990 : (Jvm.Cond.instanceMethod ({ cls := "ColourDuel$Board", name := "goesOn", desc := "(II)V" } : Jvm.MethodName)) ∈ lw_all := lw_g (lw_at lw_m4 176 rfl) rfl
theorem q991 : (Jvm.Cond.code ({ cls := "ColourDuel$Board", name := "goesOn", desc := "(II)V" } : Jvm.MethodName) prog_4_method_13_code (3 : Nat) (Option.none : Option Jvm.ClassFile.FieldType)) ∈ lw_all := lw_g (lw_at lw_m4 177 rfl) rfl
theorem q992 : (Jvm.Cond.classLink "ColourDuel$Board" (143 : Nat) "ColourDuel$Move") ∈ lw_all := lw_g (lw_at lw_m4 178 rfl) rfl
theorem q994 : (Jvm.Cond.methodLink "ColourDuel$Board" (145 : Nat) ({ cls := "ColourDuel$Graph", name := "countParts", desc := "(I)I" } : Jvm.MethodName)) ∈ lw_all := lw_g (lw_at lw_m4 180 rfl) rfl
theorem q999 : (Jvm.Cond.methodLinkNest "ColourDuel$Board" (148 : Nat) ({ cls := "ColourDuel$Move", name := "<init>", desc := "(IIII)V" } : Jvm.MethodName) "ColourDuel") ∈ lw_tbl := lw_at lw_m4 185 rfl
theorem q1019 : (Jvm.Cond.interfaceEntry "ColourDuel$Board" (87 : Nat)) ∈ lw_tbl := lw_at lw_m4 205 rfl
theorem q1020 : (Jvm.Cond.methodLink "ColourDuel$Board" (87 : Nat) ({ cls := "java/util/List", name := "add", desc := "(Ljava/lang/Object;)Z" } : Jvm.MethodName)) ∈ lw_all := lw_g (lw_at lw_m4 206 rfl) rfl
theorem q1036 : (Jvm.Cond.methodLink "ColourDuel$Board" (171 : Nat) ({ cls := "ColourDuel$Board", name := "lay", desc := "(II)V" } : Jvm.MethodName)) ∈ lw_all := lw_g (lw_at lw_m4 222 rfl) rfl
theorem q1037 : (Jvm.Cond.instanceMethod ({ cls := "ColourDuel$Board", name := "lay", desc := "(II)V" } : Jvm.MethodName)) ∈ lw_all := lw_g (lw_at lw_m4 223 rfl) rfl
theorem q1038 : (Jvm.Cond.selects "ColourDuel$Board" ({ cls := "ColourDuel$Board", name := "lay", desc := "(II)V" } : Jvm.MethodName) ({ cls := "ColourDuel$Board", name := "lay", desc := "(II)V" } : Jvm.MethodName)) ∈ lw_all := lw_g (lw_at lw_m4 224 rfl) rfl
theorem q1039 : (Jvm.Cond.code ({ cls := "ColourDuel$Board", name := "lay", desc := "(II)V" } : Jvm.MethodName) prog_4_method_14_code (6 : Nat) (Option.none : Option Jvm.ClassFile.FieldType)) ∈ lw_all := lw_g (lw_at lw_m4 225 rfl) rfl
theorem q1040 : (Jvm.Cond.methodLink "ColourDuel$Board" (151 : Nat) ({ cls := "ColourDuel$Board", name := "partSet", desc := "(I)I" } : Jvm.MethodName)) ∈ lw_all := lw_g (lw_at lw_m4 226 rfl) rfl
theorem q1060 : (Jvm.Cond.instanceMethod ({ cls := "ColourDuel$Board", name := "parts", desc := "()Ljava/util/List;" } : Jvm.MethodName)) ∈ lw_all := lw_g (lw_at lw_m5 6 rfl) rfl
theorem q1061 : (Jvm.Cond.selects "ColourDuel$Board" ({ cls := "ColourDuel$Board", name := "parts", desc := "()Ljava/util/List;" } : Jvm.MethodName) ({ cls := "ColourDuel$Board", name := "parts", desc := "()Ljava/util/List;" } : Jvm.MethodName)) ∈ lw_all := lw_g (lw_at lw_m5 7 rfl) rfl
theorem q1062 : (Jvm.Cond.code ({ cls := "ColourDuel$Board", name := "parts", desc := "()Ljava/util/List;" } : Jvm.MethodName) prog_4_method_4_code (4 : Nat) (Option.some (Jvm.ClassFile.FieldType.object "java/util/List"))) ∈ lw_all := lw_g (lw_at lw_m5 8 rfl) rfl
theorem q1063 : (Jvm.Cond.classLink "ColourDuel$Board" (73 : Nat) "ColourDuel$Part") ∈ lw_all := lw_g (lw_at lw_m5 9 rfl) rfl
theorem q1065 : (Jvm.Cond.methodLink "ColourDuel$Board" (75 : Nat) ({ cls := "ColourDuel$Graph", name := "firstPart", desc := "(I)I" } : Jvm.MethodName)) ∈ lw_all := lw_g (lw_at lw_m5 11 rfl) rfl
theorem q1066 : (Jvm.Cond.methodLink "ColourDuel$Board" (79 : Nat) ({ cls := "java/lang/Integer", name := "numberOfTrailingZeros", desc := "(I)I" } : Jvm.MethodName)) ∈ lw_all := lw_g (lw_at lw_m5 12 rfl) rfl
theorem q1067 : (Jvm.Cond.methodLinkNest "ColourDuel$Board" (84 : Nat) ({ cls := "ColourDuel$Part", name := "<init>", desc := "(II)V" } : Jvm.MethodName) "ColourDuel") ∈ lw_tbl := lw_at lw_m5 13 rfl
theorem q1078 : (Jvm.Cond.methodLink "ColourDuel$Board" (91 : Nat) ({ cls := "ColourDuel$Part", name := "set", desc := "()I" } : Jvm.MethodName)) ∈ lw_all := lw_g (lw_at lw_m5 24 rfl) rfl
theorem q1515 : (Jvm.Cond.instanceMethod ({ cls := "ColourDuel$Board", name := "isOver", desc := "()Z" } : Jvm.MethodName)) ∈ lw_all := lw_g (lw_at lw_m6 221 rfl) rfl
theorem q1516 : (Jvm.Cond.selects "ColourDuel$Board" ({ cls := "ColourDuel$Board", name := "isOver", desc := "()Z" } : Jvm.MethodName) ({ cls := "ColourDuel$Board", name := "isOver", desc := "()Z" } : Jvm.MethodName)) ∈ lw_all := lw_g (lw_at lw_m6 222 rfl) rfl
theorem q1517 : (Jvm.Cond.code ({ cls := "ColourDuel$Board", name := "isOver", desc := "()Z" } : Jvm.MethodName) prog_4_method_12_code (1 : Nat) (Option.some Jvm.ClassFile.FieldType.boolean)) ∈ lw_all := lw_g (lw_at lw_m6 223 rfl) rfl
theorem q1518 : (Jvm.Cond.methodLink "ColourDuel$Board" (140 : Nat) ({ cls := "ColourDuel$Board", name := "pairs", desc := "(I)I" } : Jvm.MethodName)) ∈ lw_all := lw_g (lw_at lw_m6 224 rfl) rfl
theorem q1519 : (Jvm.Cond.instanceMethod ({ cls := "ColourDuel$Board", name := "pairs", desc := "(I)I" } : Jvm.MethodName)) ∈ lw_all := lw_g (lw_at lw_m6 225 rfl) rfl
theorem q1520 : (Jvm.Cond.selects "ColourDuel$Board" ({ cls := "ColourDuel$Board", name := "pairs", desc := "(I)I" } : Jvm.MethodName) ({ cls := "ColourDuel$Board", name := "pairs", desc := "(I)I" } : Jvm.MethodName)) ∈ lw_all := lw_g (lw_at lw_m6 226 rfl) rfl
theorem q1521 : (Jvm.Cond.code ({ cls := "ColourDuel$Board", name := "pairs", desc := "(I)I" } : Jvm.MethodName) prog_4_method_10_code (4 : Nat) (Option.some Jvm.ClassFile.FieldType.int)) ∈ lw_all := lw_g (lw_at lw_m6 227 rfl) rfl
theorem q1522 : (Jvm.Cond.methodLink "ColourDuel$Board" (134 : Nat) ({ cls := "ColourDuel$Board", name := "layable", desc := "(I)I" } : Jvm.MethodName)) ∈ lw_all := lw_g (lw_at lw_m6 228 rfl) rfl
theorem q1523 : (Jvm.Cond.instanceMethod ({ cls := "ColourDuel$Board", name := "layable", desc := "(I)I" } : Jvm.MethodName)) ∈ lw_all := lw_g (lw_at lw_m6 229 rfl) rfl
theorem q1524 : (Jvm.Cond.selects "ColourDuel$Board" ({ cls := "ColourDuel$Board", name := "layable", desc := "(I)I" } : Jvm.MethodName) ({ cls := "ColourDuel$Board", name := "layable", desc := "(I)I" } : Jvm.MethodName)) ∈ lw_all := lw_g (lw_at lw_m6 230 rfl) rfl
theorem q1525 : (Jvm.Cond.code ({ cls := "ColourDuel$Board", name := "layable", desc := "(I)I" } : Jvm.MethodName) prog_4_method_9_code (4 : Nat) (Option.some Jvm.ClassFile.FieldType.int)) ∈ lw_all := lw_g (lw_at lw_m6 231 rfl) rfl
theorem q1526 : (Jvm.Cond.fieldLink "ColourDuel$Board" (124 : Nat) "ColourDuel$Board" "RULE" "LColourDuel$FullRule;") ∈ lw_all := lw_g (lw_at lw_m6 232 rfl) rfl
theorem q1527 : (Jvm.Cond.methodLink "ColourDuel$Board" (128 : Nat) ({ cls := "ColourDuel$FullRule", name := "reason", desc := "(LColourDuel$Board;II)I" } : Jvm.MethodName)) ∈ lw_all := lw_g (lw_at lw_m6 233 rfl) rfl
theorem q1528 : (Jvm.Cond.methodLink "ColourDuel$Board" (137 : Nat) ({ cls := "java/lang/Integer", name := "bitCount", desc := "(I)I" } : Jvm.MethodName)) ∈ lw_all := lw_g (lw_at lw_m6 234 rfl) rfl
theorem q1531 : (Jvm.Cond.instanceMethod ({ cls := "ColourDuel$Board", name := "deadVertices", desc := "()I" } : Jvm.MethodName)) ∈ lw_all := lw_g (lw_at lw_m6 237 rfl) rfl
theorem q1532 : (Jvm.Cond.selects "ColourDuel$Board" ({ cls := "ColourDuel$Board", name := "deadVertices", desc := "()I" } : Jvm.MethodName) ({ cls := "ColourDuel$Board", name := "deadVertices", desc := "()I" } : Jvm.MethodName)) ∈ lw_all := lw_g (lw_at lw_m6 238 rfl) rfl
theorem q1533 : (Jvm.Cond.code ({ cls := "ColourDuel$Board", name := "deadVertices", desc := "()I" } : Jvm.MethodName) prog_4_method_11_code (3 : Nat) (Option.some Jvm.ClassFile.FieldType.int)) ∈ lw_all := lw_g (lw_at lw_m6 239 rfl) rfl
theorem q1568 : (Jvm.Cond.instanceMethod ({ cls := "ColourDuel$Board", name := "partNumber", desc := "(I)I" } : Jvm.MethodName)) ∈ lw_all := lw_g (lw_at lw_m7 34 rfl) rfl
theorem q1569 : (Jvm.Cond.selects "ColourDuel$Board" ({ cls := "ColourDuel$Board", name := "partNumber", desc := "(I)I" } : Jvm.MethodName) ({ cls := "ColourDuel$Board", name := "partNumber", desc := "(I)I" } : Jvm.MethodName)) ∈ lw_all := lw_g (lw_at lw_m7 35 rfl) rfl
theorem q1570 : (Jvm.Cond.code ({ cls := "ColourDuel$Board", name := "partNumber", desc := "(I)I" } : Jvm.MethodName) prog_4_method_5_code (4 : Nat) (Option.some Jvm.ClassFile.FieldType.int)) ∈ lw_all := lw_g (lw_at lw_m7 36 rfl) rfl
theorem q1571 : (Jvm.Cond.methodLink "ColourDuel$Board" (94 : Nat) ({ cls := "ColourDuel$Board", name := "parts", desc := "()Ljava/util/List;" } : Jvm.MethodName)) ∈ lw_all := lw_g (lw_at lw_m7 37 rfl) rfl
theorem q1572 : (Jvm.Cond.interfaceEntry "ColourDuel$Board" (98 : Nat)) ∈ lw_tbl := lw_at lw_m7 38 rfl
theorem q1573 : (Jvm.Cond.methodLink "ColourDuel$Board" (98 : Nat) ({ cls := "java/util/List", name := "size", desc := "()I" } : Jvm.MethodName)) ∈ lw_all := lw_g (lw_at lw_m7 39 rfl) rfl
theorem q1574 : (Jvm.Cond.interfaceEntry "ColourDuel$Board" (100 : Nat)) ∈ lw_tbl := lw_at lw_m7 40 rfl
theorem q1575 : (Jvm.Cond.methodLink "ColourDuel$Board" (100 : Nat) ({ cls := "java/util/List", name := "get", desc := "(I)Ljava/lang/Object;" } : Jvm.MethodName)) ∈ lw_all := lw_g (lw_at lw_m7 41 rfl) rfl
theorem q2252 : (Jvm.Cond.castable "ColourDuel$Board" "java/lang/Object") ∈ lw_tbl := lw_at lw_m9 238 rfl
theorem in_X3 : ∀ w ∈ wsX30, w ∈ lw_all := lw_in wsX30 [629, 631, 633, 635, 637, 639, 641] (by decide +kernel) (by decide +kernel)
