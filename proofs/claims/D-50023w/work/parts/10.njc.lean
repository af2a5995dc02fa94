/-! java/util/ArrayDeque -/
set_option maxRecDepth 100000
def RJ18 : String := "java/util/ArrayDeque"
def TJ18 : u_T := fun k => match k with
  | 0 => ("java/util/ArrayDeque", "elements", "[Ljava/lang/Object;", false)
  | 1 => ("java/util/ArrayDeque", "head", "I", false)
  | _ => ("java/util/ArrayDeque", "tail", "I", false)
def tyJ18 : Nat → FieldType := fun k => match k with
  | 0 => .array (.object "java/lang/Object")
  | 1 => .int
  | _ => .int
abbrev wsJ180 : List Cond := u_ws RJ18 TJ18 3
theorem nmJ18 : ∀ a, a < 3 → ∀ b, b < 3 → a ≠ b → (TJ18 a).2.1 ≠ (TJ18 b).2.1 := by decide +kernel
theorem tyJ18_ok : ∀ k, k < 3 → parseFieldDescriptor (TJ18 k).2.2.1 = some (tyJ18 k) := by decide +kernel
abbrev cJ18_init : ByteArray := prog_46_method_3_code
def yJ18_init : MethodName := ⟨RJ18, "<init>", "()V"⟩
def dkwJ18_init_0 : List UInt8 := [42, 183, 0, 42, 42, 16, 17, 189, 0, 47, 181, 0, 3, 177]
abbrev dktJ18_init_0 : List UInt8 := dkwJ18_init_0 ++ []
theorem dksJ18_init_0 : cJ18_init.data.toList.drop 0 = dktJ18_init_0 := by decide +kernel
theorem dJ18_init_0 : decode cJ18_init 0 = .ok (.aload_n 0, 1) := dk_42 (dk_at dksJ18_init_0 0 rfl rfl)
theorem dJ18_init_1 : decode cJ18_init 1 = .ok (.invokespecial 42, 3) := dk_183 0 42 (dk_at dksJ18_init_0 1 rfl rfl)
theorem dJ18_init_4 : decode cJ18_init 4 = .ok (.aload_n 0, 1) := dk_42 (dk_at dksJ18_init_0 4 rfl rfl)
theorem dJ18_init_5 : decode cJ18_init 5 = .ok (.bipush 17, 2) := dk_16 17 (dk_at dksJ18_init_0 5 rfl rfl)
theorem dJ18_init_7 : decode cJ18_init 7 = .ok (.anewarray 47, 3) := dk_189 0 47 (dk_at dksJ18_init_0 7 rfl rfl)
theorem dJ18_init_10 : decode cJ18_init 10 = .ok (.putfield 3, 3) := dk_181 0 3 (dk_at dksJ18_init_0 10 rfl rfl)
theorem dJ18_init_13 : decode cJ18_init 13 = .ok (.return_, 1) := dk_177 (dk_at dksJ18_init_0 13 rfl rfl)
abbrev cJ18_toArray : ByteArray := prog_46_method_55_code
def yJ18_toArray : MethodName := ⟨RJ18, "toArray", "()[Ljava/lang/Object;"⟩
def dkwJ18_toArray_0 : List UInt8 := [42, 18, 188, 182, 0, 189, 176]
abbrev dktJ18_toArray_0 : List UInt8 := dkwJ18_toArray_0 ++ []
theorem dksJ18_toArray_0 : cJ18_toArray.data.toList.drop 0 = dktJ18_toArray_0 := by decide +kernel
theorem dJ18_toArray_0 : decode cJ18_toArray 0 = .ok (.aload_n 0, 1) := dk_42 (dk_at dksJ18_toArray_0 0 rfl rfl)
theorem dJ18_toArray_1 : decode cJ18_toArray 1 = .ok (.ldc 188, 2) := dk_18 188 (dk_at dksJ18_toArray_0 1 rfl rfl)
theorem dJ18_toArray_3 : decode cJ18_toArray 3 = .ok (.invokevirtual 189, 3) := dk_182 0 189 (dk_at dksJ18_toArray_0 3 rfl rfl)
theorem dJ18_toArray_6 : decode cJ18_toArray 6 = .ok (.areturn, 1) := dk_176 (dk_at dksJ18_toArray_0 6 rfl rfl)
abbrev cJ18_toArray_2 : ByteArray := prog_46_method_56_code
def yJ18_toArray_2 : MethodName := ⟨RJ18, "toArray", "(Ljava/lang/Class;)[Ljava/lang/Object;"⟩
def dkwJ18_toArray_2_4 : List UInt8 := [21, 5, 184, 0, 27, 45, 176]
abbrev dktJ18_toArray_2_4 : List UInt8 := dkwJ18_toArray_2_4 ++ []
def dkwJ18_toArray_2_3 : List UInt8 := [44, 190, 21, 4, 100, 184, 0, 27, 21, 6, 21, 5, 159, 0, 16, 44, 3, 45, 44, 190, 21, 4, 100]
abbrev dktJ18_toArray_2_3 : List UInt8 := dkwJ18_toArray_2_3 ++ dktJ18_toArray_2_4
def dkwJ18_toArray_2_2 : List UInt8 := [184, 0, 193, 78, 167, 0, 28, 44, 3, 21, 6, 21, 4, 100, 43, 184, 0, 193, 78, 44, 21, 4, 45, 3]
abbrev dktJ18_toArray_2_2 : List UInt8 := dkwJ18_toArray_2_2 ++ dktJ18_toArray_2_3
def dkwJ18_toArray_2_1 : List UInt8 := [163, 0, 7, 3, 167, 0, 5, 44, 190, 96, 89, 54, 6, 155, 0, 16, 44, 21, 4, 21, 6, 43]
abbrev dktJ18_toArray_2_1 : List UInt8 := dkwJ18_toArray_2_1 ++ dktJ18_toArray_2_2
def dkwJ18_toArray_2_0 : List UInt8 := [42, 180, 0, 3, 77, 42, 180, 0, 24, 54, 4, 42, 180, 0, 20, 54, 5, 21, 5, 21, 4, 21, 5]
abbrev dktJ18_toArray_2_0 : List UInt8 := dkwJ18_toArray_2_0 ++ dktJ18_toArray_2_1
theorem dksJ18_toArray_2_0 : cJ18_toArray_2.data.toList.drop 0 = dktJ18_toArray_2_0 := by decide +kernel
theorem dksJ18_toArray_2_1 : cJ18_toArray_2.data.toList.drop 23 = dktJ18_toArray_2_1 := dk_seg dksJ18_toArray_2_0 23 rfl rfl
theorem dksJ18_toArray_2_2 : cJ18_toArray_2.data.toList.drop 45 = dktJ18_toArray_2_2 := dk_seg dksJ18_toArray_2_1 22 rfl rfl
theorem dksJ18_toArray_2_3 : cJ18_toArray_2.data.toList.drop 69 = dktJ18_toArray_2_3 := dk_seg dksJ18_toArray_2_2 24 rfl rfl
theorem dksJ18_toArray_2_4 : cJ18_toArray_2.data.toList.drop 92 = dktJ18_toArray_2_4 := dk_seg dksJ18_toArray_2_3 23 rfl rfl
theorem dJ18_toArray_2_0 : decode cJ18_toArray_2 0 = .ok (.aload_n 0, 1) := dk_42 (dk_at dksJ18_toArray_2_0 0 rfl rfl)
theorem dJ18_toArray_2_1 : decode cJ18_toArray_2 1 = .ok (.getfield 3, 3) := dk_180 0 3 (dk_at dksJ18_toArray_2_0 1 rfl rfl)
theorem dJ18_toArray_2_4 : decode cJ18_toArray_2 4 = .ok (.astore_n 2, 1) := dk_77 (dk_at dksJ18_toArray_2_0 4 rfl rfl)
theorem dJ18_toArray_2_5 : decode cJ18_toArray_2 5 = .ok (.aload_n 0, 1) := dk_42 (dk_at dksJ18_toArray_2_0 5 rfl rfl)
theorem dJ18_toArray_2_6 : decode cJ18_toArray_2 6 = .ok (.getfield 24, 3) := dk_180 0 24 (dk_at dksJ18_toArray_2_0 6 rfl rfl)
theorem dJ18_toArray_2_9 : decode cJ18_toArray_2 9 = .ok (.istore 4, 2) := dk_54 4 (dk_at dksJ18_toArray_2_0 9 rfl rfl)
theorem dJ18_toArray_2_11 : decode cJ18_toArray_2 11 = .ok (.aload_n 0, 1) := dk_42 (dk_at dksJ18_toArray_2_0 11 rfl rfl)
theorem dJ18_toArray_2_12 : decode cJ18_toArray_2 12 = .ok (.getfield 20, 3) := dk_180 0 20 (dk_at dksJ18_toArray_2_0 12 rfl rfl)
theorem dJ18_toArray_2_15 : decode cJ18_toArray_2 15 = .ok (.istore 5, 2) := dk_54 5 (dk_at dksJ18_toArray_2_0 15 rfl rfl)
theorem dJ18_toArray_2_17 : decode cJ18_toArray_2 17 = .ok (.iload 5, 2) := dk_21 5 (dk_at dksJ18_toArray_2_0 17 rfl rfl)
theorem dJ18_toArray_2_19 : decode cJ18_toArray_2 19 = .ok (.iload 4, 2) := dk_21 4 (dk_at dksJ18_toArray_2_0 19 rfl rfl)
theorem dJ18_toArray_2_21 : decode cJ18_toArray_2 21 = .ok (.iload 5, 2) := dk_21 5 (dk_at dksJ18_toArray_2_0 21 rfl rfl)
theorem dJ18_toArray_2_23 : decode cJ18_toArray_2 23 = .ok (.if_icmp .gt 7, 3) := dk_163 0 7 (dk_at dksJ18_toArray_2_1 0 rfl rfl)
theorem dJ18_toArray_2_26 : decode cJ18_toArray_2 26 = .ok (.iconst 0, 1) := dk_3 (dk_at dksJ18_toArray_2_1 3 rfl rfl)
theorem dJ18_toArray_2_27 : decode cJ18_toArray_2 27 = .ok (.goto 5, 3) := dk_167 0 5 (dk_at dksJ18_toArray_2_1 4 rfl rfl)
theorem dJ18_toArray_2_30 : decode cJ18_toArray_2 30 = .ok (.aload_n 2, 1) := dk_44 (dk_at dksJ18_toArray_2_1 7 rfl rfl)
theorem dJ18_toArray_2_31 : decode cJ18_toArray_2 31 = .ok (.arraylength, 1) := dk_190 (dk_at dksJ18_toArray_2_1 8 rfl rfl)
theorem dJ18_toArray_2_32 : decode cJ18_toArray_2 32 = .ok (.iadd, 1) := dk_96 (dk_at dksJ18_toArray_2_1 9 rfl rfl)
theorem dJ18_toArray_2_33 : decode cJ18_toArray_2 33 = .ok (.dup, 1) := dk_89 (dk_at dksJ18_toArray_2_1 10 rfl rfl)
theorem dJ18_toArray_2_34 : decode cJ18_toArray_2 34 = .ok (.istore 6, 2) := dk_54 6 (dk_at dksJ18_toArray_2_1 11 rfl rfl)
theorem dJ18_toArray_2_36 : decode cJ18_toArray_2 36 = .ok (.ifCond .lt 16, 3) := dk_155 0 16 (dk_at dksJ18_toArray_2_1 13 rfl rfl)
theorem dJ18_toArray_2_39 : decode cJ18_toArray_2 39 = .ok (.aload_n 2, 1) := dk_44 (dk_at dksJ18_toArray_2_1 16 rfl rfl)
theorem dJ18_toArray_2_40 : decode cJ18_toArray_2 40 = .ok (.iload 4, 2) := dk_21 4 (dk_at dksJ18_toArray_2_1 17 rfl rfl)
theorem dJ18_toArray_2_42 : decode cJ18_toArray_2 42 = .ok (.iload 6, 2) := dk_21 6 (dk_at dksJ18_toArray_2_1 19 rfl rfl)
theorem dJ18_toArray_2_44 : decode cJ18_toArray_2 44 = .ok (.aload_n 1, 1) := dk_43 (dk_at dksJ18_toArray_2_1 21 rfl rfl)
theorem dJ18_toArray_2_45 : decode cJ18_toArray_2 45 = .ok (.invokestatic 193, 3) := dk_184 0 193 (dk_at dksJ18_toArray_2_2 0 rfl rfl)
theorem dJ18_toArray_2_48 : decode cJ18_toArray_2 48 = .ok (.astore_n 3, 1) := dk_78 (dk_at dksJ18_toArray_2_2 3 rfl rfl)
theorem dJ18_toArray_2_49 : decode cJ18_toArray_2 49 = .ok (.goto 28, 3) := dk_167 0 28 (dk_at dksJ18_toArray_2_2 4 rfl rfl)
theorem dJ18_toArray_2_52 : decode cJ18_toArray_2 52 = .ok (.aload_n 2, 1) := dk_44 (dk_at dksJ18_toArray_2_2 7 rfl rfl)
theorem dJ18_toArray_2_53 : decode cJ18_toArray_2 53 = .ok (.iconst 0, 1) := dk_3 (dk_at dksJ18_toArray_2_2 8 rfl rfl)
theorem dJ18_toArray_2_54 : decode cJ18_toArray_2 54 = .ok (.iload 6, 2) := dk_21 6 (dk_at dksJ18_toArray_2_2 9 rfl rfl)
theorem dJ18_toArray_2_56 : decode cJ18_toArray_2 56 = .ok (.iload 4, 2) := dk_21 4 (dk_at dksJ18_toArray_2_2 11 rfl rfl)
theorem dJ18_toArray_2_58 : decode cJ18_toArray_2 58 = .ok (.isub, 1) := dk_100 (dk_at dksJ18_toArray_2_2 13 rfl rfl)
theorem dJ18_toArray_2_59 : decode cJ18_toArray_2 59 = .ok (.aload_n 1, 1) := dk_43 (dk_at dksJ18_toArray_2_2 14 rfl rfl)
theorem dJ18_toArray_2_60 : decode cJ18_toArray_2 60 = .ok (.invokestatic 193, 3) := dk_184 0 193 (dk_at dksJ18_toArray_2_2 15 rfl rfl)
theorem dJ18_toArray_2_63 : decode cJ18_toArray_2 63 = .ok (.astore_n 3, 1) := dk_78 (dk_at dksJ18_toArray_2_2 18 rfl rfl)
theorem dJ18_toArray_2_64 : decode cJ18_toArray_2 64 = .ok (.aload_n 2, 1) := dk_44 (dk_at dksJ18_toArray_2_2 19 rfl rfl)
theorem dJ18_toArray_2_65 : decode cJ18_toArray_2 65 = .ok (.iload 4, 2) := dk_21 4 (dk_at dksJ18_toArray_2_2 20 rfl rfl)
theorem dJ18_toArray_2_67 : decode cJ18_toArray_2 67 = .ok (.aload_n 3, 1) := dk_45 (dk_at dksJ18_toArray_2_2 22 rfl rfl)
theorem dJ18_toArray_2_68 : decode cJ18_toArray_2 68 = .ok (.iconst 0, 1) := dk_3 (dk_at dksJ18_toArray_2_2 23 rfl rfl)
theorem dJ18_toArray_2_69 : decode cJ18_toArray_2 69 = .ok (.aload_n 2, 1) := dk_44 (dk_at dksJ18_toArray_2_3 0 rfl rfl)
theorem dJ18_toArray_2_70 : decode cJ18_toArray_2 70 = .ok (.arraylength, 1) := dk_190 (dk_at dksJ18_toArray_2_3 1 rfl rfl)
theorem dJ18_toArray_2_71 : decode cJ18_toArray_2 71 = .ok (.iload 4, 2) := dk_21 4 (dk_at dksJ18_toArray_2_3 2 rfl rfl)
theorem dJ18_toArray_2_73 : decode cJ18_toArray_2 73 = .ok (.isub, 1) := dk_100 (dk_at dksJ18_toArray_2_3 4 rfl rfl)
theorem dJ18_toArray_2_74 : decode cJ18_toArray_2 74 = .ok (.invokestatic 27, 3) := dk_184 0 27 (dk_at dksJ18_toArray_2_3 5 rfl rfl)
theorem dJ18_toArray_2_77 : decode cJ18_toArray_2 77 = .ok (.iload 6, 2) := dk_21 6 (dk_at dksJ18_toArray_2_3 8 rfl rfl)
theorem dJ18_toArray_2_79 : decode cJ18_toArray_2 79 = .ok (.iload 5, 2) := dk_21 5 (dk_at dksJ18_toArray_2_3 10 rfl rfl)
theorem dJ18_toArray_2_81 : decode cJ18_toArray_2 81 = .ok (.if_icmp .eq 16, 3) := dk_159 0 16 (dk_at dksJ18_toArray_2_3 12 rfl rfl)
theorem dJ18_toArray_2_84 : decode cJ18_toArray_2 84 = .ok (.aload_n 2, 1) := dk_44 (dk_at dksJ18_toArray_2_3 15 rfl rfl)
theorem dJ18_toArray_2_85 : decode cJ18_toArray_2 85 = .ok (.iconst 0, 1) := dk_3 (dk_at dksJ18_toArray_2_3 16 rfl rfl)
theorem dJ18_toArray_2_86 : decode cJ18_toArray_2 86 = .ok (.aload_n 3, 1) := dk_45 (dk_at dksJ18_toArray_2_3 17 rfl rfl)
theorem dJ18_toArray_2_87 : decode cJ18_toArray_2 87 = .ok (.aload_n 2, 1) := dk_44 (dk_at dksJ18_toArray_2_3 18 rfl rfl)
theorem dJ18_toArray_2_88 : decode cJ18_toArray_2 88 = .ok (.arraylength, 1) := dk_190 (dk_at dksJ18_toArray_2_3 19 rfl rfl)
theorem dJ18_toArray_2_89 : decode cJ18_toArray_2 89 = .ok (.iload 4, 2) := dk_21 4 (dk_at dksJ18_toArray_2_3 20 rfl rfl)
theorem dJ18_toArray_2_91 : decode cJ18_toArray_2 91 = .ok (.isub, 1) := dk_100 (dk_at dksJ18_toArray_2_3 22 rfl rfl)
theorem dJ18_toArray_2_92 : decode cJ18_toArray_2 92 = .ok (.iload 5, 2) := dk_21 5 (dk_at dksJ18_toArray_2_4 0 rfl rfl)
theorem dJ18_toArray_2_94 : decode cJ18_toArray_2 94 = .ok (.invokestatic 27, 3) := dk_184 0 27 (dk_at dksJ18_toArray_2_4 2 rfl rfl)
theorem dJ18_toArray_2_97 : decode cJ18_toArray_2 97 = .ok (.aload_n 3, 1) := dk_45 (dk_at dksJ18_toArray_2_4 5 rfl rfl)
theorem dJ18_toArray_2_98 : decode cJ18_toArray_2 98 = .ok (.areturn, 1) := dk_176 (dk_at dksJ18_toArray_2_4 6 rfl rfl)
abbrev cJ18_size : ByteArray := prog_46_method_37_code
def yJ18_size : MethodName := ⟨RJ18, "size", "()I"⟩
def dkwJ18_size_0 : List UInt8 := [42, 180, 0, 20, 42, 180, 0, 24, 42, 180, 0, 3, 190, 184, 0, 127, 172]
abbrev dktJ18_size_0 : List UInt8 := dkwJ18_size_0 ++ []
theorem dksJ18_size_0 : cJ18_size.data.toList.drop 0 = dktJ18_size_0 := by decide +kernel
theorem dJ18_size_0 : decode cJ18_size 0 = .ok (.aload_n 0, 1) := dk_42 (dk_at dksJ18_size_0 0 rfl rfl)
theorem dJ18_size_1 : decode cJ18_size 1 = .ok (.getfield 20, 3) := dk_180 0 20 (dk_at dksJ18_size_0 1 rfl rfl)
theorem dJ18_size_4 : decode cJ18_size 4 = .ok (.aload_n 0, 1) := dk_42 (dk_at dksJ18_size_0 4 rfl rfl)
theorem dJ18_size_5 : decode cJ18_size 5 = .ok (.getfield 24, 3) := dk_180 0 24 (dk_at dksJ18_size_0 5 rfl rfl)
theorem dJ18_size_8 : decode cJ18_size 8 = .ok (.aload_n 0, 1) := dk_42 (dk_at dksJ18_size_0 8 rfl rfl)
theorem dJ18_size_9 : decode cJ18_size 9 = .ok (.getfield 3, 3) := dk_180 0 3 (dk_at dksJ18_size_0 9 rfl rfl)
theorem dJ18_size_12 : decode cJ18_size 12 = .ok (.arraylength, 1) := dk_190 (dk_at dksJ18_size_0 12 rfl rfl)
theorem dJ18_size_13 : decode cJ18_size 13 = .ok (.invokestatic 127, 3) := dk_184 0 127 (dk_at dksJ18_size_0 13 rfl rfl)
theorem dJ18_size_16 : decode cJ18_size 16 = .ok (.ireturn, 1) := dk_172 (dk_at dksJ18_size_0 16 rfl rfl)
abbrev cJ18_sub : ByteArray := prog_46_method_9_code
def yJ18_sub : MethodName := ⟨RJ18, "sub", "(III)I"⟩
def dkwJ18_sub_0 : List UInt8 := [26, 27, 100, 89, 59, 156, 0, 7, 26, 28, 96, 59, 26, 172]
abbrev dktJ18_sub_0 : List UInt8 := dkwJ18_sub_0 ++ []
theorem dksJ18_sub_0 : cJ18_sub.data.toList.drop 0 = dktJ18_sub_0 := by decide +kernel
theorem dJ18_sub_0 : decode cJ18_sub 0 = .ok (.iload_n 0, 1) := dk_26 (dk_at dksJ18_sub_0 0 rfl rfl)
theorem dJ18_sub_1 : decode cJ18_sub 1 = .ok (.iload_n 1, 1) := dk_27 (dk_at dksJ18_sub_0 1 rfl rfl)
theorem dJ18_sub_2 : decode cJ18_sub 2 = .ok (.isub, 1) := dk_100 (dk_at dksJ18_sub_0 2 rfl rfl)
theorem dJ18_sub_3 : decode cJ18_sub 3 = .ok (.dup, 1) := dk_89 (dk_at dksJ18_sub_0 3 rfl rfl)
theorem dJ18_sub_4 : decode cJ18_sub 4 = .ok (.istore_n 0, 1) := dk_59 (dk_at dksJ18_sub_0 4 rfl rfl)
theorem dJ18_sub_5 : decode cJ18_sub 5 = .ok (.ifCond .ge 7, 3) := dk_156 0 7 (dk_at dksJ18_sub_0 5 rfl rfl)
theorem dJ18_sub_8 : decode cJ18_sub 8 = .ok (.iload_n 0, 1) := dk_26 (dk_at dksJ18_sub_0 8 rfl rfl)
theorem dJ18_sub_9 : decode cJ18_sub 9 = .ok (.iload_n 2, 1) := dk_28 (dk_at dksJ18_sub_0 9 rfl rfl)
theorem dJ18_sub_10 : decode cJ18_sub 10 = .ok (.iadd, 1) := dk_96 (dk_at dksJ18_sub_0 10 rfl rfl)
theorem dJ18_sub_11 : decode cJ18_sub 11 = .ok (.istore_n 0, 1) := dk_59 (dk_at dksJ18_sub_0 11 rfl rfl)
theorem dJ18_sub_12 : decode cJ18_sub 12 = .ok (.iload_n 0, 1) := dk_26 (dk_at dksJ18_sub_0 12 rfl rfl)
theorem dJ18_sub_13 : decode cJ18_sub 13 = .ok (.ireturn, 1) := dk_172 (dk_at dksJ18_sub_0 13 rfl rfl)
abbrev cJ18_removeFirst : ByteArray := prog_46_method_18_code
def yJ18_removeFirst : MethodName := ⟨RJ18, "removeFirst", "()Ljava/lang/Object;"⟩
def dkwJ18_removeFirst_0 : List UInt8 := [42, 182, 0, 93, 76, 43, 199, 0, 11, 187, 0, 97, 89, 183, 0, 99, 191, 43, 176]
abbrev dktJ18_removeFirst_0 : List UInt8 := dkwJ18_removeFirst_0 ++ []
theorem dksJ18_removeFirst_0 : cJ18_removeFirst.data.toList.drop 0 = dktJ18_removeFirst_0 := by decide +kernel
theorem dJ18_removeFirst_0 : decode cJ18_removeFirst 0 = .ok (.aload_n 0, 1) := dk_42 (dk_at dksJ18_removeFirst_0 0 rfl rfl)
theorem dJ18_removeFirst_1 : decode cJ18_removeFirst 1 = .ok (.invokevirtual 93, 3) := dk_182 0 93 (dk_at dksJ18_removeFirst_0 1 rfl rfl)
theorem dJ18_removeFirst_4 : decode cJ18_removeFirst 4 = .ok (.astore_n 1, 1) := dk_76 (dk_at dksJ18_removeFirst_0 4 rfl rfl)
theorem dJ18_removeFirst_5 : decode cJ18_removeFirst 5 = .ok (.aload_n 1, 1) := dk_43 (dk_at dksJ18_removeFirst_0 5 rfl rfl)
theorem dJ18_removeFirst_6 : decode cJ18_removeFirst 6 = .ok (.ifnonnull 11, 3) := dk_199 0 11 (dk_at dksJ18_removeFirst_0 6 rfl rfl)
theorem dJ18_removeFirst_9 : decode cJ18_removeFirst 9 = .ok (.new 97, 3) := dk_187 0 97 (dk_at dksJ18_removeFirst_0 9 rfl rfl)
theorem dJ18_removeFirst_12 : decode cJ18_removeFirst 12 = .ok (.dup, 1) := dk_89 (dk_at dksJ18_removeFirst_0 12 rfl rfl)
theorem dJ18_removeFirst_13 : decode cJ18_removeFirst 13 = .ok (.invokespecial 99, 3) := dk_183 0 99 (dk_at dksJ18_removeFirst_0 13 rfl rfl)
theorem dJ18_removeFirst_16 : decode cJ18_removeFirst 16 = .ok (.athrow, 1) := dk_191 (dk_at dksJ18_removeFirst_0 16 rfl rfl)
theorem dJ18_removeFirst_17 : decode cJ18_removeFirst 17 = .ok (.aload_n 1, 1) := dk_43 (dk_at dksJ18_removeFirst_0 17 rfl rfl)
theorem dJ18_removeFirst_18 : decode cJ18_removeFirst 18 = .ok (.areturn, 1) := dk_176 (dk_at dksJ18_removeFirst_0 18 rfl rfl)
abbrev cJ18_pollFirst : ByteArray := prog_46_method_20_code
def yJ18_pollFirst : MethodName := ⟨RJ18, "pollFirst", "()Ljava/lang/Object;"⟩
def dkwJ18_pollFirst_1 : List UInt8 := [42, 28, 43, 190, 184, 0, 74, 181, 0, 24, 45, 176]
abbrev dktJ18_pollFirst_1 : List UInt8 := dkwJ18_pollFirst_1 ++ []
def dkwJ18_pollFirst_0 : List UInt8 := [42, 180, 0, 3, 89, 76, 42, 180, 0, 24, 89, 61, 184, 0, 103, 78, 45, 198, 0, 17, 43, 28, 1, 83]
abbrev dktJ18_pollFirst_0 : List UInt8 := dkwJ18_pollFirst_0 ++ dktJ18_pollFirst_1
theorem dksJ18_pollFirst_0 : cJ18_pollFirst.data.toList.drop 0 = dktJ18_pollFirst_0 := by decide +kernel
theorem dksJ18_pollFirst_1 : cJ18_pollFirst.data.toList.drop 24 = dktJ18_pollFirst_1 := dk_seg dksJ18_pollFirst_0 24 rfl rfl
theorem dJ18_pollFirst_0 : decode cJ18_pollFirst 0 = .ok (.aload_n 0, 1) := dk_42 (dk_at dksJ18_pollFirst_0 0 rfl rfl)
theorem dJ18_pollFirst_1 : decode cJ18_pollFirst 1 = .ok (.getfield 3, 3) := dk_180 0 3 (dk_at dksJ18_pollFirst_0 1 rfl rfl)
theorem dJ18_pollFirst_4 : decode cJ18_pollFirst 4 = .ok (.dup, 1) := dk_89 (dk_at dksJ18_pollFirst_0 4 rfl rfl)
theorem dJ18_pollFirst_5 : decode cJ18_pollFirst 5 = .ok (.astore_n 1, 1) := dk_76 (dk_at dksJ18_pollFirst_0 5 rfl rfl)
theorem dJ18_pollFirst_6 : decode cJ18_pollFirst 6 = .ok (.aload_n 0, 1) := dk_42 (dk_at dksJ18_pollFirst_0 6 rfl rfl)
theorem dJ18_pollFirst_7 : decode cJ18_pollFirst 7 = .ok (.getfield 24, 3) := dk_180 0 24 (dk_at dksJ18_pollFirst_0 7 rfl rfl)
theorem dJ18_pollFirst_10 : decode cJ18_pollFirst 10 = .ok (.dup, 1) := dk_89 (dk_at dksJ18_pollFirst_0 10 rfl rfl)
theorem dJ18_pollFirst_11 : decode cJ18_pollFirst 11 = .ok (.istore_n 2, 1) := dk_61 (dk_at dksJ18_pollFirst_0 11 rfl rfl)
theorem dJ18_pollFirst_12 : decode cJ18_pollFirst 12 = .ok (.invokestatic 103, 3) := dk_184 0 103 (dk_at dksJ18_pollFirst_0 12 rfl rfl)
theorem dJ18_pollFirst_15 : decode cJ18_pollFirst 15 = .ok (.astore_n 3, 1) := dk_78 (dk_at dksJ18_pollFirst_0 15 rfl rfl)
theorem dJ18_pollFirst_16 : decode cJ18_pollFirst 16 = .ok (.aload_n 3, 1) := dk_45 (dk_at dksJ18_pollFirst_0 16 rfl rfl)
theorem dJ18_pollFirst_17 : decode cJ18_pollFirst 17 = .ok (.ifnull 17, 3) := dk_198 0 17 (dk_at dksJ18_pollFirst_0 17 rfl rfl)
theorem dJ18_pollFirst_20 : decode cJ18_pollFirst 20 = .ok (.aload_n 1, 1) := dk_43 (dk_at dksJ18_pollFirst_0 20 rfl rfl)
theorem dJ18_pollFirst_21 : decode cJ18_pollFirst 21 = .ok (.iload_n 2, 1) := dk_28 (dk_at dksJ18_pollFirst_0 21 rfl rfl)
theorem dJ18_pollFirst_22 : decode cJ18_pollFirst 22 = .ok (.aconst_null, 1) := dk_1 (dk_at dksJ18_pollFirst_0 22 rfl rfl)
theorem dJ18_pollFirst_23 : decode cJ18_pollFirst 23 = .ok (.aastore, 1) := dk_83 (dk_at dksJ18_pollFirst_0 23 rfl rfl)
theorem dJ18_pollFirst_24 : decode cJ18_pollFirst 24 = .ok (.aload_n 0, 1) := dk_42 (dk_at dksJ18_pollFirst_1 0 rfl rfl)
theorem dJ18_pollFirst_25 : decode cJ18_pollFirst 25 = .ok (.iload_n 2, 1) := dk_28 (dk_at dksJ18_pollFirst_1 1 rfl rfl)
theorem dJ18_pollFirst_26 : decode cJ18_pollFirst 26 = .ok (.aload_n 1, 1) := dk_43 (dk_at dksJ18_pollFirst_1 2 rfl rfl)
theorem dJ18_pollFirst_27 : decode cJ18_pollFirst 27 = .ok (.arraylength, 1) := dk_190 (dk_at dksJ18_pollFirst_1 3 rfl rfl)
theorem dJ18_pollFirst_28 : decode cJ18_pollFirst 28 = .ok (.invokestatic 74, 3) := dk_184 0 74 (dk_at dksJ18_pollFirst_1 4 rfl rfl)
theorem dJ18_pollFirst_31 : decode cJ18_pollFirst 31 = .ok (.putfield 24, 3) := dk_181 0 24 (dk_at dksJ18_pollFirst_1 7 rfl rfl)
theorem dJ18_pollFirst_34 : decode cJ18_pollFirst 34 = .ok (.aload_n 3, 1) := dk_45 (dk_at dksJ18_pollFirst_1 10 rfl rfl)
theorem dJ18_pollFirst_35 : decode cJ18_pollFirst 35 = .ok (.areturn, 1) := dk_176 (dk_at dksJ18_pollFirst_1 11 rfl rfl)
abbrev cJ18_elementAt : ByteArray := prog_46_method_10_code
def yJ18_elementAt : MethodName := ⟨RJ18, "elementAt", "([Ljava/lang/Object;I)Ljava/lang/Object;"⟩
def dkwJ18_elementAt_0 : List UInt8 := [42, 27, 50, 176]
abbrev dktJ18_elementAt_0 : List UInt8 := dkwJ18_elementAt_0 ++ []
theorem dksJ18_elementAt_0 : cJ18_elementAt.data.toList.drop 0 = dktJ18_elementAt_0 := by decide +kernel
theorem dJ18_elementAt_0 : decode cJ18_elementAt 0 = .ok (.aload_n 0, 1) := dk_42 (dk_at dksJ18_elementAt_0 0 rfl rfl)
theorem dJ18_elementAt_1 : decode cJ18_elementAt 1 = .ok (.iload_n 1, 1) := dk_27 (dk_at dksJ18_elementAt_0 1 rfl rfl)
theorem dJ18_elementAt_2 : decode cJ18_elementAt 2 = .ok (.aaload, 1) := dk_50 (dk_at dksJ18_elementAt_0 2 rfl rfl)
theorem dJ18_elementAt_3 : decode cJ18_elementAt 3 = .ok (.areturn, 1) := dk_176 (dk_at dksJ18_elementAt_0 3 rfl rfl)
abbrev cJ18_inc : ByteArray := prog_46_method_6_code
def yJ18_inc : MethodName := ⟨RJ18, "inc", "(II)I"⟩
def dkwJ18_inc_0 : List UInt8 := [132, 0, 1, 26, 27, 161, 0, 5, 3, 59, 26, 172]
abbrev dktJ18_inc_0 : List UInt8 := dkwJ18_inc_0 ++ []
theorem dksJ18_inc_0 : cJ18_inc.data.toList.drop 0 = dktJ18_inc_0 := by decide +kernel
theorem dJ18_inc_0 : decode cJ18_inc 0 = .ok (.iinc 0 1, 3) := dk_132 0 1 (dk_at dksJ18_inc_0 0 rfl rfl)
theorem dJ18_inc_3 : decode cJ18_inc 3 = .ok (.iload_n 0, 1) := dk_26 (dk_at dksJ18_inc_0 3 rfl rfl)
theorem dJ18_inc_4 : decode cJ18_inc 4 = .ok (.iload_n 1, 1) := dk_27 (dk_at dksJ18_inc_0 4 rfl rfl)
theorem dJ18_inc_5 : decode cJ18_inc 5 = .ok (.if_icmp .lt 5, 3) := dk_161 0 5 (dk_at dksJ18_inc_0 5 rfl rfl)
theorem dJ18_inc_8 : decode cJ18_inc 8 = .ok (.iconst 0, 1) := dk_3 (dk_at dksJ18_inc_0 8 rfl rfl)
theorem dJ18_inc_9 : decode cJ18_inc 9 = .ok (.istore_n 0, 1) := dk_59 (dk_at dksJ18_inc_0 9 rfl rfl)
theorem dJ18_inc_10 : decode cJ18_inc 10 = .ok (.iload_n 0, 1) := dk_26 (dk_at dksJ18_inc_0 10 rfl rfl)
theorem dJ18_inc_11 : decode cJ18_inc 11 = .ok (.ireturn, 1) := dk_172 (dk_at dksJ18_inc_0 11 rfl rfl)
abbrev cJ18_addLast : ByteArray := prog_46_method_13_code
def yJ18_addLast : MethodName := ⟨RJ18, "addLast", "(Ljava/lang/Object;)V"⟩
def dkwJ18_addLast_2 : List UInt8 := [182, 0, 71, 177]
abbrev dktJ18_addLast_2 : List UInt8 := dkwJ18_addLast_2 ++ []
def dkwJ18_addLast_1 : List UInt8 := [42, 180, 0, 24, 42, 42, 180, 0, 20, 44, 190, 184, 0, 74, 90, 181, 0, 20, 160, 0, 8, 42, 4]
abbrev dktJ18_addLast_1 : List UInt8 := dkwJ18_addLast_1 ++ dktJ18_addLast_2
def dkwJ18_addLast_0 : List UInt8 := [43, 199, 0, 11, 187, 0, 65, 89, 183, 0, 67, 191, 42, 180, 0, 3, 77, 44, 42, 180, 0, 20, 43, 83]
abbrev dktJ18_addLast_0 : List UInt8 := dkwJ18_addLast_0 ++ dktJ18_addLast_1
theorem dksJ18_addLast_0 : cJ18_addLast.data.toList.drop 0 = dktJ18_addLast_0 := by decide +kernel
theorem dksJ18_addLast_1 : cJ18_addLast.data.toList.drop 24 = dktJ18_addLast_1 := dk_seg dksJ18_addLast_0 24 rfl rfl
theorem dksJ18_addLast_2 : cJ18_addLast.data.toList.drop 47 = dktJ18_addLast_2 := dk_seg dksJ18_addLast_1 23 rfl rfl
theorem dJ18_addLast_0 : decode cJ18_addLast 0 = .ok (.aload_n 1, 1) := dk_43 (dk_at dksJ18_addLast_0 0 rfl rfl)
theorem dJ18_addLast_1 : decode cJ18_addLast 1 = .ok (.ifnonnull 11, 3) := dk_199 0 11 (dk_at dksJ18_addLast_0 1 rfl rfl)
theorem dJ18_addLast_4 : decode cJ18_addLast 4 = .ok (.new 65, 3) := dk_187 0 65 (dk_at dksJ18_addLast_0 4 rfl rfl)
theorem dJ18_addLast_7 : decode cJ18_addLast 7 = .ok (.dup, 1) := dk_89 (dk_at dksJ18_addLast_0 7 rfl rfl)
theorem dJ18_addLast_8 : decode cJ18_addLast 8 = .ok (.invokespecial 67, 3) := dk_183 0 67 (dk_at dksJ18_addLast_0 8 rfl rfl)
theorem dJ18_addLast_11 : decode cJ18_addLast 11 = .ok (.athrow, 1) := dk_191 (dk_at dksJ18_addLast_0 11 rfl rfl)
theorem dJ18_addLast_12 : decode cJ18_addLast 12 = .ok (.aload_n 0, 1) := dk_42 (dk_at dksJ18_addLast_0 12 rfl rfl)
theorem dJ18_addLast_13 : decode cJ18_addLast 13 = .ok (.getfield 3, 3) := dk_180 0 3 (dk_at dksJ18_addLast_0 13 rfl rfl)
theorem dJ18_addLast_16 : decode cJ18_addLast 16 = .ok (.astore_n 2, 1) := dk_77 (dk_at dksJ18_addLast_0 16 rfl rfl)
theorem dJ18_addLast_17 : decode cJ18_addLast 17 = .ok (.aload_n 2, 1) := dk_44 (dk_at dksJ18_addLast_0 17 rfl rfl)
theorem dJ18_addLast_18 : decode cJ18_addLast 18 = .ok (.aload_n 0, 1) := dk_42 (dk_at dksJ18_addLast_0 18 rfl rfl)
theorem dJ18_addLast_19 : decode cJ18_addLast 19 = .ok (.getfield 20, 3) := dk_180 0 20 (dk_at dksJ18_addLast_0 19 rfl rfl)
theorem dJ18_addLast_22 : decode cJ18_addLast 22 = .ok (.aload_n 1, 1) := dk_43 (dk_at dksJ18_addLast_0 22 rfl rfl)
theorem dJ18_addLast_23 : decode cJ18_addLast 23 = .ok (.aastore, 1) := dk_83 (dk_at dksJ18_addLast_0 23 rfl rfl)
theorem dJ18_addLast_24 : decode cJ18_addLast 24 = .ok (.aload_n 0, 1) := dk_42 (dk_at dksJ18_addLast_1 0 rfl rfl)
theorem dJ18_addLast_25 : decode cJ18_addLast 25 = .ok (.getfield 24, 3) := dk_180 0 24 (dk_at dksJ18_addLast_1 1 rfl rfl)
theorem dJ18_addLast_28 : decode cJ18_addLast 28 = .ok (.aload_n 0, 1) := dk_42 (dk_at dksJ18_addLast_1 4 rfl rfl)
theorem dJ18_addLast_29 : decode cJ18_addLast 29 = .ok (.aload_n 0, 1) := dk_42 (dk_at dksJ18_addLast_1 5 rfl rfl)
theorem dJ18_addLast_30 : decode cJ18_addLast 30 = .ok (.getfield 20, 3) := dk_180 0 20 (dk_at dksJ18_addLast_1 6 rfl rfl)
theorem dJ18_addLast_33 : decode cJ18_addLast 33 = .ok (.aload_n 2, 1) := dk_44 (dk_at dksJ18_addLast_1 9 rfl rfl)
theorem dJ18_addLast_34 : decode cJ18_addLast 34 = .ok (.arraylength, 1) := dk_190 (dk_at dksJ18_addLast_1 10 rfl rfl)
theorem dJ18_addLast_35 : decode cJ18_addLast 35 = .ok (.invokestatic 74, 3) := dk_184 0 74 (dk_at dksJ18_addLast_1 11 rfl rfl)
theorem dJ18_addLast_38 : decode cJ18_addLast 38 = .ok (.dup_x1, 1) := dk_90 (dk_at dksJ18_addLast_1 14 rfl rfl)
theorem dJ18_addLast_39 : decode cJ18_addLast 39 = .ok (.putfield 20, 3) := dk_181 0 20 (dk_at dksJ18_addLast_1 15 rfl rfl)
theorem dJ18_addLast_42 : decode cJ18_addLast 42 = .ok (.if_icmp .ne 8, 3) := dk_160 0 8 (dk_at dksJ18_addLast_1 18 rfl rfl)
theorem dJ18_addLast_45 : decode cJ18_addLast 45 = .ok (.aload_n 0, 1) := dk_42 (dk_at dksJ18_addLast_1 21 rfl rfl)
theorem dJ18_addLast_46 : decode cJ18_addLast 46 = .ok (.iconst 1, 1) := dk_4 (dk_at dksJ18_addLast_1 22 rfl rfl)
theorem dJ18_addLast_47 : decode cJ18_addLast 47 = .ok (.invokevirtual 71, 3) := dk_182 0 71 (dk_at dksJ18_addLast_2 0 rfl rfl)
theorem dJ18_addLast_50 : decode cJ18_addLast 50 = .ok (.return_, 1) := dk_177 (dk_at dksJ18_addLast_2 3 rfl rfl)
abbrev cJ18_grow : ByteArray := prog_46_method_1_code
def yJ18_grow : MethodName := ⟨RJ18, "grow", "(I)V"⟩
def dkwJ18_grow_7 : List UInt8 := [177]
abbrev dktJ18_grow_7 : List UInt8 := dkwJ18_grow_7 ++ []
def dkwJ18_grow_6 : List UInt8 := [181, 0, 24, 54, 8, 21, 7, 21, 8, 162, 0, 15, 25, 5, 21, 7, 1, 83, 132, 7, 1, 167, 255, 240]
abbrev dktJ18_grow_6 : List UInt8 := dkwJ18_grow_6 ++ dktJ18_grow_7
def dkwJ18_grow_5 : List UInt8 := [42, 180, 0, 24, 100, 184, 0, 27, 42, 180, 0, 24, 54, 7, 42, 89, 180, 0, 24, 21, 6, 96, 90]
abbrev dktJ18_grow_5 : List UInt8 := dkwJ18_grow_5 ++ dktJ18_grow_6
def dkwJ18_grow_4 : List UInt8 := [198, 0, 71, 29, 28, 100, 54, 6, 25, 5, 42, 180, 0, 24, 25, 5, 42, 180, 0, 24, 21, 6, 96, 28]
abbrev dktJ18_grow_4 : List UInt8 := dkwJ18_grow_4 ++ dktJ18_grow_5
def dkwJ18_grow_3 : List UInt8 := [180, 0, 24, 161, 0, 24, 42, 180, 0, 20, 42, 180, 0, 24, 160, 0, 81, 25, 5, 42, 180, 0, 24, 50]
abbrev dktJ18_grow_3 : List UInt8 := dkwJ18_grow_3 ++ dktJ18_grow_4
def dkwJ18_grow_2 : List UInt8 := [182, 0, 10, 62, 42, 42, 180, 0, 3, 29, 184, 0, 14, 90, 181, 0, 3, 58, 5, 42, 180, 0, 20, 42]
abbrev dktJ18_grow_2 : List UInt8 := dkwJ18_grow_2 ++ dktJ18_grow_3
def dkwJ18_grow_1 : List UInt8 := [21, 4, 27, 161, 0, 15, 28, 21, 4, 96, 89, 62, 18, 9, 100, 158, 0, 11, 42, 27, 21, 4]
abbrev dktJ18_grow_1 : List UInt8 := dkwJ18_grow_1 ++ dktJ18_grow_2
def dkwJ18_grow_0 : List UInt8 := [42, 180, 0, 3, 190, 61, 28, 16, 64, 162, 0, 9, 28, 5, 96, 167, 0, 6, 28, 4, 122, 54, 4]
abbrev dktJ18_grow_0 : List UInt8 := dkwJ18_grow_0 ++ dktJ18_grow_1
theorem dksJ18_grow_0 : cJ18_grow.data.toList.drop 0 = dktJ18_grow_0 := by decide +kernel
theorem dksJ18_grow_1 : cJ18_grow.data.toList.drop 23 = dktJ18_grow_1 := dk_seg dksJ18_grow_0 23 rfl rfl
theorem dksJ18_grow_2 : cJ18_grow.data.toList.drop 45 = dktJ18_grow_2 := dk_seg dksJ18_grow_1 22 rfl rfl
theorem dksJ18_grow_3 : cJ18_grow.data.toList.drop 69 = dktJ18_grow_3 := dk_seg dksJ18_grow_2 24 rfl rfl
theorem dksJ18_grow_4 : cJ18_grow.data.toList.drop 93 = dktJ18_grow_4 := dk_seg dksJ18_grow_3 24 rfl rfl
theorem dksJ18_grow_5 : cJ18_grow.data.toList.drop 117 = dktJ18_grow_5 := dk_seg dksJ18_grow_4 24 rfl rfl
theorem dksJ18_grow_6 : cJ18_grow.data.toList.drop 140 = dktJ18_grow_6 := dk_seg dksJ18_grow_5 23 rfl rfl
theorem dksJ18_grow_7 : cJ18_grow.data.toList.drop 164 = dktJ18_grow_7 := dk_seg dksJ18_grow_6 24 rfl rfl
theorem dJ18_grow_0 : decode cJ18_grow 0 = .ok (.aload_n 0, 1) := dk_42 (dk_at dksJ18_grow_0 0 rfl rfl)
theorem dJ18_grow_1 : decode cJ18_grow 1 = .ok (.getfield 3, 3) := dk_180 0 3 (dk_at dksJ18_grow_0 1 rfl rfl)
theorem dJ18_grow_4 : decode cJ18_grow 4 = .ok (.arraylength, 1) := dk_190 (dk_at dksJ18_grow_0 4 rfl rfl)
theorem dJ18_grow_5 : decode cJ18_grow 5 = .ok (.istore_n 2, 1) := dk_61 (dk_at dksJ18_grow_0 5 rfl rfl)
theorem dJ18_grow_6 : decode cJ18_grow 6 = .ok (.iload_n 2, 1) := dk_28 (dk_at dksJ18_grow_0 6 rfl rfl)
theorem dJ18_grow_7 : decode cJ18_grow 7 = .ok (.bipush 64, 2) := dk_16 64 (dk_at dksJ18_grow_0 7 rfl rfl)
theorem dJ18_grow_9 : decode cJ18_grow 9 = .ok (.if_icmp .ge 9, 3) := dk_162 0 9 (dk_at dksJ18_grow_0 9 rfl rfl)
theorem dJ18_grow_12 : decode cJ18_grow 12 = .ok (.iload_n 2, 1) := dk_28 (dk_at dksJ18_grow_0 12 rfl rfl)
theorem dJ18_grow_13 : decode cJ18_grow 13 = .ok (.iconst 2, 1) := dk_5 (dk_at dksJ18_grow_0 13 rfl rfl)
theorem dJ18_grow_14 : decode cJ18_grow 14 = .ok (.iadd, 1) := dk_96 (dk_at dksJ18_grow_0 14 rfl rfl)
theorem dJ18_grow_15 : decode cJ18_grow 15 = .ok (.goto 6, 3) := dk_167 0 6 (dk_at dksJ18_grow_0 15 rfl rfl)
theorem dJ18_grow_18 : decode cJ18_grow 18 = .ok (.iload_n 2, 1) := dk_28 (dk_at dksJ18_grow_0 18 rfl rfl)
theorem dJ18_grow_19 : decode cJ18_grow 19 = .ok (.iconst 1, 1) := dk_4 (dk_at dksJ18_grow_0 19 rfl rfl)
theorem dJ18_grow_20 : decode cJ18_grow 20 = .ok (.ishr, 1) := dk_122 (dk_at dksJ18_grow_0 20 rfl rfl)
theorem dJ18_grow_21 : decode cJ18_grow 21 = .ok (.istore 4, 2) := dk_54 4 (dk_at dksJ18_grow_0 21 rfl rfl)
theorem dJ18_grow_23 : decode cJ18_grow 23 = .ok (.iload 4, 2) := dk_21 4 (dk_at dksJ18_grow_1 0 rfl rfl)
theorem dJ18_grow_25 : decode cJ18_grow 25 = .ok (.iload_n 1, 1) := dk_27 (dk_at dksJ18_grow_1 2 rfl rfl)
theorem dJ18_grow_26 : decode cJ18_grow 26 = .ok (.if_icmp .lt 15, 3) := dk_161 0 15 (dk_at dksJ18_grow_1 3 rfl rfl)
theorem dJ18_grow_29 : decode cJ18_grow 29 = .ok (.iload_n 2, 1) := dk_28 (dk_at dksJ18_grow_1 6 rfl rfl)
theorem dJ18_grow_30 : decode cJ18_grow 30 = .ok (.iload 4, 2) := dk_21 4 (dk_at dksJ18_grow_1 7 rfl rfl)
theorem dJ18_grow_32 : decode cJ18_grow 32 = .ok (.iadd, 1) := dk_96 (dk_at dksJ18_grow_1 9 rfl rfl)
theorem dJ18_grow_33 : decode cJ18_grow 33 = .ok (.dup, 1) := dk_89 (dk_at dksJ18_grow_1 10 rfl rfl)
theorem dJ18_grow_34 : decode cJ18_grow 34 = .ok (.istore_n 3, 1) := dk_62 (dk_at dksJ18_grow_1 11 rfl rfl)
theorem dJ18_grow_35 : decode cJ18_grow 35 = .ok (.ldc 9, 2) := dk_18 9 (dk_at dksJ18_grow_1 12 rfl rfl)
theorem dJ18_grow_37 : decode cJ18_grow 37 = .ok (.isub, 1) := dk_100 (dk_at dksJ18_grow_1 14 rfl rfl)
theorem dJ18_grow_38 : decode cJ18_grow 38 = .ok (.ifCond .le 11, 3) := dk_158 0 11 (dk_at dksJ18_grow_1 15 rfl rfl)
theorem dJ18_grow_41 : decode cJ18_grow 41 = .ok (.aload_n 0, 1) := dk_42 (dk_at dksJ18_grow_1 18 rfl rfl)
theorem dJ18_grow_42 : decode cJ18_grow 42 = .ok (.iload_n 1, 1) := dk_27 (dk_at dksJ18_grow_1 19 rfl rfl)
theorem dJ18_grow_43 : decode cJ18_grow 43 = .ok (.iload 4, 2) := dk_21 4 (dk_at dksJ18_grow_1 20 rfl rfl)
theorem dJ18_grow_45 : decode cJ18_grow 45 = .ok (.invokevirtual 10, 3) := dk_182 0 10 (dk_at dksJ18_grow_2 0 rfl rfl)
theorem dJ18_grow_48 : decode cJ18_grow 48 = .ok (.istore_n 3, 1) := dk_62 (dk_at dksJ18_grow_2 3 rfl rfl)
theorem dJ18_grow_49 : decode cJ18_grow 49 = .ok (.aload_n 0, 1) := dk_42 (dk_at dksJ18_grow_2 4 rfl rfl)
theorem dJ18_grow_50 : decode cJ18_grow 50 = .ok (.aload_n 0, 1) := dk_42 (dk_at dksJ18_grow_2 5 rfl rfl)
theorem dJ18_grow_51 : decode cJ18_grow 51 = .ok (.getfield 3, 3) := dk_180 0 3 (dk_at dksJ18_grow_2 6 rfl rfl)
theorem dJ18_grow_54 : decode cJ18_grow 54 = .ok (.iload_n 3, 1) := dk_29 (dk_at dksJ18_grow_2 9 rfl rfl)
theorem dJ18_grow_55 : decode cJ18_grow 55 = .ok (.invokestatic 14, 3) := dk_184 0 14 (dk_at dksJ18_grow_2 10 rfl rfl)
theorem dJ18_grow_58 : decode cJ18_grow 58 = .ok (.dup_x1, 1) := dk_90 (dk_at dksJ18_grow_2 13 rfl rfl)
theorem dJ18_grow_59 : decode cJ18_grow 59 = .ok (.putfield 3, 3) := dk_181 0 3 (dk_at dksJ18_grow_2 14 rfl rfl)
theorem dJ18_grow_62 : decode cJ18_grow 62 = .ok (.astore 5, 2) := dk_58 5 (dk_at dksJ18_grow_2 17 rfl rfl)
theorem dJ18_grow_64 : decode cJ18_grow 64 = .ok (.aload_n 0, 1) := dk_42 (dk_at dksJ18_grow_2 19 rfl rfl)
theorem dJ18_grow_65 : decode cJ18_grow 65 = .ok (.getfield 20, 3) := dk_180 0 20 (dk_at dksJ18_grow_2 20 rfl rfl)
theorem dJ18_grow_68 : decode cJ18_grow 68 = .ok (.aload_n 0, 1) := dk_42 (dk_at dksJ18_grow_2 23 rfl rfl)
theorem dJ18_grow_69 : decode cJ18_grow 69 = .ok (.getfield 24, 3) := dk_180 0 24 (dk_at dksJ18_grow_3 0 rfl rfl)
theorem dJ18_grow_72 : decode cJ18_grow 72 = .ok (.if_icmp .lt 24, 3) := dk_161 0 24 (dk_at dksJ18_grow_3 3 rfl rfl)
theorem dJ18_grow_75 : decode cJ18_grow 75 = .ok (.aload_n 0, 1) := dk_42 (dk_at dksJ18_grow_3 6 rfl rfl)
theorem dJ18_grow_76 : decode cJ18_grow 76 = .ok (.getfield 20, 3) := dk_180 0 20 (dk_at dksJ18_grow_3 7 rfl rfl)
theorem dJ18_grow_79 : decode cJ18_grow 79 = .ok (.aload_n 0, 1) := dk_42 (dk_at dksJ18_grow_3 10 rfl rfl)
theorem dJ18_grow_80 : decode cJ18_grow 80 = .ok (.getfield 24, 3) := dk_180 0 24 (dk_at dksJ18_grow_3 11 rfl rfl)
theorem dJ18_grow_83 : decode cJ18_grow 83 = .ok (.if_icmp .ne 81, 3) := dk_160 0 81 (dk_at dksJ18_grow_3 14 rfl rfl)
theorem dJ18_grow_86 : decode cJ18_grow 86 = .ok (.aload 5, 2) := dk_25 5 (dk_at dksJ18_grow_3 17 rfl rfl)
theorem dJ18_grow_88 : decode cJ18_grow 88 = .ok (.aload_n 0, 1) := dk_42 (dk_at dksJ18_grow_3 19 rfl rfl)
theorem dJ18_grow_89 : decode cJ18_grow 89 = .ok (.getfield 24, 3) := dk_180 0 24 (dk_at dksJ18_grow_3 20 rfl rfl)
theorem dJ18_grow_92 : decode cJ18_grow 92 = .ok (.aaload, 1) := dk_50 (dk_at dksJ18_grow_3 23 rfl rfl)
theorem dJ18_grow_93 : decode cJ18_grow 93 = .ok (.ifnull 71, 3) := dk_198 0 71 (dk_at dksJ18_grow_4 0 rfl rfl)
theorem dJ18_grow_96 : decode cJ18_grow 96 = .ok (.iload_n 3, 1) := dk_29 (dk_at dksJ18_grow_4 3 rfl rfl)
theorem dJ18_grow_97 : decode cJ18_grow 97 = .ok (.iload_n 2, 1) := dk_28 (dk_at dksJ18_grow_4 4 rfl rfl)
theorem dJ18_grow_98 : decode cJ18_grow 98 = .ok (.isub, 1) := dk_100 (dk_at dksJ18_grow_4 5 rfl rfl)
theorem dJ18_grow_99 : decode cJ18_grow 99 = .ok (.istore 6, 2) := dk_54 6 (dk_at dksJ18_grow_4 6 rfl rfl)
theorem dJ18_grow_101 : decode cJ18_grow 101 = .ok (.aload 5, 2) := dk_25 5 (dk_at dksJ18_grow_4 8 rfl rfl)
theorem dJ18_grow_103 : decode cJ18_grow 103 = .ok (.aload_n 0, 1) := dk_42 (dk_at dksJ18_grow_4 10 rfl rfl)
theorem dJ18_grow_104 : decode cJ18_grow 104 = .ok (.getfield 24, 3) := dk_180 0 24 (dk_at dksJ18_grow_4 11 rfl rfl)
theorem dJ18_grow_107 : decode cJ18_grow 107 = .ok (.aload 5, 2) := dk_25 5 (dk_at dksJ18_grow_4 14 rfl rfl)
theorem dJ18_grow_109 : decode cJ18_grow 109 = .ok (.aload_n 0, 1) := dk_42 (dk_at dksJ18_grow_4 16 rfl rfl)
theorem dJ18_grow_110 : decode cJ18_grow 110 = .ok (.getfield 24, 3) := dk_180 0 24 (dk_at dksJ18_grow_4 17 rfl rfl)
theorem dJ18_grow_113 : decode cJ18_grow 113 = .ok (.iload 6, 2) := dk_21 6 (dk_at dksJ18_grow_4 20 rfl rfl)
theorem dJ18_grow_115 : decode cJ18_grow 115 = .ok (.iadd, 1) := dk_96 (dk_at dksJ18_grow_4 22 rfl rfl)
theorem dJ18_grow_116 : decode cJ18_grow 116 = .ok (.iload_n 2, 1) := dk_28 (dk_at dksJ18_grow_4 23 rfl rfl)
theorem dJ18_grow_117 : decode cJ18_grow 117 = .ok (.aload_n 0, 1) := dk_42 (dk_at dksJ18_grow_5 0 rfl rfl)
theorem dJ18_grow_118 : decode cJ18_grow 118 = .ok (.getfield 24, 3) := dk_180 0 24 (dk_at dksJ18_grow_5 1 rfl rfl)
theorem dJ18_grow_121 : decode cJ18_grow 121 = .ok (.isub, 1) := dk_100 (dk_at dksJ18_grow_5 4 rfl rfl)
theorem dJ18_grow_122 : decode cJ18_grow 122 = .ok (.invokestatic 27, 3) := dk_184 0 27 (dk_at dksJ18_grow_5 5 rfl rfl)
theorem dJ18_grow_125 : decode cJ18_grow 125 = .ok (.aload_n 0, 1) := dk_42 (dk_at dksJ18_grow_5 8 rfl rfl)
theorem dJ18_grow_126 : decode cJ18_grow 126 = .ok (.getfield 24, 3) := dk_180 0 24 (dk_at dksJ18_grow_5 9 rfl rfl)
theorem dJ18_grow_129 : decode cJ18_grow 129 = .ok (.istore 7, 2) := dk_54 7 (dk_at dksJ18_grow_5 12 rfl rfl)
theorem dJ18_grow_131 : decode cJ18_grow 131 = .ok (.aload_n 0, 1) := dk_42 (dk_at dksJ18_grow_5 14 rfl rfl)
theorem dJ18_grow_132 : decode cJ18_grow 132 = .ok (.dup, 1) := dk_89 (dk_at dksJ18_grow_5 15 rfl rfl)
theorem dJ18_grow_133 : decode cJ18_grow 133 = .ok (.getfield 24, 3) := dk_180 0 24 (dk_at dksJ18_grow_5 16 rfl rfl)
theorem dJ18_grow_136 : decode cJ18_grow 136 = .ok (.iload 6, 2) := dk_21 6 (dk_at dksJ18_grow_5 19 rfl rfl)
theorem dJ18_grow_138 : decode cJ18_grow 138 = .ok (.iadd, 1) := dk_96 (dk_at dksJ18_grow_5 21 rfl rfl)
theorem dJ18_grow_139 : decode cJ18_grow 139 = .ok (.dup_x1, 1) := dk_90 (dk_at dksJ18_grow_5 22 rfl rfl)
theorem dJ18_grow_140 : decode cJ18_grow 140 = .ok (.putfield 24, 3) := dk_181 0 24 (dk_at dksJ18_grow_6 0 rfl rfl)
theorem dJ18_grow_143 : decode cJ18_grow 143 = .ok (.istore 8, 2) := dk_54 8 (dk_at dksJ18_grow_6 3 rfl rfl)
theorem dJ18_grow_145 : decode cJ18_grow 145 = .ok (.iload 7, 2) := dk_21 7 (dk_at dksJ18_grow_6 5 rfl rfl)
theorem dJ18_grow_147 : decode cJ18_grow 147 = .ok (.iload 8, 2) := dk_21 8 (dk_at dksJ18_grow_6 7 rfl rfl)
theorem dJ18_grow_149 : decode cJ18_grow 149 = .ok (.if_icmp .ge 15, 3) := dk_162 0 15 (dk_at dksJ18_grow_6 9 rfl rfl)
theorem dJ18_grow_152 : decode cJ18_grow 152 = .ok (.aload 5, 2) := dk_25 5 (dk_at dksJ18_grow_6 12 rfl rfl)
theorem dJ18_grow_154 : decode cJ18_grow 154 = .ok (.iload 7, 2) := dk_21 7 (dk_at dksJ18_grow_6 14 rfl rfl)
theorem dJ18_grow_156 : decode cJ18_grow 156 = .ok (.aconst_null, 1) := dk_1 (dk_at dksJ18_grow_6 16 rfl rfl)
theorem dJ18_grow_157 : decode cJ18_grow 157 = .ok (.aastore, 1) := dk_83 (dk_at dksJ18_grow_6 17 rfl rfl)
theorem dJ18_grow_158 : decode cJ18_grow 158 = .ok (.iinc 7 1, 3) := dk_132 7 1 (dk_at dksJ18_grow_6 18 rfl rfl)
theorem dJ18_grow_161 : decode cJ18_grow 161 = .ok (.goto (-16), 3) := dk_167 255 240 (dk_at dksJ18_grow_6 21 rfl rfl)
theorem dJ18_grow_164 : decode cJ18_grow 164 = .ok (.return_, 1) := dk_177 (dk_at dksJ18_grow_7 0 rfl rfl)
abbrev cJ18_newCapacity : ByteArray := prog_46_method_2_code
def yJ18_newCapacity : MethodName := ⟨RJ18, "newCapacity", "(II)I"⟩
def dkwJ18_newCapacity_2 : List UInt8 := [18, 9, 100, 156, 0, 9, 29, 28, 96, 167, 0, 5, 18, 9, 172]
abbrev dktJ18_newCapacity_2 : List UInt8 := dkwJ18_newCapacity_2 ++ []
def dkwJ18_newCapacity_1 : List UInt8 := [187, 0, 33, 89, 18, 35, 183, 0, 37, 191, 18, 41, 172, 27, 28, 164, 0, 6, 21, 4, 172, 29, 28, 96]
abbrev dktJ18_newCapacity_1 : List UInt8 := dkwJ18_newCapacity_1 ++ dktJ18_newCapacity_2
def dkwJ18_newCapacity_0 : List UInt8 := [42, 180, 0, 3, 190, 62, 29, 27, 96, 89, 54, 4, 18, 9, 100, 158, 0, 21, 21, 4, 156, 0, 13]
abbrev dktJ18_newCapacity_0 : List UInt8 := dkwJ18_newCapacity_0 ++ dktJ18_newCapacity_1
theorem dksJ18_newCapacity_0 : cJ18_newCapacity.data.toList.drop 0 = dktJ18_newCapacity_0 := by decide +kernel
theorem dksJ18_newCapacity_1 : cJ18_newCapacity.data.toList.drop 23 = dktJ18_newCapacity_1 := dk_seg dksJ18_newCapacity_0 23 rfl rfl
theorem dksJ18_newCapacity_2 : cJ18_newCapacity.data.toList.drop 47 = dktJ18_newCapacity_2 := dk_seg dksJ18_newCapacity_1 24 rfl rfl
theorem dJ18_newCapacity_0 : decode cJ18_newCapacity 0 = .ok (.aload_n 0, 1) := dk_42 (dk_at dksJ18_newCapacity_0 0 rfl rfl)
theorem dJ18_newCapacity_1 : decode cJ18_newCapacity 1 = .ok (.getfield 3, 3) := dk_180 0 3 (dk_at dksJ18_newCapacity_0 1 rfl rfl)
theorem dJ18_newCapacity_4 : decode cJ18_newCapacity 4 = .ok (.arraylength, 1) := dk_190 (dk_at dksJ18_newCapacity_0 4 rfl rfl)
theorem dJ18_newCapacity_5 : decode cJ18_newCapacity 5 = .ok (.istore_n 3, 1) := dk_62 (dk_at dksJ18_newCapacity_0 5 rfl rfl)
theorem dJ18_newCapacity_6 : decode cJ18_newCapacity 6 = .ok (.iload_n 3, 1) := dk_29 (dk_at dksJ18_newCapacity_0 6 rfl rfl)
theorem dJ18_newCapacity_7 : decode cJ18_newCapacity 7 = .ok (.iload_n 1, 1) := dk_27 (dk_at dksJ18_newCapacity_0 7 rfl rfl)
theorem dJ18_newCapacity_8 : decode cJ18_newCapacity 8 = .ok (.iadd, 1) := dk_96 (dk_at dksJ18_newCapacity_0 8 rfl rfl)
theorem dJ18_newCapacity_9 : decode cJ18_newCapacity 9 = .ok (.dup, 1) := dk_89 (dk_at dksJ18_newCapacity_0 9 rfl rfl)
theorem dJ18_newCapacity_10 : decode cJ18_newCapacity 10 = .ok (.istore 4, 2) := dk_54 4 (dk_at dksJ18_newCapacity_0 10 rfl rfl)
theorem dJ18_newCapacity_12 : decode cJ18_newCapacity 12 = .ok (.ldc 9, 2) := dk_18 9 (dk_at dksJ18_newCapacity_0 12 rfl rfl)
theorem dJ18_newCapacity_14 : decode cJ18_newCapacity 14 = .ok (.isub, 1) := dk_100 (dk_at dksJ18_newCapacity_0 14 rfl rfl)
theorem dJ18_newCapacity_15 : decode cJ18_newCapacity 15 = .ok (.ifCond .le 21, 3) := dk_158 0 21 (dk_at dksJ18_newCapacity_0 15 rfl rfl)
theorem dJ18_newCapacity_18 : decode cJ18_newCapacity 18 = .ok (.iload 4, 2) := dk_21 4 (dk_at dksJ18_newCapacity_0 18 rfl rfl)
theorem dJ18_newCapacity_20 : decode cJ18_newCapacity 20 = .ok (.ifCond .ge 13, 3) := dk_156 0 13 (dk_at dksJ18_newCapacity_0 20 rfl rfl)
theorem dJ18_newCapacity_23 : decode cJ18_newCapacity 23 = .ok (.new 33, 3) := dk_187 0 33 (dk_at dksJ18_newCapacity_1 0 rfl rfl)
theorem dJ18_newCapacity_26 : decode cJ18_newCapacity 26 = .ok (.dup, 1) := dk_89 (dk_at dksJ18_newCapacity_1 3 rfl rfl)
theorem dJ18_newCapacity_27 : decode cJ18_newCapacity 27 = .ok (.ldc 35, 2) := dk_18 35 (dk_at dksJ18_newCapacity_1 4 rfl rfl)
theorem dJ18_newCapacity_29 : decode cJ18_newCapacity 29 = .ok (.invokespecial 37, 3) := dk_183 0 37 (dk_at dksJ18_newCapacity_1 6 rfl rfl)
theorem dJ18_newCapacity_32 : decode cJ18_newCapacity 32 = .ok (.athrow, 1) := dk_191 (dk_at dksJ18_newCapacity_1 9 rfl rfl)
theorem dJ18_newCapacity_33 : decode cJ18_newCapacity 33 = .ok (.ldc 41, 2) := dk_18 41 (dk_at dksJ18_newCapacity_1 10 rfl rfl)
theorem dJ18_newCapacity_35 : decode cJ18_newCapacity 35 = .ok (.ireturn, 1) := dk_172 (dk_at dksJ18_newCapacity_1 12 rfl rfl)
theorem dJ18_newCapacity_36 : decode cJ18_newCapacity 36 = .ok (.iload_n 1, 1) := dk_27 (dk_at dksJ18_newCapacity_1 13 rfl rfl)
theorem dJ18_newCapacity_37 : decode cJ18_newCapacity 37 = .ok (.iload_n 2, 1) := dk_28 (dk_at dksJ18_newCapacity_1 14 rfl rfl)
theorem dJ18_newCapacity_38 : decode cJ18_newCapacity 38 = .ok (.if_icmp .le 6, 3) := dk_164 0 6 (dk_at dksJ18_newCapacity_1 15 rfl rfl)
theorem dJ18_newCapacity_41 : decode cJ18_newCapacity 41 = .ok (.iload 4, 2) := dk_21 4 (dk_at dksJ18_newCapacity_1 18 rfl rfl)
theorem dJ18_newCapacity_43 : decode cJ18_newCapacity 43 = .ok (.ireturn, 1) := dk_172 (dk_at dksJ18_newCapacity_1 20 rfl rfl)
theorem dJ18_newCapacity_44 : decode cJ18_newCapacity 44 = .ok (.iload_n 3, 1) := dk_29 (dk_at dksJ18_newCapacity_1 21 rfl rfl)
theorem dJ18_newCapacity_45 : decode cJ18_newCapacity 45 = .ok (.iload_n 2, 1) := dk_28 (dk_at dksJ18_newCapacity_1 22 rfl rfl)
theorem dJ18_newCapacity_46 : decode cJ18_newCapacity 46 = .ok (.iadd, 1) := dk_96 (dk_at dksJ18_newCapacity_1 23 rfl rfl)
theorem dJ18_newCapacity_47 : decode cJ18_newCapacity 47 = .ok (.ldc 9, 2) := dk_18 9 (dk_at dksJ18_newCapacity_2 0 rfl rfl)
theorem dJ18_newCapacity_49 : decode cJ18_newCapacity 49 = .ok (.isub, 1) := dk_100 (dk_at dksJ18_newCapacity_2 2 rfl rfl)
theorem dJ18_newCapacity_50 : decode cJ18_newCapacity 50 = .ok (.ifCond .ge 9, 3) := dk_156 0 9 (dk_at dksJ18_newCapacity_2 3 rfl rfl)
theorem dJ18_newCapacity_53 : decode cJ18_newCapacity 53 = .ok (.iload_n 3, 1) := dk_29 (dk_at dksJ18_newCapacity_2 6 rfl rfl)
theorem dJ18_newCapacity_54 : decode cJ18_newCapacity 54 = .ok (.iload_n 2, 1) := dk_28 (dk_at dksJ18_newCapacity_2 7 rfl rfl)
theorem dJ18_newCapacity_55 : decode cJ18_newCapacity 55 = .ok (.iadd, 1) := dk_96 (dk_at dksJ18_newCapacity_2 8 rfl rfl)
theorem dJ18_newCapacity_56 : decode cJ18_newCapacity 56 = .ok (.goto 5, 3) := dk_167 0 5 (dk_at dksJ18_newCapacity_2 9 rfl rfl)
theorem dJ18_newCapacity_59 : decode cJ18_newCapacity 59 = .ok (.ldc 9, 2) := dk_18 9 (dk_at dksJ18_newCapacity_2 12 rfl rfl)
theorem dJ18_newCapacity_61 : decode cJ18_newCapacity 61 = .ok (.ireturn, 1) := dk_172 (dk_at dksJ18_newCapacity_2 14 rfl rfl)
abbrev cJ18_isEmpty : ByteArray := prog_46_method_38_code
def yJ18_isEmpty : MethodName := ⟨RJ18, "isEmpty", "()Z"⟩
def dkwJ18_isEmpty_0 : List UInt8 := [42, 180, 0, 24, 42, 180, 0, 20, 160, 0, 7, 4, 167, 0, 4, 3, 172]
abbrev dktJ18_isEmpty_0 : List UInt8 := dkwJ18_isEmpty_0 ++ []
theorem dksJ18_isEmpty_0 : cJ18_isEmpty.data.toList.drop 0 = dktJ18_isEmpty_0 := by decide +kernel
theorem dJ18_isEmpty_0 : decode cJ18_isEmpty 0 = .ok (.aload_n 0, 1) := dk_42 (dk_at dksJ18_isEmpty_0 0 rfl rfl)
theorem dJ18_isEmpty_1 : decode cJ18_isEmpty 1 = .ok (.getfield 24, 3) := dk_180 0 24 (dk_at dksJ18_isEmpty_0 1 rfl rfl)
theorem dJ18_isEmpty_4 : decode cJ18_isEmpty 4 = .ok (.aload_n 0, 1) := dk_42 (dk_at dksJ18_isEmpty_0 4 rfl rfl)
theorem dJ18_isEmpty_5 : decode cJ18_isEmpty 5 = .ok (.getfield 20, 3) := dk_180 0 20 (dk_at dksJ18_isEmpty_0 5 rfl rfl)
theorem dJ18_isEmpty_8 : decode cJ18_isEmpty 8 = .ok (.if_icmp .ne 7, 3) := dk_160 0 7 (dk_at dksJ18_isEmpty_0 8 rfl rfl)
theorem dJ18_isEmpty_11 : decode cJ18_isEmpty 11 = .ok (.iconst 1, 1) := dk_4 (dk_at dksJ18_isEmpty_0 11 rfl rfl)
theorem dJ18_isEmpty_12 : decode cJ18_isEmpty 12 = .ok (.goto 4, 3) := dk_167 0 4 (dk_at dksJ18_isEmpty_0 12 rfl rfl)
theorem dJ18_isEmpty_15 : decode cJ18_isEmpty 15 = .ok (.iconst 0, 1) := dk_3 (dk_at dksJ18_isEmpty_0 15 rfl rfl)
theorem dJ18_isEmpty_16 : decode cJ18_isEmpty 16 = .ok (.ireturn, 1) := dk_172 (dk_at dksJ18_isEmpty_0 16 rfl rfl)
abbrev cJ18_removeLast : ByteArray := prog_46_method_19_code
def yJ18_removeLast : MethodName := ⟨RJ18, "removeLast", "()Ljava/lang/Object;"⟩
def dkwJ18_removeLast_0 : List UInt8 := [42, 182, 0, 100, 76, 43, 199, 0, 11, 187, 0, 97, 89, 183, 0, 99, 191, 43, 176]
abbrev dktJ18_removeLast_0 : List UInt8 := dkwJ18_removeLast_0 ++ []
theorem dksJ18_removeLast_0 : cJ18_removeLast.data.toList.drop 0 = dktJ18_removeLast_0 := by decide +kernel
theorem dJ18_removeLast_0 : decode cJ18_removeLast 0 = .ok (.aload_n 0, 1) := dk_42 (dk_at dksJ18_removeLast_0 0 rfl rfl)
theorem dJ18_removeLast_1 : decode cJ18_removeLast 1 = .ok (.invokevirtual 100, 3) := dk_182 0 100 (dk_at dksJ18_removeLast_0 1 rfl rfl)
theorem dJ18_removeLast_4 : decode cJ18_removeLast 4 = .ok (.astore_n 1, 1) := dk_76 (dk_at dksJ18_removeLast_0 4 rfl rfl)
theorem dJ18_removeLast_5 : decode cJ18_removeLast 5 = .ok (.aload_n 1, 1) := dk_43 (dk_at dksJ18_removeLast_0 5 rfl rfl)
theorem dJ18_removeLast_6 : decode cJ18_removeLast 6 = .ok (.ifnonnull 11, 3) := dk_199 0 11 (dk_at dksJ18_removeLast_0 6 rfl rfl)
theorem dJ18_removeLast_9 : decode cJ18_removeLast 9 = .ok (.new 97, 3) := dk_187 0 97 (dk_at dksJ18_removeLast_0 9 rfl rfl)
theorem dJ18_removeLast_12 : decode cJ18_removeLast 12 = .ok (.dup, 1) := dk_89 (dk_at dksJ18_removeLast_0 12 rfl rfl)
theorem dJ18_removeLast_13 : decode cJ18_removeLast 13 = .ok (.invokespecial 99, 3) := dk_183 0 99 (dk_at dksJ18_removeLast_0 13 rfl rfl)
theorem dJ18_removeLast_16 : decode cJ18_removeLast 16 = .ok (.athrow, 1) := dk_191 (dk_at dksJ18_removeLast_0 16 rfl rfl)
theorem dJ18_removeLast_17 : decode cJ18_removeLast 17 = .ok (.aload_n 1, 1) := dk_43 (dk_at dksJ18_removeLast_0 17 rfl rfl)
theorem dJ18_removeLast_18 : decode cJ18_removeLast 18 = .ok (.areturn, 1) := dk_176 (dk_at dksJ18_removeLast_0 18 rfl rfl)
abbrev cJ18_pollLast : ByteArray := prog_46_method_21_code
def yJ18_pollLast : MethodName := ⟨RJ18, "pollLast", "()Ljava/lang/Object;"⟩
def dkwJ18_pollLast_1 : List UInt8 := [198, 0, 12, 43, 42, 28, 90, 181, 0, 20, 1, 83, 45, 176]
abbrev dktJ18_pollLast_1 : List UInt8 := dkwJ18_pollLast_1 ++ []
def dkwJ18_pollLast_0 : List UInt8 := [42, 180, 0, 3, 89, 76, 42, 180, 0, 20, 43, 190, 184, 0, 68, 89, 61, 184, 0, 103, 78, 45]
abbrev dktJ18_pollLast_0 : List UInt8 := dkwJ18_pollLast_0 ++ dktJ18_pollLast_1
theorem dksJ18_pollLast_0 : cJ18_pollLast.data.toList.drop 0 = dktJ18_pollLast_0 := by decide +kernel
theorem dksJ18_pollLast_1 : cJ18_pollLast.data.toList.drop 22 = dktJ18_pollLast_1 := dk_seg dksJ18_pollLast_0 22 rfl rfl
theorem dJ18_pollLast_0 : decode cJ18_pollLast 0 = .ok (.aload_n 0, 1) := dk_42 (dk_at dksJ18_pollLast_0 0 rfl rfl)
theorem dJ18_pollLast_1 : decode cJ18_pollLast 1 = .ok (.getfield 3, 3) := dk_180 0 3 (dk_at dksJ18_pollLast_0 1 rfl rfl)
theorem dJ18_pollLast_4 : decode cJ18_pollLast 4 = .ok (.dup, 1) := dk_89 (dk_at dksJ18_pollLast_0 4 rfl rfl)
theorem dJ18_pollLast_5 : decode cJ18_pollLast 5 = .ok (.astore_n 1, 1) := dk_76 (dk_at dksJ18_pollLast_0 5 rfl rfl)
theorem dJ18_pollLast_6 : decode cJ18_pollLast 6 = .ok (.aload_n 0, 1) := dk_42 (dk_at dksJ18_pollLast_0 6 rfl rfl)
theorem dJ18_pollLast_7 : decode cJ18_pollLast 7 = .ok (.getfield 20, 3) := dk_180 0 20 (dk_at dksJ18_pollLast_0 7 rfl rfl)
theorem dJ18_pollLast_10 : decode cJ18_pollLast 10 = .ok (.aload_n 1, 1) := dk_43 (dk_at dksJ18_pollLast_0 10 rfl rfl)
theorem dJ18_pollLast_11 : decode cJ18_pollLast 11 = .ok (.arraylength, 1) := dk_190 (dk_at dksJ18_pollLast_0 11 rfl rfl)
theorem dJ18_pollLast_12 : decode cJ18_pollLast 12 = .ok (.invokestatic 68, 3) := dk_184 0 68 (dk_at dksJ18_pollLast_0 12 rfl rfl)
theorem dJ18_pollLast_15 : decode cJ18_pollLast 15 = .ok (.dup, 1) := dk_89 (dk_at dksJ18_pollLast_0 15 rfl rfl)
theorem dJ18_pollLast_16 : decode cJ18_pollLast 16 = .ok (.istore_n 2, 1) := dk_61 (dk_at dksJ18_pollLast_0 16 rfl rfl)
theorem dJ18_pollLast_17 : decode cJ18_pollLast 17 = .ok (.invokestatic 103, 3) := dk_184 0 103 (dk_at dksJ18_pollLast_0 17 rfl rfl)
theorem dJ18_pollLast_20 : decode cJ18_pollLast 20 = .ok (.astore_n 3, 1) := dk_78 (dk_at dksJ18_pollLast_0 20 rfl rfl)
theorem dJ18_pollLast_21 : decode cJ18_pollLast 21 = .ok (.aload_n 3, 1) := dk_45 (dk_at dksJ18_pollLast_0 21 rfl rfl)
theorem dJ18_pollLast_22 : decode cJ18_pollLast 22 = .ok (.ifnull 12, 3) := dk_198 0 12 (dk_at dksJ18_pollLast_1 0 rfl rfl)
theorem dJ18_pollLast_25 : decode cJ18_pollLast 25 = .ok (.aload_n 1, 1) := dk_43 (dk_at dksJ18_pollLast_1 3 rfl rfl)
theorem dJ18_pollLast_26 : decode cJ18_pollLast 26 = .ok (.aload_n 0, 1) := dk_42 (dk_at dksJ18_pollLast_1 4 rfl rfl)
theorem dJ18_pollLast_27 : decode cJ18_pollLast 27 = .ok (.iload_n 2, 1) := dk_28 (dk_at dksJ18_pollLast_1 5 rfl rfl)
theorem dJ18_pollLast_28 : decode cJ18_pollLast 28 = .ok (.dup_x1, 1) := dk_90 (dk_at dksJ18_pollLast_1 6 rfl rfl)
theorem dJ18_pollLast_29 : decode cJ18_pollLast 29 = .ok (.putfield 20, 3) := dk_181 0 20 (dk_at dksJ18_pollLast_1 7 rfl rfl)
theorem dJ18_pollLast_32 : decode cJ18_pollLast 32 = .ok (.aconst_null, 1) := dk_1 (dk_at dksJ18_pollLast_1 10 rfl rfl)
theorem dJ18_pollLast_33 : decode cJ18_pollLast 33 = .ok (.aastore, 1) := dk_83 (dk_at dksJ18_pollLast_1 11 rfl rfl)
theorem dJ18_pollLast_34 : decode cJ18_pollLast 34 = .ok (.aload_n 3, 1) := dk_45 (dk_at dksJ18_pollLast_1 12 rfl rfl)
theorem dJ18_pollLast_35 : decode cJ18_pollLast 35 = .ok (.areturn, 1) := dk_176 (dk_at dksJ18_pollLast_1 13 rfl rfl)
abbrev cJ18_dec : ByteArray := prog_46_method_7_code
def yJ18_dec : MethodName := ⟨RJ18, "dec", "(II)I"⟩
def dkwJ18_dec_0 : List UInt8 := [132, 0, 255, 26, 156, 0, 7, 27, 4, 100, 59, 26, 172]
abbrev dktJ18_dec_0 : List UInt8 := dkwJ18_dec_0 ++ []
theorem dksJ18_dec_0 : cJ18_dec.data.toList.drop 0 = dktJ18_dec_0 := by decide +kernel
theorem dJ18_dec_0 : decode cJ18_dec 0 = .ok (.iinc 0 (-1), 3) := dk_132 0 255 (dk_at dksJ18_dec_0 0 rfl rfl)
theorem dJ18_dec_3 : decode cJ18_dec 3 = .ok (.iload_n 0, 1) := dk_26 (dk_at dksJ18_dec_0 3 rfl rfl)
theorem dJ18_dec_4 : decode cJ18_dec 4 = .ok (.ifCond .ge 7, 3) := dk_156 0 7 (dk_at dksJ18_dec_0 4 rfl rfl)
theorem dJ18_dec_7 : decode cJ18_dec 7 = .ok (.iload_n 1, 1) := dk_27 (dk_at dksJ18_dec_0 7 rfl rfl)
theorem dJ18_dec_8 : decode cJ18_dec 8 = .ok (.iconst 1, 1) := dk_4 (dk_at dksJ18_dec_0 8 rfl rfl)
theorem dJ18_dec_9 : decode cJ18_dec 9 = .ok (.isub, 1) := dk_100 (dk_at dksJ18_dec_0 9 rfl rfl)
theorem dJ18_dec_10 : decode cJ18_dec 10 = .ok (.istore_n 0, 1) := dk_59 (dk_at dksJ18_dec_0 10 rfl rfl)
theorem dJ18_dec_11 : decode cJ18_dec 11 = .ok (.iload_n 0, 1) := dk_26 (dk_at dksJ18_dec_0 11 rfl rfl)
theorem dJ18_dec_12 : decode cJ18_dec 12 = .ok (.ireturn, 1) := dk_172 (dk_at dksJ18_dec_0 12 rfl rfl)
theorem q119 : (Jvm.Cond.initialized "java/util/ArrayDeque") ∈ lw_all := lw_g (lw_at lw_m1 25 rfl) rfl
theorem q645 : (Jvm.Cond.instantiable "java/util/ArrayDeque" (3 : Nat)) ∈ lw_all := lw_g (lw_at lw_m3 71 rfl) rfl
theorem q647 : (Jvm.Cond.instanceMethod ({ cls := "java/util/ArrayDeque", name := "<init>", desc := "()V" } : Jvm.MethodName)) ∈ lw_all := lw_g (lw_at lw_m3 73 rfl) rfl
theorem q648 : (Jvm.Cond.code ({ cls := "java/util/ArrayDeque", name := "<init>", desc := "()V" } : Jvm.MethodName) prog_46_method_3_code (1 : Nat) (Option.none : Option Jvm.ClassFile.FieldType)) ∈ lw_all := lw_g (lw_at lw_m3 74 rfl) rfl
theorem q649 : (Jvm.Cond.methodLink "java/util/ArrayDeque" (42 : Nat) ({ cls := "java/util/AbstractCollection", name := "<init>", desc := "()V" } : Jvm.MethodName)) ∈ lw_all := lw_g (lw_at lw_m3 75 rfl) rfl
theorem q650 : (Jvm.Cond.classLink "java/util/ArrayDeque" (47 : Nat) "java/lang/Object") ∈ lw_all := lw_g (lw_at lw_m3 76 rfl) rfl
theorem q651 : (Jvm.Cond.fieldLink "java/util/ArrayDeque" (3 : Nat) "java/util/ArrayDeque" "elements" "[Ljava/lang/Object;") ∈ lw_all := lw_g (lw_at lw_m3 77 rfl) rfl
theorem q652 : (Jvm.Cond.fieldLink "java/util/ArrayDeque" (24 : Nat) "java/util/ArrayDeque" "head" "I") ∈ lw_all := lw_g (lw_at lw_m3 78 rfl) rfl
theorem q653 : (Jvm.Cond.fieldLink "java/util/ArrayDeque" (20 : Nat) "java/util/ArrayDeque" "tail" "I") ∈ lw_all := lw_g (lw_at lw_m3 79 rfl) rfl
theorem q654 : (Jvm.Cond.lays "java/util/ArrayDeque" "java/util/ArrayDeque" "elements" "[Ljava/lang/Object;") ∈ lw_all := lw_g (lw_at lw_m3 80 rfl) rfl
theorem q655 : (Jvm.Cond.soleField "java/util/ArrayDeque" "elements") ∈ lw_all := lw_g (lw_at lw_m3 81 rfl) rfl
theorem q656 : (Jvm.Cond.lays "java/util/ArrayDeque" "java/util/ArrayDeque" "head" "I") ∈ lw_all := lw_g (lw_at lw_m3 82 rfl) rfl
theorem q657 : (Jvm.Cond.soleField "java/util/ArrayDeque" "head") ∈ lw_all := lw_g (lw_at lw_m3 83 rfl) rfl
theorem q658 : (Jvm.Cond.lays "java/util/ArrayDeque" "java/util/ArrayDeque" "tail" "I") ∈ lw_all := lw_g (lw_at lw_m3 84 rfl) rfl
theorem q659 : (Jvm.Cond.soleField "java/util/ArrayDeque" "tail") ∈ lw_all := lw_g (lw_at lw_m3 85 rfl) rfl
theorem q660 : (Jvm.Cond.superclass "java/util/ArrayDeque" "java/util/AbstractCollection") ∈ lw_all := lw_g (lw_at lw_m3 86 rfl) rfl
theorem q914 : (Jvm.Cond.castable "java/util/ArrayDeque" "java/util/Collection") ∈ lw_tbl := lw_at lw_m4 100 rfl
theorem q915 : (Jvm.Cond.selects "java/util/ArrayDeque" ({ cls := "java/util/Collection", name := "toArray", desc := "()[Ljava/lang/Object;" } : Jvm.MethodName) ({ cls := "java/util/ArrayDeque", name := "toArray", desc := "()[Ljava/lang/Object;" } : Jvm.MethodName)) ∈ lw_all := lw_g (lw_at lw_m4 101 rfl) rfl
theorem q916 : (Jvm.Cond.unhidden "java/util/ArrayDeque" "toArray" "()[Ljava/lang/Object;") ∈ lw_tbl := lw_at lw_m4 102 rfl
theorem q917 : (Jvm.Cond.instanceMethod ({ cls := "java/util/ArrayDeque", name := "toArray", desc := "()[Ljava/lang/Object;" } : Jvm.MethodName)) ∈ lw_all := lw_g (lw_at lw_m4 103 rfl) rfl
theorem q918 : (Jvm.Cond.publicMethod ({ cls := "java/util/ArrayDeque", name := "toArray", desc := "()[Ljava/lang/Object;" } : Jvm.MethodName)) ∈ lw_tbl := lw_at lw_m4 104 rfl
theorem q919 : (Jvm.Cond.code ({ cls := "java/util/ArrayDeque", name := "toArray", desc := "()[Ljava/lang/Object;" } : Jvm.MethodName) prog_46_method_55_code (1 : Nat) (Option.some (Jvm.ClassFile.FieldType.array (Jvm.ClassFile.FieldType.object "java/lang/Object")))) ∈ lw_all := lw_g (lw_at lw_m4 105 rfl) rfl
theorem q920 : (Jvm.Cond.classLink "java/util/ArrayDeque" (188 : Nat) "[Ljava/lang/Object;") ∈ lw_all := lw_g (lw_at lw_m4 106 rfl) rfl
theorem q921 : (Jvm.Cond.methodLink "java/util/ArrayDeque" (189 : Nat) ({ cls := "java/util/ArrayDeque", name := "toArray", desc := "(Ljava/lang/Class;)[Ljava/lang/Object;" } : Jvm.MethodName)) ∈ lw_all := lw_g (lw_at lw_m4 107 rfl) rfl
theorem q922 : (Jvm.Cond.privateMethod ({ cls := "java/util/ArrayDeque", name := "toArray", desc := "(Ljava/lang/Class;)[Ljava/lang/Object;" } : Jvm.MethodName)) ∈ lw_tbl := lw_at lw_m4 108 rfl
theorem q923 : (Jvm.Cond.instanceMethod ({ cls := "java/util/ArrayDeque", name := "toArray", desc := "(Ljava/lang/Class;)[Ljava/lang/Object;" } : Jvm.MethodName)) ∈ lw_all := lw_g (lw_at lw_m4 109 rfl) rfl
theorem q924 : (Jvm.Cond.code ({ cls := "java/util/ArrayDeque", name := "toArray", desc := "(Ljava/lang/Class;)[Ljava/lang/Object;" } : Jvm.MethodName) prog_46_method_56_code (7 : Nat) (Option.some (Jvm.ClassFile.FieldType.array (Jvm.ClassFile.FieldType.object "java/lang/Object")))) ∈ lw_all := lw_g (lw_at lw_m4 110 rfl) rfl
theorem q925 : (Jvm.Cond.methodLink "java/util/ArrayDeque" (193 : Nat) ({ cls := "java/util/Arrays", name := "copyOfRange", desc := "([Ljava/lang/Object;IILjava/lang/Class;)[Ljava/lang/Object;" } : Jvm.MethodName)) ∈ lw_all := lw_g (lw_at lw_m4 111 rfl) rfl
theorem q930 : (Jvm.Cond.methodLink "java/util/ArrayDeque" (27 : Nat) ({ cls := "java/lang/System", name := "arraycopy", desc := "(Ljava/lang/Object;ILjava/lang/Object;II)V" } : Jvm.MethodName)) ∈ lw_all := lw_g (lw_at lw_m4 116 rfl) rfl
theorem q964 : (Jvm.Cond.selects "java/util/ArrayDeque" ({ cls := "java/lang/Object", name := "getClass", desc := "()Ljava/lang/Class;" } : Jvm.MethodName) ({ cls := "java/lang/Object", name := "getClass", desc := "()Ljava/lang/Class;" } : Jvm.MethodName)) ∈ lw_all := lw_g (lw_at lw_m4 150 rfl) rfl
theorem q1450 : (Jvm.Cond.instanceMethod ({ cls := "java/util/ArrayDeque", name := "size", desc := "()I" } : Jvm.MethodName)) ∈ lw_all := lw_g (lw_at lw_m6 156 rfl) rfl
theorem q1451 : (Jvm.Cond.selects "java/util/ArrayDeque" ({ cls := "java/util/ArrayDeque", name := "size", desc := "()I" } : Jvm.MethodName) ({ cls := "java/util/ArrayDeque", name := "size", desc := "()I" } : Jvm.MethodName)) ∈ lw_all := lw_g (lw_at lw_m6 157 rfl) rfl
theorem q1452 : (Jvm.Cond.code ({ cls := "java/util/ArrayDeque", name := "size", desc := "()I" } : Jvm.MethodName) prog_46_method_37_code (1 : Nat) (Option.some Jvm.ClassFile.FieldType.int)) ∈ lw_all := lw_g (lw_at lw_m6 158 rfl) rfl
theorem q1453 : (Jvm.Cond.methodLink "java/util/ArrayDeque" (127 : Nat) ({ cls := "java/util/ArrayDeque", name := "sub", desc := "(III)I" } : Jvm.MethodName)) ∈ lw_all := lw_g (lw_at lw_m6 159 rfl) rfl
theorem q1454 : (Jvm.Cond.static ({ cls := "java/util/ArrayDeque", name := "sub", desc := "(III)I" } : Jvm.MethodName)) ∈ lw_all := lw_g (lw_at lw_m6 160 rfl) rfl
theorem q1455 : (Jvm.Cond.code ({ cls := "java/util/ArrayDeque", name := "sub", desc := "(III)I" } : Jvm.MethodName) prog_46_method_9_code (3 : Nat) (Option.some Jvm.ClassFile.FieldType.int)) ∈ lw_all := lw_g (lw_at lw_m6 161 rfl) rfl
theorem q1457 : (Jvm.Cond.instanceMethod ({ cls := "java/util/ArrayDeque", name := "removeFirst", desc := "()Ljava/lang/Object;" } : Jvm.MethodName)) ∈ lw_all := lw_g (lw_at lw_m6 163 rfl) rfl
theorem q1458 : (Jvm.Cond.selects "java/util/ArrayDeque" ({ cls := "java/util/ArrayDeque", name := "removeFirst", desc := "()Ljava/lang/Object;" } : Jvm.MethodName) ({ cls := "java/util/ArrayDeque", name := "removeFirst", desc := "()Ljava/lang/Object;" } : Jvm.MethodName)) ∈ lw_all := lw_g (lw_at lw_m6 164 rfl) rfl
theorem q1459 : (Jvm.Cond.code ({ cls := "java/util/ArrayDeque", name := "removeFirst", desc := "()Ljava/lang/Object;" } : Jvm.MethodName) prog_46_method_18_code (2 : Nat) (Option.some (Jvm.ClassFile.FieldType.object "java/lang/Object"))) ∈ lw_all := lw_g (lw_at lw_m6 165 rfl) rfl
theorem q1460 : (Jvm.Cond.methodLink "java/util/ArrayDeque" (93 : Nat) ({ cls := "java/util/ArrayDeque", name := "pollFirst", desc := "()Ljava/lang/Object;" } : Jvm.MethodName)) ∈ lw_all := lw_g (lw_at lw_m6 166 rfl) rfl
theorem q1461 : (Jvm.Cond.instanceMethod ({ cls := "java/util/ArrayDeque", name := "pollFirst", desc := "()Ljava/lang/Object;" } : Jvm.MethodName)) ∈ lw_all := lw_g (lw_at lw_m6 167 rfl) rfl
theorem q1462 : (Jvm.Cond.selects "java/util/ArrayDeque" ({ cls := "java/util/ArrayDeque", name := "pollFirst", desc := "()Ljava/lang/Object;" } : Jvm.MethodName) ({ cls := "java/util/ArrayDeque", name := "pollFirst", desc := "()Ljava/lang/Object;" } : Jvm.MethodName)) ∈ lw_all := lw_g (lw_at lw_m6 168 rfl) rfl
theorem q1463 : (Jvm.Cond.code ({ cls := "java/util/ArrayDeque", name := "pollFirst", desc := "()Ljava/lang/Object;" } : Jvm.MethodName) prog_46_method_20_code (4 : Nat) (Option.some (Jvm.ClassFile.FieldType.object "java/lang/Object"))) ∈ lw_all := lw_g (lw_at lw_m6 169 rfl) rfl
theorem q1464 : (Jvm.Cond.methodLink "java/util/ArrayDeque" (103 : Nat) ({ cls := "java/util/ArrayDeque", name := "elementAt", desc := "([Ljava/lang/Object;I)Ljava/lang/Object;" } : Jvm.MethodName)) ∈ lw_all := lw_g (lw_at lw_m6 170 rfl) rfl
theorem q1465 : (Jvm.Cond.static ({ cls := "java/util/ArrayDeque", name := "elementAt", desc := "([Ljava/lang/Object;I)Ljava/lang/Object;" } : Jvm.MethodName)) ∈ lw_all := lw_g (lw_at lw_m6 171 rfl) rfl
theorem q1466 : (Jvm.Cond.code ({ cls := "java/util/ArrayDeque", name := "elementAt", desc := "([Ljava/lang/Object;I)Ljava/lang/Object;" } : Jvm.MethodName) prog_46_method_10_code (2 : Nat) (Option.some (Jvm.ClassFile.FieldType.object "java/lang/Object"))) ∈ lw_all := lw_g (lw_at lw_m6 172 rfl) rfl
theorem q1467 : (Jvm.Cond.methodLink "java/util/ArrayDeque" (74 : Nat) ({ cls := "java/util/ArrayDeque", name := "inc", desc := "(II)I" } : Jvm.MethodName)) ∈ lw_all := lw_g (lw_at lw_m6 173 rfl) rfl
theorem q1468 : (Jvm.Cond.static ({ cls := "java/util/ArrayDeque", name := "inc", desc := "(II)I" } : Jvm.MethodName)) ∈ lw_all := lw_g (lw_at lw_m6 174 rfl) rfl
theorem q1469 : (Jvm.Cond.code ({ cls := "java/util/ArrayDeque", name := "inc", desc := "(II)I" } : Jvm.MethodName) prog_46_method_6_code (2 : Nat) (Option.some Jvm.ClassFile.FieldType.int)) ∈ lw_all := lw_g (lw_at lw_m6 175 rfl) rfl
theorem q1470 : (Jvm.Cond.classLink "java/util/ArrayDeque" (97 : Nat) "java/util/NoSuchElementException") ∈ lw_all := lw_g (lw_at lw_m6 176 rfl) rfl
theorem q1479 : (Jvm.Cond.methodLink "java/util/ArrayDeque" (99 : Nat) ({ cls := "java/util/NoSuchElementException", name := "<init>", desc := "()V" } : Jvm.MethodName)) ∈ lw_all := lw_g (lw_at lw_m6 185 rfl) rfl
theorem q1486 : (Jvm.Cond.instanceMethod ({ cls := "java/util/ArrayDeque", name := "addLast", desc := "(Ljava/lang/Object;)V" } : Jvm.MethodName)) ∈ lw_all := lw_g (lw_at lw_m6 192 rfl) rfl
theorem q1487 : (Jvm.Cond.selects "java/util/ArrayDeque" ({ cls := "java/util/ArrayDeque", name := "addLast", desc := "(Ljava/lang/Object;)V" } : Jvm.MethodName) ({ cls := "java/util/ArrayDeque", name := "addLast", desc := "(Ljava/lang/Object;)V" } : Jvm.MethodName)) ∈ lw_all := lw_g (lw_at lw_m6 193 rfl) rfl
theorem q1488 : (Jvm.Cond.code ({ cls := "java/util/ArrayDeque", name := "addLast", desc := "(Ljava/lang/Object;)V" } : Jvm.MethodName) prog_46_method_13_code (3 : Nat) (Option.none : Option Jvm.ClassFile.FieldType)) ∈ lw_all := lw_g (lw_at lw_m6 194 rfl) rfl
theorem q1489 : (Jvm.Cond.methodLink "java/util/ArrayDeque" (71 : Nat) ({ cls := "java/util/ArrayDeque", name := "grow", desc := "(I)V" } : Jvm.MethodName)) ∈ lw_all := lw_g (lw_at lw_m6 195 rfl) rfl
theorem q1490 : (Jvm.Cond.privateMethod ({ cls := "java/util/ArrayDeque", name := "grow", desc := "(I)V" } : Jvm.MethodName)) ∈ lw_tbl := lw_at lw_m6 196 rfl
theorem q1491 : (Jvm.Cond.instanceMethod ({ cls := "java/util/ArrayDeque", name := "grow", desc := "(I)V" } : Jvm.MethodName)) ∈ lw_all := lw_g (lw_at lw_m6 197 rfl) rfl
theorem q1492 : (Jvm.Cond.code ({ cls := "java/util/ArrayDeque", name := "grow", desc := "(I)V" } : Jvm.MethodName) prog_46_method_1_code (9 : Nat) (Option.none : Option Jvm.ClassFile.FieldType)) ∈ lw_all := lw_g (lw_at lw_m6 198 rfl) rfl
theorem q1493 : (Jvm.Cond.constant "java/util/ArrayDeque" (9 : Nat) (2147483639 : Int32)) ∈ lw_all := lw_g (lw_at lw_m6 199 rfl) rfl
theorem q1494 : (Jvm.Cond.methodLink "java/util/ArrayDeque" (10 : Nat) ({ cls := "java/util/ArrayDeque", name := "newCapacity", desc := "(II)I" } : Jvm.MethodName)) ∈ lw_all := lw_g (lw_at lw_m6 200 rfl) rfl
theorem q1495 : (Jvm.Cond.privateMethod ({ cls := "java/util/ArrayDeque", name := "newCapacity", desc := "(II)I" } : Jvm.MethodName)) ∈ lw_tbl := lw_at lw_m6 201 rfl
theorem q1496 : (Jvm.Cond.instanceMethod ({ cls := "java/util/ArrayDeque", name := "newCapacity", desc := "(II)I" } : Jvm.MethodName)) ∈ lw_all := lw_g (lw_at lw_m6 202 rfl) rfl
theorem q1497 : (Jvm.Cond.code ({ cls := "java/util/ArrayDeque", name := "newCapacity", desc := "(II)I" } : Jvm.MethodName) prog_46_method_2_code (5 : Nat) (Option.some Jvm.ClassFile.FieldType.int)) ∈ lw_all := lw_g (lw_at lw_m6 203 rfl) rfl
theorem q1498 : (Jvm.Cond.classLink "java/util/ArrayDeque" (33 : Nat) "java/lang/IllegalStateException") ∈ lw_all := lw_g (lw_at lw_m6 204 rfl) rfl
theorem q1499 : (Jvm.Cond.stringRef "java/util/ArrayDeque" (35 : Nat) "Sorry, deque too big") ∈ lw_tbl := lw_at lw_m6 205 rfl
theorem q1500 : (Jvm.Cond.methodLink "java/util/ArrayDeque" (37 : Nat) ({ cls := "java/lang/IllegalStateException", name := "<init>", desc := "(Ljava/lang/String;)V" } : Jvm.MethodName)) ∈ lw_all := lw_g (lw_at lw_m6 206 rfl) rfl
theorem q1504 : (Jvm.Cond.constant "java/util/ArrayDeque" (41 : Nat) (2147483647 : Int32)) ∈ lw_all := lw_g (lw_at lw_m6 210 rfl) rfl
theorem q1505 : (Jvm.Cond.methodLink "java/util/ArrayDeque" (14 : Nat) ({ cls := "java/util/Arrays", name := "copyOf", desc := "([Ljava/lang/Object;I)[Ljava/lang/Object;" } : Jvm.MethodName)) ∈ lw_all := lw_g (lw_at lw_m6 211 rfl) rfl
theorem q1782 : (Jvm.Cond.instanceMethod ({ cls := "java/util/ArrayDeque", name := "isEmpty", desc := "()Z" } : Jvm.MethodName)) ∈ lw_all := lw_g (lw_at lw_m8 8 rfl) rfl
theorem q1783 : (Jvm.Cond.selects "java/util/ArrayDeque" ({ cls := "java/util/ArrayDeque", name := "isEmpty", desc := "()Z" } : Jvm.MethodName) ({ cls := "java/util/ArrayDeque", name := "isEmpty", desc := "()Z" } : Jvm.MethodName)) ∈ lw_all := lw_g (lw_at lw_m8 9 rfl) rfl
theorem q1784 : (Jvm.Cond.code ({ cls := "java/util/ArrayDeque", name := "isEmpty", desc := "()Z" } : Jvm.MethodName) prog_46_method_38_code (1 : Nat) (Option.some Jvm.ClassFile.FieldType.boolean)) ∈ lw_all := lw_g (lw_at lw_m8 10 rfl) rfl
theorem q1786 : (Jvm.Cond.instanceMethod ({ cls := "java/util/ArrayDeque", name := "removeLast", desc := "()Ljava/lang/Object;" } : Jvm.MethodName)) ∈ lw_all := lw_g (lw_at lw_m8 12 rfl) rfl
theorem q1787 : (Jvm.Cond.selects "java/util/ArrayDeque" ({ cls := "java/util/ArrayDeque", name := "removeLast", desc := "()Ljava/lang/Object;" } : Jvm.MethodName) ({ cls := "java/util/ArrayDeque", name := "removeLast", desc := "()Ljava/lang/Object;" } : Jvm.MethodName)) ∈ lw_all := lw_g (lw_at lw_m8 13 rfl) rfl
theorem q1788 : (Jvm.Cond.code ({ cls := "java/util/ArrayDeque", name := "removeLast", desc := "()Ljava/lang/Object;" } : Jvm.MethodName) prog_46_method_19_code (2 : Nat) (Option.some (Jvm.ClassFile.FieldType.object "java/lang/Object"))) ∈ lw_all := lw_g (lw_at lw_m8 14 rfl) rfl
theorem q1789 : (Jvm.Cond.methodLink "java/util/ArrayDeque" (100 : Nat) ({ cls := "java/util/ArrayDeque", name := "pollLast", desc := "()Ljava/lang/Object;" } : Jvm.MethodName)) ∈ lw_all := lw_g (lw_at lw_m8 15 rfl) rfl
theorem q1790 : (Jvm.Cond.instanceMethod ({ cls := "java/util/ArrayDeque", name := "pollLast", desc := "()Ljava/lang/Object;" } : Jvm.MethodName)) ∈ lw_all := lw_g (lw_at lw_m8 16 rfl) rfl
theorem q1791 : (Jvm.Cond.selects "java/util/ArrayDeque" ({ cls := "java/util/ArrayDeque", name := "pollLast", desc := "()Ljava/lang/Object;" } : Jvm.MethodName) ({ cls := "java/util/ArrayDeque", name := "pollLast", desc := "()Ljava/lang/Object;" } : Jvm.MethodName)) ∈ lw_all := lw_g (lw_at lw_m8 17 rfl) rfl
theorem q1792 : (Jvm.Cond.code ({ cls := "java/util/ArrayDeque", name := "pollLast", desc := "()Ljava/lang/Object;" } : Jvm.MethodName) prog_46_method_21_code (4 : Nat) (Option.some (Jvm.ClassFile.FieldType.object "java/lang/Object"))) ∈ lw_all := lw_g (lw_at lw_m8 18 rfl) rfl
theorem q1793 : (Jvm.Cond.methodLink "java/util/ArrayDeque" (68 : Nat) ({ cls := "java/util/ArrayDeque", name := "dec", desc := "(II)I" } : Jvm.MethodName)) ∈ lw_all := lw_g (lw_at lw_m8 19 rfl) rfl
theorem q1794 : (Jvm.Cond.static ({ cls := "java/util/ArrayDeque", name := "dec", desc := "(II)I" } : Jvm.MethodName)) ∈ lw_all := lw_g (lw_at lw_m8 20 rfl) rfl
theorem q1795 : (Jvm.Cond.code ({ cls := "java/util/ArrayDeque", name := "dec", desc := "(II)I" } : Jvm.MethodName) prog_46_method_7_code (2 : Nat) (Option.some Jvm.ClassFile.FieldType.int)) ∈ lw_all := lw_g (lw_at lw_m8 21 rfl) rfl
theorem q2260 : (Jvm.Cond.castable "java/util/ArrayDeque" "java/lang/Object") ∈ lw_tbl := lw_at lw_m10 6 rfl
theorem in_J18 : ∀ w ∈ wsJ180, w ∈ lw_all := lw_in wsJ180 [654, 656, 658] (by decide +kernel) (by decide +kernel)
theorem q392 : (Jvm.Cond.sameMethod "[B" "java/lang/Object" "clone" "()Ljava/lang/Object;") ∈ lw_all := lw_g (lw_at lw_m2 58 rfl) rfl
set_option maxRecDepth 100000
theorem q395 : (Jvm.Cond.selects "[B" ({ cls := "[B", name := "clone", desc := "()Ljava/lang/Object;" } : Jvm.MethodName) ({ cls := "java/lang/Object", name := "clone", desc := "()Ljava/lang/Object;" } : Jvm.MethodName)) ∈ lw_all := lw_g (lw_at lw_m2 61 rfl) rfl
theorem q396 : (Jvm.Cond.castable "[B" "java/lang/Cloneable") ∈ lw_tbl := lw_at lw_m2 62 rfl
theorem q2284 : (Jvm.Cond.castable "[B" "java/lang/Object") ∈ lw_tbl := lw_at lw_m10 30 rfl
theorem q2281 : (Jvm.Cond.castable "[I" "java/lang/Object") ∈ lw_tbl := lw_at lw_m10 27 rfl
set_option maxRecDepth 100000
theorem q2280 : (Jvm.Cond.castable "[J" "java/lang/Object") ∈ lw_tbl := lw_at lw_m10 26 rfl
set_option maxRecDepth 100000
theorem q2282 : (Jvm.Cond.castable "[LColourDuel$Account;" "java/lang/Object") ∈ lw_tbl := lw_at lw_m10 28 rfl
set_option maxRecDepth 100000
theorem q2285 : (Jvm.Cond.castable "[LColourDuel$Board;" "java/lang/Object") ∈ lw_tbl := lw_at lw_m10 31 rfl
set_option maxRecDepth 100000
theorem q2276 : (Jvm.Cond.sameMethod "[Ljava/lang/Object;" "java/lang/Object" "getClass" "()Ljava/lang/Class;") ∈ lw_all := lw_g (lw_at lw_m10 22 rfl) rfl
set_option maxRecDepth 100000
theorem q2277 : (Jvm.Cond.selects "[Ljava/lang/Object;" ({ cls := "java/lang/Object", name := "getClass", desc := "()Ljava/lang/Class;" } : Jvm.MethodName) ({ cls := "java/lang/Object", name := "getClass", desc := "()Ljava/lang/Class;" } : Jvm.MethodName)) ∈ lw_all := lw_g (lw_at lw_m10 23 rfl) rfl
theorem q2283 : (Jvm.Cond.castable "[Ljava/lang/Object;" "java/lang/Object") ∈ lw_tbl := lw_at lw_m10 29 rfl
theorem q2286 : (Jvm.Cond.castable "[Z" "java/lang/Object") ∈ lw_tbl := lw_at lw_m10 32 rfl
set_option maxRecDepth 100000
theorem q2279 : (Jvm.Cond.castable "[[I" "java/lang/Object") ∈ lw_tbl := lw_at lw_m10 25 rfl
set_option maxRecDepth 100000
theorem q132 : (Jvm.Cond.initialized "java/lang/Integer$IntegerCache") ∈ lw_all := lw_g (lw_at lw_m1 38 rfl) rfl
set_option maxRecDepth 100000
theorem q859 : (Jvm.Cond.laysStatic "java/lang/Integer$IntegerCache" "high" "I") ∈ lw_tbl := lw_at lw_m4 45 rfl
theorem q861 : (Jvm.Cond.laysStatic "java/lang/Integer$IntegerCache" "cache" "[Ljava/lang/Integer;") ∈ lw_tbl := lw_at lw_m4 47 rfl
theorem q114 : (Jvm.Cond.initialized "java/lang/System") ∈ lw_all := lw_g (lw_at lw_m1 20 rfl) rfl
set_option maxRecDepth 100000
theorem q402 : (Jvm.Cond.static ({ cls := "java/lang/System", name := "arraycopy", desc := "(Ljava/lang/Object;ILjava/lang/Object;II)V" } : Jvm.MethodName)) ∈ lw_all := lw_g (lw_at lw_m2 68 rfl) rfl
theorem q403 : (Jvm.Cond.native ({ cls := "java/lang/System", name := "arraycopy", desc := "(Ljava/lang/Object;ILjava/lang/Object;II)V" } : Jvm.MethodName)) ∈ lw_all := lw_g (lw_at lw_m2 69 rfl) rfl
theorem q912 : (Jvm.Cond.interfaceMethod "java/util/Collection" "java/util/Collection" "toArray" "()[Ljava/lang/Object;") ∈ lw_tbl := lw_at lw_m4 98 rfl
set_option maxRecDepth 100000
theorem q913 : (Jvm.Cond.declares ({ cls := "java/util/Collection", name := "toArray", desc := "()[Ljava/lang/Object;" } : Jvm.MethodName)) ∈ lw_tbl := lw_at lw_m4 99 rfl
theorem q902 : (Jvm.Cond.interfaceMethod "java/util/List" "java/util/List" "addAll" "(Ljava/util/Collection;)Z") ∈ lw_tbl := lw_at lw_m4 88 rfl
set_option maxRecDepth 100000
theorem q903 : (Jvm.Cond.declares ({ cls := "java/util/List", name := "addAll", desc := "(Ljava/util/Collection;)Z" } : Jvm.MethodName)) ∈ lw_tbl := lw_at lw_m4 89 rfl
theorem q1021 : (Jvm.Cond.interfaceMethod "java/util/List" "java/util/List" "add" "(Ljava/lang/Object;)Z") ∈ lw_tbl := lw_at lw_m4 207 rfl
theorem q1022 : (Jvm.Cond.declares ({ cls := "java/util/List", name := "add", desc := "(Ljava/lang/Object;)Z" } : Jvm.MethodName)) ∈ lw_tbl := lw_at lw_m4 208 rfl
theorem q1084 : (Jvm.Cond.interfaceMethod "java/util/List" "java/util/List" "size" "()I") ∈ lw_tbl := lw_at lw_m5 30 rfl
theorem q1085 : (Jvm.Cond.declares ({ cls := "java/util/List", name := "size", desc := "()I" } : Jvm.MethodName)) ∈ lw_tbl := lw_at lw_m5 31 rfl
theorem q1093 : (Jvm.Cond.interfaceMethod "java/util/List" "java/util/List" "get" "(I)Ljava/lang/Object;") ∈ lw_tbl := lw_at lw_m5 39 rfl
theorem q1094 : (Jvm.Cond.declares ({ cls := "java/util/List", name := "get", desc := "(I)Ljava/lang/Object;" } : Jvm.MethodName)) ∈ lw_tbl := lw_at lw_m5 40 rfl
theorem q1123 : (Jvm.Cond.interfaceMethod "java/util/List" "java/util/List" "isEmpty" "()Z") ∈ lw_tbl := lw_at lw_m5 69 rfl
theorem q1124 : (Jvm.Cond.declares ({ cls := "java/util/List", name := "isEmpty", desc := "()Z" } : Jvm.MethodName)) ∈ lw_tbl := lw_at lw_m5 70 rfl
theorem q152 : (Jvm.Cond.arrayOver (Jvm.ClassFile.FieldType.array Jvm.ClassFile.FieldType.int)) ∈ lw_tbl := lw_at lw_m1 58 rfl
set_option maxRecDepth 100000
theorem q184 : (Jvm.Cond.arrayClass Jvm.ClassFile.FieldType.long) ∈ lw_all := lw_g (lw_at lw_m1 90 rfl) rfl
theorem q185 : (Jvm.Cond.arrayClass Jvm.ClassFile.FieldType.int) ∈ lw_all := lw_g (lw_at lw_m1 91 rfl) rfl
theorem q236 : (Jvm.Cond.arrayOver (Jvm.ClassFile.FieldType.object "ColourDuel$Account")) ∈ lw_tbl := lw_at lw_m1 142 rfl
theorem q276 : (Jvm.Cond.arrayOver (Jvm.ClassFile.FieldType.object "java/lang/Object")) ∈ lw_tbl := lw_at lw_m1 182 rfl
theorem q356 : (Jvm.Cond.arrayClass Jvm.ClassFile.FieldType.byte) ∈ lw_all := lw_g (lw_at lw_m2 22 rfl) rfl
theorem q661 : (Jvm.Cond.arrayOver (Jvm.ClassFile.FieldType.object "ColourDuel$Board")) ∈ lw_tbl := lw_at lw_m3 87 rfl
theorem q1885 : (Jvm.Cond.arrayClass Jvm.ClassFile.FieldType.boolean) ∈ lw_all := lw_g (lw_at lw_m8 111 rfl) rfl
