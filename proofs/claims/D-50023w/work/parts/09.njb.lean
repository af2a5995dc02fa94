/-! java/lang/AbstractStringBuilder -/
set_option maxRecDepth 100000
def RJ7 : String := "java/lang/AbstractStringBuilder"
abbrev cJ7_init : ByteArray := prog_18_method_2_code
def yJ7_init : MethodName := ⟨RJ7, "<init>", "(I)V"⟩
def dkwJ7_init_1 : List UInt8 := [167, 0, 16, 42, 27, 184, 0, 26, 181, 0, 15, 42, 4, 181, 0, 22, 177]
abbrev dktJ7_init_1 : List UInt8 := dkwJ7_init_1 ++ []
def dkwJ7_init_0 : List UInt8 := [42, 183, 0, 3, 178, 0, 18, 153, 0, 18, 42, 27, 188, 8, 181, 0, 15, 42, 3, 181, 0, 22]
abbrev dktJ7_init_0 : List UInt8 := dkwJ7_init_0 ++ dktJ7_init_1
theorem dksJ7_init_0 : cJ7_init.data.toList.drop 0 = dktJ7_init_0 := by decide +kernel
theorem dksJ7_init_1 : cJ7_init.data.toList.drop 22 = dktJ7_init_1 := dk_seg dksJ7_init_0 22 rfl rfl
theorem dJ7_init_0 : decode cJ7_init 0 = .ok (.aload_n 0, 1) := dk_42 (dk_at dksJ7_init_0 0 rfl rfl)
theorem dJ7_init_1 : decode cJ7_init 1 = .ok (.invokespecial 3, 3) := dk_183 0 3 (dk_at dksJ7_init_0 1 rfl rfl)
theorem dJ7_init_4 : decode cJ7_init 4 = .ok (.getstatic 18, 3) := dk_178 0 18 (dk_at dksJ7_init_0 4 rfl rfl)
theorem dJ7_init_7 : decode cJ7_init 7 = .ok (.ifCond .eq 18, 3) := dk_153 0 18 (dk_at dksJ7_init_0 7 rfl rfl)
theorem dJ7_init_10 : decode cJ7_init 10 = .ok (.aload_n 0, 1) := dk_42 (dk_at dksJ7_init_0 10 rfl rfl)
theorem dJ7_init_11 : decode cJ7_init 11 = .ok (.iload_n 1, 1) := dk_27 (dk_at dksJ7_init_0 11 rfl rfl)
theorem dJ7_init_12 : decode cJ7_init 12 = .ok (.newarray .byte, 2) := dk_188_8 (dk_at dksJ7_init_0 12 rfl rfl)
theorem dJ7_init_14 : decode cJ7_init 14 = .ok (.putfield 15, 3) := dk_181 0 15 (dk_at dksJ7_init_0 14 rfl rfl)
theorem dJ7_init_17 : decode cJ7_init 17 = .ok (.aload_n 0, 1) := dk_42 (dk_at dksJ7_init_0 17 rfl rfl)
theorem dJ7_init_18 : decode cJ7_init 18 = .ok (.iconst 0, 1) := dk_3 (dk_at dksJ7_init_0 18 rfl rfl)
theorem dJ7_init_19 : decode cJ7_init 19 = .ok (.putfield 22, 3) := dk_181 0 22 (dk_at dksJ7_init_0 19 rfl rfl)
theorem dJ7_init_22 : decode cJ7_init 22 = .ok (.goto 16, 3) := dk_167 0 16 (dk_at dksJ7_init_1 0 rfl rfl)
theorem dJ7_init_25 : decode cJ7_init 25 = .ok (.aload_n 0, 1) := dk_42 (dk_at dksJ7_init_1 3 rfl rfl)
theorem dJ7_init_26 : decode cJ7_init 26 = .ok (.iload_n 1, 1) := dk_27 (dk_at dksJ7_init_1 4 rfl rfl)
theorem dJ7_init_27 : decode cJ7_init 27 = .ok (.invokestatic 26, 3) := dk_184 0 26 (dk_at dksJ7_init_1 5 rfl rfl)
theorem dJ7_init_30 : decode cJ7_init 30 = .ok (.putfield 15, 3) := dk_181 0 15 (dk_at dksJ7_init_1 8 rfl rfl)
theorem dJ7_init_33 : decode cJ7_init 33 = .ok (.aload_n 0, 1) := dk_42 (dk_at dksJ7_init_1 11 rfl rfl)
theorem dJ7_init_34 : decode cJ7_init 34 = .ok (.iconst 1, 1) := dk_4 (dk_at dksJ7_init_1 12 rfl rfl)
theorem dJ7_init_35 : decode cJ7_init 35 = .ok (.putfield 22, 3) := dk_181 0 22 (dk_at dksJ7_init_1 13 rfl rfl)
theorem dJ7_init_38 : decode cJ7_init 38 = .ok (.return_, 1) := dk_177 (dk_at dksJ7_init_1 16 rfl rfl)
abbrev cJ7_append : ByteArray := prog_18_method_22_code
def yJ7_append : MethodName := ⟨RJ7, "append", "(Ljava/lang/String;)Ljava/lang/AbstractStringBuilder;"⟩
def dkwJ7_append_1 : List UInt8 := [42, 42, 180, 0, 79, 43, 182, 0, 208, 42, 89, 180, 0, 79, 28, 96, 181, 0, 79, 42, 176]
abbrev dktJ7_append_1 : List UInt8 := dkwJ7_append_1 ++ []
def dkwJ7_append_0 : List UInt8 := [43, 199, 0, 8, 42, 182, 0, 204, 176, 43, 182, 0, 32, 61, 42, 42, 180, 0, 79, 28, 96, 182, 0, 100]
abbrev dktJ7_append_0 : List UInt8 := dkwJ7_append_0 ++ dktJ7_append_1
theorem dksJ7_append_0 : cJ7_append.data.toList.drop 0 = dktJ7_append_0 := by decide +kernel
theorem dksJ7_append_1 : cJ7_append.data.toList.drop 24 = dktJ7_append_1 := dk_seg dksJ7_append_0 24 rfl rfl
theorem dJ7_append_0 : decode cJ7_append 0 = .ok (.aload_n 1, 1) := dk_43 (dk_at dksJ7_append_0 0 rfl rfl)
theorem dJ7_append_1 : decode cJ7_append 1 = .ok (.ifnonnull 8, 3) := dk_199 0 8 (dk_at dksJ7_append_0 1 rfl rfl)
theorem dJ7_append_4 : decode cJ7_append 4 = .ok (.aload_n 0, 1) := dk_42 (dk_at dksJ7_append_0 4 rfl rfl)
theorem dJ7_append_5 : decode cJ7_append 5 = .ok (.invokevirtual 204, 3) := dk_182 0 204 (dk_at dksJ7_append_0 5 rfl rfl)
theorem dJ7_append_8 : decode cJ7_append 8 = .ok (.areturn, 1) := dk_176 (dk_at dksJ7_append_0 8 rfl rfl)
theorem dJ7_append_9 : decode cJ7_append 9 = .ok (.aload_n 1, 1) := dk_43 (dk_at dksJ7_append_0 9 rfl rfl)
theorem dJ7_append_10 : decode cJ7_append 10 = .ok (.invokevirtual 32, 3) := dk_182 0 32 (dk_at dksJ7_append_0 10 rfl rfl)
theorem dJ7_append_13 : decode cJ7_append 13 = .ok (.istore_n 2, 1) := dk_61 (dk_at dksJ7_append_0 13 rfl rfl)
theorem dJ7_append_14 : decode cJ7_append 14 = .ok (.aload_n 0, 1) := dk_42 (dk_at dksJ7_append_0 14 rfl rfl)
theorem dJ7_append_15 : decode cJ7_append 15 = .ok (.aload_n 0, 1) := dk_42 (dk_at dksJ7_append_0 15 rfl rfl)
theorem dJ7_append_16 : decode cJ7_append 16 = .ok (.getfield 79, 3) := dk_180 0 79 (dk_at dksJ7_append_0 16 rfl rfl)
theorem dJ7_append_19 : decode cJ7_append 19 = .ok (.iload_n 2, 1) := dk_28 (dk_at dksJ7_append_0 19 rfl rfl)
theorem dJ7_append_20 : decode cJ7_append 20 = .ok (.iadd, 1) := dk_96 (dk_at dksJ7_append_0 20 rfl rfl)
theorem dJ7_append_21 : decode cJ7_append 21 = .ok (.invokevirtual 100, 3) := dk_182 0 100 (dk_at dksJ7_append_0 21 rfl rfl)
theorem dJ7_append_24 : decode cJ7_append 24 = .ok (.aload_n 0, 1) := dk_42 (dk_at dksJ7_append_1 0 rfl rfl)
theorem dJ7_append_25 : decode cJ7_append 25 = .ok (.aload_n 0, 1) := dk_42 (dk_at dksJ7_append_1 1 rfl rfl)
theorem dJ7_append_26 : decode cJ7_append 26 = .ok (.getfield 79, 3) := dk_180 0 79 (dk_at dksJ7_append_1 2 rfl rfl)
theorem dJ7_append_29 : decode cJ7_append 29 = .ok (.aload_n 1, 1) := dk_43 (dk_at dksJ7_append_1 5 rfl rfl)
theorem dJ7_append_30 : decode cJ7_append 30 = .ok (.invokevirtual 208, 3) := dk_182 0 208 (dk_at dksJ7_append_1 6 rfl rfl)
theorem dJ7_append_33 : decode cJ7_append 33 = .ok (.aload_n 0, 1) := dk_42 (dk_at dksJ7_append_1 9 rfl rfl)
theorem dJ7_append_34 : decode cJ7_append 34 = .ok (.dup, 1) := dk_89 (dk_at dksJ7_append_1 10 rfl rfl)
theorem dJ7_append_35 : decode cJ7_append 35 = .ok (.getfield 79, 3) := dk_180 0 79 (dk_at dksJ7_append_1 11 rfl rfl)
theorem dJ7_append_38 : decode cJ7_append 38 = .ok (.iload_n 2, 1) := dk_28 (dk_at dksJ7_append_1 14 rfl rfl)
theorem dJ7_append_39 : decode cJ7_append 39 = .ok (.iadd, 1) := dk_96 (dk_at dksJ7_append_1 15 rfl rfl)
theorem dJ7_append_40 : decode cJ7_append 40 = .ok (.putfield 79, 3) := dk_181 0 79 (dk_at dksJ7_append_1 16 rfl rfl)
theorem dJ7_append_43 : decode cJ7_append 43 = .ok (.aload_n 0, 1) := dk_42 (dk_at dksJ7_append_1 19 rfl rfl)
theorem dJ7_append_44 : decode cJ7_append 44 = .ok (.areturn, 1) := dk_176 (dk_at dksJ7_append_1 20 rfl rfl)
abbrev cJ7_appendNull : ByteArray := prog_18_method_26_code
def yJ7_appendNull : MethodName := ⟨RJ7, "appendNull", "()Ljava/lang/AbstractStringBuilder;"⟩
def dkwJ7_appendNull_3 : List UInt8 := [184, 0, 226, 60, 42, 27, 181, 0, 79, 42, 176]
abbrev dktJ7_appendNull_3 : List UInt8 := dkwJ7_appendNull_3 ++ []
def dkwJ7_appendNull_2 : List UInt8 := [16, 108, 84, 44, 27, 132, 1, 1, 16, 108, 84, 167, 0, 17, 44, 27, 16, 110, 16, 117, 16, 108, 16, 108]
abbrev dktJ7_appendNull_2 : List UInt8 := dkwJ7_appendNull_2 ++ dktJ7_appendNull_3
def dkwJ7_appendNull_1 : List UInt8 := [153, 0, 38, 44, 27, 132, 1, 1, 16, 110, 84, 44, 27, 132, 1, 1, 16, 117, 84, 44, 27, 132, 1, 1]
abbrev dktJ7_appendNull_1 : List UInt8 := dkwJ7_appendNull_1 ++ dktJ7_appendNull_2
def dkwJ7_appendNull_0 : List UInt8 := [42, 42, 180, 0, 79, 7, 96, 182, 0, 100, 42, 180, 0, 79, 60, 42, 180, 0, 15, 77, 42, 182, 0, 83]
abbrev dktJ7_appendNull_0 : List UInt8 := dkwJ7_appendNull_0 ++ dktJ7_appendNull_1
theorem dksJ7_appendNull_0 : cJ7_appendNull.data.toList.drop 0 = dktJ7_appendNull_0 := by decide +kernel
theorem dksJ7_appendNull_1 : cJ7_appendNull.data.toList.drop 24 = dktJ7_appendNull_1 := dk_seg dksJ7_appendNull_0 24 rfl rfl
theorem dksJ7_appendNull_2 : cJ7_appendNull.data.toList.drop 48 = dktJ7_appendNull_2 := dk_seg dksJ7_appendNull_1 24 rfl rfl
theorem dksJ7_appendNull_3 : cJ7_appendNull.data.toList.drop 72 = dktJ7_appendNull_3 := dk_seg dksJ7_appendNull_2 24 rfl rfl
theorem dJ7_appendNull_0 : decode cJ7_appendNull 0 = .ok (.aload_n 0, 1) := dk_42 (dk_at dksJ7_appendNull_0 0 rfl rfl)
theorem dJ7_appendNull_1 : decode cJ7_appendNull 1 = .ok (.aload_n 0, 1) := dk_42 (dk_at dksJ7_appendNull_0 1 rfl rfl)
theorem dJ7_appendNull_2 : decode cJ7_appendNull 2 = .ok (.getfield 79, 3) := dk_180 0 79 (dk_at dksJ7_appendNull_0 2 rfl rfl)
theorem dJ7_appendNull_5 : decode cJ7_appendNull 5 = .ok (.iconst 4, 1) := dk_7 (dk_at dksJ7_appendNull_0 5 rfl rfl)
theorem dJ7_appendNull_6 : decode cJ7_appendNull 6 = .ok (.iadd, 1) := dk_96 (dk_at dksJ7_appendNull_0 6 rfl rfl)
theorem dJ7_appendNull_7 : decode cJ7_appendNull 7 = .ok (.invokevirtual 100, 3) := dk_182 0 100 (dk_at dksJ7_appendNull_0 7 rfl rfl)
theorem dJ7_appendNull_10 : decode cJ7_appendNull 10 = .ok (.aload_n 0, 1) := dk_42 (dk_at dksJ7_appendNull_0 10 rfl rfl)
theorem dJ7_appendNull_11 : decode cJ7_appendNull 11 = .ok (.getfield 79, 3) := dk_180 0 79 (dk_at dksJ7_appendNull_0 11 rfl rfl)
theorem dJ7_appendNull_14 : decode cJ7_appendNull 14 = .ok (.istore_n 1, 1) := dk_60 (dk_at dksJ7_appendNull_0 14 rfl rfl)
theorem dJ7_appendNull_15 : decode cJ7_appendNull 15 = .ok (.aload_n 0, 1) := dk_42 (dk_at dksJ7_appendNull_0 15 rfl rfl)
theorem dJ7_appendNull_16 : decode cJ7_appendNull 16 = .ok (.getfield 15, 3) := dk_180 0 15 (dk_at dksJ7_appendNull_0 16 rfl rfl)
theorem dJ7_appendNull_19 : decode cJ7_appendNull 19 = .ok (.astore_n 2, 1) := dk_77 (dk_at dksJ7_appendNull_0 19 rfl rfl)
theorem dJ7_appendNull_20 : decode cJ7_appendNull 20 = .ok (.aload_n 0, 1) := dk_42 (dk_at dksJ7_appendNull_0 20 rfl rfl)
theorem dJ7_appendNull_21 : decode cJ7_appendNull 21 = .ok (.invokevirtual 83, 3) := dk_182 0 83 (dk_at dksJ7_appendNull_0 21 rfl rfl)
theorem dJ7_appendNull_24 : decode cJ7_appendNull 24 = .ok (.ifCond .eq 38, 3) := dk_153 0 38 (dk_at dksJ7_appendNull_1 0 rfl rfl)
theorem dJ7_appendNull_27 : decode cJ7_appendNull 27 = .ok (.aload_n 2, 1) := dk_44 (dk_at dksJ7_appendNull_1 3 rfl rfl)
theorem dJ7_appendNull_28 : decode cJ7_appendNull 28 = .ok (.iload_n 1, 1) := dk_27 (dk_at dksJ7_appendNull_1 4 rfl rfl)
theorem dJ7_appendNull_29 : decode cJ7_appendNull 29 = .ok (.iinc 1 1, 3) := dk_132 1 1 (dk_at dksJ7_appendNull_1 5 rfl rfl)
theorem dJ7_appendNull_32 : decode cJ7_appendNull 32 = .ok (.bipush 110, 2) := dk_16 110 (dk_at dksJ7_appendNull_1 8 rfl rfl)
theorem dJ7_appendNull_34 : decode cJ7_appendNull 34 = .ok (.bastore, 1) := dk_84 (dk_at dksJ7_appendNull_1 10 rfl rfl)
theorem dJ7_appendNull_35 : decode cJ7_appendNull 35 = .ok (.aload_n 2, 1) := dk_44 (dk_at dksJ7_appendNull_1 11 rfl rfl)
theorem dJ7_appendNull_36 : decode cJ7_appendNull 36 = .ok (.iload_n 1, 1) := dk_27 (dk_at dksJ7_appendNull_1 12 rfl rfl)
theorem dJ7_appendNull_37 : decode cJ7_appendNull 37 = .ok (.iinc 1 1, 3) := dk_132 1 1 (dk_at dksJ7_appendNull_1 13 rfl rfl)
theorem dJ7_appendNull_40 : decode cJ7_appendNull 40 = .ok (.bipush 117, 2) := dk_16 117 (dk_at dksJ7_appendNull_1 16 rfl rfl)
theorem dJ7_appendNull_42 : decode cJ7_appendNull 42 = .ok (.bastore, 1) := dk_84 (dk_at dksJ7_appendNull_1 18 rfl rfl)
theorem dJ7_appendNull_43 : decode cJ7_appendNull 43 = .ok (.aload_n 2, 1) := dk_44 (dk_at dksJ7_appendNull_1 19 rfl rfl)
theorem dJ7_appendNull_44 : decode cJ7_appendNull 44 = .ok (.iload_n 1, 1) := dk_27 (dk_at dksJ7_appendNull_1 20 rfl rfl)
theorem dJ7_appendNull_45 : decode cJ7_appendNull 45 = .ok (.iinc 1 1, 3) := dk_132 1 1 (dk_at dksJ7_appendNull_1 21 rfl rfl)
theorem dJ7_appendNull_48 : decode cJ7_appendNull 48 = .ok (.bipush 108, 2) := dk_16 108 (dk_at dksJ7_appendNull_2 0 rfl rfl)
theorem dJ7_appendNull_50 : decode cJ7_appendNull 50 = .ok (.bastore, 1) := dk_84 (dk_at dksJ7_appendNull_2 2 rfl rfl)
theorem dJ7_appendNull_51 : decode cJ7_appendNull 51 = .ok (.aload_n 2, 1) := dk_44 (dk_at dksJ7_appendNull_2 3 rfl rfl)
theorem dJ7_appendNull_52 : decode cJ7_appendNull 52 = .ok (.iload_n 1, 1) := dk_27 (dk_at dksJ7_appendNull_2 4 rfl rfl)
theorem dJ7_appendNull_53 : decode cJ7_appendNull 53 = .ok (.iinc 1 1, 3) := dk_132 1 1 (dk_at dksJ7_appendNull_2 5 rfl rfl)
theorem dJ7_appendNull_56 : decode cJ7_appendNull 56 = .ok (.bipush 108, 2) := dk_16 108 (dk_at dksJ7_appendNull_2 8 rfl rfl)
theorem dJ7_appendNull_58 : decode cJ7_appendNull 58 = .ok (.bastore, 1) := dk_84 (dk_at dksJ7_appendNull_2 10 rfl rfl)
theorem dJ7_appendNull_59 : decode cJ7_appendNull 59 = .ok (.goto 17, 3) := dk_167 0 17 (dk_at dksJ7_appendNull_2 11 rfl rfl)
theorem dJ7_appendNull_62 : decode cJ7_appendNull 62 = .ok (.aload_n 2, 1) := dk_44 (dk_at dksJ7_appendNull_2 14 rfl rfl)
theorem dJ7_appendNull_63 : decode cJ7_appendNull 63 = .ok (.iload_n 1, 1) := dk_27 (dk_at dksJ7_appendNull_2 15 rfl rfl)
theorem dJ7_appendNull_64 : decode cJ7_appendNull 64 = .ok (.bipush 110, 2) := dk_16 110 (dk_at dksJ7_appendNull_2 16 rfl rfl)
theorem dJ7_appendNull_66 : decode cJ7_appendNull 66 = .ok (.bipush 117, 2) := dk_16 117 (dk_at dksJ7_appendNull_2 18 rfl rfl)
theorem dJ7_appendNull_68 : decode cJ7_appendNull 68 = .ok (.bipush 108, 2) := dk_16 108 (dk_at dksJ7_appendNull_2 20 rfl rfl)
theorem dJ7_appendNull_70 : decode cJ7_appendNull 70 = .ok (.bipush 108, 2) := dk_16 108 (dk_at dksJ7_appendNull_2 22 rfl rfl)
theorem dJ7_appendNull_72 : decode cJ7_appendNull 72 = .ok (.invokestatic 226, 3) := dk_184 0 226 (dk_at dksJ7_appendNull_3 0 rfl rfl)
theorem dJ7_appendNull_75 : decode cJ7_appendNull 75 = .ok (.istore_n 1, 1) := dk_60 (dk_at dksJ7_appendNull_3 3 rfl rfl)
theorem dJ7_appendNull_76 : decode cJ7_appendNull 76 = .ok (.aload_n 0, 1) := dk_42 (dk_at dksJ7_appendNull_3 4 rfl rfl)
theorem dJ7_appendNull_77 : decode cJ7_appendNull 77 = .ok (.iload_n 1, 1) := dk_27 (dk_at dksJ7_appendNull_3 5 rfl rfl)
theorem dJ7_appendNull_78 : decode cJ7_appendNull 78 = .ok (.putfield 79, 3) := dk_181 0 79 (dk_at dksJ7_appendNull_3 6 rfl rfl)
theorem dJ7_appendNull_81 : decode cJ7_appendNull 81 = .ok (.aload_n 0, 1) := dk_42 (dk_at dksJ7_appendNull_3 9 rfl rfl)
theorem dJ7_appendNull_82 : decode cJ7_appendNull 82 = .ok (.areturn, 1) := dk_176 (dk_at dksJ7_appendNull_3 10 rfl rfl)
abbrev cJ7_ensureCapacityInternal : ByteArray := prog_18_method_9_code
def yJ7_ensureCapacityInternal : MethodName := ⟨RJ7, "ensureCapacityInternal", "(I)V"⟩
def dkwJ7_ensureCapacityInternal_1 : List UInt8 := [182, 0, 104, 42, 180, 0, 22, 120, 184, 0, 108, 181, 0, 15, 177]
abbrev dktJ7_ensureCapacityInternal_1 : List UInt8 := dkwJ7_ensureCapacityInternal_1 ++ []
def dkwJ7_ensureCapacityInternal_0 : List UInt8 := [42, 180, 0, 15, 190, 42, 180, 0, 22, 122, 61, 27, 28, 100, 158, 0, 24, 42, 42, 180, 0, 15, 42, 27]
abbrev dktJ7_ensureCapacityInternal_0 : List UInt8 := dkwJ7_ensureCapacityInternal_0 ++ dktJ7_ensureCapacityInternal_1
theorem dksJ7_ensureCapacityInternal_0 : cJ7_ensureCapacityInternal.data.toList.drop 0 = dktJ7_ensureCapacityInternal_0 := by decide +kernel
theorem dksJ7_ensureCapacityInternal_1 : cJ7_ensureCapacityInternal.data.toList.drop 24 = dktJ7_ensureCapacityInternal_1 := dk_seg dksJ7_ensureCapacityInternal_0 24 rfl rfl
theorem dJ7_ensureCapacityInternal_0 : decode cJ7_ensureCapacityInternal 0 = .ok (.aload_n 0, 1) := dk_42 (dk_at dksJ7_ensureCapacityInternal_0 0 rfl rfl)
theorem dJ7_ensureCapacityInternal_1 : decode cJ7_ensureCapacityInternal 1 = .ok (.getfield 15, 3) := dk_180 0 15 (dk_at dksJ7_ensureCapacityInternal_0 1 rfl rfl)
theorem dJ7_ensureCapacityInternal_4 : decode cJ7_ensureCapacityInternal 4 = .ok (.arraylength, 1) := dk_190 (dk_at dksJ7_ensureCapacityInternal_0 4 rfl rfl)
theorem dJ7_ensureCapacityInternal_5 : decode cJ7_ensureCapacityInternal 5 = .ok (.aload_n 0, 1) := dk_42 (dk_at dksJ7_ensureCapacityInternal_0 5 rfl rfl)
theorem dJ7_ensureCapacityInternal_6 : decode cJ7_ensureCapacityInternal 6 = .ok (.getfield 22, 3) := dk_180 0 22 (dk_at dksJ7_ensureCapacityInternal_0 6 rfl rfl)
theorem dJ7_ensureCapacityInternal_9 : decode cJ7_ensureCapacityInternal 9 = .ok (.ishr, 1) := dk_122 (dk_at dksJ7_ensureCapacityInternal_0 9 rfl rfl)
theorem dJ7_ensureCapacityInternal_10 : decode cJ7_ensureCapacityInternal 10 = .ok (.istore_n 2, 1) := dk_61 (dk_at dksJ7_ensureCapacityInternal_0 10 rfl rfl)
theorem dJ7_ensureCapacityInternal_11 : decode cJ7_ensureCapacityInternal 11 = .ok (.iload_n 1, 1) := dk_27 (dk_at dksJ7_ensureCapacityInternal_0 11 rfl rfl)
theorem dJ7_ensureCapacityInternal_12 : decode cJ7_ensureCapacityInternal 12 = .ok (.iload_n 2, 1) := dk_28 (dk_at dksJ7_ensureCapacityInternal_0 12 rfl rfl)
theorem dJ7_ensureCapacityInternal_13 : decode cJ7_ensureCapacityInternal 13 = .ok (.isub, 1) := dk_100 (dk_at dksJ7_ensureCapacityInternal_0 13 rfl rfl)
theorem dJ7_ensureCapacityInternal_14 : decode cJ7_ensureCapacityInternal 14 = .ok (.ifCond .le 24, 3) := dk_158 0 24 (dk_at dksJ7_ensureCapacityInternal_0 14 rfl rfl)
theorem dJ7_ensureCapacityInternal_17 : decode cJ7_ensureCapacityInternal 17 = .ok (.aload_n 0, 1) := dk_42 (dk_at dksJ7_ensureCapacityInternal_0 17 rfl rfl)
theorem dJ7_ensureCapacityInternal_18 : decode cJ7_ensureCapacityInternal 18 = .ok (.aload_n 0, 1) := dk_42 (dk_at dksJ7_ensureCapacityInternal_0 18 rfl rfl)
theorem dJ7_ensureCapacityInternal_19 : decode cJ7_ensureCapacityInternal 19 = .ok (.getfield 15, 3) := dk_180 0 15 (dk_at dksJ7_ensureCapacityInternal_0 19 rfl rfl)
theorem dJ7_ensureCapacityInternal_22 : decode cJ7_ensureCapacityInternal 22 = .ok (.aload_n 0, 1) := dk_42 (dk_at dksJ7_ensureCapacityInternal_0 22 rfl rfl)
theorem dJ7_ensureCapacityInternal_23 : decode cJ7_ensureCapacityInternal 23 = .ok (.iload_n 1, 1) := dk_27 (dk_at dksJ7_ensureCapacityInternal_0 23 rfl rfl)
theorem dJ7_ensureCapacityInternal_24 : decode cJ7_ensureCapacityInternal 24 = .ok (.invokevirtual 104, 3) := dk_182 0 104 (dk_at dksJ7_ensureCapacityInternal_1 0 rfl rfl)
theorem dJ7_ensureCapacityInternal_27 : decode cJ7_ensureCapacityInternal 27 = .ok (.aload_n 0, 1) := dk_42 (dk_at dksJ7_ensureCapacityInternal_1 3 rfl rfl)
theorem dJ7_ensureCapacityInternal_28 : decode cJ7_ensureCapacityInternal 28 = .ok (.getfield 22, 3) := dk_180 0 22 (dk_at dksJ7_ensureCapacityInternal_1 4 rfl rfl)
theorem dJ7_ensureCapacityInternal_31 : decode cJ7_ensureCapacityInternal 31 = .ok (.ishl, 1) := dk_120 (dk_at dksJ7_ensureCapacityInternal_1 7 rfl rfl)
theorem dJ7_ensureCapacityInternal_32 : decode cJ7_ensureCapacityInternal 32 = .ok (.invokestatic 108, 3) := dk_184 0 108 (dk_at dksJ7_ensureCapacityInternal_1 8 rfl rfl)
theorem dJ7_ensureCapacityInternal_35 : decode cJ7_ensureCapacityInternal 35 = .ok (.putfield 15, 3) := dk_181 0 15 (dk_at dksJ7_ensureCapacityInternal_1 11 rfl rfl)
theorem dJ7_ensureCapacityInternal_38 : decode cJ7_ensureCapacityInternal 38 = .ok (.return_, 1) := dk_177 (dk_at dksJ7_ensureCapacityInternal_1 14 rfl rfl)
abbrev cJ7_newCapacity : ByteArray := prog_18_method_10_code
def yJ7_newCapacity : MethodName := ⟨RJ7, "newCapacity", "(I)I"⟩
def dkwJ7_newCapacity_2 : List UInt8 := [183, 0, 124, 191, 21, 5, 42, 180, 0, 22, 122, 172]
abbrev dktJ7_newCapacity_2 : List UInt8 := dkwJ7_newCapacity_2 ++ []
def dkwJ7_newCapacity_1 : List UInt8 := [180, 0, 22, 120, 96, 184, 0, 114, 54, 5, 21, 5, 18, 39, 160, 0, 13, 187, 0, 120, 89, 18, 122]
abbrev dktJ7_newCapacity_1 : List UInt8 := dkwJ7_newCapacity_1 ++ dktJ7_newCapacity_2
def dkwJ7_newCapacity_0 : List UInt8 := [42, 180, 0, 15, 190, 61, 27, 42, 180, 0, 22, 120, 62, 29, 28, 100, 54, 4, 28, 21, 4, 28, 5, 42]
abbrev dktJ7_newCapacity_0 : List UInt8 := dkwJ7_newCapacity_0 ++ dktJ7_newCapacity_1
theorem dksJ7_newCapacity_0 : cJ7_newCapacity.data.toList.drop 0 = dktJ7_newCapacity_0 := by decide +kernel
theorem dksJ7_newCapacity_1 : cJ7_newCapacity.data.toList.drop 24 = dktJ7_newCapacity_1 := dk_seg dksJ7_newCapacity_0 24 rfl rfl
theorem dksJ7_newCapacity_2 : cJ7_newCapacity.data.toList.drop 47 = dktJ7_newCapacity_2 := dk_seg dksJ7_newCapacity_1 23 rfl rfl
theorem dJ7_newCapacity_0 : decode cJ7_newCapacity 0 = .ok (.aload_n 0, 1) := dk_42 (dk_at dksJ7_newCapacity_0 0 rfl rfl)
theorem dJ7_newCapacity_1 : decode cJ7_newCapacity 1 = .ok (.getfield 15, 3) := dk_180 0 15 (dk_at dksJ7_newCapacity_0 1 rfl rfl)
theorem dJ7_newCapacity_4 : decode cJ7_newCapacity 4 = .ok (.arraylength, 1) := dk_190 (dk_at dksJ7_newCapacity_0 4 rfl rfl)
theorem dJ7_newCapacity_5 : decode cJ7_newCapacity 5 = .ok (.istore_n 2, 1) := dk_61 (dk_at dksJ7_newCapacity_0 5 rfl rfl)
theorem dJ7_newCapacity_6 : decode cJ7_newCapacity 6 = .ok (.iload_n 1, 1) := dk_27 (dk_at dksJ7_newCapacity_0 6 rfl rfl)
theorem dJ7_newCapacity_7 : decode cJ7_newCapacity 7 = .ok (.aload_n 0, 1) := dk_42 (dk_at dksJ7_newCapacity_0 7 rfl rfl)
theorem dJ7_newCapacity_8 : decode cJ7_newCapacity 8 = .ok (.getfield 22, 3) := dk_180 0 22 (dk_at dksJ7_newCapacity_0 8 rfl rfl)
theorem dJ7_newCapacity_11 : decode cJ7_newCapacity 11 = .ok (.ishl, 1) := dk_120 (dk_at dksJ7_newCapacity_0 11 rfl rfl)
theorem dJ7_newCapacity_12 : decode cJ7_newCapacity 12 = .ok (.istore_n 3, 1) := dk_62 (dk_at dksJ7_newCapacity_0 12 rfl rfl)
theorem dJ7_newCapacity_13 : decode cJ7_newCapacity 13 = .ok (.iload_n 3, 1) := dk_29 (dk_at dksJ7_newCapacity_0 13 rfl rfl)
theorem dJ7_newCapacity_14 : decode cJ7_newCapacity 14 = .ok (.iload_n 2, 1) := dk_28 (dk_at dksJ7_newCapacity_0 14 rfl rfl)
theorem dJ7_newCapacity_15 : decode cJ7_newCapacity 15 = .ok (.isub, 1) := dk_100 (dk_at dksJ7_newCapacity_0 15 rfl rfl)
theorem dJ7_newCapacity_16 : decode cJ7_newCapacity 16 = .ok (.istore 4, 2) := dk_54 4 (dk_at dksJ7_newCapacity_0 16 rfl rfl)
theorem dJ7_newCapacity_18 : decode cJ7_newCapacity 18 = .ok (.iload_n 2, 1) := dk_28 (dk_at dksJ7_newCapacity_0 18 rfl rfl)
theorem dJ7_newCapacity_19 : decode cJ7_newCapacity 19 = .ok (.iload 4, 2) := dk_21 4 (dk_at dksJ7_newCapacity_0 19 rfl rfl)
theorem dJ7_newCapacity_21 : decode cJ7_newCapacity 21 = .ok (.iload_n 2, 1) := dk_28 (dk_at dksJ7_newCapacity_0 21 rfl rfl)
theorem dJ7_newCapacity_22 : decode cJ7_newCapacity 22 = .ok (.iconst 2, 1) := dk_5 (dk_at dksJ7_newCapacity_0 22 rfl rfl)
theorem dJ7_newCapacity_23 : decode cJ7_newCapacity 23 = .ok (.aload_n 0, 1) := dk_42 (dk_at dksJ7_newCapacity_0 23 rfl rfl)
theorem dJ7_newCapacity_24 : decode cJ7_newCapacity 24 = .ok (.getfield 22, 3) := dk_180 0 22 (dk_at dksJ7_newCapacity_1 0 rfl rfl)
theorem dJ7_newCapacity_27 : decode cJ7_newCapacity 27 = .ok (.ishl, 1) := dk_120 (dk_at dksJ7_newCapacity_1 3 rfl rfl)
theorem dJ7_newCapacity_28 : decode cJ7_newCapacity 28 = .ok (.iadd, 1) := dk_96 (dk_at dksJ7_newCapacity_1 4 rfl rfl)
theorem dJ7_newCapacity_29 : decode cJ7_newCapacity 29 = .ok (.invokestatic 114, 3) := dk_184 0 114 (dk_at dksJ7_newCapacity_1 5 rfl rfl)
theorem dJ7_newCapacity_32 : decode cJ7_newCapacity 32 = .ok (.istore 5, 2) := dk_54 5 (dk_at dksJ7_newCapacity_1 8 rfl rfl)
theorem dJ7_newCapacity_34 : decode cJ7_newCapacity 34 = .ok (.iload 5, 2) := dk_21 5 (dk_at dksJ7_newCapacity_1 10 rfl rfl)
theorem dJ7_newCapacity_36 : decode cJ7_newCapacity 36 = .ok (.ldc 39, 2) := dk_18 39 (dk_at dksJ7_newCapacity_1 12 rfl rfl)
theorem dJ7_newCapacity_38 : decode cJ7_newCapacity 38 = .ok (.if_icmp .ne 13, 3) := dk_160 0 13 (dk_at dksJ7_newCapacity_1 14 rfl rfl)
theorem dJ7_newCapacity_41 : decode cJ7_newCapacity 41 = .ok (.new 120, 3) := dk_187 0 120 (dk_at dksJ7_newCapacity_1 17 rfl rfl)
theorem dJ7_newCapacity_44 : decode cJ7_newCapacity 44 = .ok (.dup, 1) := dk_89 (dk_at dksJ7_newCapacity_1 20 rfl rfl)
theorem dJ7_newCapacity_45 : decode cJ7_newCapacity 45 = .ok (.ldc 122, 2) := dk_18 122 (dk_at dksJ7_newCapacity_1 21 rfl rfl)
theorem dJ7_newCapacity_47 : decode cJ7_newCapacity 47 = .ok (.invokespecial 124, 3) := dk_183 0 124 (dk_at dksJ7_newCapacity_2 0 rfl rfl)
theorem dJ7_newCapacity_50 : decode cJ7_newCapacity 50 = .ok (.athrow, 1) := dk_191 (dk_at dksJ7_newCapacity_2 3 rfl rfl)
theorem dJ7_newCapacity_51 : decode cJ7_newCapacity 51 = .ok (.iload 5, 2) := dk_21 5 (dk_at dksJ7_newCapacity_2 4 rfl rfl)
theorem dJ7_newCapacity_53 : decode cJ7_newCapacity 53 = .ok (.aload_n 0, 1) := dk_42 (dk_at dksJ7_newCapacity_2 6 rfl rfl)
theorem dJ7_newCapacity_54 : decode cJ7_newCapacity 54 = .ok (.getfield 22, 3) := dk_180 0 22 (dk_at dksJ7_newCapacity_2 7 rfl rfl)
theorem dJ7_newCapacity_57 : decode cJ7_newCapacity 57 = .ok (.ishr, 1) := dk_122 (dk_at dksJ7_newCapacity_2 10 rfl rfl)
theorem dJ7_newCapacity_58 : decode cJ7_newCapacity 58 = .ok (.ireturn, 1) := dk_172 (dk_at dksJ7_newCapacity_2 11 rfl rfl)
abbrev cJ7_isLatin1 : ByteArray := prog_18_method_68_code
def yJ7_isLatin1 : MethodName := ⟨RJ7, "isLatin1", "()Z"⟩
def dkwJ7_isLatin1_0 : List UInt8 := [178, 0, 18, 153, 0, 14, 42, 180, 0, 22, 154, 0, 7, 4, 167, 0, 4, 3, 172]
abbrev dktJ7_isLatin1_0 : List UInt8 := dkwJ7_isLatin1_0 ++ []
theorem dksJ7_isLatin1_0 : cJ7_isLatin1.data.toList.drop 0 = dktJ7_isLatin1_0 := by decide +kernel
theorem dJ7_isLatin1_0 : decode cJ7_isLatin1 0 = .ok (.getstatic 18, 3) := dk_178 0 18 (dk_at dksJ7_isLatin1_0 0 rfl rfl)
theorem dJ7_isLatin1_3 : decode cJ7_isLatin1 3 = .ok (.ifCond .eq 14, 3) := dk_153 0 14 (dk_at dksJ7_isLatin1_0 3 rfl rfl)
theorem dJ7_isLatin1_6 : decode cJ7_isLatin1 6 = .ok (.aload_n 0, 1) := dk_42 (dk_at dksJ7_isLatin1_0 6 rfl rfl)
theorem dJ7_isLatin1_7 : decode cJ7_isLatin1 7 = .ok (.getfield 22, 3) := dk_180 0 22 (dk_at dksJ7_isLatin1_0 7 rfl rfl)
theorem dJ7_isLatin1_10 : decode cJ7_isLatin1 10 = .ok (.ifCond .ne 7, 3) := dk_154 0 7 (dk_at dksJ7_isLatin1_0 10 rfl rfl)
theorem dJ7_isLatin1_13 : decode cJ7_isLatin1 13 = .ok (.iconst 1, 1) := dk_4 (dk_at dksJ7_isLatin1_0 13 rfl rfl)
theorem dJ7_isLatin1_14 : decode cJ7_isLatin1 14 = .ok (.goto 4, 3) := dk_167 0 4 (dk_at dksJ7_isLatin1_0 14 rfl rfl)
theorem dJ7_isLatin1_17 : decode cJ7_isLatin1 17 = .ok (.iconst 0, 1) := dk_3 (dk_at dksJ7_isLatin1_0 17 rfl rfl)
theorem dJ7_isLatin1_18 : decode cJ7_isLatin1 18 = .ok (.ireturn, 1) := dk_172 (dk_at dksJ7_isLatin1_0 18 rfl rfl)
abbrev cJ7_putStringAt : ByteArray := prog_18_method_73_code
def yJ7_putStringAt : MethodName := ⟨RJ7, "putStringAt", "(ILjava/lang/String;)V"⟩
def dkwJ7_putStringAt_0 : List UInt8 := [42, 44, 182, 1, 141, 44, 42, 180, 0, 15, 27, 42, 180, 0, 22, 182, 1, 143, 177]
abbrev dktJ7_putStringAt_0 : List UInt8 := dkwJ7_putStringAt_0 ++ []
theorem dksJ7_putStringAt_0 : cJ7_putStringAt.data.toList.drop 0 = dktJ7_putStringAt_0 := by decide +kernel
theorem dJ7_putStringAt_0 : decode cJ7_putStringAt 0 = .ok (.aload_n 0, 1) := dk_42 (dk_at dksJ7_putStringAt_0 0 rfl rfl)
theorem dJ7_putStringAt_1 : decode cJ7_putStringAt 1 = .ok (.aload_n 2, 1) := dk_44 (dk_at dksJ7_putStringAt_0 1 rfl rfl)
theorem dJ7_putStringAt_2 : decode cJ7_putStringAt 2 = .ok (.invokevirtual 397, 3) := dk_182 1 141 (dk_at dksJ7_putStringAt_0 2 rfl rfl)
theorem dJ7_putStringAt_5 : decode cJ7_putStringAt 5 = .ok (.aload_n 2, 1) := dk_44 (dk_at dksJ7_putStringAt_0 5 rfl rfl)
theorem dJ7_putStringAt_6 : decode cJ7_putStringAt 6 = .ok (.aload_n 0, 1) := dk_42 (dk_at dksJ7_putStringAt_0 6 rfl rfl)
theorem dJ7_putStringAt_7 : decode cJ7_putStringAt 7 = .ok (.getfield 15, 3) := dk_180 0 15 (dk_at dksJ7_putStringAt_0 7 rfl rfl)
theorem dJ7_putStringAt_10 : decode cJ7_putStringAt 10 = .ok (.iload_n 1, 1) := dk_27 (dk_at dksJ7_putStringAt_0 10 rfl rfl)
theorem dJ7_putStringAt_11 : decode cJ7_putStringAt 11 = .ok (.aload_n 0, 1) := dk_42 (dk_at dksJ7_putStringAt_0 11 rfl rfl)
theorem dJ7_putStringAt_12 : decode cJ7_putStringAt 12 = .ok (.getfield 22, 3) := dk_180 0 22 (dk_at dksJ7_putStringAt_0 12 rfl rfl)
theorem dJ7_putStringAt_15 : decode cJ7_putStringAt 15 = .ok (.invokevirtual 399, 3) := dk_182 1 143 (dk_at dksJ7_putStringAt_0 15 rfl rfl)
theorem dJ7_putStringAt_18 : decode cJ7_putStringAt 18 = .ok (.return_, 1) := dk_177 (dk_at dksJ7_putStringAt_0 18 rfl rfl)
abbrev cJ7_inflateIfNeededFor : ByteArray := prog_18_method_71_code
def yJ7_inflateIfNeededFor : MethodName := ⟨RJ7, "inflateIfNeededFor", "(Ljava/lang/String;)V"⟩
def dkwJ7_inflateIfNeededFor_0 : List UInt8 := [178, 0, 18, 153, 0, 18, 42, 180, 0, 22, 43, 182, 0, 40, 159, 0, 7, 42, 182, 0, 195, 177]
abbrev dktJ7_inflateIfNeededFor_0 : List UInt8 := dkwJ7_inflateIfNeededFor_0 ++ []
theorem dksJ7_inflateIfNeededFor_0 : cJ7_inflateIfNeededFor.data.toList.drop 0 = dktJ7_inflateIfNeededFor_0 := by decide +kernel
theorem dJ7_inflateIfNeededFor_0 : decode cJ7_inflateIfNeededFor 0 = .ok (.getstatic 18, 3) := dk_178 0 18 (dk_at dksJ7_inflateIfNeededFor_0 0 rfl rfl)
theorem dJ7_inflateIfNeededFor_3 : decode cJ7_inflateIfNeededFor 3 = .ok (.ifCond .eq 18, 3) := dk_153 0 18 (dk_at dksJ7_inflateIfNeededFor_0 3 rfl rfl)
theorem dJ7_inflateIfNeededFor_6 : decode cJ7_inflateIfNeededFor 6 = .ok (.aload_n 0, 1) := dk_42 (dk_at dksJ7_inflateIfNeededFor_0 6 rfl rfl)
theorem dJ7_inflateIfNeededFor_7 : decode cJ7_inflateIfNeededFor 7 = .ok (.getfield 22, 3) := dk_180 0 22 (dk_at dksJ7_inflateIfNeededFor_0 7 rfl rfl)
theorem dJ7_inflateIfNeededFor_10 : decode cJ7_inflateIfNeededFor 10 = .ok (.aload_n 1, 1) := dk_43 (dk_at dksJ7_inflateIfNeededFor_0 10 rfl rfl)
theorem dJ7_inflateIfNeededFor_11 : decode cJ7_inflateIfNeededFor 11 = .ok (.invokevirtual 40, 3) := dk_182 0 40 (dk_at dksJ7_inflateIfNeededFor_0 11 rfl rfl)
theorem dJ7_inflateIfNeededFor_14 : decode cJ7_inflateIfNeededFor 14 = .ok (.if_icmp .eq 7, 3) := dk_159 0 7 (dk_at dksJ7_inflateIfNeededFor_0 14 rfl rfl)
theorem dJ7_inflateIfNeededFor_17 : decode cJ7_inflateIfNeededFor 17 = .ok (.aload_n 0, 1) := dk_42 (dk_at dksJ7_inflateIfNeededFor_0 17 rfl rfl)
theorem dJ7_inflateIfNeededFor_18 : decode cJ7_inflateIfNeededFor 18 = .ok (.invokevirtual 195, 3) := dk_182 0 195 (dk_at dksJ7_inflateIfNeededFor_0 18 rfl rfl)
theorem dJ7_inflateIfNeededFor_21 : decode cJ7_inflateIfNeededFor 21 = .ok (.return_, 1) := dk_177 (dk_at dksJ7_inflateIfNeededFor_0 21 rfl rfl)
abbrev cJ7_inflate : ByteArray := prog_18_method_11_code
def yJ7_inflate : MethodName := ⟨RJ7, "inflate", "()V"⟩
def dkwJ7_inflate_1 : List UInt8 := [42, 180, 0, 79, 184, 0, 125, 42, 43, 181, 0, 15, 42, 4, 181, 0, 22, 177]
abbrev dktJ7_inflate_1 : List UInt8 := dkwJ7_inflate_1 ++ []
def dkwJ7_inflate_0 : List UInt8 := [42, 182, 0, 83, 154, 0, 4, 177, 42, 180, 0, 15, 190, 184, 0, 26, 76, 42, 180, 0, 15, 3, 43, 3]
abbrev dktJ7_inflate_0 : List UInt8 := dkwJ7_inflate_0 ++ dktJ7_inflate_1
theorem dksJ7_inflate_0 : cJ7_inflate.data.toList.drop 0 = dktJ7_inflate_0 := by decide +kernel
theorem dksJ7_inflate_1 : cJ7_inflate.data.toList.drop 24 = dktJ7_inflate_1 := dk_seg dksJ7_inflate_0 24 rfl rfl
theorem dJ7_inflate_0 : decode cJ7_inflate 0 = .ok (.aload_n 0, 1) := dk_42 (dk_at dksJ7_inflate_0 0 rfl rfl)
theorem dJ7_inflate_1 : decode cJ7_inflate 1 = .ok (.invokevirtual 83, 3) := dk_182 0 83 (dk_at dksJ7_inflate_0 1 rfl rfl)
theorem dJ7_inflate_4 : decode cJ7_inflate 4 = .ok (.ifCond .ne 4, 3) := dk_154 0 4 (dk_at dksJ7_inflate_0 4 rfl rfl)
theorem dJ7_inflate_7 : decode cJ7_inflate 7 = .ok (.return_, 1) := dk_177 (dk_at dksJ7_inflate_0 7 rfl rfl)
theorem dJ7_inflate_8 : decode cJ7_inflate 8 = .ok (.aload_n 0, 1) := dk_42 (dk_at dksJ7_inflate_0 8 rfl rfl)
theorem dJ7_inflate_9 : decode cJ7_inflate 9 = .ok (.getfield 15, 3) := dk_180 0 15 (dk_at dksJ7_inflate_0 9 rfl rfl)
theorem dJ7_inflate_12 : decode cJ7_inflate 12 = .ok (.arraylength, 1) := dk_190 (dk_at dksJ7_inflate_0 12 rfl rfl)
theorem dJ7_inflate_13 : decode cJ7_inflate 13 = .ok (.invokestatic 26, 3) := dk_184 0 26 (dk_at dksJ7_inflate_0 13 rfl rfl)
theorem dJ7_inflate_16 : decode cJ7_inflate 16 = .ok (.astore_n 1, 1) := dk_76 (dk_at dksJ7_inflate_0 16 rfl rfl)
theorem dJ7_inflate_17 : decode cJ7_inflate 17 = .ok (.aload_n 0, 1) := dk_42 (dk_at dksJ7_inflate_0 17 rfl rfl)
theorem dJ7_inflate_18 : decode cJ7_inflate 18 = .ok (.getfield 15, 3) := dk_180 0 15 (dk_at dksJ7_inflate_0 18 rfl rfl)
theorem dJ7_inflate_21 : decode cJ7_inflate 21 = .ok (.iconst 0, 1) := dk_3 (dk_at dksJ7_inflate_0 21 rfl rfl)
theorem dJ7_inflate_22 : decode cJ7_inflate 22 = .ok (.aload_n 1, 1) := dk_43 (dk_at dksJ7_inflate_0 22 rfl rfl)
theorem dJ7_inflate_23 : decode cJ7_inflate 23 = .ok (.iconst 0, 1) := dk_3 (dk_at dksJ7_inflate_0 23 rfl rfl)
theorem dJ7_inflate_24 : decode cJ7_inflate 24 = .ok (.aload_n 0, 1) := dk_42 (dk_at dksJ7_inflate_1 0 rfl rfl)
theorem dJ7_inflate_25 : decode cJ7_inflate 25 = .ok (.getfield 79, 3) := dk_180 0 79 (dk_at dksJ7_inflate_1 1 rfl rfl)
theorem dJ7_inflate_28 : decode cJ7_inflate 28 = .ok (.invokestatic 125, 3) := dk_184 0 125 (dk_at dksJ7_inflate_1 4 rfl rfl)
theorem dJ7_inflate_31 : decode cJ7_inflate 31 = .ok (.aload_n 0, 1) := dk_42 (dk_at dksJ7_inflate_1 7 rfl rfl)
theorem dJ7_inflate_32 : decode cJ7_inflate 32 = .ok (.aload_n 1, 1) := dk_43 (dk_at dksJ7_inflate_1 8 rfl rfl)
theorem dJ7_inflate_33 : decode cJ7_inflate 33 = .ok (.putfield 15, 3) := dk_181 0 15 (dk_at dksJ7_inflate_1 9 rfl rfl)
theorem dJ7_inflate_36 : decode cJ7_inflate 36 = .ok (.aload_n 0, 1) := dk_42 (dk_at dksJ7_inflate_1 12 rfl rfl)
theorem dJ7_inflate_37 : decode cJ7_inflate 37 = .ok (.iconst 1, 1) := dk_4 (dk_at dksJ7_inflate_1 13 rfl rfl)
theorem dJ7_inflate_38 : decode cJ7_inflate 38 = .ok (.putfield 22, 3) := dk_181 0 22 (dk_at dksJ7_inflate_1 14 rfl rfl)
theorem dJ7_inflate_41 : decode cJ7_inflate 41 = .ok (.return_, 1) := dk_177 (dk_at dksJ7_inflate_1 17 rfl rfl)
abbrev cJ7_append_2 : ByteArray := prog_18_method_32_code
def yJ7_append_2 : MethodName := ⟨RJ7, "append", "(I)Ljava/lang/AbstractStringBuilder;"⟩
def dkwJ7_append_2_2 : List UInt8 := [42, 29, 181, 0, 79, 42, 176]
abbrev dktJ7_append_2_2 : List UInt8 := dkwJ7_append_2_2 ++ []
def dkwJ7_append_2_1 : List UInt8 := [27, 29, 42, 180, 0, 15, 184, 0, 248, 87, 167, 0, 14, 27, 28, 29, 42, 180, 0, 15, 184, 0, 251, 87]
abbrev dktJ7_append_2_1 : List UInt8 := dkwJ7_append_2_1 ++ dktJ7_append_2_2
def dkwJ7_append_2_0 : List UInt8 := [42, 180, 0, 79, 61, 28, 27, 184, 0, 245, 96, 62, 42, 29, 182, 0, 100, 42, 182, 0, 83, 153, 0, 16]
abbrev dktJ7_append_2_0 : List UInt8 := dkwJ7_append_2_0 ++ dktJ7_append_2_1
theorem dksJ7_append_2_0 : cJ7_append_2.data.toList.drop 0 = dktJ7_append_2_0 := by decide +kernel
theorem dksJ7_append_2_1 : cJ7_append_2.data.toList.drop 24 = dktJ7_append_2_1 := dk_seg dksJ7_append_2_0 24 rfl rfl
theorem dksJ7_append_2_2 : cJ7_append_2.data.toList.drop 48 = dktJ7_append_2_2 := dk_seg dksJ7_append_2_1 24 rfl rfl
theorem dJ7_append_2_0 : decode cJ7_append_2 0 = .ok (.aload_n 0, 1) := dk_42 (dk_at dksJ7_append_2_0 0 rfl rfl)
theorem dJ7_append_2_1 : decode cJ7_append_2 1 = .ok (.getfield 79, 3) := dk_180 0 79 (dk_at dksJ7_append_2_0 1 rfl rfl)
theorem dJ7_append_2_4 : decode cJ7_append_2 4 = .ok (.istore_n 2, 1) := dk_61 (dk_at dksJ7_append_2_0 4 rfl rfl)
theorem dJ7_append_2_5 : decode cJ7_append_2 5 = .ok (.iload_n 2, 1) := dk_28 (dk_at dksJ7_append_2_0 5 rfl rfl)
theorem dJ7_append_2_6 : decode cJ7_append_2 6 = .ok (.iload_n 1, 1) := dk_27 (dk_at dksJ7_append_2_0 6 rfl rfl)
theorem dJ7_append_2_7 : decode cJ7_append_2 7 = .ok (.invokestatic 245, 3) := dk_184 0 245 (dk_at dksJ7_append_2_0 7 rfl rfl)
theorem dJ7_append_2_10 : decode cJ7_append_2 10 = .ok (.iadd, 1) := dk_96 (dk_at dksJ7_append_2_0 10 rfl rfl)
theorem dJ7_append_2_11 : decode cJ7_append_2 11 = .ok (.istore_n 3, 1) := dk_62 (dk_at dksJ7_append_2_0 11 rfl rfl)
theorem dJ7_append_2_12 : decode cJ7_append_2 12 = .ok (.aload_n 0, 1) := dk_42 (dk_at dksJ7_append_2_0 12 rfl rfl)
theorem dJ7_append_2_13 : decode cJ7_append_2 13 = .ok (.iload_n 3, 1) := dk_29 (dk_at dksJ7_append_2_0 13 rfl rfl)
theorem dJ7_append_2_14 : decode cJ7_append_2 14 = .ok (.invokevirtual 100, 3) := dk_182 0 100 (dk_at dksJ7_append_2_0 14 rfl rfl)
theorem dJ7_append_2_17 : decode cJ7_append_2 17 = .ok (.aload_n 0, 1) := dk_42 (dk_at dksJ7_append_2_0 17 rfl rfl)
theorem dJ7_append_2_18 : decode cJ7_append_2 18 = .ok (.invokevirtual 83, 3) := dk_182 0 83 (dk_at dksJ7_append_2_0 18 rfl rfl)
theorem dJ7_append_2_21 : decode cJ7_append_2 21 = .ok (.ifCond .eq 16, 3) := dk_153 0 16 (dk_at dksJ7_append_2_0 21 rfl rfl)
theorem dJ7_append_2_24 : decode cJ7_append_2 24 = .ok (.iload_n 1, 1) := dk_27 (dk_at dksJ7_append_2_1 0 rfl rfl)
theorem dJ7_append_2_25 : decode cJ7_append_2 25 = .ok (.iload_n 3, 1) := dk_29 (dk_at dksJ7_append_2_1 1 rfl rfl)
theorem dJ7_append_2_26 : decode cJ7_append_2 26 = .ok (.aload_n 0, 1) := dk_42 (dk_at dksJ7_append_2_1 2 rfl rfl)
theorem dJ7_append_2_27 : decode cJ7_append_2 27 = .ok (.getfield 15, 3) := dk_180 0 15 (dk_at dksJ7_append_2_1 3 rfl rfl)
theorem dJ7_append_2_30 : decode cJ7_append_2 30 = .ok (.invokestatic 248, 3) := dk_184 0 248 (dk_at dksJ7_append_2_1 6 rfl rfl)
theorem dJ7_append_2_33 : decode cJ7_append_2 33 = .ok (.pop, 1) := dk_87 (dk_at dksJ7_append_2_1 9 rfl rfl)
theorem dJ7_append_2_34 : decode cJ7_append_2 34 = .ok (.goto 14, 3) := dk_167 0 14 (dk_at dksJ7_append_2_1 10 rfl rfl)
theorem dJ7_append_2_37 : decode cJ7_append_2 37 = .ok (.iload_n 1, 1) := dk_27 (dk_at dksJ7_append_2_1 13 rfl rfl)
theorem dJ7_append_2_38 : decode cJ7_append_2 38 = .ok (.iload_n 2, 1) := dk_28 (dk_at dksJ7_append_2_1 14 rfl rfl)
theorem dJ7_append_2_39 : decode cJ7_append_2 39 = .ok (.iload_n 3, 1) := dk_29 (dk_at dksJ7_append_2_1 15 rfl rfl)
theorem dJ7_append_2_40 : decode cJ7_append_2 40 = .ok (.aload_n 0, 1) := dk_42 (dk_at dksJ7_append_2_1 16 rfl rfl)
theorem dJ7_append_2_41 : decode cJ7_append_2 41 = .ok (.getfield 15, 3) := dk_180 0 15 (dk_at dksJ7_append_2_1 17 rfl rfl)
theorem dJ7_append_2_44 : decode cJ7_append_2 44 = .ok (.invokestatic 251, 3) := dk_184 0 251 (dk_at dksJ7_append_2_1 20 rfl rfl)
theorem dJ7_append_2_47 : decode cJ7_append_2 47 = .ok (.pop, 1) := dk_87 (dk_at dksJ7_append_2_1 23 rfl rfl)
theorem dJ7_append_2_48 : decode cJ7_append_2 48 = .ok (.aload_n 0, 1) := dk_42 (dk_at dksJ7_append_2_2 0 rfl rfl)
theorem dJ7_append_2_49 : decode cJ7_append_2 49 = .ok (.iload_n 3, 1) := dk_29 (dk_at dksJ7_append_2_2 1 rfl rfl)
theorem dJ7_append_2_50 : decode cJ7_append_2 50 = .ok (.putfield 79, 3) := dk_181 0 79 (dk_at dksJ7_append_2_2 2 rfl rfl)
theorem dJ7_append_2_53 : decode cJ7_append_2 53 = .ok (.aload_n 0, 1) := dk_42 (dk_at dksJ7_append_2_2 5 rfl rfl)
theorem dJ7_append_2_54 : decode cJ7_append_2 54 = .ok (.areturn, 1) := dk_176 (dk_at dksJ7_append_2_2 6 rfl rfl)
abbrev cJ7_getValue : ByteArray := prog_18_method_64_code
def yJ7_getValue : MethodName := ⟨RJ7, "getValue", "()[B"⟩
theorem dJ7_getValue_0 : decode cJ7_getValue 0 = .ok (.aload_n 0, 1) := by decide +kernel
theorem dJ7_getValue_1 : decode cJ7_getValue 1 = .ok (.getfield 15, 3) := by decide +kernel
theorem dJ7_getValue_4 : decode cJ7_getValue 4 = .ok (.areturn, 1) := by decide +kernel
abbrev cJ7_length : ByteArray := prog_18_method_6_code
def yJ7_length : MethodName := ⟨RJ7, "length", "()I"⟩
theorem dJ7_length_0 : decode cJ7_length 0 = .ok (.aload_n 0, 1) := by decide +kernel
theorem dJ7_length_1 : decode cJ7_length 1 = .ok (.getfield 79, 3) := by decide +kernel
theorem dJ7_length_4 : decode cJ7_length 4 = .ok (.ireturn, 1) := by decide +kernel
abbrev cJ7_setLength : ByteArray := prog_18_method_13_code
def yJ7_setLength : MethodName := ⟨RJ7, "setLength", "(I)V"⟩
def dkwJ7_setLength_3 : List UInt8 := [164, 0, 8, 42, 4, 181, 0, 73, 42, 27, 181, 0, 79, 177]
abbrev dktJ7_setLength_3 : List UInt8 := dkwJ7_setLength_3 ++ []
def dkwJ7_setLength_2 : List UInt8 := [167, 0, 31, 42, 180, 0, 15, 42, 180, 0, 79, 27, 184, 0, 137, 167, 0, 16, 42, 180, 0, 79, 27]
abbrev dktJ7_setLength_2 : List UInt8 := dkwJ7_setLength_2 ++ dktJ7_setLength_3
def dkwJ7_setLength_1 : List UInt8 := [162, 0, 40, 42, 182, 0, 83, 153, 0, 18, 42, 180, 0, 15, 42, 180, 0, 79, 27, 184, 0, 133]
abbrev dktJ7_setLength_1 : List UInt8 := dkwJ7_setLength_1 ++ dktJ7_setLength_2
def dkwJ7_setLength_0 : List UInt8 := [27, 156, 0, 12, 187, 0, 129, 89, 27, 183, 0, 131, 191, 42, 27, 182, 0, 100, 42, 180, 0, 79, 27]
abbrev dktJ7_setLength_0 : List UInt8 := dkwJ7_setLength_0 ++ dktJ7_setLength_1
theorem dksJ7_setLength_0 : cJ7_setLength.data.toList.drop 0 = dktJ7_setLength_0 := by decide +kernel
theorem dksJ7_setLength_1 : cJ7_setLength.data.toList.drop 23 = dktJ7_setLength_1 := dk_seg dksJ7_setLength_0 23 rfl rfl
theorem dksJ7_setLength_2 : cJ7_setLength.data.toList.drop 45 = dktJ7_setLength_2 := dk_seg dksJ7_setLength_1 22 rfl rfl
theorem dksJ7_setLength_3 : cJ7_setLength.data.toList.drop 68 = dktJ7_setLength_3 := dk_seg dksJ7_setLength_2 23 rfl rfl
theorem dJ7_setLength_0 : decode cJ7_setLength 0 = .ok (.iload_n 1, 1) := dk_27 (dk_at dksJ7_setLength_0 0 rfl rfl)
theorem dJ7_setLength_1 : decode cJ7_setLength 1 = .ok (.ifCond .ge 12, 3) := dk_156 0 12 (dk_at dksJ7_setLength_0 1 rfl rfl)
theorem dJ7_setLength_4 : decode cJ7_setLength 4 = .ok (.new 129, 3) := dk_187 0 129 (dk_at dksJ7_setLength_0 4 rfl rfl)
theorem dJ7_setLength_7 : decode cJ7_setLength 7 = .ok (.dup, 1) := dk_89 (dk_at dksJ7_setLength_0 7 rfl rfl)
theorem dJ7_setLength_8 : decode cJ7_setLength 8 = .ok (.iload_n 1, 1) := dk_27 (dk_at dksJ7_setLength_0 8 rfl rfl)
theorem dJ7_setLength_9 : decode cJ7_setLength 9 = .ok (.invokespecial 131, 3) := dk_183 0 131 (dk_at dksJ7_setLength_0 9 rfl rfl)
theorem dJ7_setLength_12 : decode cJ7_setLength 12 = .ok (.athrow, 1) := dk_191 (dk_at dksJ7_setLength_0 12 rfl rfl)
theorem dJ7_setLength_13 : decode cJ7_setLength 13 = .ok (.aload_n 0, 1) := dk_42 (dk_at dksJ7_setLength_0 13 rfl rfl)
theorem dJ7_setLength_14 : decode cJ7_setLength 14 = .ok (.iload_n 1, 1) := dk_27 (dk_at dksJ7_setLength_0 14 rfl rfl)
theorem dJ7_setLength_15 : decode cJ7_setLength 15 = .ok (.invokevirtual 100, 3) := dk_182 0 100 (dk_at dksJ7_setLength_0 15 rfl rfl)
theorem dJ7_setLength_18 : decode cJ7_setLength 18 = .ok (.aload_n 0, 1) := dk_42 (dk_at dksJ7_setLength_0 18 rfl rfl)
theorem dJ7_setLength_19 : decode cJ7_setLength 19 = .ok (.getfield 79, 3) := dk_180 0 79 (dk_at dksJ7_setLength_0 19 rfl rfl)
theorem dJ7_setLength_22 : decode cJ7_setLength 22 = .ok (.iload_n 1, 1) := dk_27 (dk_at dksJ7_setLength_0 22 rfl rfl)
theorem dJ7_setLength_23 : decode cJ7_setLength 23 = .ok (.if_icmp .ge 40, 3) := dk_162 0 40 (dk_at dksJ7_setLength_1 0 rfl rfl)
theorem dJ7_setLength_26 : decode cJ7_setLength 26 = .ok (.aload_n 0, 1) := dk_42 (dk_at dksJ7_setLength_1 3 rfl rfl)
theorem dJ7_setLength_27 : decode cJ7_setLength 27 = .ok (.invokevirtual 83, 3) := dk_182 0 83 (dk_at dksJ7_setLength_1 4 rfl rfl)
theorem dJ7_setLength_30 : decode cJ7_setLength 30 = .ok (.ifCond .eq 18, 3) := dk_153 0 18 (dk_at dksJ7_setLength_1 7 rfl rfl)
theorem dJ7_setLength_33 : decode cJ7_setLength 33 = .ok (.aload_n 0, 1) := dk_42 (dk_at dksJ7_setLength_1 10 rfl rfl)
theorem dJ7_setLength_34 : decode cJ7_setLength 34 = .ok (.getfield 15, 3) := dk_180 0 15 (dk_at dksJ7_setLength_1 11 rfl rfl)
theorem dJ7_setLength_37 : decode cJ7_setLength 37 = .ok (.aload_n 0, 1) := dk_42 (dk_at dksJ7_setLength_1 14 rfl rfl)
theorem dJ7_setLength_38 : decode cJ7_setLength 38 = .ok (.getfield 79, 3) := dk_180 0 79 (dk_at dksJ7_setLength_1 15 rfl rfl)
theorem dJ7_setLength_41 : decode cJ7_setLength 41 = .ok (.iload_n 1, 1) := dk_27 (dk_at dksJ7_setLength_1 18 rfl rfl)
theorem dJ7_setLength_42 : decode cJ7_setLength 42 = .ok (.invokestatic 133, 3) := dk_184 0 133 (dk_at dksJ7_setLength_1 19 rfl rfl)
theorem dJ7_setLength_45 : decode cJ7_setLength 45 = .ok (.goto 31, 3) := dk_167 0 31 (dk_at dksJ7_setLength_2 0 rfl rfl)
theorem dJ7_setLength_48 : decode cJ7_setLength 48 = .ok (.aload_n 0, 1) := dk_42 (dk_at dksJ7_setLength_2 3 rfl rfl)
theorem dJ7_setLength_49 : decode cJ7_setLength 49 = .ok (.getfield 15, 3) := dk_180 0 15 (dk_at dksJ7_setLength_2 4 rfl rfl)
theorem dJ7_setLength_52 : decode cJ7_setLength 52 = .ok (.aload_n 0, 1) := dk_42 (dk_at dksJ7_setLength_2 7 rfl rfl)
theorem dJ7_setLength_53 : decode cJ7_setLength 53 = .ok (.getfield 79, 3) := dk_180 0 79 (dk_at dksJ7_setLength_2 8 rfl rfl)
theorem dJ7_setLength_56 : decode cJ7_setLength 56 = .ok (.iload_n 1, 1) := dk_27 (dk_at dksJ7_setLength_2 11 rfl rfl)
theorem dJ7_setLength_57 : decode cJ7_setLength 57 = .ok (.invokestatic 137, 3) := dk_184 0 137 (dk_at dksJ7_setLength_2 12 rfl rfl)
theorem dJ7_setLength_60 : decode cJ7_setLength 60 = .ok (.goto 16, 3) := dk_167 0 16 (dk_at dksJ7_setLength_2 15 rfl rfl)
theorem dJ7_setLength_63 : decode cJ7_setLength 63 = .ok (.aload_n 0, 1) := dk_42 (dk_at dksJ7_setLength_2 18 rfl rfl)
theorem dJ7_setLength_64 : decode cJ7_setLength 64 = .ok (.getfield 79, 3) := dk_180 0 79 (dk_at dksJ7_setLength_2 19 rfl rfl)
theorem dJ7_setLength_67 : decode cJ7_setLength 67 = .ok (.iload_n 1, 1) := dk_27 (dk_at dksJ7_setLength_2 22 rfl rfl)
theorem dJ7_setLength_68 : decode cJ7_setLength 68 = .ok (.if_icmp .le 8, 3) := dk_164 0 8 (dk_at dksJ7_setLength_3 0 rfl rfl)
theorem dJ7_setLength_71 : decode cJ7_setLength 71 = .ok (.aload_n 0, 1) := dk_42 (dk_at dksJ7_setLength_3 3 rfl rfl)
theorem dJ7_setLength_72 : decode cJ7_setLength 72 = .ok (.iconst 1, 1) := dk_4 (dk_at dksJ7_setLength_3 4 rfl rfl)
theorem dJ7_setLength_73 : decode cJ7_setLength 73 = .ok (.putfield 73, 3) := dk_181 0 73 (dk_at dksJ7_setLength_3 5 rfl rfl)
theorem dJ7_setLength_76 : decode cJ7_setLength 76 = .ok (.aload_n 0, 1) := dk_42 (dk_at dksJ7_setLength_3 8 rfl rfl)
theorem dJ7_setLength_77 : decode cJ7_setLength 77 = .ok (.iload_n 1, 1) := dk_27 (dk_at dksJ7_setLength_3 9 rfl rfl)
theorem dJ7_setLength_78 : decode cJ7_setLength 78 = .ok (.putfield 79, 3) := dk_181 0 79 (dk_at dksJ7_setLength_3 10 rfl rfl)
theorem dJ7_setLength_81 : decode cJ7_setLength 81 = .ok (.return_, 1) := dk_177 (dk_at dksJ7_setLength_3 13 rfl rfl)
abbrev cJ7_append_3 : ByteArray := prog_18_method_31_code
def yJ7_append_3 : MethodName := ⟨RJ7, "append", "(C)Ljava/lang/AbstractStringBuilder;"⟩
def dkwJ7_append_3_3 : List UInt8 := [181, 0, 79, 27, 184, 0, 197, 42, 176]
abbrev dktJ7_append_3_3 : List UInt8 := dkwJ7_append_3_3 ++ []
def dkwJ7_append_3_2 : List UInt8 := [182, 0, 83, 153, 0, 7, 42, 182, 0, 195, 42, 180, 0, 15, 42, 89, 180, 0, 79, 90, 4, 96]
abbrev dktJ7_append_3_2 : List UInt8 := dkwJ7_append_3_2 ++ dktJ7_append_3_3
def dkwJ7_append_3_1 : List UInt8 := [42, 180, 0, 15, 42, 89, 180, 0, 79, 90, 4, 96, 181, 0, 79, 27, 145, 84, 167, 0, 33, 42]
abbrev dktJ7_append_3_1 : List UInt8 := dkwJ7_append_3_1 ++ dktJ7_append_3_2
def dkwJ7_append_3_0 : List UInt8 := [42, 42, 180, 0, 79, 4, 96, 182, 0, 100, 42, 182, 0, 83, 153, 0, 31, 27, 184, 0, 191, 153, 0, 24]
abbrev dktJ7_append_3_0 : List UInt8 := dkwJ7_append_3_0 ++ dktJ7_append_3_1
theorem dksJ7_append_3_0 : cJ7_append_3.data.toList.drop 0 = dktJ7_append_3_0 := by decide +kernel
theorem dksJ7_append_3_1 : cJ7_append_3.data.toList.drop 24 = dktJ7_append_3_1 := dk_seg dksJ7_append_3_0 24 rfl rfl
theorem dksJ7_append_3_2 : cJ7_append_3.data.toList.drop 46 = dktJ7_append_3_2 := dk_seg dksJ7_append_3_1 22 rfl rfl
theorem dksJ7_append_3_3 : cJ7_append_3.data.toList.drop 68 = dktJ7_append_3_3 := dk_seg dksJ7_append_3_2 22 rfl rfl
theorem dJ7_append_3_0 : decode cJ7_append_3 0 = .ok (.aload_n 0, 1) := dk_42 (dk_at dksJ7_append_3_0 0 rfl rfl)
theorem dJ7_append_3_1 : decode cJ7_append_3 1 = .ok (.aload_n 0, 1) := dk_42 (dk_at dksJ7_append_3_0 1 rfl rfl)
theorem dJ7_append_3_2 : decode cJ7_append_3 2 = .ok (.getfield 79, 3) := dk_180 0 79 (dk_at dksJ7_append_3_0 2 rfl rfl)
theorem dJ7_append_3_5 : decode cJ7_append_3 5 = .ok (.iconst 1, 1) := dk_4 (dk_at dksJ7_append_3_0 5 rfl rfl)
theorem dJ7_append_3_6 : decode cJ7_append_3 6 = .ok (.iadd, 1) := dk_96 (dk_at dksJ7_append_3_0 6 rfl rfl)
theorem dJ7_append_3_7 : decode cJ7_append_3 7 = .ok (.invokevirtual 100, 3) := dk_182 0 100 (dk_at dksJ7_append_3_0 7 rfl rfl)
theorem dJ7_append_3_10 : decode cJ7_append_3 10 = .ok (.aload_n 0, 1) := dk_42 (dk_at dksJ7_append_3_0 10 rfl rfl)
theorem dJ7_append_3_11 : decode cJ7_append_3 11 = .ok (.invokevirtual 83, 3) := dk_182 0 83 (dk_at dksJ7_append_3_0 11 rfl rfl)
theorem dJ7_append_3_14 : decode cJ7_append_3 14 = .ok (.ifCond .eq 31, 3) := dk_153 0 31 (dk_at dksJ7_append_3_0 14 rfl rfl)
theorem dJ7_append_3_17 : decode cJ7_append_3 17 = .ok (.iload_n 1, 1) := dk_27 (dk_at dksJ7_append_3_0 17 rfl rfl)
theorem dJ7_append_3_18 : decode cJ7_append_3 18 = .ok (.invokestatic 191, 3) := dk_184 0 191 (dk_at dksJ7_append_3_0 18 rfl rfl)
theorem dJ7_append_3_21 : decode cJ7_append_3 21 = .ok (.ifCond .eq 24, 3) := dk_153 0 24 (dk_at dksJ7_append_3_0 21 rfl rfl)
theorem dJ7_append_3_24 : decode cJ7_append_3 24 = .ok (.aload_n 0, 1) := dk_42 (dk_at dksJ7_append_3_1 0 rfl rfl)
theorem dJ7_append_3_25 : decode cJ7_append_3 25 = .ok (.getfield 15, 3) := dk_180 0 15 (dk_at dksJ7_append_3_1 1 rfl rfl)
theorem dJ7_append_3_28 : decode cJ7_append_3 28 = .ok (.aload_n 0, 1) := dk_42 (dk_at dksJ7_append_3_1 4 rfl rfl)
theorem dJ7_append_3_29 : decode cJ7_append_3 29 = .ok (.dup, 1) := dk_89 (dk_at dksJ7_append_3_1 5 rfl rfl)
theorem dJ7_append_3_30 : decode cJ7_append_3 30 = .ok (.getfield 79, 3) := dk_180 0 79 (dk_at dksJ7_append_3_1 6 rfl rfl)
theorem dJ7_append_3_33 : decode cJ7_append_3 33 = .ok (.dup_x1, 1) := dk_90 (dk_at dksJ7_append_3_1 9 rfl rfl)
theorem dJ7_append_3_34 : decode cJ7_append_3 34 = .ok (.iconst 1, 1) := dk_4 (dk_at dksJ7_append_3_1 10 rfl rfl)
theorem dJ7_append_3_35 : decode cJ7_append_3 35 = .ok (.iadd, 1) := dk_96 (dk_at dksJ7_append_3_1 11 rfl rfl)
theorem dJ7_append_3_36 : decode cJ7_append_3 36 = .ok (.putfield 79, 3) := dk_181 0 79 (dk_at dksJ7_append_3_1 12 rfl rfl)
theorem dJ7_append_3_39 : decode cJ7_append_3 39 = .ok (.iload_n 1, 1) := dk_27 (dk_at dksJ7_append_3_1 15 rfl rfl)
theorem dJ7_append_3_40 : decode cJ7_append_3 40 = .ok (.i2b, 1) := dk_145 (dk_at dksJ7_append_3_1 16 rfl rfl)
theorem dJ7_append_3_41 : decode cJ7_append_3 41 = .ok (.bastore, 1) := dk_84 (dk_at dksJ7_append_3_1 17 rfl rfl)
theorem dJ7_append_3_42 : decode cJ7_append_3 42 = .ok (.goto 33, 3) := dk_167 0 33 (dk_at dksJ7_append_3_1 18 rfl rfl)
theorem dJ7_append_3_45 : decode cJ7_append_3 45 = .ok (.aload_n 0, 1) := dk_42 (dk_at dksJ7_append_3_1 21 rfl rfl)
theorem dJ7_append_3_46 : decode cJ7_append_3 46 = .ok (.invokevirtual 83, 3) := dk_182 0 83 (dk_at dksJ7_append_3_2 0 rfl rfl)
theorem dJ7_append_3_49 : decode cJ7_append_3 49 = .ok (.ifCond .eq 7, 3) := dk_153 0 7 (dk_at dksJ7_append_3_2 3 rfl rfl)
theorem dJ7_append_3_52 : decode cJ7_append_3 52 = .ok (.aload_n 0, 1) := dk_42 (dk_at dksJ7_append_3_2 6 rfl rfl)
theorem dJ7_append_3_53 : decode cJ7_append_3 53 = .ok (.invokevirtual 195, 3) := dk_182 0 195 (dk_at dksJ7_append_3_2 7 rfl rfl)
theorem dJ7_append_3_56 : decode cJ7_append_3 56 = .ok (.aload_n 0, 1) := dk_42 (dk_at dksJ7_append_3_2 10 rfl rfl)
theorem dJ7_append_3_57 : decode cJ7_append_3 57 = .ok (.getfield 15, 3) := dk_180 0 15 (dk_at dksJ7_append_3_2 11 rfl rfl)
theorem dJ7_append_3_60 : decode cJ7_append_3 60 = .ok (.aload_n 0, 1) := dk_42 (dk_at dksJ7_append_3_2 14 rfl rfl)
theorem dJ7_append_3_61 : decode cJ7_append_3 61 = .ok (.dup, 1) := dk_89 (dk_at dksJ7_append_3_2 15 rfl rfl)
theorem dJ7_append_3_62 : decode cJ7_append_3 62 = .ok (.getfield 79, 3) := dk_180 0 79 (dk_at dksJ7_append_3_2 16 rfl rfl)
theorem dJ7_append_3_65 : decode cJ7_append_3 65 = .ok (.dup_x1, 1) := dk_90 (dk_at dksJ7_append_3_2 19 rfl rfl)
theorem dJ7_append_3_66 : decode cJ7_append_3 66 = .ok (.iconst 1, 1) := dk_4 (dk_at dksJ7_append_3_2 20 rfl rfl)
theorem dJ7_append_3_67 : decode cJ7_append_3 67 = .ok (.iadd, 1) := dk_96 (dk_at dksJ7_append_3_2 21 rfl rfl)
theorem dJ7_append_3_68 : decode cJ7_append_3 68 = .ok (.putfield 79, 3) := dk_181 0 79 (dk_at dksJ7_append_3_3 0 rfl rfl)
theorem dJ7_append_3_71 : decode cJ7_append_3 71 = .ok (.iload_n 1, 1) := dk_27 (dk_at dksJ7_append_3_3 3 rfl rfl)
theorem dJ7_append_3_72 : decode cJ7_append_3 72 = .ok (.invokestatic 197, 3) := dk_184 0 197 (dk_at dksJ7_append_3_3 4 rfl rfl)
theorem dJ7_append_3_75 : decode cJ7_append_3 75 = .ok (.aload_n 0, 1) := dk_42 (dk_at dksJ7_append_3_3 7 rfl rfl)
theorem dJ7_append_3_76 : decode cJ7_append_3 76 = .ok (.areturn, 1) := dk_176 (dk_at dksJ7_append_3_3 8 rfl rfl)
abbrev cJ7_charAt : ByteArray := prog_18_method_14_code
def yJ7_charAt : MethodName := ⟨RJ7, "charAt", "(I)C"⟩
def dkwJ7_charAt_1 : List UInt8 := [21, 4, 184, 0, 144, 28, 154, 0, 12, 45, 27, 51, 17, 0, 255, 126, 146, 172, 45, 27, 184, 0, 148, 172]
abbrev dktJ7_charAt_1 : List UInt8 := dkwJ7_charAt_1 ++ []
def dkwJ7_charAt_0 : List UInt8 := [42, 180, 0, 22, 61, 42, 180, 0, 15, 78, 42, 180, 0, 79, 45, 190, 28, 122, 184, 0, 138, 54, 4, 27]
abbrev dktJ7_charAt_0 : List UInt8 := dkwJ7_charAt_0 ++ dktJ7_charAt_1
theorem dksJ7_charAt_0 : cJ7_charAt.data.toList.drop 0 = dktJ7_charAt_0 := by decide +kernel
theorem dksJ7_charAt_1 : cJ7_charAt.data.toList.drop 24 = dktJ7_charAt_1 := dk_seg dksJ7_charAt_0 24 rfl rfl
theorem dJ7_charAt_0 : decode cJ7_charAt 0 = .ok (.aload_n 0, 1) := dk_42 (dk_at dksJ7_charAt_0 0 rfl rfl)
theorem dJ7_charAt_1 : decode cJ7_charAt 1 = .ok (.getfield 22, 3) := dk_180 0 22 (dk_at dksJ7_charAt_0 1 rfl rfl)
theorem dJ7_charAt_4 : decode cJ7_charAt 4 = .ok (.istore_n 2, 1) := dk_61 (dk_at dksJ7_charAt_0 4 rfl rfl)
theorem dJ7_charAt_5 : decode cJ7_charAt 5 = .ok (.aload_n 0, 1) := dk_42 (dk_at dksJ7_charAt_0 5 rfl rfl)
theorem dJ7_charAt_6 : decode cJ7_charAt 6 = .ok (.getfield 15, 3) := dk_180 0 15 (dk_at dksJ7_charAt_0 6 rfl rfl)
theorem dJ7_charAt_9 : decode cJ7_charAt 9 = .ok (.astore_n 3, 1) := dk_78 (dk_at dksJ7_charAt_0 9 rfl rfl)
theorem dJ7_charAt_10 : decode cJ7_charAt 10 = .ok (.aload_n 0, 1) := dk_42 (dk_at dksJ7_charAt_0 10 rfl rfl)
theorem dJ7_charAt_11 : decode cJ7_charAt 11 = .ok (.getfield 79, 3) := dk_180 0 79 (dk_at dksJ7_charAt_0 11 rfl rfl)
theorem dJ7_charAt_14 : decode cJ7_charAt 14 = .ok (.aload_n 3, 1) := dk_45 (dk_at dksJ7_charAt_0 14 rfl rfl)
theorem dJ7_charAt_15 : decode cJ7_charAt 15 = .ok (.arraylength, 1) := dk_190 (dk_at dksJ7_charAt_0 15 rfl rfl)
theorem dJ7_charAt_16 : decode cJ7_charAt 16 = .ok (.iload_n 2, 1) := dk_28 (dk_at dksJ7_charAt_0 16 rfl rfl)
theorem dJ7_charAt_17 : decode cJ7_charAt 17 = .ok (.ishr, 1) := dk_122 (dk_at dksJ7_charAt_0 17 rfl rfl)
theorem dJ7_charAt_18 : decode cJ7_charAt 18 = .ok (.invokestatic 138, 3) := dk_184 0 138 (dk_at dksJ7_charAt_0 18 rfl rfl)
theorem dJ7_charAt_21 : decode cJ7_charAt 21 = .ok (.istore 4, 2) := dk_54 4 (dk_at dksJ7_charAt_0 21 rfl rfl)
theorem dJ7_charAt_23 : decode cJ7_charAt 23 = .ok (.iload_n 1, 1) := dk_27 (dk_at dksJ7_charAt_0 23 rfl rfl)
theorem dJ7_charAt_24 : decode cJ7_charAt 24 = .ok (.iload 4, 2) := dk_21 4 (dk_at dksJ7_charAt_1 0 rfl rfl)
theorem dJ7_charAt_26 : decode cJ7_charAt 26 = .ok (.invokestatic 144, 3) := dk_184 0 144 (dk_at dksJ7_charAt_1 2 rfl rfl)
theorem dJ7_charAt_29 : decode cJ7_charAt 29 = .ok (.iload_n 2, 1) := dk_28 (dk_at dksJ7_charAt_1 5 rfl rfl)
theorem dJ7_charAt_30 : decode cJ7_charAt 30 = .ok (.ifCond .ne 12, 3) := dk_154 0 12 (dk_at dksJ7_charAt_1 6 rfl rfl)
theorem dJ7_charAt_33 : decode cJ7_charAt 33 = .ok (.aload_n 3, 1) := dk_45 (dk_at dksJ7_charAt_1 9 rfl rfl)
theorem dJ7_charAt_34 : decode cJ7_charAt 34 = .ok (.iload_n 1, 1) := dk_27 (dk_at dksJ7_charAt_1 10 rfl rfl)
theorem dJ7_charAt_35 : decode cJ7_charAt 35 = .ok (.baload, 1) := dk_51 (dk_at dksJ7_charAt_1 11 rfl rfl)
theorem dJ7_charAt_36 : decode cJ7_charAt 36 = .ok (.sipush 255, 3) := dk_17 0 255 (dk_at dksJ7_charAt_1 12 rfl rfl)
theorem dJ7_charAt_39 : decode cJ7_charAt 39 = .ok (.iand, 1) := dk_126 (dk_at dksJ7_charAt_1 15 rfl rfl)
theorem dJ7_charAt_40 : decode cJ7_charAt 40 = .ok (.i2c, 1) := dk_146 (dk_at dksJ7_charAt_1 16 rfl rfl)
theorem dJ7_charAt_41 : decode cJ7_charAt 41 = .ok (.ireturn, 1) := dk_172 (dk_at dksJ7_charAt_1 17 rfl rfl)
theorem dJ7_charAt_42 : decode cJ7_charAt 42 = .ok (.aload_n 3, 1) := dk_45 (dk_at dksJ7_charAt_1 18 rfl rfl)
theorem dJ7_charAt_43 : decode cJ7_charAt 43 = .ok (.iload_n 1, 1) := dk_27 (dk_at dksJ7_charAt_1 19 rfl rfl)
theorem dJ7_charAt_44 : decode cJ7_charAt 44 = .ok (.invokestatic 148, 3) := dk_184 0 148 (dk_at dksJ7_charAt_1 20 rfl rfl)
theorem dJ7_charAt_47 : decode cJ7_charAt 47 = .ok (.ireturn, 1) := dk_172 (dk_at dksJ7_charAt_1 23 rfl rfl)
theorem q107 : (Jvm.Cond.initialized "java/lang/AbstractStringBuilder") ∈ lw_all := lw_g (lw_at lw_m1 13 rfl) rfl
theorem q330 : (Jvm.Cond.instanceMethod ({ cls := "java/lang/AbstractStringBuilder", name := "<init>", desc := "(I)V" } : Jvm.MethodName)) ∈ lw_all := lw_g (lw_at lw_m1 236 rfl) rfl
theorem q331 : (Jvm.Cond.code ({ cls := "java/lang/AbstractStringBuilder", name := "<init>", desc := "(I)V" } : Jvm.MethodName) prog_18_method_2_code (2 : Nat) (Option.none : Option Jvm.ClassFile.FieldType)) ∈ lw_all := lw_g (lw_at lw_m1 237 rfl) rfl
theorem q332 : (Jvm.Cond.methodLink "java/lang/AbstractStringBuilder" (3 : Nat) ({ cls := "java/lang/Object", name := "<init>", desc := "()V" } : Jvm.MethodName)) ∈ lw_all := lw_g (lw_at lw_m1 238 rfl) rfl
theorem q333 : (Jvm.Cond.fieldLink "java/lang/AbstractStringBuilder" (18 : Nat) "java/lang/String" "COMPACT_STRINGS" "Z") ∈ lw_all := lw_g (lw_at lw_m1 239 rfl) rfl
theorem q335 : (Jvm.Cond.methodLink "java/lang/AbstractStringBuilder" (26 : Nat) ({ cls := "java/lang/StringUTF16", name := "newBytesFor", desc := "(I)[B" } : Jvm.MethodName)) ∈ lw_all := lw_g (lw_at lw_m2 1 rfl) rfl
theorem q342 : (Jvm.Cond.fieldLink "java/lang/AbstractStringBuilder" (15 : Nat) "java/lang/AbstractStringBuilder" "value" "[B") ∈ lw_all := lw_g (lw_at lw_m2 8 rfl) rfl
theorem q343 : (Jvm.Cond.fieldLink "java/lang/AbstractStringBuilder" (22 : Nat) "java/lang/AbstractStringBuilder" "coder" "B") ∈ lw_all := lw_g (lw_at lw_m2 9 rfl) rfl
theorem q344 : (Jvm.Cond.fieldLink "java/lang/AbstractStringBuilder" (73 : Nat) "java/lang/AbstractStringBuilder" "maybeLatin1" "Z") ∈ lw_all := lw_g (lw_at lw_m2 10 rfl) rfl
theorem q346 : (Jvm.Cond.fieldLink "java/lang/AbstractStringBuilder" (79 : Nat) "java/lang/AbstractStringBuilder" "count" "I") ∈ lw_all := lw_g (lw_at lw_m2 12 rfl) rfl
theorem q348 : (Jvm.Cond.soleField "java/lang/AbstractStringBuilder" "value") ∈ lw_all := lw_g (lw_at lw_m2 14 rfl) rfl
theorem q350 : (Jvm.Cond.soleField "java/lang/AbstractStringBuilder" "coder") ∈ lw_all := lw_g (lw_at lw_m2 16 rfl) rfl
theorem q352 : (Jvm.Cond.soleField "java/lang/AbstractStringBuilder" "maybeLatin1") ∈ lw_all := lw_g (lw_at lw_m2 18 rfl) rfl
theorem q354 : (Jvm.Cond.soleField "java/lang/AbstractStringBuilder" "count") ∈ lw_all := lw_g (lw_at lw_m2 20 rfl) rfl
theorem q363 : (Jvm.Cond.instanceMethod ({ cls := "java/lang/AbstractStringBuilder", name := "append", desc := "(Ljava/lang/String;)Ljava/lang/AbstractStringBuilder;" } : Jvm.MethodName)) ∈ lw_all := lw_g (lw_at lw_m2 29 rfl) rfl
theorem q364 : (Jvm.Cond.code ({ cls := "java/lang/AbstractStringBuilder", name := "append", desc := "(Ljava/lang/String;)Ljava/lang/AbstractStringBuilder;" } : Jvm.MethodName) prog_18_method_22_code (3 : Nat) (Option.some (Jvm.ClassFile.FieldType.object "java/lang/AbstractStringBuilder"))) ∈ lw_all := lw_g (lw_at lw_m2 30 rfl) rfl
theorem q365 : (Jvm.Cond.methodLink "java/lang/AbstractStringBuilder" (204 : Nat) ({ cls := "java/lang/AbstractStringBuilder", name := "appendNull", desc := "()Ljava/lang/AbstractStringBuilder;" } : Jvm.MethodName)) ∈ lw_all := lw_g (lw_at lw_m2 31 rfl) rfl
theorem q366 : (Jvm.Cond.privateMethod ({ cls := "java/lang/AbstractStringBuilder", name := "appendNull", desc := "()Ljava/lang/AbstractStringBuilder;" } : Jvm.MethodName)) ∈ lw_tbl := lw_at lw_m2 32 rfl
theorem q367 : (Jvm.Cond.instanceMethod ({ cls := "java/lang/AbstractStringBuilder", name := "appendNull", desc := "()Ljava/lang/AbstractStringBuilder;" } : Jvm.MethodName)) ∈ lw_all := lw_g (lw_at lw_m2 33 rfl) rfl
theorem q368 : (Jvm.Cond.code ({ cls := "java/lang/AbstractStringBuilder", name := "appendNull", desc := "()Ljava/lang/AbstractStringBuilder;" } : Jvm.MethodName) prog_18_method_26_code (3 : Nat) (Option.some (Jvm.ClassFile.FieldType.object "java/lang/AbstractStringBuilder"))) ∈ lw_all := lw_g (lw_at lw_m2 34 rfl) rfl
theorem q369 : (Jvm.Cond.methodLink "java/lang/AbstractStringBuilder" (100 : Nat) ({ cls := "java/lang/AbstractStringBuilder", name := "ensureCapacityInternal", desc := "(I)V" } : Jvm.MethodName)) ∈ lw_all := lw_g (lw_at lw_m2 35 rfl) rfl
theorem q370 : (Jvm.Cond.privateMethod ({ cls := "java/lang/AbstractStringBuilder", name := "ensureCapacityInternal", desc := "(I)V" } : Jvm.MethodName)) ∈ lw_tbl := lw_at lw_m2 36 rfl
theorem q371 : (Jvm.Cond.instanceMethod ({ cls := "java/lang/AbstractStringBuilder", name := "ensureCapacityInternal", desc := "(I)V" } : Jvm.MethodName)) ∈ lw_all := lw_g (lw_at lw_m2 37 rfl) rfl
theorem q372 : (Jvm.Cond.code ({ cls := "java/lang/AbstractStringBuilder", name := "ensureCapacityInternal", desc := "(I)V" } : Jvm.MethodName) prog_18_method_9_code (3 : Nat) (Option.none : Option Jvm.ClassFile.FieldType)) ∈ lw_all := lw_g (lw_at lw_m2 38 rfl) rfl
theorem q373 : (Jvm.Cond.methodLink "java/lang/AbstractStringBuilder" (104 : Nat) ({ cls := "java/lang/AbstractStringBuilder", name := "newCapacity", desc := "(I)I" } : Jvm.MethodName)) ∈ lw_all := lw_g (lw_at lw_m2 39 rfl) rfl
theorem q374 : (Jvm.Cond.privateMethod ({ cls := "java/lang/AbstractStringBuilder", name := "newCapacity", desc := "(I)I" } : Jvm.MethodName)) ∈ lw_tbl := lw_at lw_m2 40 rfl
theorem q375 : (Jvm.Cond.instanceMethod ({ cls := "java/lang/AbstractStringBuilder", name := "newCapacity", desc := "(I)I" } : Jvm.MethodName)) ∈ lw_all := lw_g (lw_at lw_m2 41 rfl) rfl
theorem q376 : (Jvm.Cond.code ({ cls := "java/lang/AbstractStringBuilder", name := "newCapacity", desc := "(I)I" } : Jvm.MethodName) prog_18_method_10_code (6 : Nat) (Option.some Jvm.ClassFile.FieldType.int)) ∈ lw_all := lw_g (lw_at lw_m2 42 rfl) rfl
theorem q377 : (Jvm.Cond.methodLink "java/lang/AbstractStringBuilder" (114 : Nat) ({ cls := "jdk/internal/util/ArraysSupport", name := "newLength", desc := "(III)I" } : Jvm.MethodName)) ∈ lw_all := lw_g (lw_at lw_m2 43 rfl) rfl
theorem q387 : (Jvm.Cond.constant "java/lang/AbstractStringBuilder" (39 : Nat) (2147483647 : Int32)) ∈ lw_all := lw_g (lw_at lw_m2 53 rfl) rfl
theorem q388 : (Jvm.Cond.methodLink "java/lang/AbstractStringBuilder" (108 : Nat) ({ cls := "java/util/Arrays", name := "copyOf", desc := "([BI)[B" } : Jvm.MethodName)) ∈ lw_all := lw_g (lw_at lw_m2 54 rfl) rfl
theorem q404 : (Jvm.Cond.methodLink "java/lang/AbstractStringBuilder" (83 : Nat) ({ cls := "java/lang/AbstractStringBuilder", name := "isLatin1", desc := "()Z" } : Jvm.MethodName)) ∈ lw_all := lw_g (lw_at lw_m2 70 rfl) rfl
theorem q405 : (Jvm.Cond.instanceMethod ({ cls := "java/lang/AbstractStringBuilder", name := "isLatin1", desc := "()Z" } : Jvm.MethodName)) ∈ lw_all := lw_g (lw_at lw_m2 71 rfl) rfl
theorem q406 : (Jvm.Cond.sameMethod "java/lang/AbstractStringBuilder" "java/lang/AbstractStringBuilder" "isLatin1" "()Z") ∈ lw_all := lw_g (lw_at lw_m2 72 rfl) rfl
theorem q408 : (Jvm.Cond.code ({ cls := "java/lang/AbstractStringBuilder", name := "isLatin1", desc := "()Z" } : Jvm.MethodName) prog_18_method_68_code (1 : Nat) (Option.some Jvm.ClassFile.FieldType.boolean)) ∈ lw_all := lw_g (lw_at lw_m2 74 rfl) rfl
theorem q409 : (Jvm.Cond.methodLink "java/lang/AbstractStringBuilder" (226 : Nat) ({ cls := "java/lang/StringUTF16", name := "putCharsAt", desc := "([BICCCC)I" } : Jvm.MethodName)) ∈ lw_all := lw_g (lw_at lw_m2 75 rfl) rfl
theorem q435 : (Jvm.Cond.methodLink "java/lang/AbstractStringBuilder" (32 : Nat) ({ cls := "java/lang/String", name := "length", desc := "()I" } : Jvm.MethodName)) ∈ lw_all := lw_g (lw_at lw_m2 101 rfl) rfl
theorem q444 : (Jvm.Cond.methodLink "java/lang/AbstractStringBuilder" (208 : Nat) ({ cls := "java/lang/AbstractStringBuilder", name := "putStringAt", desc := "(ILjava/lang/String;)V" } : Jvm.MethodName)) ∈ lw_all := lw_g (lw_at lw_m2 110 rfl) rfl
theorem q445 : (Jvm.Cond.privateMethod ({ cls := "java/lang/AbstractStringBuilder", name := "putStringAt", desc := "(ILjava/lang/String;)V" } : Jvm.MethodName)) ∈ lw_tbl := lw_at lw_m2 111 rfl
theorem q446 : (Jvm.Cond.instanceMethod ({ cls := "java/lang/AbstractStringBuilder", name := "putStringAt", desc := "(ILjava/lang/String;)V" } : Jvm.MethodName)) ∈ lw_all := lw_g (lw_at lw_m2 112 rfl) rfl
theorem q447 : (Jvm.Cond.code ({ cls := "java/lang/AbstractStringBuilder", name := "putStringAt", desc := "(ILjava/lang/String;)V" } : Jvm.MethodName) prog_18_method_73_code (3 : Nat) (Option.none : Option Jvm.ClassFile.FieldType)) ∈ lw_all := lw_g (lw_at lw_m2 113 rfl) rfl
theorem q448 : (Jvm.Cond.methodLink "java/lang/AbstractStringBuilder" (397 : Nat) ({ cls := "java/lang/AbstractStringBuilder", name := "inflateIfNeededFor", desc := "(Ljava/lang/String;)V" } : Jvm.MethodName)) ∈ lw_all := lw_g (lw_at lw_m2 114 rfl) rfl
theorem q449 : (Jvm.Cond.privateMethod ({ cls := "java/lang/AbstractStringBuilder", name := "inflateIfNeededFor", desc := "(Ljava/lang/String;)V" } : Jvm.MethodName)) ∈ lw_tbl := lw_at lw_m2 115 rfl
theorem q450 : (Jvm.Cond.instanceMethod ({ cls := "java/lang/AbstractStringBuilder", name := "inflateIfNeededFor", desc := "(Ljava/lang/String;)V" } : Jvm.MethodName)) ∈ lw_all := lw_g (lw_at lw_m2 116 rfl) rfl
theorem q451 : (Jvm.Cond.code ({ cls := "java/lang/AbstractStringBuilder", name := "inflateIfNeededFor", desc := "(Ljava/lang/String;)V" } : Jvm.MethodName) prog_18_method_71_code (2 : Nat) (Option.none : Option Jvm.ClassFile.FieldType)) ∈ lw_all := lw_g (lw_at lw_m2 117 rfl) rfl
theorem q452 : (Jvm.Cond.methodLink "java/lang/AbstractStringBuilder" (40 : Nat) ({ cls := "java/lang/String", name := "coder", desc := "()B" } : Jvm.MethodName)) ∈ lw_all := lw_g (lw_at lw_m2 118 rfl) rfl
theorem q453 : (Jvm.Cond.methodLink "java/lang/AbstractStringBuilder" (195 : Nat) ({ cls := "java/lang/AbstractStringBuilder", name := "inflate", desc := "()V" } : Jvm.MethodName)) ∈ lw_all := lw_g (lw_at lw_m2 119 rfl) rfl
theorem q454 : (Jvm.Cond.privateMethod ({ cls := "java/lang/AbstractStringBuilder", name := "inflate", desc := "()V" } : Jvm.MethodName)) ∈ lw_tbl := lw_at lw_m2 120 rfl
theorem q455 : (Jvm.Cond.instanceMethod ({ cls := "java/lang/AbstractStringBuilder", name := "inflate", desc := "()V" } : Jvm.MethodName)) ∈ lw_all := lw_g (lw_at lw_m2 121 rfl) rfl
theorem q456 : (Jvm.Cond.code ({ cls := "java/lang/AbstractStringBuilder", name := "inflate", desc := "()V" } : Jvm.MethodName) prog_18_method_11_code (2 : Nat) (Option.none : Option Jvm.ClassFile.FieldType)) ∈ lw_all := lw_g (lw_at lw_m2 122 rfl) rfl
theorem q457 : (Jvm.Cond.methodLink "java/lang/AbstractStringBuilder" (125 : Nat) ({ cls := "java/lang/StringLatin1", name := "inflate", desc := "([BI[BII)V" } : Jvm.MethodName)) ∈ lw_all := lw_g (lw_at lw_m2 123 rfl) rfl
theorem q472 : (Jvm.Cond.methodLink "java/lang/AbstractStringBuilder" (399 : Nat) ({ cls := "java/lang/String", name := "getBytes", desc := "([BIB)V" } : Jvm.MethodName)) ∈ lw_all := lw_g (lw_at lw_m2 138 rfl) rfl
theorem q483 : (Jvm.Cond.instanceMethod ({ cls := "java/lang/AbstractStringBuilder", name := "append", desc := "(I)Ljava/lang/AbstractStringBuilder;" } : Jvm.MethodName)) ∈ lw_all := lw_g (lw_at lw_m2 149 rfl) rfl
theorem q484 : (Jvm.Cond.code ({ cls := "java/lang/AbstractStringBuilder", name := "append", desc := "(I)Ljava/lang/AbstractStringBuilder;" } : Jvm.MethodName) prog_18_method_32_code (4 : Nat) (Option.some (Jvm.ClassFile.FieldType.object "java/lang/AbstractStringBuilder"))) ∈ lw_all := lw_g (lw_at lw_m2 150 rfl) rfl
theorem q485 : (Jvm.Cond.methodLink "java/lang/AbstractStringBuilder" (245 : Nat) ({ cls := "java/lang/Integer", name := "stringSize", desc := "(I)I" } : Jvm.MethodName)) ∈ lw_all := lw_g (lw_at lw_m2 151 rfl) rfl
theorem q488 : (Jvm.Cond.methodLink "java/lang/AbstractStringBuilder" (248 : Nat) ({ cls := "java/lang/Integer", name := "getChars", desc := "(II[B)I" } : Jvm.MethodName)) ∈ lw_all := lw_g (lw_at lw_m2 154 rfl) rfl
theorem q495 : (Jvm.Cond.methodLink "java/lang/AbstractStringBuilder" (251 : Nat) ({ cls := "java/lang/StringUTF16", name := "getChars", desc := "(III[B)I" } : Jvm.MethodName)) ∈ lw_all := lw_g (lw_at lw_m2 161 rfl) rfl
theorem q517 : (Jvm.Cond.instanceMethod ({ cls := "java/lang/AbstractStringBuilder", name := "getValue", desc := "()[B" } : Jvm.MethodName)) ∈ lw_all := lw_g (lw_at lw_m2 183 rfl) rfl
theorem q518 : (Jvm.Cond.sameMethod "java/lang/AbstractStringBuilder" "java/lang/AbstractStringBuilder" "getValue" "()[B") ∈ lw_all := lw_g (lw_at lw_m2 184 rfl) rfl
theorem q520 : (Jvm.Cond.code ({ cls := "java/lang/AbstractStringBuilder", name := "getValue", desc := "()[B" } : Jvm.MethodName) prog_18_method_64_code (1 : Nat) (Option.some (Jvm.ClassFile.FieldType.array Jvm.ClassFile.FieldType.byte))) ∈ lw_all := lw_g (lw_at lw_m2 186 rfl) rfl
theorem q522 : (Jvm.Cond.instanceMethod ({ cls := "java/lang/AbstractStringBuilder", name := "length", desc := "()I" } : Jvm.MethodName)) ∈ lw_all := lw_g (lw_at lw_m2 188 rfl) rfl
theorem q523 : (Jvm.Cond.sameMethod "java/lang/AbstractStringBuilder" "java/lang/AbstractStringBuilder" "length" "()I") ∈ lw_all := lw_g (lw_at lw_m2 189 rfl) rfl
theorem q528 : (Jvm.Cond.code ({ cls := "java/lang/AbstractStringBuilder", name := "length", desc := "()I" } : Jvm.MethodName) prog_18_method_6_code (1 : Nat) (Option.some Jvm.ClassFile.FieldType.int)) ∈ lw_all := lw_g (lw_at lw_m2 194 rfl) rfl
theorem q1139 : (Jvm.Cond.instanceMethod ({ cls := "java/lang/AbstractStringBuilder", name := "setLength", desc := "(I)V" } : Jvm.MethodName)) ∈ lw_all := lw_g (lw_at lw_m5 85 rfl) rfl
theorem q1140 : (Jvm.Cond.code ({ cls := "java/lang/AbstractStringBuilder", name := "setLength", desc := "(I)V" } : Jvm.MethodName) prog_18_method_13_code (2 : Nat) (Option.none : Option Jvm.ClassFile.FieldType)) ∈ lw_all := lw_g (lw_at lw_m5 86 rfl) rfl
theorem q1141 : (Jvm.Cond.classLink "java/lang/AbstractStringBuilder" (129 : Nat) "java/lang/StringIndexOutOfBoundsException") ∈ lw_all := lw_g (lw_at lw_m5 87 rfl) rfl
theorem q1143 : (Jvm.Cond.methodLink "java/lang/AbstractStringBuilder" (131 : Nat) ({ cls := "java/lang/StringIndexOutOfBoundsException", name := "<init>", desc := "(I)V" } : Jvm.MethodName)) ∈ lw_all := lw_g (lw_at lw_m5 89 rfl) rfl
theorem q1163 : (Jvm.Cond.methodLink "java/lang/AbstractStringBuilder" (133 : Nat) ({ cls := "java/lang/StringLatin1", name := "fillNull", desc := "([BII)V" } : Jvm.MethodName)) ∈ lw_all := lw_g (lw_at lw_m5 109 rfl) rfl
theorem q1198 : (Jvm.Cond.methodLink "java/lang/AbstractStringBuilder" (137 : Nat) ({ cls := "java/lang/StringUTF16", name := "fillNull", desc := "([BII)V" } : Jvm.MethodName)) ∈ lw_all := lw_g (lw_at lw_m5 144 rfl) rfl
theorem q1211 : (Jvm.Cond.instanceMethod ({ cls := "java/lang/AbstractStringBuilder", name := "append", desc := "(C)Ljava/lang/AbstractStringBuilder;" } : Jvm.MethodName)) ∈ lw_all := lw_g (lw_at lw_m5 157 rfl) rfl
theorem q1212 : (Jvm.Cond.code ({ cls := "java/lang/AbstractStringBuilder", name := "append", desc := "(C)Ljava/lang/AbstractStringBuilder;" } : Jvm.MethodName) prog_18_method_31_code (2 : Nat) (Option.some (Jvm.ClassFile.FieldType.object "java/lang/AbstractStringBuilder"))) ∈ lw_all := lw_g (lw_at lw_m5 158 rfl) rfl
theorem q1213 : (Jvm.Cond.methodLink "java/lang/AbstractStringBuilder" (191 : Nat) ({ cls := "java/lang/StringLatin1", name := "canEncode", desc := "(C)Z" } : Jvm.MethodName)) ∈ lw_all := lw_g (lw_at lw_m5 159 rfl) rfl
theorem q1216 : (Jvm.Cond.methodLink "java/lang/AbstractStringBuilder" (197 : Nat) ({ cls := "java/lang/StringUTF16", name := "putCharSB", desc := "([BII)V" } : Jvm.MethodName)) ∈ lw_all := lw_g (lw_at lw_m5 162 rfl) rfl
theorem q1769 : (Jvm.Cond.instanceMethod ({ cls := "java/lang/AbstractStringBuilder", name := "charAt", desc := "(I)C" } : Jvm.MethodName)) ∈ lw_all := lw_g (lw_at lw_m7 235 rfl) rfl
theorem q1770 : (Jvm.Cond.code ({ cls := "java/lang/AbstractStringBuilder", name := "charAt", desc := "(I)C" } : Jvm.MethodName) prog_18_method_14_code (5 : Nat) (Option.some Jvm.ClassFile.FieldType.char)) ∈ lw_all := lw_g (lw_at lw_m7 236 rfl) rfl
theorem q1771 : (Jvm.Cond.methodLink "java/lang/AbstractStringBuilder" (138 : Nat) ({ cls := "java/lang/Math", name := "min", desc := "(II)I" } : Jvm.MethodName)) ∈ lw_all := lw_g (lw_at lw_m7 237 rfl) rfl
theorem q1772 : (Jvm.Cond.methodLink "java/lang/AbstractStringBuilder" (144 : Nat) ({ cls := "java/lang/String", name := "checkIndex", desc := "(II)V" } : Jvm.MethodName)) ∈ lw_all := lw_g (lw_at lw_m7 238 rfl) rfl
theorem q1773 : (Jvm.Cond.methodLink "java/lang/AbstractStringBuilder" (148 : Nat) ({ cls := "java/lang/StringUTF16", name := "getChar", desc := "([BI)C" } : Jvm.MethodName)) ∈ lw_all := lw_g (lw_at lw_m7 239 rfl) rfl
theorem q2235 : (Jvm.Cond.sameMethod "java/lang/AbstractStringBuilder" "java/lang/AbstractStringBuilder" "append" "(Ljava/lang/String;)Ljava/lang/AbstractStringBuilder;") ∈ lw_all := lw_g (lw_at lw_m9 221 rfl) rfl
theorem q2236 : (Jvm.Cond.sameMethod "java/lang/AbstractStringBuilder" "java/lang/AbstractStringBuilder" "appendNull" "()Ljava/lang/AbstractStringBuilder;") ∈ lw_all := lw_g (lw_at lw_m9 222 rfl) rfl
theorem q2237 : (Jvm.Cond.sameMethod "java/lang/AbstractStringBuilder" "java/lang/AbstractStringBuilder" "ensureCapacityInternal" "(I)V") ∈ lw_all := lw_g (lw_at lw_m9 223 rfl) rfl
theorem q2238 : (Jvm.Cond.sameMethod "java/lang/AbstractStringBuilder" "java/lang/AbstractStringBuilder" "newCapacity" "(I)I") ∈ lw_all := lw_g (lw_at lw_m9 224 rfl) rfl
theorem q2239 : (Jvm.Cond.sameMethod "java/lang/AbstractStringBuilder" "java/lang/AbstractStringBuilder" "putStringAt" "(ILjava/lang/String;)V") ∈ lw_all := lw_g (lw_at lw_m9 225 rfl) rfl
theorem q2240 : (Jvm.Cond.sameMethod "java/lang/AbstractStringBuilder" "java/lang/AbstractStringBuilder" "inflateIfNeededFor" "(Ljava/lang/String;)V") ∈ lw_all := lw_g (lw_at lw_m9 226 rfl) rfl
theorem q2241 : (Jvm.Cond.sameMethod "java/lang/AbstractStringBuilder" "java/lang/AbstractStringBuilder" "inflate" "()V") ∈ lw_all := lw_g (lw_at lw_m9 227 rfl) rfl
theorem q2242 : (Jvm.Cond.sameMethod "java/lang/AbstractStringBuilder" "java/lang/AbstractStringBuilder" "append" "(I)Ljava/lang/AbstractStringBuilder;") ∈ lw_all := lw_g (lw_at lw_m9 228 rfl) rfl
theorem q2243 : (Jvm.Cond.sameMethod "java/lang/AbstractStringBuilder" "java/lang/AbstractStringBuilder" "setLength" "(I)V") ∈ lw_all := lw_g (lw_at lw_m9 229 rfl) rfl
theorem q2244 : (Jvm.Cond.sameMethod "java/lang/AbstractStringBuilder" "java/lang/AbstractStringBuilder" "append" "(C)Ljava/lang/AbstractStringBuilder;") ∈ lw_all := lw_g (lw_at lw_m9 230 rfl) rfl
theorem q2246 : (Jvm.Cond.sameMethod "java/lang/AbstractStringBuilder" "java/lang/AbstractStringBuilder" "charAt" "(I)C") ∈ lw_all := lw_g (lw_at lw_m9 232 rfl) rfl
/-! java/lang/StringBuilder -/
set_option maxRecDepth 100000
def RJ8 : String := "java/lang/StringBuilder"
def TJ8 : u_T := fun k => match k with
  | 0 => ("java/lang/AbstractStringBuilder", "value", "[B", false)
  | 1 => ("java/lang/AbstractStringBuilder", "coder", "B", false)
  | 2 => ("java/lang/AbstractStringBuilder", "maybeLatin1", "Z", false)
  | _ => ("java/lang/AbstractStringBuilder", "count", "I", false)
def tyJ8 : Nat → FieldType := fun k => match k with
  | 0 => .array .byte
  | 1 => .byte
  | 2 => .boolean
  | _ => .int
abbrev wsJ80 : List Cond := u_ws RJ8 TJ8 4
theorem nmJ8 : ∀ a, a < 4 → ∀ b, b < 4 → a ≠ b → (TJ8 a).2.1 ≠ (TJ8 b).2.1 := by decide +kernel
theorem tyJ8_ok : ∀ k, k < 4 → parseFieldDescriptor (TJ8 k).2.2.1 = some (tyJ8 k) := by decide +kernel
abbrev cJ8_init : ByteArray := prog_36_method_1_code
def yJ8_init : MethodName := ⟨RJ8, "<init>", "()V"⟩
def dkwJ8_init_0 : List UInt8 := [42, 16, 16, 183, 0, 1, 177]
abbrev dktJ8_init_0 : List UInt8 := dkwJ8_init_0 ++ []
theorem dksJ8_init_0 : cJ8_init.data.toList.drop 0 = dktJ8_init_0 := by decide +kernel
theorem dJ8_init_0 : decode cJ8_init 0 = .ok (.aload_n 0, 1) := dk_42 (dk_at dksJ8_init_0 0 rfl rfl)
theorem dJ8_init_1 : decode cJ8_init 1 = .ok (.bipush 16, 2) := dk_16 16 (dk_at dksJ8_init_0 1 rfl rfl)
theorem dJ8_init_3 : decode cJ8_init 3 = .ok (.invokespecial 1, 3) := dk_183 0 1 (dk_at dksJ8_init_0 3 rfl rfl)
theorem dJ8_init_6 : decode cJ8_init 6 = .ok (.return_, 1) := dk_177 (dk_at dksJ8_init_0 6 rfl rfl)
abbrev cJ8_append : ByteArray := prog_36_method_7_code
def yJ8_append : MethodName := ⟨RJ8, "append", "(Ljava/lang/String;)Ljava/lang/StringBuilder;"⟩
def dkwJ8_append_0 : List UInt8 := [42, 43, 183, 0, 29, 87, 42, 176]
abbrev dktJ8_append_0 : List UInt8 := dkwJ8_append_0 ++ []
theorem dksJ8_append_0 : cJ8_append.data.toList.drop 0 = dktJ8_append_0 := by decide +kernel
theorem dJ8_append_0 : decode cJ8_append 0 = .ok (.aload_n 0, 1) := dk_42 (dk_at dksJ8_append_0 0 rfl rfl)
theorem dJ8_append_1 : decode cJ8_append 1 = .ok (.aload_n 1, 1) := dk_43 (dk_at dksJ8_append_0 1 rfl rfl)
theorem dJ8_append_2 : decode cJ8_append 2 = .ok (.invokespecial 29, 3) := dk_183 0 29 (dk_at dksJ8_append_0 2 rfl rfl)
theorem dJ8_append_5 : decode cJ8_append 5 = .ok (.pop, 1) := dk_87 (dk_at dksJ8_append_0 5 rfl rfl)
theorem dJ8_append_6 : decode cJ8_append 6 = .ok (.aload_n 0, 1) := dk_42 (dk_at dksJ8_append_0 6 rfl rfl)
theorem dJ8_append_7 : decode cJ8_append 7 = .ok (.areturn, 1) := dk_176 (dk_at dksJ8_append_0 7 rfl rfl)
abbrev cJ8_append_2 : ByteArray := prog_36_method_15_code
def yJ8_append_2 : MethodName := ⟨RJ8, "append", "(I)Ljava/lang/StringBuilder;"⟩
def dkwJ8_append_2_0 : List UInt8 := [42, 27, 183, 0, 53, 87, 42, 176]
abbrev dktJ8_append_2_0 : List UInt8 := dkwJ8_append_2_0 ++ []
theorem dksJ8_append_2_0 : cJ8_append_2.data.toList.drop 0 = dktJ8_append_2_0 := by decide +kernel
theorem dJ8_append_2_0 : decode cJ8_append_2 0 = .ok (.aload_n 0, 1) := dk_42 (dk_at dksJ8_append_2_0 0 rfl rfl)
theorem dJ8_append_2_1 : decode cJ8_append_2 1 = .ok (.iload_n 1, 1) := dk_27 (dk_at dksJ8_append_2_0 1 rfl rfl)
theorem dJ8_append_2_2 : decode cJ8_append_2 2 = .ok (.invokespecial 53, 3) := dk_183 0 53 (dk_at dksJ8_append_2_0 2 rfl rfl)
theorem dJ8_append_2_5 : decode cJ8_append_2 5 = .ok (.pop, 1) := dk_87 (dk_at dksJ8_append_2_0 5 rfl rfl)
theorem dJ8_append_2_6 : decode cJ8_append_2 6 = .ok (.aload_n 0, 1) := dk_42 (dk_at dksJ8_append_2_0 6 rfl rfl)
theorem dJ8_append_2_7 : decode cJ8_append_2 7 = .ok (.areturn, 1) := dk_176 (dk_at dksJ8_append_2_0 7 rfl rfl)
abbrev cJ8_toString : ByteArray := prog_36_method_42_code
def yJ8_toString : MethodName := ⟨RJ8, "toString", "()Ljava/lang/String;"⟩
def dkwJ8_toString_0 : List UInt8 := [187, 0, 18, 89, 42, 183, 0, 137, 176]
abbrev dktJ8_toString_0 : List UInt8 := dkwJ8_toString_0 ++ []
theorem dksJ8_toString_0 : cJ8_toString.data.toList.drop 0 = dktJ8_toString_0 := by decide +kernel
theorem dJ8_toString_0 : decode cJ8_toString 0 = .ok (.new 18, 3) := dk_187 0 18 (dk_at dksJ8_toString_0 0 rfl rfl)
theorem dJ8_toString_3 : decode cJ8_toString 3 = .ok (.dup, 1) := dk_89 (dk_at dksJ8_toString_0 3 rfl rfl)
theorem dJ8_toString_4 : decode cJ8_toString 4 = .ok (.aload_n 0, 1) := dk_42 (dk_at dksJ8_toString_0 4 rfl rfl)
theorem dJ8_toString_5 : decode cJ8_toString 5 = .ok (.invokespecial 137, 3) := dk_183 0 137 (dk_at dksJ8_toString_0 5 rfl rfl)
theorem dJ8_toString_8 : decode cJ8_toString 8 = .ok (.areturn, 1) := dk_176 (dk_at dksJ8_toString_0 8 rfl rfl)
abbrev cJ8_length : ByteArray := prog_36_method_93_code
def yJ8_length : MethodName := ⟨RJ8, "length", "()I"⟩
theorem dJ8_length_0 : decode cJ8_length 0 = .ok (.aload_n 0, 1) := by decide +kernel
theorem dJ8_length_1 : decode cJ8_length 1 = .ok (.invokespecial 343, 3) := by decide +kernel
theorem dJ8_length_4 : decode cJ8_length 4 = .ok (.ireturn, 1) := by decide +kernel
abbrev cJ8_setLength : ByteArray := prog_36_method_89_code
def yJ8_setLength : MethodName := ⟨RJ8, "setLength", "(I)V"⟩
def dkwJ8_setLength_0 : List UInt8 := [42, 27, 183, 1, 77, 177]
abbrev dktJ8_setLength_0 : List UInt8 := dkwJ8_setLength_0 ++ []
theorem dksJ8_setLength_0 : cJ8_setLength.data.toList.drop 0 = dktJ8_setLength_0 := by decide +kernel
theorem dJ8_setLength_0 : decode cJ8_setLength 0 = .ok (.aload_n 0, 1) := dk_42 (dk_at dksJ8_setLength_0 0 rfl rfl)
theorem dJ8_setLength_1 : decode cJ8_setLength 1 = .ok (.iload_n 1, 1) := dk_27 (dk_at dksJ8_setLength_0 1 rfl rfl)
theorem dJ8_setLength_2 : decode cJ8_setLength 2 = .ok (.invokespecial 333, 3) := dk_183 1 77 (dk_at dksJ8_setLength_0 2 rfl rfl)
theorem dJ8_setLength_5 : decode cJ8_setLength 5 = .ok (.return_, 1) := dk_177 (dk_at dksJ8_setLength_0 5 rfl rfl)
abbrev cJ8_append_3 : ByteArray := prog_36_method_14_code
def yJ8_append_3 : MethodName := ⟨RJ8, "append", "(C)Ljava/lang/StringBuilder;"⟩
def dkwJ8_append_3_0 : List UInt8 := [42, 27, 183, 0, 50, 87, 42, 176]
abbrev dktJ8_append_3_0 : List UInt8 := dkwJ8_append_3_0 ++ []
theorem dksJ8_append_3_0 : cJ8_append_3.data.toList.drop 0 = dktJ8_append_3_0 := by decide +kernel
theorem dJ8_append_3_0 : decode cJ8_append_3 0 = .ok (.aload_n 0, 1) := dk_42 (dk_at dksJ8_append_3_0 0 rfl rfl)
theorem dJ8_append_3_1 : decode cJ8_append_3 1 = .ok (.iload_n 1, 1) := dk_27 (dk_at dksJ8_append_3_0 1 rfl rfl)
theorem dJ8_append_3_2 : decode cJ8_append_3 2 = .ok (.invokespecial 50, 3) := dk_183 0 50 (dk_at dksJ8_append_3_0 2 rfl rfl)
theorem dJ8_append_3_5 : decode cJ8_append_3 5 = .ok (.pop, 1) := dk_87 (dk_at dksJ8_append_3_0 5 rfl rfl)
theorem dJ8_append_3_6 : decode cJ8_append_3 6 = .ok (.aload_n 0, 1) := dk_42 (dk_at dksJ8_append_3_0 6 rfl rfl)
theorem dJ8_append_3_7 : decode cJ8_append_3 7 = .ok (.areturn, 1) := dk_176 (dk_at dksJ8_append_3_0 7 rfl rfl)
abbrev cJ8_charAt : ByteArray := prog_36_method_88_code
def yJ8_charAt : MethodName := ⟨RJ8, "charAt", "(I)C"⟩
def dkwJ8_charAt_0 : List UInt8 := [42, 27, 183, 1, 73, 172]
abbrev dktJ8_charAt_0 : List UInt8 := dkwJ8_charAt_0 ++ []
theorem dksJ8_charAt_0 : cJ8_charAt.data.toList.drop 0 = dktJ8_charAt_0 := by decide +kernel
theorem dJ8_charAt_0 : decode cJ8_charAt 0 = .ok (.aload_n 0, 1) := dk_42 (dk_at dksJ8_charAt_0 0 rfl rfl)
theorem dJ8_charAt_1 : decode cJ8_charAt 1 = .ok (.iload_n 1, 1) := dk_27 (dk_at dksJ8_charAt_0 1 rfl rfl)
theorem dJ8_charAt_2 : decode cJ8_charAt 2 = .ok (.invokespecial 329, 3) := dk_183 1 73 (dk_at dksJ8_charAt_0 2 rfl rfl)
theorem dJ8_charAt_5 : decode cJ8_charAt 5 = .ok (.ireturn, 1) := dk_172 (dk_at dksJ8_charAt_0 5 rfl rfl)
theorem q108 : (Jvm.Cond.initialized "java/lang/StringBuilder") ∈ lw_all := lw_g (lw_at lw_m1 14 rfl) rfl
theorem q325 : (Jvm.Cond.instantiable "java/lang/StringBuilder" (4 : Nat)) ∈ lw_all := lw_g (lw_at lw_m1 231 rfl) rfl
theorem q327 : (Jvm.Cond.instanceMethod ({ cls := "java/lang/StringBuilder", name := "<init>", desc := "()V" } : Jvm.MethodName)) ∈ lw_all := lw_g (lw_at lw_m1 233 rfl) rfl
theorem q328 : (Jvm.Cond.code ({ cls := "java/lang/StringBuilder", name := "<init>", desc := "()V" } : Jvm.MethodName) prog_36_method_1_code (1 : Nat) (Option.none : Option Jvm.ClassFile.FieldType)) ∈ lw_all := lw_g (lw_at lw_m1 234 rfl) rfl
theorem q329 : (Jvm.Cond.methodLink "java/lang/StringBuilder" (1 : Nat) ({ cls := "java/lang/AbstractStringBuilder", name := "<init>", desc := "(I)V" } : Jvm.MethodName)) ∈ lw_all := lw_g (lw_at lw_m1 235 rfl) rfl
theorem q347 : (Jvm.Cond.lays "java/lang/StringBuilder" "java/lang/AbstractStringBuilder" "value" "[B") ∈ lw_all := lw_g (lw_at lw_m2 13 rfl) rfl
theorem q349 : (Jvm.Cond.lays "java/lang/StringBuilder" "java/lang/AbstractStringBuilder" "coder" "B") ∈ lw_all := lw_g (lw_at lw_m2 15 rfl) rfl
theorem q351 : (Jvm.Cond.lays "java/lang/StringBuilder" "java/lang/AbstractStringBuilder" "maybeLatin1" "Z") ∈ lw_all := lw_g (lw_at lw_m2 17 rfl) rfl
theorem q353 : (Jvm.Cond.lays "java/lang/StringBuilder" "java/lang/AbstractStringBuilder" "count" "I") ∈ lw_all := lw_g (lw_at lw_m2 19 rfl) rfl
theorem q355 : (Jvm.Cond.superclass "java/lang/StringBuilder" "java/lang/AbstractStringBuilder") ∈ lw_all := lw_g (lw_at lw_m2 21 rfl) rfl
theorem q359 : (Jvm.Cond.instanceMethod ({ cls := "java/lang/StringBuilder", name := "append", desc := "(Ljava/lang/String;)Ljava/lang/StringBuilder;" } : Jvm.MethodName)) ∈ lw_all := lw_g (lw_at lw_m2 25 rfl) rfl
theorem q360 : (Jvm.Cond.selects "java/lang/StringBuilder" ({ cls := "java/lang/StringBuilder", name := "append", desc := "(Ljava/lang/String;)Ljava/lang/StringBuilder;" } : Jvm.MethodName) ({ cls := "java/lang/StringBuilder", name := "append", desc := "(Ljava/lang/String;)Ljava/lang/StringBuilder;" } : Jvm.MethodName)) ∈ lw_all := lw_g (lw_at lw_m2 26 rfl) rfl
theorem q361 : (Jvm.Cond.code ({ cls := "java/lang/StringBuilder", name := "append", desc := "(Ljava/lang/String;)Ljava/lang/StringBuilder;" } : Jvm.MethodName) prog_36_method_7_code (2 : Nat) (Option.some (Jvm.ClassFile.FieldType.object "java/lang/StringBuilder"))) ∈ lw_all := lw_g (lw_at lw_m2 27 rfl) rfl
theorem q362 : (Jvm.Cond.methodLink "java/lang/StringBuilder" (29 : Nat) ({ cls := "java/lang/AbstractStringBuilder", name := "append", desc := "(Ljava/lang/String;)Ljava/lang/AbstractStringBuilder;" } : Jvm.MethodName)) ∈ lw_all := lw_g (lw_at lw_m2 28 rfl) rfl
theorem q407 : (Jvm.Cond.selects "java/lang/StringBuilder" ({ cls := "java/lang/AbstractStringBuilder", name := "isLatin1", desc := "()Z" } : Jvm.MethodName) ({ cls := "java/lang/AbstractStringBuilder", name := "isLatin1", desc := "()Z" } : Jvm.MethodName)) ∈ lw_all := lw_g (lw_at lw_m2 73 rfl) rfl
theorem q479 : (Jvm.Cond.instanceMethod ({ cls := "java/lang/StringBuilder", name := "append", desc := "(I)Ljava/lang/StringBuilder;" } : Jvm.MethodName)) ∈ lw_all := lw_g (lw_at lw_m2 145 rfl) rfl
theorem q480 : (Jvm.Cond.selects "java/lang/StringBuilder" ({ cls := "java/lang/StringBuilder", name := "append", desc := "(I)Ljava/lang/StringBuilder;" } : Jvm.MethodName) ({ cls := "java/lang/StringBuilder", name := "append", desc := "(I)Ljava/lang/StringBuilder;" } : Jvm.MethodName)) ∈ lw_all := lw_g (lw_at lw_m2 146 rfl) rfl
theorem q481 : (Jvm.Cond.code ({ cls := "java/lang/StringBuilder", name := "append", desc := "(I)Ljava/lang/StringBuilder;" } : Jvm.MethodName) prog_36_method_15_code (2 : Nat) (Option.some (Jvm.ClassFile.FieldType.object "java/lang/StringBuilder"))) ∈ lw_all := lw_g (lw_at lw_m2 147 rfl) rfl
theorem q482 : (Jvm.Cond.methodLink "java/lang/StringBuilder" (53 : Nat) ({ cls := "java/lang/AbstractStringBuilder", name := "append", desc := "(I)Ljava/lang/AbstractStringBuilder;" } : Jvm.MethodName)) ∈ lw_all := lw_g (lw_at lw_m2 148 rfl) rfl
theorem q504 : (Jvm.Cond.instanceMethod ({ cls := "java/lang/StringBuilder", name := "toString", desc := "()Ljava/lang/String;" } : Jvm.MethodName)) ∈ lw_all := lw_g (lw_at lw_m2 170 rfl) rfl
theorem q505 : (Jvm.Cond.selects "java/lang/StringBuilder" ({ cls := "java/lang/StringBuilder", name := "toString", desc := "()Ljava/lang/String;" } : Jvm.MethodName) ({ cls := "java/lang/StringBuilder", name := "toString", desc := "()Ljava/lang/String;" } : Jvm.MethodName)) ∈ lw_all := lw_g (lw_at lw_m2 171 rfl) rfl
theorem q506 : (Jvm.Cond.code ({ cls := "java/lang/StringBuilder", name := "toString", desc := "()Ljava/lang/String;" } : Jvm.MethodName) prog_36_method_42_code (1 : Nat) (Option.some (Jvm.ClassFile.FieldType.object "java/lang/String"))) ∈ lw_all := lw_g (lw_at lw_m2 172 rfl) rfl
theorem q507 : (Jvm.Cond.classLink "java/lang/StringBuilder" (18 : Nat) "java/lang/String") ∈ lw_all := lw_g (lw_at lw_m2 173 rfl) rfl
theorem q509 : (Jvm.Cond.methodLink "java/lang/StringBuilder" (137 : Nat) ({ cls := "java/lang/String", name := "<init>", desc := "(Ljava/lang/StringBuilder;)V" } : Jvm.MethodName)) ∈ lw_all := lw_g (lw_at lw_m2 175 rfl) rfl
theorem q519 : (Jvm.Cond.selects "java/lang/StringBuilder" ({ cls := "java/lang/AbstractStringBuilder", name := "getValue", desc := "()[B" } : Jvm.MethodName) ({ cls := "java/lang/AbstractStringBuilder", name := "getValue", desc := "()[B" } : Jvm.MethodName)) ∈ lw_all := lw_g (lw_at lw_m2 185 rfl) rfl
theorem q524 : (Jvm.Cond.selects "java/lang/StringBuilder" ({ cls := "java/lang/AbstractStringBuilder", name := "length", desc := "()I" } : Jvm.MethodName) ({ cls := "java/lang/StringBuilder", name := "length", desc := "()I" } : Jvm.MethodName)) ∈ lw_all := lw_g (lw_at lw_m2 190 rfl) rfl
theorem q525 : (Jvm.Cond.instanceMethod ({ cls := "java/lang/StringBuilder", name := "length", desc := "()I" } : Jvm.MethodName)) ∈ lw_all := lw_g (lw_at lw_m2 191 rfl) rfl
theorem q526 : (Jvm.Cond.code ({ cls := "java/lang/StringBuilder", name := "length", desc := "()I" } : Jvm.MethodName) prog_36_method_93_code (1 : Nat) (Option.some Jvm.ClassFile.FieldType.int)) ∈ lw_all := lw_g (lw_at lw_m2 192 rfl) rfl
theorem q527 : (Jvm.Cond.methodLink "java/lang/StringBuilder" (343 : Nat) ({ cls := "java/lang/AbstractStringBuilder", name := "length", desc := "()I" } : Jvm.MethodName)) ∈ lw_all := lw_g (lw_at lw_m2 193 rfl) rfl
theorem q962 : (Jvm.Cond.selects "java/lang/StringBuilder" ({ cls := "java/lang/Object", name := "getClass", desc := "()Ljava/lang/Class;" } : Jvm.MethodName) ({ cls := "java/lang/Object", name := "getClass", desc := "()Ljava/lang/Class;" } : Jvm.MethodName)) ∈ lw_all := lw_g (lw_at lw_m4 148 rfl) rfl
theorem q1135 : (Jvm.Cond.instanceMethod ({ cls := "java/lang/StringBuilder", name := "setLength", desc := "(I)V" } : Jvm.MethodName)) ∈ lw_all := lw_g (lw_at lw_m5 81 rfl) rfl
theorem q1136 : (Jvm.Cond.selects "java/lang/StringBuilder" ({ cls := "java/lang/StringBuilder", name := "setLength", desc := "(I)V" } : Jvm.MethodName) ({ cls := "java/lang/StringBuilder", name := "setLength", desc := "(I)V" } : Jvm.MethodName)) ∈ lw_all := lw_g (lw_at lw_m5 82 rfl) rfl
theorem q1137 : (Jvm.Cond.code ({ cls := "java/lang/StringBuilder", name := "setLength", desc := "(I)V" } : Jvm.MethodName) prog_36_method_89_code (2 : Nat) (Option.none : Option Jvm.ClassFile.FieldType)) ∈ lw_all := lw_g (lw_at lw_m5 83 rfl) rfl
theorem q1138 : (Jvm.Cond.methodLink "java/lang/StringBuilder" (333 : Nat) ({ cls := "java/lang/AbstractStringBuilder", name := "setLength", desc := "(I)V" } : Jvm.MethodName)) ∈ lw_all := lw_g (lw_at lw_m5 84 rfl) rfl
theorem q1207 : (Jvm.Cond.instanceMethod ({ cls := "java/lang/StringBuilder", name := "append", desc := "(C)Ljava/lang/StringBuilder;" } : Jvm.MethodName)) ∈ lw_all := lw_g (lw_at lw_m5 153 rfl) rfl
theorem q1208 : (Jvm.Cond.selects "java/lang/StringBuilder" ({ cls := "java/lang/StringBuilder", name := "append", desc := "(C)Ljava/lang/StringBuilder;" } : Jvm.MethodName) ({ cls := "java/lang/StringBuilder", name := "append", desc := "(C)Ljava/lang/StringBuilder;" } : Jvm.MethodName)) ∈ lw_all := lw_g (lw_at lw_m5 154 rfl) rfl
theorem q1209 : (Jvm.Cond.code ({ cls := "java/lang/StringBuilder", name := "append", desc := "(C)Ljava/lang/StringBuilder;" } : Jvm.MethodName) prog_36_method_14_code (2 : Nat) (Option.some (Jvm.ClassFile.FieldType.object "java/lang/StringBuilder"))) ∈ lw_all := lw_g (lw_at lw_m5 155 rfl) rfl
theorem q1210 : (Jvm.Cond.methodLink "java/lang/StringBuilder" (50 : Nat) ({ cls := "java/lang/AbstractStringBuilder", name := "append", desc := "(C)Ljava/lang/AbstractStringBuilder;" } : Jvm.MethodName)) ∈ lw_all := lw_g (lw_at lw_m5 156 rfl) rfl
theorem q1765 : (Jvm.Cond.instanceMethod ({ cls := "java/lang/StringBuilder", name := "charAt", desc := "(I)C" } : Jvm.MethodName)) ∈ lw_all := lw_g (lw_at lw_m7 231 rfl) rfl
theorem q1766 : (Jvm.Cond.selects "java/lang/StringBuilder" ({ cls := "java/lang/StringBuilder", name := "charAt", desc := "(I)C" } : Jvm.MethodName) ({ cls := "java/lang/StringBuilder", name := "charAt", desc := "(I)C" } : Jvm.MethodName)) ∈ lw_all := lw_g (lw_at lw_m7 232 rfl) rfl
theorem q1767 : (Jvm.Cond.code ({ cls := "java/lang/StringBuilder", name := "charAt", desc := "(I)C" } : Jvm.MethodName) prog_36_method_88_code (2 : Nat) (Option.some Jvm.ClassFile.FieldType.char)) ∈ lw_all := lw_g (lw_at lw_m7 233 rfl) rfl
theorem q1768 : (Jvm.Cond.methodLink "java/lang/StringBuilder" (329 : Nat) ({ cls := "java/lang/AbstractStringBuilder", name := "charAt", desc := "(I)C" } : Jvm.MethodName)) ∈ lw_all := lw_g (lw_at lw_m7 234 rfl) rfl
theorem q2245 : (Jvm.Cond.selects "java/lang/StringBuilder" ({ cls := "java/lang/StringBuilder", name := "length", desc := "()I" } : Jvm.MethodName) ({ cls := "java/lang/StringBuilder", name := "length", desc := "()I" } : Jvm.MethodName)) ∈ lw_all := lw_g (lw_at lw_m9 231 rfl) rfl
theorem q2258 : (Jvm.Cond.castable "java/lang/StringBuilder" "java/lang/Object") ∈ lw_tbl := lw_at lw_m10 4 rfl
theorem in_J8 : ∀ w ∈ wsJ80, w ∈ lw_all := lw_in wsJ80 [347, 349, 351, 353] (by decide +kernel) (by decide +kernel)
/-! java/lang/String -/
set_option maxRecDepth 100000
def RJ9 : String := "java/lang/String"
def TJ9 : u_T := fun k => match k with
  | 0 => ("java/lang/String", "value", "[B", true)
  | 1 => ("java/lang/String", "coder", "B", true)
  | 2 => ("java/lang/String", "hash", "I", false)
  | _ => ("java/lang/String", "hashIsZero", "Z", false)
def tyJ9 : Nat → FieldType := fun k => match k with
  | 0 => .array .byte
  | 1 => .byte
  | 2 => .int
  | _ => .boolean
abbrev wsJ90 : List Cond := u_ws RJ9 TJ9 4
theorem nmJ9 : ∀ a, a < 4 → ∀ b, b < 4 → a ≠ b → (TJ9 a).2.1 ≠ (TJ9 b).2.1 := by decide +kernel
theorem tyJ9_ok : ∀ k, k < 4 → parseFieldDescriptor (TJ9 k).2.2.1 = some (tyJ9 k) := by decide +kernel
abbrev cJ9_checkBoundsBeginEnd : ByteArray := prog_35_method_158_code
def yJ9_checkBoundsBeginEnd : MethodName := ⟨RJ9, "checkBoundsBeginEnd", "(III)V"⟩
def dkwJ9_checkBoundsBeginEnd_0 : List UInt8 := [26, 27, 28, 178, 4, 29, 184, 4, 38, 87, 177]
abbrev dktJ9_checkBoundsBeginEnd_0 : List UInt8 := dkwJ9_checkBoundsBeginEnd_0 ++ []
theorem dksJ9_checkBoundsBeginEnd_0 : cJ9_checkBoundsBeginEnd.data.toList.drop 0 = dktJ9_checkBoundsBeginEnd_0 := by decide +kernel
theorem dJ9_checkBoundsBeginEnd_0 : decode cJ9_checkBoundsBeginEnd 0 = .ok (.iload_n 0, 1) := dk_26 (dk_at dksJ9_checkBoundsBeginEnd_0 0 rfl rfl)
theorem dJ9_checkBoundsBeginEnd_1 : decode cJ9_checkBoundsBeginEnd 1 = .ok (.iload_n 1, 1) := dk_27 (dk_at dksJ9_checkBoundsBeginEnd_0 1 rfl rfl)
theorem dJ9_checkBoundsBeginEnd_2 : decode cJ9_checkBoundsBeginEnd 2 = .ok (.iload_n 2, 1) := dk_28 (dk_at dksJ9_checkBoundsBeginEnd_0 2 rfl rfl)
theorem dJ9_checkBoundsBeginEnd_3 : decode cJ9_checkBoundsBeginEnd 3 = .ok (.getstatic 1053, 3) := dk_178 4 29 (dk_at dksJ9_checkBoundsBeginEnd_0 3 rfl rfl)
theorem dJ9_checkBoundsBeginEnd_6 : decode cJ9_checkBoundsBeginEnd 6 = .ok (.invokestatic 1062, 3) := dk_184 4 38 (dk_at dksJ9_checkBoundsBeginEnd_0 6 rfl rfl)
theorem dJ9_checkBoundsBeginEnd_9 : decode cJ9_checkBoundsBeginEnd 9 = .ok (.pop, 1) := dk_87 (dk_at dksJ9_checkBoundsBeginEnd_0 9 rfl rfl)
theorem dJ9_checkBoundsBeginEnd_10 : decode cJ9_checkBoundsBeginEnd 10 = .ok (.return_, 1) := dk_177 (dk_at dksJ9_checkBoundsBeginEnd_0 10 rfl rfl)
abbrev cJ9_length : ByteArray := prog_35_method_54_code
def yJ9_length : MethodName := ⟨RJ9, "length", "()I"⟩
def dkwJ9_length_0 : List UInt8 := [42, 180, 0, 9, 190, 42, 182, 1, 79, 122, 172]
abbrev dktJ9_length_0 : List UInt8 := dkwJ9_length_0 ++ []
theorem dksJ9_length_0 : cJ9_length.data.toList.drop 0 = dktJ9_length_0 := by decide +kernel
theorem dJ9_length_0 : decode cJ9_length 0 = .ok (.aload_n 0, 1) := dk_42 (dk_at dksJ9_length_0 0 rfl rfl)
theorem dJ9_length_1 : decode cJ9_length 1 = .ok (.getfield 9, 3) := dk_180 0 9 (dk_at dksJ9_length_0 1 rfl rfl)
theorem dJ9_length_4 : decode cJ9_length 4 = .ok (.arraylength, 1) := dk_190 (dk_at dksJ9_length_0 4 rfl rfl)
theorem dJ9_length_5 : decode cJ9_length 5 = .ok (.aload_n 0, 1) := dk_42 (dk_at dksJ9_length_0 5 rfl rfl)
theorem dJ9_length_6 : decode cJ9_length 6 = .ok (.invokevirtual 335, 3) := dk_182 1 79 (dk_at dksJ9_length_0 6 rfl rfl)
theorem dJ9_length_9 : decode cJ9_length 9 = .ok (.ishr, 1) := dk_122 (dk_at dksJ9_length_0 9 rfl rfl)
theorem dJ9_length_10 : decode cJ9_length 10 = .ok (.ireturn, 1) := dk_172 (dk_at dksJ9_length_0 10 rfl rfl)
abbrev cJ9_coder : ByteArray := prog_35_method_152_code
def yJ9_coder : MethodName := ⟨RJ9, "coder", "()B"⟩
def dkwJ9_coder_0 : List UInt8 := [178, 0, 38, 153, 0, 10, 42, 180, 0, 15, 167, 0, 4, 4, 172]
abbrev dktJ9_coder_0 : List UInt8 := dkwJ9_coder_0 ++ []
theorem dksJ9_coder_0 : cJ9_coder.data.toList.drop 0 = dktJ9_coder_0 := by decide +kernel
theorem dJ9_coder_0 : decode cJ9_coder 0 = .ok (.getstatic 38, 3) := dk_178 0 38 (dk_at dksJ9_coder_0 0 rfl rfl)
theorem dJ9_coder_3 : decode cJ9_coder 3 = .ok (.ifCond .eq 10, 3) := dk_153 0 10 (dk_at dksJ9_coder_0 3 rfl rfl)
theorem dJ9_coder_6 : decode cJ9_coder 6 = .ok (.aload_n 0, 1) := dk_42 (dk_at dksJ9_coder_0 6 rfl rfl)
theorem dJ9_coder_7 : decode cJ9_coder 7 = .ok (.getfield 15, 3) := dk_180 0 15 (dk_at dksJ9_coder_0 7 rfl rfl)
theorem dJ9_coder_10 : decode cJ9_coder 10 = .ok (.goto 4, 3) := dk_167 0 4 (dk_at dksJ9_coder_0 10 rfl rfl)
theorem dJ9_coder_13 : decode cJ9_coder 13 = .ok (.iconst 1, 1) := dk_4 (dk_at dksJ9_coder_0 13 rfl rfl)
theorem dJ9_coder_14 : decode cJ9_coder 14 = .ok (.ireturn, 1) := dk_172 (dk_at dksJ9_coder_0 14 rfl rfl)
abbrev cJ9_checkBoundsOffCount : ByteArray := prog_35_method_157_code
def yJ9_checkBoundsOffCount : MethodName := ⟨RJ9, "checkBoundsOffCount", "(III)I"⟩
def dkwJ9_checkBoundsOffCount_0 : List UInt8 := [26, 27, 28, 178, 4, 29, 184, 4, 41, 172]
abbrev dktJ9_checkBoundsOffCount_0 : List UInt8 := dkwJ9_checkBoundsOffCount_0 ++ []
theorem dksJ9_checkBoundsOffCount_0 : cJ9_checkBoundsOffCount.data.toList.drop 0 = dktJ9_checkBoundsOffCount_0 := by decide +kernel
theorem dJ9_checkBoundsOffCount_0 : decode cJ9_checkBoundsOffCount 0 = .ok (.iload_n 0, 1) := dk_26 (dk_at dksJ9_checkBoundsOffCount_0 0 rfl rfl)
theorem dJ9_checkBoundsOffCount_1 : decode cJ9_checkBoundsOffCount 1 = .ok (.iload_n 1, 1) := dk_27 (dk_at dksJ9_checkBoundsOffCount_0 1 rfl rfl)
theorem dJ9_checkBoundsOffCount_2 : decode cJ9_checkBoundsOffCount 2 = .ok (.iload_n 2, 1) := dk_28 (dk_at dksJ9_checkBoundsOffCount_0 2 rfl rfl)
theorem dJ9_checkBoundsOffCount_3 : decode cJ9_checkBoundsOffCount 3 = .ok (.getstatic 1053, 3) := dk_178 4 29 (dk_at dksJ9_checkBoundsOffCount_0 3 rfl rfl)
theorem dJ9_checkBoundsOffCount_6 : decode cJ9_checkBoundsOffCount 6 = .ok (.invokestatic 1065, 3) := dk_184 4 41 (dk_at dksJ9_checkBoundsOffCount_0 6 rfl rfl)
theorem dJ9_checkBoundsOffCount_9 : decode cJ9_checkBoundsOffCount 9 = .ok (.ireturn, 1) := dk_172 (dk_at dksJ9_checkBoundsOffCount_0 9 rfl rfl)
abbrev cJ9_getBytes : ByteArray := prog_35_method_147_code
def yJ9_getBytes : MethodName := ⟨RJ9, "getBytes", "([BIB)V"⟩
def dkwJ9_getBytes_1 : List UInt8 := [184, 0, 212, 167, 0, 18, 42, 180, 0, 9, 3, 43, 28, 42, 180, 0, 9, 190, 184, 0, 106, 177]
abbrev dktJ9_getBytes_1 : List UInt8 := dkwJ9_getBytes_1 ++ []
def dkwJ9_getBytes_0 : List UInt8 := [42, 182, 1, 79, 29, 160, 0, 23, 42, 180, 0, 9, 3, 43, 28, 29, 120, 42, 180, 0, 9, 190]
abbrev dktJ9_getBytes_0 : List UInt8 := dkwJ9_getBytes_0 ++ dktJ9_getBytes_1
theorem dksJ9_getBytes_0 : cJ9_getBytes.data.toList.drop 0 = dktJ9_getBytes_0 := by decide +kernel
theorem dksJ9_getBytes_1 : cJ9_getBytes.data.toList.drop 22 = dktJ9_getBytes_1 := dk_seg dksJ9_getBytes_0 22 rfl rfl
theorem dJ9_getBytes_0 : decode cJ9_getBytes 0 = .ok (.aload_n 0, 1) := dk_42 (dk_at dksJ9_getBytes_0 0 rfl rfl)
theorem dJ9_getBytes_1 : decode cJ9_getBytes 1 = .ok (.invokevirtual 335, 3) := dk_182 1 79 (dk_at dksJ9_getBytes_0 1 rfl rfl)
theorem dJ9_getBytes_4 : decode cJ9_getBytes 4 = .ok (.iload_n 3, 1) := dk_29 (dk_at dksJ9_getBytes_0 4 rfl rfl)
theorem dJ9_getBytes_5 : decode cJ9_getBytes 5 = .ok (.if_icmp .ne 23, 3) := dk_160 0 23 (dk_at dksJ9_getBytes_0 5 rfl rfl)
theorem dJ9_getBytes_8 : decode cJ9_getBytes 8 = .ok (.aload_n 0, 1) := dk_42 (dk_at dksJ9_getBytes_0 8 rfl rfl)
theorem dJ9_getBytes_9 : decode cJ9_getBytes 9 = .ok (.getfield 9, 3) := dk_180 0 9 (dk_at dksJ9_getBytes_0 9 rfl rfl)
theorem dJ9_getBytes_12 : decode cJ9_getBytes 12 = .ok (.iconst 0, 1) := dk_3 (dk_at dksJ9_getBytes_0 12 rfl rfl)
theorem dJ9_getBytes_13 : decode cJ9_getBytes 13 = .ok (.aload_n 1, 1) := dk_43 (dk_at dksJ9_getBytes_0 13 rfl rfl)
theorem dJ9_getBytes_14 : decode cJ9_getBytes 14 = .ok (.iload_n 2, 1) := dk_28 (dk_at dksJ9_getBytes_0 14 rfl rfl)
theorem dJ9_getBytes_15 : decode cJ9_getBytes 15 = .ok (.iload_n 3, 1) := dk_29 (dk_at dksJ9_getBytes_0 15 rfl rfl)
theorem dJ9_getBytes_16 : decode cJ9_getBytes 16 = .ok (.ishl, 1) := dk_120 (dk_at dksJ9_getBytes_0 16 rfl rfl)
theorem dJ9_getBytes_17 : decode cJ9_getBytes 17 = .ok (.aload_n 0, 1) := dk_42 (dk_at dksJ9_getBytes_0 17 rfl rfl)
theorem dJ9_getBytes_18 : decode cJ9_getBytes 18 = .ok (.getfield 9, 3) := dk_180 0 9 (dk_at dksJ9_getBytes_0 18 rfl rfl)
theorem dJ9_getBytes_21 : decode cJ9_getBytes 21 = .ok (.arraylength, 1) := dk_190 (dk_at dksJ9_getBytes_0 21 rfl rfl)
theorem dJ9_getBytes_22 : decode cJ9_getBytes 22 = .ok (.invokestatic 212, 3) := dk_184 0 212 (dk_at dksJ9_getBytes_1 0 rfl rfl)
theorem dJ9_getBytes_25 : decode cJ9_getBytes 25 = .ok (.goto 18, 3) := dk_167 0 18 (dk_at dksJ9_getBytes_1 3 rfl rfl)
theorem dJ9_getBytes_28 : decode cJ9_getBytes 28 = .ok (.aload_n 0, 1) := dk_42 (dk_at dksJ9_getBytes_1 6 rfl rfl)
theorem dJ9_getBytes_29 : decode cJ9_getBytes 29 = .ok (.getfield 9, 3) := dk_180 0 9 (dk_at dksJ9_getBytes_1 7 rfl rfl)
theorem dJ9_getBytes_32 : decode cJ9_getBytes 32 = .ok (.iconst 0, 1) := dk_3 (dk_at dksJ9_getBytes_1 10 rfl rfl)
theorem dJ9_getBytes_33 : decode cJ9_getBytes 33 = .ok (.aload_n 1, 1) := dk_43 (dk_at dksJ9_getBytes_1 11 rfl rfl)
theorem dJ9_getBytes_34 : decode cJ9_getBytes 34 = .ok (.iload_n 2, 1) := dk_28 (dk_at dksJ9_getBytes_1 12 rfl rfl)
theorem dJ9_getBytes_35 : decode cJ9_getBytes 35 = .ok (.aload_n 0, 1) := dk_42 (dk_at dksJ9_getBytes_1 13 rfl rfl)
theorem dJ9_getBytes_36 : decode cJ9_getBytes 36 = .ok (.getfield 9, 3) := dk_180 0 9 (dk_at dksJ9_getBytes_1 14 rfl rfl)
theorem dJ9_getBytes_39 : decode cJ9_getBytes 39 = .ok (.arraylength, 1) := dk_190 (dk_at dksJ9_getBytes_1 17 rfl rfl)
theorem dJ9_getBytes_40 : decode cJ9_getBytes 40 = .ok (.invokestatic 106, 3) := dk_184 0 106 (dk_at dksJ9_getBytes_1 18 rfl rfl)
theorem dJ9_getBytes_43 : decode cJ9_getBytes 43 = .ok (.return_, 1) := dk_177 (dk_at dksJ9_getBytes_1 21 rfl rfl)
abbrev cJ9_init : ByteArray := prog_35_method_53_code
def yJ9_init : MethodName := ⟨RJ9, "<init>", "(Ljava/lang/StringBuilder;)V"⟩
def dkwJ9_init_0 : List UInt8 := [42, 43, 1, 183, 1, 233, 177]
abbrev dktJ9_init_0 : List UInt8 := dkwJ9_init_0 ++ []
theorem dksJ9_init_0 : cJ9_init.data.toList.drop 0 = dktJ9_init_0 := by decide +kernel
theorem dJ9_init_0 : decode cJ9_init 0 = .ok (.aload_n 0, 1) := dk_42 (dk_at dksJ9_init_0 0 rfl rfl)
theorem dJ9_init_1 : decode cJ9_init 1 = .ok (.aload_n 1, 1) := dk_43 (dk_at dksJ9_init_0 1 rfl rfl)
theorem dJ9_init_2 : decode cJ9_init 2 = .ok (.aconst_null, 1) := dk_1 (dk_at dksJ9_init_0 2 rfl rfl)
theorem dJ9_init_3 : decode cJ9_init 3 = .ok (.invokespecial 489, 3) := dk_183 1 233 (dk_at dksJ9_init_0 3 rfl rfl)
theorem dJ9_init_6 : decode cJ9_init 6 = .ok (.return_, 1) := dk_177 (dk_at dksJ9_init_0 6 rfl rfl)
abbrev cJ9_init_2 : ByteArray := prog_35_method_150_code
def yJ9_init_2 : MethodName := ⟨RJ9, "<init>", "(Ljava/lang/AbstractStringBuilder;Ljava/lang/Void;)V"⟩
def dkwJ9_init_2_4 : List UInt8 := [181, 0, 9, 177]
abbrev dktJ9_init_2_4 : List UInt8 := dkwJ9_init_2_4 ++ []
def dkwJ9_init_2_3 : List UInt8 := [184, 0, 47, 181, 0, 15, 177, 42, 4, 181, 0, 15, 42, 45, 3, 21, 4, 4, 120, 184, 0, 54]
abbrev dktJ9_init_2_3 : List UInt8 := dkwJ9_init_2_3 ++ dktJ9_init_2_4
def dkwJ9_init_2_2 : List UInt8 := [180, 4, 24, 153, 0, 28, 42, 45, 3, 21, 4, 184, 4, 27, 181, 0, 9, 42, 42, 180, 0, 9, 21, 4]
abbrev dktJ9_init_2_2 : List UInt8 := dkwJ9_init_2_2 ++ dktJ9_init_2_3
def dkwJ9_init_2_1 : List UInt8 := [181, 0, 15, 42, 45, 3, 21, 4, 184, 0, 54, 181, 0, 9, 167, 0, 59, 178, 0, 38, 153, 0, 35, 43]
abbrev dktJ9_init_2_1 : List UInt8 := dkwJ9_init_2_1 ++ dktJ9_init_2_2
def dkwJ9_init_2_0 : List UInt8 := [42, 183, 0, 1, 43, 182, 2, 40, 78, 43, 182, 2, 37, 54, 4, 43, 182, 4, 23, 153, 0, 22, 42, 3]
abbrev dktJ9_init_2_0 : List UInt8 := dkwJ9_init_2_0 ++ dktJ9_init_2_1
theorem dksJ9_init_2_0 : cJ9_init_2.data.toList.drop 0 = dktJ9_init_2_0 := by decide +kernel
theorem dksJ9_init_2_1 : cJ9_init_2.data.toList.drop 24 = dktJ9_init_2_1 := dk_seg dksJ9_init_2_0 24 rfl rfl
theorem dksJ9_init_2_2 : cJ9_init_2.data.toList.drop 48 = dktJ9_init_2_2 := dk_seg dksJ9_init_2_1 24 rfl rfl
theorem dksJ9_init_2_3 : cJ9_init_2.data.toList.drop 72 = dktJ9_init_2_3 := dk_seg dksJ9_init_2_2 24 rfl rfl
theorem dksJ9_init_2_4 : cJ9_init_2.data.toList.drop 94 = dktJ9_init_2_4 := dk_seg dksJ9_init_2_3 22 rfl rfl
theorem dJ9_init_2_0 : decode cJ9_init_2 0 = .ok (.aload_n 0, 1) := dk_42 (dk_at dksJ9_init_2_0 0 rfl rfl)
theorem dJ9_init_2_1 : decode cJ9_init_2 1 = .ok (.invokespecial 1, 3) := dk_183 0 1 (dk_at dksJ9_init_2_0 1 rfl rfl)
theorem dJ9_init_2_4 : decode cJ9_init_2 4 = .ok (.aload_n 1, 1) := dk_43 (dk_at dksJ9_init_2_0 4 rfl rfl)
theorem dJ9_init_2_5 : decode cJ9_init_2 5 = .ok (.invokevirtual 552, 3) := dk_182 2 40 (dk_at dksJ9_init_2_0 5 rfl rfl)
theorem dJ9_init_2_8 : decode cJ9_init_2 8 = .ok (.astore_n 3, 1) := dk_78 (dk_at dksJ9_init_2_0 8 rfl rfl)
theorem dJ9_init_2_9 : decode cJ9_init_2 9 = .ok (.aload_n 1, 1) := dk_43 (dk_at dksJ9_init_2_0 9 rfl rfl)
theorem dJ9_init_2_10 : decode cJ9_init_2 10 = .ok (.invokevirtual 549, 3) := dk_182 2 37 (dk_at dksJ9_init_2_0 10 rfl rfl)
theorem dJ9_init_2_13 : decode cJ9_init_2 13 = .ok (.istore 4, 2) := dk_54 4 (dk_at dksJ9_init_2_0 13 rfl rfl)
theorem dJ9_init_2_15 : decode cJ9_init_2 15 = .ok (.aload_n 1, 1) := dk_43 (dk_at dksJ9_init_2_0 15 rfl rfl)
theorem dJ9_init_2_16 : decode cJ9_init_2 16 = .ok (.invokevirtual 1047, 3) := dk_182 4 23 (dk_at dksJ9_init_2_0 16 rfl rfl)
theorem dJ9_init_2_19 : decode cJ9_init_2 19 = .ok (.ifCond .eq 22, 3) := dk_153 0 22 (dk_at dksJ9_init_2_0 19 rfl rfl)
theorem dJ9_init_2_22 : decode cJ9_init_2 22 = .ok (.aload_n 0, 1) := dk_42 (dk_at dksJ9_init_2_0 22 rfl rfl)
theorem dJ9_init_2_23 : decode cJ9_init_2 23 = .ok (.iconst 0, 1) := dk_3 (dk_at dksJ9_init_2_0 23 rfl rfl)
theorem dJ9_init_2_24 : decode cJ9_init_2 24 = .ok (.putfield 15, 3) := dk_181 0 15 (dk_at dksJ9_init_2_1 0 rfl rfl)
theorem dJ9_init_2_27 : decode cJ9_init_2 27 = .ok (.aload_n 0, 1) := dk_42 (dk_at dksJ9_init_2_1 3 rfl rfl)
theorem dJ9_init_2_28 : decode cJ9_init_2 28 = .ok (.aload_n 3, 1) := dk_45 (dk_at dksJ9_init_2_1 4 rfl rfl)
theorem dJ9_init_2_29 : decode cJ9_init_2 29 = .ok (.iconst 0, 1) := dk_3 (dk_at dksJ9_init_2_1 5 rfl rfl)
theorem dJ9_init_2_30 : decode cJ9_init_2 30 = .ok (.iload 4, 2) := dk_21 4 (dk_at dksJ9_init_2_1 6 rfl rfl)
theorem dJ9_init_2_32 : decode cJ9_init_2 32 = .ok (.invokestatic 54, 3) := dk_184 0 54 (dk_at dksJ9_init_2_1 8 rfl rfl)
theorem dJ9_init_2_35 : decode cJ9_init_2 35 = .ok (.putfield 9, 3) := dk_181 0 9 (dk_at dksJ9_init_2_1 11 rfl rfl)
theorem dJ9_init_2_38 : decode cJ9_init_2 38 = .ok (.goto 59, 3) := dk_167 0 59 (dk_at dksJ9_init_2_1 14 rfl rfl)
theorem dJ9_init_2_41 : decode cJ9_init_2 41 = .ok (.getstatic 38, 3) := dk_178 0 38 (dk_at dksJ9_init_2_1 17 rfl rfl)
theorem dJ9_init_2_44 : decode cJ9_init_2 44 = .ok (.ifCond .eq 35, 3) := dk_153 0 35 (dk_at dksJ9_init_2_1 20 rfl rfl)
theorem dJ9_init_2_47 : decode cJ9_init_2 47 = .ok (.aload_n 1, 1) := dk_43 (dk_at dksJ9_init_2_1 23 rfl rfl)
theorem dJ9_init_2_48 : decode cJ9_init_2 48 = .ok (.getfield 1048, 3) := dk_180 4 24 (dk_at dksJ9_init_2_2 0 rfl rfl)
theorem dJ9_init_2_51 : decode cJ9_init_2 51 = .ok (.ifCond .eq 28, 3) := dk_153 0 28 (dk_at dksJ9_init_2_2 3 rfl rfl)
theorem dJ9_init_2_54 : decode cJ9_init_2 54 = .ok (.aload_n 0, 1) := dk_42 (dk_at dksJ9_init_2_2 6 rfl rfl)
theorem dJ9_init_2_55 : decode cJ9_init_2 55 = .ok (.aload_n 3, 1) := dk_45 (dk_at dksJ9_init_2_2 7 rfl rfl)
theorem dJ9_init_2_56 : decode cJ9_init_2 56 = .ok (.iconst 0, 1) := dk_3 (dk_at dksJ9_init_2_2 8 rfl rfl)
theorem dJ9_init_2_57 : decode cJ9_init_2 57 = .ok (.iload 4, 2) := dk_21 4 (dk_at dksJ9_init_2_2 9 rfl rfl)
theorem dJ9_init_2_59 : decode cJ9_init_2 59 = .ok (.invokestatic 1051, 3) := dk_184 4 27 (dk_at dksJ9_init_2_2 11 rfl rfl)
theorem dJ9_init_2_62 : decode cJ9_init_2 62 = .ok (.putfield 9, 3) := dk_181 0 9 (dk_at dksJ9_init_2_2 14 rfl rfl)
theorem dJ9_init_2_65 : decode cJ9_init_2 65 = .ok (.aload_n 0, 1) := dk_42 (dk_at dksJ9_init_2_2 17 rfl rfl)
theorem dJ9_init_2_66 : decode cJ9_init_2 66 = .ok (.aload_n 0, 1) := dk_42 (dk_at dksJ9_init_2_2 18 rfl rfl)
theorem dJ9_init_2_67 : decode cJ9_init_2 67 = .ok (.getfield 9, 3) := dk_180 0 9 (dk_at dksJ9_init_2_2 19 rfl rfl)
theorem dJ9_init_2_70 : decode cJ9_init_2 70 = .ok (.iload 4, 2) := dk_21 4 (dk_at dksJ9_init_2_2 22 rfl rfl)
theorem dJ9_init_2_72 : decode cJ9_init_2 72 = .ok (.invokestatic 47, 3) := dk_184 0 47 (dk_at dksJ9_init_2_3 0 rfl rfl)
theorem dJ9_init_2_75 : decode cJ9_init_2 75 = .ok (.putfield 15, 3) := dk_181 0 15 (dk_at dksJ9_init_2_3 3 rfl rfl)
theorem dJ9_init_2_78 : decode cJ9_init_2 78 = .ok (.return_, 1) := dk_177 (dk_at dksJ9_init_2_3 6 rfl rfl)
theorem dJ9_init_2_79 : decode cJ9_init_2 79 = .ok (.aload_n 0, 1) := dk_42 (dk_at dksJ9_init_2_3 7 rfl rfl)
theorem dJ9_init_2_80 : decode cJ9_init_2 80 = .ok (.iconst 1, 1) := dk_4 (dk_at dksJ9_init_2_3 8 rfl rfl)
theorem dJ9_init_2_81 : decode cJ9_init_2 81 = .ok (.putfield 15, 3) := dk_181 0 15 (dk_at dksJ9_init_2_3 9 rfl rfl)
theorem dJ9_init_2_84 : decode cJ9_init_2 84 = .ok (.aload_n 0, 1) := dk_42 (dk_at dksJ9_init_2_3 12 rfl rfl)
theorem dJ9_init_2_85 : decode cJ9_init_2 85 = .ok (.aload_n 3, 1) := dk_45 (dk_at dksJ9_init_2_3 13 rfl rfl)
theorem dJ9_init_2_86 : decode cJ9_init_2 86 = .ok (.iconst 0, 1) := dk_3 (dk_at dksJ9_init_2_3 14 rfl rfl)
theorem dJ9_init_2_87 : decode cJ9_init_2 87 = .ok (.iload 4, 2) := dk_21 4 (dk_at dksJ9_init_2_3 15 rfl rfl)
theorem dJ9_init_2_89 : decode cJ9_init_2 89 = .ok (.iconst 1, 1) := dk_4 (dk_at dksJ9_init_2_3 17 rfl rfl)
theorem dJ9_init_2_90 : decode cJ9_init_2 90 = .ok (.ishl, 1) := dk_120 (dk_at dksJ9_init_2_3 18 rfl rfl)
theorem dJ9_init_2_91 : decode cJ9_init_2 91 = .ok (.invokestatic 54, 3) := dk_184 0 54 (dk_at dksJ9_init_2_3 19 rfl rfl)
theorem dJ9_init_2_94 : decode cJ9_init_2 94 = .ok (.putfield 9, 3) := dk_181 0 9 (dk_at dksJ9_init_2_4 0 rfl rfl)
theorem dJ9_init_2_97 : decode cJ9_init_2 97 = .ok (.return_, 1) := dk_177 (dk_at dksJ9_init_2_4 3 rfl rfl)
abbrev cJ9_checkIndex : ByteArray := prog_35_method_155_code
def yJ9_checkIndex : MethodName := ⟨RJ9, "checkIndex", "(II)V"⟩
def dkwJ9_checkIndex_0 : List UInt8 := [26, 27, 178, 4, 29, 184, 4, 35, 87, 177]
abbrev dktJ9_checkIndex_0 : List UInt8 := dkwJ9_checkIndex_0 ++ []
theorem dksJ9_checkIndex_0 : cJ9_checkIndex.data.toList.drop 0 = dktJ9_checkIndex_0 := by decide +kernel
theorem dJ9_checkIndex_0 : decode cJ9_checkIndex 0 = .ok (.iload_n 0, 1) := dk_26 (dk_at dksJ9_checkIndex_0 0 rfl rfl)
theorem dJ9_checkIndex_1 : decode cJ9_checkIndex 1 = .ok (.iload_n 1, 1) := dk_27 (dk_at dksJ9_checkIndex_0 1 rfl rfl)
theorem dJ9_checkIndex_2 : decode cJ9_checkIndex 2 = .ok (.getstatic 1053, 3) := dk_178 4 29 (dk_at dksJ9_checkIndex_0 2 rfl rfl)
theorem dJ9_checkIndex_5 : decode cJ9_checkIndex 5 = .ok (.invokestatic 1059, 3) := dk_184 4 35 (dk_at dksJ9_checkIndex_0 5 rfl rfl)
theorem dJ9_checkIndex_8 : decode cJ9_checkIndex 8 = .ok (.pop, 1) := dk_87 (dk_at dksJ9_checkIndex_0 8 rfl rfl)
theorem dJ9_checkIndex_9 : decode cJ9_checkIndex 9 = .ok (.return_, 1) := dk_177 (dk_at dksJ9_checkIndex_0 9 rfl rfl)
abbrev cJ9_equals : ByteArray := prog_35_method_66_code
def yJ9_equals : MethodName := ⟨RJ9, "equals", "(Ljava/lang/Object;)Z"⟩
def dkwJ9_equals_2 : List UInt8 := [184, 2, 29, 153, 0, 7, 4, 167, 0, 4, 3, 172]
abbrev dktJ9_equals_2 : List UInt8 := dkwJ9_equals_2 ++ []
def dkwJ9_equals_1 : List UInt8 := [153, 0, 14, 42, 180, 0, 15, 44, 180, 0, 15, 160, 0, 21, 42, 180, 0, 9, 44, 180, 0, 9]
abbrev dktJ9_equals_1 : List UInt8 := dkwJ9_equals_1 ++ dktJ9_equals_2
def dkwJ9_equals_0 : List UInt8 := [42, 43, 166, 0, 5, 4, 172, 43, 193, 0, 10, 153, 0, 43, 43, 192, 0, 10, 77, 178, 0, 38]
abbrev dktJ9_equals_0 : List UInt8 := dkwJ9_equals_0 ++ dktJ9_equals_1
theorem dksJ9_equals_0 : cJ9_equals.data.toList.drop 0 = dktJ9_equals_0 := by decide +kernel
theorem dksJ9_equals_1 : cJ9_equals.data.toList.drop 22 = dktJ9_equals_1 := dk_seg dksJ9_equals_0 22 rfl rfl
theorem dksJ9_equals_2 : cJ9_equals.data.toList.drop 44 = dktJ9_equals_2 := dk_seg dksJ9_equals_1 22 rfl rfl
theorem dJ9_equals_0 : decode cJ9_equals 0 = .ok (.aload_n 0, 1) := dk_42 (dk_at dksJ9_equals_0 0 rfl rfl)
theorem dJ9_equals_1 : decode cJ9_equals 1 = .ok (.aload_n 1, 1) := dk_43 (dk_at dksJ9_equals_0 1 rfl rfl)
theorem dJ9_equals_2 : decode cJ9_equals 2 = .ok (.if_acmp .ne 5, 3) := dk_166 0 5 (dk_at dksJ9_equals_0 2 rfl rfl)
theorem dJ9_equals_5 : decode cJ9_equals 5 = .ok (.iconst 1, 1) := dk_4 (dk_at dksJ9_equals_0 5 rfl rfl)
theorem dJ9_equals_6 : decode cJ9_equals 6 = .ok (.ireturn, 1) := dk_172 (dk_at dksJ9_equals_0 6 rfl rfl)
theorem dJ9_equals_7 : decode cJ9_equals 7 = .ok (.aload_n 1, 1) := dk_43 (dk_at dksJ9_equals_0 7 rfl rfl)
theorem dJ9_equals_8 : decode cJ9_equals 8 = .ok (.instanceof 10, 3) := dk_193 0 10 (dk_at dksJ9_equals_0 8 rfl rfl)
theorem dJ9_equals_11 : decode cJ9_equals 11 = .ok (.ifCond .eq 43, 3) := dk_153 0 43 (dk_at dksJ9_equals_0 11 rfl rfl)
theorem dJ9_equals_14 : decode cJ9_equals 14 = .ok (.aload_n 1, 1) := dk_43 (dk_at dksJ9_equals_0 14 rfl rfl)
theorem dJ9_equals_15 : decode cJ9_equals 15 = .ok (.checkcast 10, 3) := dk_192 0 10 (dk_at dksJ9_equals_0 15 rfl rfl)
theorem dJ9_equals_18 : decode cJ9_equals 18 = .ok (.astore_n 2, 1) := dk_77 (dk_at dksJ9_equals_0 18 rfl rfl)
theorem dJ9_equals_19 : decode cJ9_equals 19 = .ok (.getstatic 38, 3) := dk_178 0 38 (dk_at dksJ9_equals_0 19 rfl rfl)
theorem dJ9_equals_22 : decode cJ9_equals 22 = .ok (.ifCond .eq 14, 3) := dk_153 0 14 (dk_at dksJ9_equals_1 0 rfl rfl)
theorem dJ9_equals_25 : decode cJ9_equals 25 = .ok (.aload_n 0, 1) := dk_42 (dk_at dksJ9_equals_1 3 rfl rfl)
theorem dJ9_equals_26 : decode cJ9_equals 26 = .ok (.getfield 15, 3) := dk_180 0 15 (dk_at dksJ9_equals_1 4 rfl rfl)
theorem dJ9_equals_29 : decode cJ9_equals 29 = .ok (.aload_n 2, 1) := dk_44 (dk_at dksJ9_equals_1 7 rfl rfl)
theorem dJ9_equals_30 : decode cJ9_equals 30 = .ok (.getfield 15, 3) := dk_180 0 15 (dk_at dksJ9_equals_1 8 rfl rfl)
theorem dJ9_equals_33 : decode cJ9_equals 33 = .ok (.if_icmp .ne 21, 3) := dk_160 0 21 (dk_at dksJ9_equals_1 11 rfl rfl)
theorem dJ9_equals_36 : decode cJ9_equals 36 = .ok (.aload_n 0, 1) := dk_42 (dk_at dksJ9_equals_1 14 rfl rfl)
theorem dJ9_equals_37 : decode cJ9_equals 37 = .ok (.getfield 9, 3) := dk_180 0 9 (dk_at dksJ9_equals_1 15 rfl rfl)
theorem dJ9_equals_40 : decode cJ9_equals 40 = .ok (.aload_n 2, 1) := dk_44 (dk_at dksJ9_equals_1 18 rfl rfl)
theorem dJ9_equals_41 : decode cJ9_equals 41 = .ok (.getfield 9, 3) := dk_180 0 9 (dk_at dksJ9_equals_1 19 rfl rfl)
theorem dJ9_equals_44 : decode cJ9_equals 44 = .ok (.invokestatic 541, 3) := dk_184 2 29 (dk_at dksJ9_equals_2 0 rfl rfl)
theorem dJ9_equals_47 : decode cJ9_equals 47 = .ok (.ifCond .eq 7, 3) := dk_153 0 7 (dk_at dksJ9_equals_2 3 rfl rfl)
theorem dJ9_equals_50 : decode cJ9_equals 50 = .ok (.iconst 1, 1) := dk_4 (dk_at dksJ9_equals_2 6 rfl rfl)
theorem dJ9_equals_51 : decode cJ9_equals 51 = .ok (.goto 4, 3) := dk_167 0 4 (dk_at dksJ9_equals_2 7 rfl rfl)
theorem dJ9_equals_54 : decode cJ9_equals 54 = .ok (.iconst 0, 1) := dk_3 (dk_at dksJ9_equals_2 10 rfl rfl)
theorem dJ9_equals_55 : decode cJ9_equals 55 = .ok (.ireturn, 1) := dk_172 (dk_at dksJ9_equals_2 11 rfl rfl)
abbrev cJ9_charAt : ByteArray := prog_35_method_56_code
def yJ9_charAt : MethodName := ⟨RJ9, "charAt", "(I)C"⟩
def dkwJ9_charAt_1 : List UInt8 := [172]
abbrev dktJ9_charAt_1 : List UInt8 := dkwJ9_charAt_1 ++ []
def dkwJ9_charAt_0 : List UInt8 := [42, 182, 1, 236, 153, 0, 12, 42, 180, 0, 9, 27, 184, 1, 239, 172, 42, 180, 0, 9, 27, 184, 1, 242]
abbrev dktJ9_charAt_0 : List UInt8 := dkwJ9_charAt_0 ++ dktJ9_charAt_1
theorem dksJ9_charAt_0 : cJ9_charAt.data.toList.drop 0 = dktJ9_charAt_0 := by decide +kernel
theorem dksJ9_charAt_1 : cJ9_charAt.data.toList.drop 24 = dktJ9_charAt_1 := dk_seg dksJ9_charAt_0 24 rfl rfl
theorem dJ9_charAt_0 : decode cJ9_charAt 0 = .ok (.aload_n 0, 1) := dk_42 (dk_at dksJ9_charAt_0 0 rfl rfl)
theorem dJ9_charAt_1 : decode cJ9_charAt 1 = .ok (.invokevirtual 492, 3) := dk_182 1 236 (dk_at dksJ9_charAt_0 1 rfl rfl)
theorem dJ9_charAt_4 : decode cJ9_charAt 4 = .ok (.ifCond .eq 12, 3) := dk_153 0 12 (dk_at dksJ9_charAt_0 4 rfl rfl)
theorem dJ9_charAt_7 : decode cJ9_charAt 7 = .ok (.aload_n 0, 1) := dk_42 (dk_at dksJ9_charAt_0 7 rfl rfl)
theorem dJ9_charAt_8 : decode cJ9_charAt 8 = .ok (.getfield 9, 3) := dk_180 0 9 (dk_at dksJ9_charAt_0 8 rfl rfl)
theorem dJ9_charAt_11 : decode cJ9_charAt 11 = .ok (.iload_n 1, 1) := dk_27 (dk_at dksJ9_charAt_0 11 rfl rfl)
theorem dJ9_charAt_12 : decode cJ9_charAt 12 = .ok (.invokestatic 495, 3) := dk_184 1 239 (dk_at dksJ9_charAt_0 12 rfl rfl)
theorem dJ9_charAt_15 : decode cJ9_charAt 15 = .ok (.ireturn, 1) := dk_172 (dk_at dksJ9_charAt_0 15 rfl rfl)
theorem dJ9_charAt_16 : decode cJ9_charAt 16 = .ok (.aload_n 0, 1) := dk_42 (dk_at dksJ9_charAt_0 16 rfl rfl)
theorem dJ9_charAt_17 : decode cJ9_charAt 17 = .ok (.getfield 9, 3) := dk_180 0 9 (dk_at dksJ9_charAt_0 17 rfl rfl)
theorem dJ9_charAt_20 : decode cJ9_charAt 20 = .ok (.iload_n 1, 1) := dk_27 (dk_at dksJ9_charAt_0 20 rfl rfl)
theorem dJ9_charAt_21 : decode cJ9_charAt 21 = .ok (.invokestatic 498, 3) := dk_184 1 242 (dk_at dksJ9_charAt_0 21 rfl rfl)
theorem dJ9_charAt_24 : decode cJ9_charAt 24 = .ok (.ireturn, 1) := dk_172 (dk_at dksJ9_charAt_1 0 rfl rfl)
abbrev cJ9_isLatin1 : ByteArray := prog_35_method_154_code
def yJ9_isLatin1 : MethodName := ⟨RJ9, "isLatin1", "()Z"⟩
def dkwJ9_isLatin1_0 : List UInt8 := [178, 0, 38, 153, 0, 14, 42, 180, 0, 15, 154, 0, 7, 4, 167, 0, 4, 3, 172]
abbrev dktJ9_isLatin1_0 : List UInt8 := dkwJ9_isLatin1_0 ++ []
theorem dksJ9_isLatin1_0 : cJ9_isLatin1.data.toList.drop 0 = dktJ9_isLatin1_0 := by decide +kernel
theorem dJ9_isLatin1_0 : decode cJ9_isLatin1 0 = .ok (.getstatic 38, 3) := dk_178 0 38 (dk_at dksJ9_isLatin1_0 0 rfl rfl)
theorem dJ9_isLatin1_3 : decode cJ9_isLatin1 3 = .ok (.ifCond .eq 14, 3) := dk_153 0 14 (dk_at dksJ9_isLatin1_0 3 rfl rfl)
theorem dJ9_isLatin1_6 : decode cJ9_isLatin1 6 = .ok (.aload_n 0, 1) := dk_42 (dk_at dksJ9_isLatin1_0 6 rfl rfl)
theorem dJ9_isLatin1_7 : decode cJ9_isLatin1 7 = .ok (.getfield 15, 3) := dk_180 0 15 (dk_at dksJ9_isLatin1_0 7 rfl rfl)
theorem dJ9_isLatin1_10 : decode cJ9_isLatin1 10 = .ok (.ifCond .ne 7, 3) := dk_154 0 7 (dk_at dksJ9_isLatin1_0 10 rfl rfl)
theorem dJ9_isLatin1_13 : decode cJ9_isLatin1 13 = .ok (.iconst 1, 1) := dk_4 (dk_at dksJ9_isLatin1_0 13 rfl rfl)
theorem dJ9_isLatin1_14 : decode cJ9_isLatin1 14 = .ok (.goto 4, 3) := dk_167 0 4 (dk_at dksJ9_isLatin1_0 14 rfl rfl)
theorem dJ9_isLatin1_17 : decode cJ9_isLatin1 17 = .ok (.iconst 0, 1) := dk_3 (dk_at dksJ9_isLatin1_0 17 rfl rfl)
theorem dJ9_isLatin1_18 : decode cJ9_isLatin1 18 = .ok (.ireturn, 1) := dk_172 (dk_at dksJ9_isLatin1_0 18 rfl rfl)
theorem q109 : (Jvm.Cond.initialized "java/lang/String") ∈ lw_all := lw_g (lw_at lw_m1 15 rfl) rfl
theorem q334 : (Jvm.Cond.laysStatic "java/lang/String" "COMPACT_STRINGS" "Z") ∈ lw_tbl := lw_at lw_m2 0 rfl
theorem q345 : (Jvm.Cond.fieldLink "java/lang/String" (1048 : Nat) "java/lang/AbstractStringBuilder" "maybeLatin1" "Z") ∈ lw_all := lw_g (lw_at lw_m2 11 rfl) rfl
theorem q419 : (Jvm.Cond.static ({ cls := "java/lang/String", name := "checkBoundsBeginEnd", desc := "(III)V" } : Jvm.MethodName)) ∈ lw_all := lw_g (lw_at lw_m2 85 rfl) rfl
theorem q420 : (Jvm.Cond.code ({ cls := "java/lang/String", name := "checkBoundsBeginEnd", desc := "(III)V" } : Jvm.MethodName) prog_35_method_158_code (3 : Nat) (Option.none : Option Jvm.ClassFile.FieldType)) ∈ lw_all := lw_g (lw_at lw_m2 86 rfl) rfl
theorem q421 : (Jvm.Cond.fieldLink "java/lang/String" (1053 : Nat) "jdk/internal/util/Preconditions" "SIOOBE_FORMATTER" "Ljava/util/function/BiFunction;") ∈ lw_all := lw_g (lw_at lw_m2 87 rfl) rfl
theorem q423 : (Jvm.Cond.methodLink "java/lang/String" (1062 : Nat) ({ cls := "jdk/internal/util/Preconditions", name := "checkFromToIndex", desc := "(IIILjava/util/function/BiFunction;)I" } : Jvm.MethodName)) ∈ lw_all := lw_g (lw_at lw_m2 89 rfl) rfl
theorem q436 : (Jvm.Cond.instanceMethod ({ cls := "java/lang/String", name := "length", desc := "()I" } : Jvm.MethodName)) ∈ lw_all := lw_g (lw_at lw_m2 102 rfl) rfl
theorem q437 : (Jvm.Cond.selects "java/lang/String" ({ cls := "java/lang/String", name := "length", desc := "()I" } : Jvm.MethodName) ({ cls := "java/lang/String", name := "length", desc := "()I" } : Jvm.MethodName)) ∈ lw_all := lw_g (lw_at lw_m2 103 rfl) rfl
theorem q438 : (Jvm.Cond.code ({ cls := "java/lang/String", name := "length", desc := "()I" } : Jvm.MethodName) prog_35_method_54_code (1 : Nat) (Option.some Jvm.ClassFile.FieldType.int)) ∈ lw_all := lw_g (lw_at lw_m2 104 rfl) rfl
theorem q439 : (Jvm.Cond.methodLink "java/lang/String" (335 : Nat) ({ cls := "java/lang/String", name := "coder", desc := "()B" } : Jvm.MethodName)) ∈ lw_all := lw_g (lw_at lw_m2 105 rfl) rfl
theorem q440 : (Jvm.Cond.instanceMethod ({ cls := "java/lang/String", name := "coder", desc := "()B" } : Jvm.MethodName)) ∈ lw_all := lw_g (lw_at lw_m2 106 rfl) rfl
theorem q441 : (Jvm.Cond.selects "java/lang/String" ({ cls := "java/lang/String", name := "coder", desc := "()B" } : Jvm.MethodName) ({ cls := "java/lang/String", name := "coder", desc := "()B" } : Jvm.MethodName)) ∈ lw_all := lw_g (lw_at lw_m2 107 rfl) rfl
theorem q442 : (Jvm.Cond.code ({ cls := "java/lang/String", name := "coder", desc := "()B" } : Jvm.MethodName) prog_35_method_152_code (1 : Nat) (Option.some Jvm.ClassFile.FieldType.byte)) ∈ lw_all := lw_g (lw_at lw_m2 108 rfl) rfl
theorem q443 : (Jvm.Cond.fieldLink "java/lang/String" (38 : Nat) "java/lang/String" "COMPACT_STRINGS" "Z") ∈ lw_all := lw_g (lw_at lw_m2 109 rfl) rfl
theorem q467 : (Jvm.Cond.static ({ cls := "java/lang/String", name := "checkBoundsOffCount", desc := "(III)I" } : Jvm.MethodName)) ∈ lw_all := lw_g (lw_at lw_m2 133 rfl) rfl
theorem q468 : (Jvm.Cond.code ({ cls := "java/lang/String", name := "checkBoundsOffCount", desc := "(III)I" } : Jvm.MethodName) prog_35_method_157_code (3 : Nat) (Option.some Jvm.ClassFile.FieldType.int)) ∈ lw_all := lw_g (lw_at lw_m2 134 rfl) rfl
theorem q469 : (Jvm.Cond.methodLink "java/lang/String" (1065 : Nat) ({ cls := "jdk/internal/util/Preconditions", name := "checkFromIndexSize", desc := "(IIILjava/util/function/BiFunction;)I" } : Jvm.MethodName)) ∈ lw_all := lw_g (lw_at lw_m2 135 rfl) rfl
theorem q473 : (Jvm.Cond.instanceMethod ({ cls := "java/lang/String", name := "getBytes", desc := "([BIB)V" } : Jvm.MethodName)) ∈ lw_all := lw_g (lw_at lw_m2 139 rfl) rfl
theorem q474 : (Jvm.Cond.selects "java/lang/String" ({ cls := "java/lang/String", name := "getBytes", desc := "([BIB)V" } : Jvm.MethodName) ({ cls := "java/lang/String", name := "getBytes", desc := "([BIB)V" } : Jvm.MethodName)) ∈ lw_all := lw_g (lw_at lw_m2 140 rfl) rfl
theorem q475 : (Jvm.Cond.code ({ cls := "java/lang/String", name := "getBytes", desc := "([BIB)V" } : Jvm.MethodName) prog_35_method_147_code (4 : Nat) (Option.none : Option Jvm.ClassFile.FieldType)) ∈ lw_all := lw_g (lw_at lw_m2 141 rfl) rfl
theorem q476 : (Jvm.Cond.methodLink "java/lang/String" (212 : Nat) ({ cls := "java/lang/System", name := "arraycopy", desc := "(Ljava/lang/Object;ILjava/lang/Object;II)V" } : Jvm.MethodName)) ∈ lw_all := lw_g (lw_at lw_m2 142 rfl) rfl
theorem q477 : (Jvm.Cond.methodLink "java/lang/String" (106 : Nat) ({ cls := "java/lang/StringLatin1", name := "inflate", desc := "([BI[BII)V" } : Jvm.MethodName)) ∈ lw_all := lw_g (lw_at lw_m2 143 rfl) rfl
theorem q508 : (Jvm.Cond.instantiable "java/lang/String" (4 : Nat)) ∈ lw_all := lw_g (lw_at lw_m2 174 rfl) rfl
theorem q510 : (Jvm.Cond.instanceMethod ({ cls := "java/lang/String", name := "<init>", desc := "(Ljava/lang/StringBuilder;)V" } : Jvm.MethodName)) ∈ lw_all := lw_g (lw_at lw_m2 176 rfl) rfl
theorem q511 : (Jvm.Cond.code ({ cls := "java/lang/String", name := "<init>", desc := "(Ljava/lang/StringBuilder;)V" } : Jvm.MethodName) prog_35_method_53_code (2 : Nat) (Option.none : Option Jvm.ClassFile.FieldType)) ∈ lw_all := lw_g (lw_at lw_m2 177 rfl) rfl
theorem q512 : (Jvm.Cond.methodLink "java/lang/String" (489 : Nat) ({ cls := "java/lang/String", name := "<init>", desc := "(Ljava/lang/AbstractStringBuilder;Ljava/lang/Void;)V" } : Jvm.MethodName)) ∈ lw_all := lw_g (lw_at lw_m2 178 rfl) rfl
theorem q513 : (Jvm.Cond.instanceMethod ({ cls := "java/lang/String", name := "<init>", desc := "(Ljava/lang/AbstractStringBuilder;Ljava/lang/Void;)V" } : Jvm.MethodName)) ∈ lw_all := lw_g (lw_at lw_m2 179 rfl) rfl
theorem q514 : (Jvm.Cond.code ({ cls := "java/lang/String", name := "<init>", desc := "(Ljava/lang/AbstractStringBuilder;Ljava/lang/Void;)V" } : Jvm.MethodName) prog_35_method_150_code (5 : Nat) (Option.none : Option Jvm.ClassFile.FieldType)) ∈ lw_all := lw_g (lw_at lw_m2 180 rfl) rfl
theorem q515 : (Jvm.Cond.methodLink "java/lang/String" (1 : Nat) ({ cls := "java/lang/Object", name := "<init>", desc := "()V" } : Jvm.MethodName)) ∈ lw_all := lw_g (lw_at lw_m2 181 rfl) rfl
theorem q516 : (Jvm.Cond.methodLink "java/lang/String" (552 : Nat) ({ cls := "java/lang/AbstractStringBuilder", name := "getValue", desc := "()[B" } : Jvm.MethodName)) ∈ lw_all := lw_g (lw_at lw_m2 182 rfl) rfl
theorem q521 : (Jvm.Cond.methodLink "java/lang/String" (549 : Nat) ({ cls := "java/lang/AbstractStringBuilder", name := "length", desc := "()I" } : Jvm.MethodName)) ∈ lw_all := lw_g (lw_at lw_m2 187 rfl) rfl
theorem q529 : (Jvm.Cond.methodLink "java/lang/String" (1047 : Nat) ({ cls := "java/lang/AbstractStringBuilder", name := "isLatin1", desc := "()Z" } : Jvm.MethodName)) ∈ lw_all := lw_g (lw_at lw_m2 195 rfl) rfl
theorem q530 : (Jvm.Cond.methodLink "java/lang/String" (54 : Nat) ({ cls := "java/util/Arrays", name := "copyOfRange", desc := "([BII)[B" } : Jvm.MethodName)) ∈ lw_all := lw_g (lw_at lw_m2 196 rfl) rfl
theorem q571 : (Jvm.Cond.methodLink "java/lang/String" (1051 : Nat) ({ cls := "java/lang/StringUTF16", name := "compress", desc := "([BII)[B" } : Jvm.MethodName)) ∈ lw_all := lw_g (lw_at lw_m2 237 rfl) rfl
theorem q581 : (Jvm.Cond.methodLink "java/lang/String" (47 : Nat) ({ cls := "java/lang/StringUTF16", name := "coderFromArrayLen", desc := "([BI)B" } : Jvm.MethodName)) ∈ lw_all := lw_g (lw_at lw_m3 7 rfl) rfl
theorem q584 : (Jvm.Cond.fieldLink "java/lang/String" (9 : Nat) "java/lang/String" "value" "[B") ∈ lw_all := lw_g (lw_at lw_m3 10 rfl) rfl
theorem q585 : (Jvm.Cond.fieldLink "java/lang/String" (15 : Nat) "java/lang/String" "coder" "B") ∈ lw_all := lw_g (lw_at lw_m3 11 rfl) rfl
theorem q586 : (Jvm.Cond.laysFinal "java/lang/String" "java/lang/String" "value" "[B") ∈ lw_all := lw_g (lw_at lw_m3 12 rfl) rfl
theorem q587 : (Jvm.Cond.soleField "java/lang/String" "value") ∈ lw_all := lw_g (lw_at lw_m3 13 rfl) rfl
theorem q588 : (Jvm.Cond.laysFinal "java/lang/String" "java/lang/String" "coder" "B") ∈ lw_all := lw_g (lw_at lw_m3 14 rfl) rfl
theorem q589 : (Jvm.Cond.soleField "java/lang/String" "coder") ∈ lw_all := lw_g (lw_at lw_m3 15 rfl) rfl
theorem q590 : (Jvm.Cond.lays "java/lang/String" "java/lang/String" "hash" "I") ∈ lw_all := lw_g (lw_at lw_m3 16 rfl) rfl
theorem q591 : (Jvm.Cond.soleField "java/lang/String" "hash") ∈ lw_all := lw_g (lw_at lw_m3 17 rfl) rfl
theorem q592 : (Jvm.Cond.lays "java/lang/String" "java/lang/String" "hashIsZero" "Z") ∈ lw_all := lw_g (lw_at lw_m3 18 rfl) rfl
theorem q593 : (Jvm.Cond.soleField "java/lang/String" "hashIsZero") ∈ lw_all := lw_g (lw_at lw_m3 19 rfl) rfl
theorem q594 : (Jvm.Cond.superclass "java/lang/String" "java/lang/Object") ∈ lw_all := lw_g (lw_at lw_m3 20 rfl) rfl
theorem q961 : (Jvm.Cond.selects "java/lang/String" ({ cls := "java/lang/Object", name := "getClass", desc := "()Ljava/lang/Class;" } : Jvm.MethodName) ({ cls := "java/lang/Object", name := "getClass", desc := "()Ljava/lang/Class;" } : Jvm.MethodName)) ∈ lw_all := lw_g (lw_at lw_m4 147 rfl) rfl
theorem q1223 : (Jvm.Cond.static ({ cls := "java/lang/String", name := "checkIndex", desc := "(II)V" } : Jvm.MethodName)) ∈ lw_all := lw_g (lw_at lw_m5 169 rfl) rfl
theorem q1224 : (Jvm.Cond.code ({ cls := "java/lang/String", name := "checkIndex", desc := "(II)V" } : Jvm.MethodName) prog_35_method_155_code (2 : Nat) (Option.none : Option Jvm.ClassFile.FieldType)) ∈ lw_all := lw_g (lw_at lw_m5 170 rfl) rfl
theorem q1225 : (Jvm.Cond.methodLink "java/lang/String" (1059 : Nat) ({ cls := "jdk/internal/util/Preconditions", name := "checkIndex", desc := "(IILjava/util/function/BiFunction;)I" } : Jvm.MethodName)) ∈ lw_all := lw_g (lw_at lw_m5 171 rfl) rfl
theorem q1331 : (Jvm.Cond.instanceMethod ({ cls := "java/lang/String", name := "equals", desc := "(Ljava/lang/Object;)Z" } : Jvm.MethodName)) ∈ lw_all := lw_g (lw_at lw_m6 37 rfl) rfl
theorem q1332 : (Jvm.Cond.selects "java/lang/String" ({ cls := "java/lang/String", name := "equals", desc := "(Ljava/lang/Object;)Z" } : Jvm.MethodName) ({ cls := "java/lang/String", name := "equals", desc := "(Ljava/lang/Object;)Z" } : Jvm.MethodName)) ∈ lw_all := lw_g (lw_at lw_m6 38 rfl) rfl
theorem q1333 : (Jvm.Cond.code ({ cls := "java/lang/String", name := "equals", desc := "(Ljava/lang/Object;)Z" } : Jvm.MethodName) prog_35_method_66_code (3 : Nat) (Option.some Jvm.ClassFile.FieldType.boolean)) ∈ lw_all := lw_g (lw_at lw_m6 39 rfl) rfl
theorem q1334 : (Jvm.Cond.classLink "java/lang/String" (10 : Nat) "java/lang/String") ∈ lw_all := lw_g (lw_at lw_m6 40 rfl) rfl
theorem q1335 : (Jvm.Cond.methodLink "java/lang/String" (541 : Nat) ({ cls := "java/lang/StringLatin1", name := "equals", desc := "([B[B)Z" } : Jvm.MethodName)) ∈ lw_all := lw_g (lw_at lw_m6 41 rfl) rfl
theorem q1404 : (Jvm.Cond.instanceMethod ({ cls := "java/lang/String", name := "charAt", desc := "(I)C" } : Jvm.MethodName)) ∈ lw_all := lw_g (lw_at lw_m6 110 rfl) rfl
theorem q1405 : (Jvm.Cond.selects "java/lang/String" ({ cls := "java/lang/String", name := "charAt", desc := "(I)C" } : Jvm.MethodName) ({ cls := "java/lang/String", name := "charAt", desc := "(I)C" } : Jvm.MethodName)) ∈ lw_all := lw_g (lw_at lw_m6 111 rfl) rfl
theorem q1406 : (Jvm.Cond.code ({ cls := "java/lang/String", name := "charAt", desc := "(I)C" } : Jvm.MethodName) prog_35_method_56_code (2 : Nat) (Option.some Jvm.ClassFile.FieldType.char)) ∈ lw_all := lw_g (lw_at lw_m6 112 rfl) rfl
theorem q1407 : (Jvm.Cond.methodLink "java/lang/String" (492 : Nat) ({ cls := "java/lang/String", name := "isLatin1", desc := "()Z" } : Jvm.MethodName)) ∈ lw_all := lw_g (lw_at lw_m6 113 rfl) rfl
theorem q1408 : (Jvm.Cond.instanceMethod ({ cls := "java/lang/String", name := "isLatin1", desc := "()Z" } : Jvm.MethodName)) ∈ lw_all := lw_g (lw_at lw_m6 114 rfl) rfl
theorem q1409 : (Jvm.Cond.selects "java/lang/String" ({ cls := "java/lang/String", name := "isLatin1", desc := "()Z" } : Jvm.MethodName) ({ cls := "java/lang/String", name := "isLatin1", desc := "()Z" } : Jvm.MethodName)) ∈ lw_all := lw_g (lw_at lw_m6 115 rfl) rfl
theorem q1410 : (Jvm.Cond.code ({ cls := "java/lang/String", name := "isLatin1", desc := "()Z" } : Jvm.MethodName) prog_35_method_154_code (1 : Nat) (Option.some Jvm.ClassFile.FieldType.boolean)) ∈ lw_all := lw_g (lw_at lw_m6 116 rfl) rfl
theorem q1411 : (Jvm.Cond.methodLink "java/lang/String" (495 : Nat) ({ cls := "java/lang/StringLatin1", name := "charAt", desc := "([BI)C" } : Jvm.MethodName)) ∈ lw_all := lw_g (lw_at lw_m6 117 rfl) rfl
theorem q1415 : (Jvm.Cond.methodLink "java/lang/String" (498 : Nat) ({ cls := "java/lang/StringUTF16", name := "charAt", desc := "([BI)C" } : Jvm.MethodName)) ∈ lw_all := lw_g (lw_at lw_m6 121 rfl) rfl
theorem q2259 : (Jvm.Cond.castable "java/lang/String" "java/lang/Object") ∈ lw_tbl := lw_at lw_m10 5 rfl
theorem in_J9 : ∀ w ∈ wsJ90, w ∈ lw_all := lw_in wsJ90 [586, 588, 590, 592] (by decide +kernel) (by decide +kernel)
/-! java/lang/StringLatin1 -/
set_option maxRecDepth 100000
def RJ15 : String := "java/lang/StringLatin1"
abbrev cJ15_inflate : ByteArray := prog_38_method_50_code
def yJ15_inflate : MethodName := ⟨RJ15, "inflate", "([BI[BII)V"⟩
def dkwJ15_inflate_0 : List UInt8 := [42, 27, 44, 29, 21, 4, 184, 0, 240, 177]
abbrev dktJ15_inflate_0 : List UInt8 := dkwJ15_inflate_0 ++ []
theorem dksJ15_inflate_0 : cJ15_inflate.data.toList.drop 0 = dktJ15_inflate_0 := by decide +kernel
theorem dJ15_inflate_0 : decode cJ15_inflate 0 = .ok (.aload_n 0, 1) := dk_42 (dk_at dksJ15_inflate_0 0 rfl rfl)
theorem dJ15_inflate_1 : decode cJ15_inflate 1 = .ok (.iload_n 1, 1) := dk_27 (dk_at dksJ15_inflate_0 1 rfl rfl)
theorem dJ15_inflate_2 : decode cJ15_inflate 2 = .ok (.aload_n 2, 1) := dk_44 (dk_at dksJ15_inflate_0 2 rfl rfl)
theorem dJ15_inflate_3 : decode cJ15_inflate 3 = .ok (.iload_n 3, 1) := dk_29 (dk_at dksJ15_inflate_0 3 rfl rfl)
theorem dJ15_inflate_4 : decode cJ15_inflate 4 = .ok (.iload 4, 2) := dk_21 4 (dk_at dksJ15_inflate_0 4 rfl rfl)
theorem dJ15_inflate_6 : decode cJ15_inflate 6 = .ok (.invokestatic 240, 3) := dk_184 0 240 (dk_at dksJ15_inflate_0 6 rfl rfl)
theorem dJ15_inflate_9 : decode cJ15_inflate 9 = .ok (.return_, 1) := dk_177 (dk_at dksJ15_inflate_0 9 rfl rfl)
abbrev cJ15_fillNull : ByteArray := prog_38_method_48_code
def yJ15_fillNull : MethodName := ⟨RJ15, "fillNull", "([BII)V"⟩
def dkwJ15_fillNull_0 : List UInt8 := [42, 27, 28, 3, 184, 0, 236, 177]
abbrev dktJ15_fillNull_0 : List UInt8 := dkwJ15_fillNull_0 ++ []
theorem dksJ15_fillNull_0 : cJ15_fillNull.data.toList.drop 0 = dktJ15_fillNull_0 := by decide +kernel
theorem dJ15_fillNull_0 : decode cJ15_fillNull 0 = .ok (.aload_n 0, 1) := dk_42 (dk_at dksJ15_fillNull_0 0 rfl rfl)
theorem dJ15_fillNull_1 : decode cJ15_fillNull 1 = .ok (.iload_n 1, 1) := dk_27 (dk_at dksJ15_fillNull_0 1 rfl rfl)
theorem dJ15_fillNull_2 : decode cJ15_fillNull 2 = .ok (.iload_n 2, 1) := dk_28 (dk_at dksJ15_fillNull_0 2 rfl rfl)
theorem dJ15_fillNull_3 : decode cJ15_fillNull 3 = .ok (.iconst 0, 1) := dk_3 (dk_at dksJ15_fillNull_0 3 rfl rfl)
theorem dJ15_fillNull_4 : decode cJ15_fillNull 4 = .ok (.invokestatic 236, 3) := dk_184 0 236 (dk_at dksJ15_fillNull_0 4 rfl rfl)
theorem dJ15_fillNull_7 : decode cJ15_fillNull 7 = .ok (.return_, 1) := dk_177 (dk_at dksJ15_fillNull_0 7 rfl rfl)
abbrev cJ15_canEncode : ByteArray := prog_38_method_3_code
def yJ15_canEncode : MethodName := ⟨RJ15, "canEncode", "(C)Z"⟩
def dkwJ15_canEncode_0 : List UInt8 := [26, 17, 0, 255, 163, 0, 7, 4, 167, 0, 4, 3, 172]
abbrev dktJ15_canEncode_0 : List UInt8 := dkwJ15_canEncode_0 ++ []
theorem dksJ15_canEncode_0 : cJ15_canEncode.data.toList.drop 0 = dktJ15_canEncode_0 := by decide +kernel
theorem dJ15_canEncode_0 : decode cJ15_canEncode 0 = .ok (.iload_n 0, 1) := dk_26 (dk_at dksJ15_canEncode_0 0 rfl rfl)
theorem dJ15_canEncode_1 : decode cJ15_canEncode 1 = .ok (.sipush 255, 3) := dk_17 0 255 (dk_at dksJ15_canEncode_0 1 rfl rfl)
theorem dJ15_canEncode_4 : decode cJ15_canEncode 4 = .ok (.if_icmp .gt 7, 3) := dk_163 0 7 (dk_at dksJ15_canEncode_0 4 rfl rfl)
theorem dJ15_canEncode_7 : decode cJ15_canEncode 7 = .ok (.iconst 1, 1) := dk_4 (dk_at dksJ15_canEncode_0 7 rfl rfl)
theorem dJ15_canEncode_8 : decode cJ15_canEncode 8 = .ok (.goto 4, 3) := dk_167 0 4 (dk_at dksJ15_canEncode_0 8 rfl rfl)
theorem dJ15_canEncode_11 : decode cJ15_canEncode 11 = .ok (.iconst 0, 1) := dk_3 (dk_at dksJ15_canEncode_0 11 rfl rfl)
theorem dJ15_canEncode_12 : decode cJ15_canEncode 12 = .ok (.ireturn, 1) := dk_172 (dk_at dksJ15_canEncode_0 12 rfl rfl)
abbrev cJ15_equals : ByteArray := prog_38_method_13_code
def yJ15_equals : MethodName := ⟨RJ15, "equals", "([B[B)Z"⟩
def dkwJ15_equals_1 : List UInt8 := [3, 172, 132, 2, 1, 167, 255, 236, 4, 172, 3, 172]
abbrev dktJ15_equals_1 : List UInt8 := dkwJ15_equals_1 ++ []
def dkwJ15_equals_0 : List UInt8 := [42, 190, 43, 190, 160, 0, 30, 3, 61, 28, 42, 190, 162, 0, 20, 42, 28, 51, 43, 28, 51, 159, 0, 5]
abbrev dktJ15_equals_0 : List UInt8 := dkwJ15_equals_0 ++ dktJ15_equals_1
theorem dksJ15_equals_0 : cJ15_equals.data.toList.drop 0 = dktJ15_equals_0 := by decide +kernel
theorem dksJ15_equals_1 : cJ15_equals.data.toList.drop 24 = dktJ15_equals_1 := dk_seg dksJ15_equals_0 24 rfl rfl
theorem dJ15_equals_0 : decode cJ15_equals 0 = .ok (.aload_n 0, 1) := dk_42 (dk_at dksJ15_equals_0 0 rfl rfl)
theorem dJ15_equals_1 : decode cJ15_equals 1 = .ok (.arraylength, 1) := dk_190 (dk_at dksJ15_equals_0 1 rfl rfl)
theorem dJ15_equals_2 : decode cJ15_equals 2 = .ok (.aload_n 1, 1) := dk_43 (dk_at dksJ15_equals_0 2 rfl rfl)
theorem dJ15_equals_3 : decode cJ15_equals 3 = .ok (.arraylength, 1) := dk_190 (dk_at dksJ15_equals_0 3 rfl rfl)
theorem dJ15_equals_4 : decode cJ15_equals 4 = .ok (.if_icmp .ne 30, 3) := dk_160 0 30 (dk_at dksJ15_equals_0 4 rfl rfl)
theorem dJ15_equals_7 : decode cJ15_equals 7 = .ok (.iconst 0, 1) := dk_3 (dk_at dksJ15_equals_0 7 rfl rfl)
theorem dJ15_equals_8 : decode cJ15_equals 8 = .ok (.istore_n 2, 1) := dk_61 (dk_at dksJ15_equals_0 8 rfl rfl)
theorem dJ15_equals_9 : decode cJ15_equals 9 = .ok (.iload_n 2, 1) := dk_28 (dk_at dksJ15_equals_0 9 rfl rfl)
theorem dJ15_equals_10 : decode cJ15_equals 10 = .ok (.aload_n 0, 1) := dk_42 (dk_at dksJ15_equals_0 10 rfl rfl)
theorem dJ15_equals_11 : decode cJ15_equals 11 = .ok (.arraylength, 1) := dk_190 (dk_at dksJ15_equals_0 11 rfl rfl)
theorem dJ15_equals_12 : decode cJ15_equals 12 = .ok (.if_icmp .ge 20, 3) := dk_162 0 20 (dk_at dksJ15_equals_0 12 rfl rfl)
theorem dJ15_equals_15 : decode cJ15_equals 15 = .ok (.aload_n 0, 1) := dk_42 (dk_at dksJ15_equals_0 15 rfl rfl)
theorem dJ15_equals_16 : decode cJ15_equals 16 = .ok (.iload_n 2, 1) := dk_28 (dk_at dksJ15_equals_0 16 rfl rfl)
theorem dJ15_equals_17 : decode cJ15_equals 17 = .ok (.baload, 1) := dk_51 (dk_at dksJ15_equals_0 17 rfl rfl)
theorem dJ15_equals_18 : decode cJ15_equals 18 = .ok (.aload_n 1, 1) := dk_43 (dk_at dksJ15_equals_0 18 rfl rfl)
theorem dJ15_equals_19 : decode cJ15_equals 19 = .ok (.iload_n 2, 1) := dk_28 (dk_at dksJ15_equals_0 19 rfl rfl)
theorem dJ15_equals_20 : decode cJ15_equals 20 = .ok (.baload, 1) := dk_51 (dk_at dksJ15_equals_0 20 rfl rfl)
theorem dJ15_equals_21 : decode cJ15_equals 21 = .ok (.if_icmp .eq 5, 3) := dk_159 0 5 (dk_at dksJ15_equals_0 21 rfl rfl)
theorem dJ15_equals_24 : decode cJ15_equals 24 = .ok (.iconst 0, 1) := dk_3 (dk_at dksJ15_equals_1 0 rfl rfl)
theorem dJ15_equals_25 : decode cJ15_equals 25 = .ok (.ireturn, 1) := dk_172 (dk_at dksJ15_equals_1 1 rfl rfl)
theorem dJ15_equals_26 : decode cJ15_equals 26 = .ok (.iinc 2 1, 3) := dk_132 2 1 (dk_at dksJ15_equals_1 2 rfl rfl)
theorem dJ15_equals_29 : decode cJ15_equals 29 = .ok (.goto (-20), 3) := dk_167 255 236 (dk_at dksJ15_equals_1 5 rfl rfl)
theorem dJ15_equals_32 : decode cJ15_equals 32 = .ok (.iconst 1, 1) := dk_4 (dk_at dksJ15_equals_1 8 rfl rfl)
theorem dJ15_equals_33 : decode cJ15_equals 33 = .ok (.ireturn, 1) := dk_172 (dk_at dksJ15_equals_1 9 rfl rfl)
theorem dJ15_equals_34 : decode cJ15_equals 34 = .ok (.iconst 0, 1) := dk_3 (dk_at dksJ15_equals_1 10 rfl rfl)
theorem dJ15_equals_35 : decode cJ15_equals 35 = .ok (.ireturn, 1) := dk_172 (dk_at dksJ15_equals_1 11 rfl rfl)
abbrev cJ15_charAt : ByteArray := prog_38_method_2_code
def yJ15_charAt : MethodName := ⟨RJ15, "charAt", "([BI)C"⟩
def dkwJ15_charAt_0 : List UInt8 := [27, 42, 190, 184, 0, 9, 42, 27, 51, 17, 0, 255, 126, 146, 172]
abbrev dktJ15_charAt_0 : List UInt8 := dkwJ15_charAt_0 ++ []
theorem dksJ15_charAt_0 : cJ15_charAt.data.toList.drop 0 = dktJ15_charAt_0 := by decide +kernel
theorem dJ15_charAt_0 : decode cJ15_charAt 0 = .ok (.iload_n 1, 1) := dk_27 (dk_at dksJ15_charAt_0 0 rfl rfl)
theorem dJ15_charAt_1 : decode cJ15_charAt 1 = .ok (.aload_n 0, 1) := dk_42 (dk_at dksJ15_charAt_0 1 rfl rfl)
theorem dJ15_charAt_2 : decode cJ15_charAt 2 = .ok (.arraylength, 1) := dk_190 (dk_at dksJ15_charAt_0 2 rfl rfl)
theorem dJ15_charAt_3 : decode cJ15_charAt 3 = .ok (.invokestatic 9, 3) := dk_184 0 9 (dk_at dksJ15_charAt_0 3 rfl rfl)
theorem dJ15_charAt_6 : decode cJ15_charAt 6 = .ok (.aload_n 0, 1) := dk_42 (dk_at dksJ15_charAt_0 6 rfl rfl)
theorem dJ15_charAt_7 : decode cJ15_charAt 7 = .ok (.iload_n 1, 1) := dk_27 (dk_at dksJ15_charAt_0 7 rfl rfl)
theorem dJ15_charAt_8 : decode cJ15_charAt 8 = .ok (.baload, 1) := dk_51 (dk_at dksJ15_charAt_0 8 rfl rfl)
theorem dJ15_charAt_9 : decode cJ15_charAt 9 = .ok (.sipush 255, 3) := dk_17 0 255 (dk_at dksJ15_charAt_0 9 rfl rfl)
theorem dJ15_charAt_12 : decode cJ15_charAt 12 = .ok (.iand, 1) := dk_126 (dk_at dksJ15_charAt_0 12 rfl rfl)
theorem dJ15_charAt_13 : decode cJ15_charAt 13 = .ok (.i2c, 1) := dk_146 (dk_at dksJ15_charAt_0 13 rfl rfl)
theorem dJ15_charAt_14 : decode cJ15_charAt 14 = .ok (.ireturn, 1) := dk_172 (dk_at dksJ15_charAt_0 14 rfl rfl)
theorem q116 : (Jvm.Cond.initialized "java/lang/StringLatin1") ∈ lw_all := lw_g (lw_at lw_m1 22 rfl) rfl
theorem q458 : (Jvm.Cond.static ({ cls := "java/lang/StringLatin1", name := "inflate", desc := "([BI[BII)V" } : Jvm.MethodName)) ∈ lw_all := lw_g (lw_at lw_m2 124 rfl) rfl
theorem q459 : (Jvm.Cond.code ({ cls := "java/lang/StringLatin1", name := "inflate", desc := "([BI[BII)V" } : Jvm.MethodName) prog_38_method_50_code (5 : Nat) (Option.none : Option Jvm.ClassFile.FieldType)) ∈ lw_all := lw_g (lw_at lw_m2 125 rfl) rfl
theorem q460 : (Jvm.Cond.methodLink "java/lang/StringLatin1" (240 : Nat) ({ cls := "java/lang/StringUTF16", name := "inflate", desc := "([BI[BII)V" } : Jvm.MethodName)) ∈ lw_all := lw_g (lw_at lw_m2 126 rfl) rfl
theorem q1164 : (Jvm.Cond.static ({ cls := "java/lang/StringLatin1", name := "fillNull", desc := "([BII)V" } : Jvm.MethodName)) ∈ lw_all := lw_g (lw_at lw_m5 110 rfl) rfl
theorem q1165 : (Jvm.Cond.code ({ cls := "java/lang/StringLatin1", name := "fillNull", desc := "([BII)V" } : Jvm.MethodName) prog_38_method_48_code (3 : Nat) (Option.none : Option Jvm.ClassFile.FieldType)) ∈ lw_all := lw_g (lw_at lw_m5 111 rfl) rfl
theorem q1166 : (Jvm.Cond.methodLink "java/lang/StringLatin1" (236 : Nat) ({ cls := "java/util/Arrays", name := "fill", desc := "([BIIB)V" } : Jvm.MethodName)) ∈ lw_all := lw_g (lw_at lw_m5 112 rfl) rfl
theorem q1214 : (Jvm.Cond.static ({ cls := "java/lang/StringLatin1", name := "canEncode", desc := "(C)Z" } : Jvm.MethodName)) ∈ lw_all := lw_g (lw_at lw_m5 160 rfl) rfl
theorem q1215 : (Jvm.Cond.code ({ cls := "java/lang/StringLatin1", name := "canEncode", desc := "(C)Z" } : Jvm.MethodName) prog_38_method_3_code (1 : Nat) (Option.some Jvm.ClassFile.FieldType.boolean)) ∈ lw_all := lw_g (lw_at lw_m5 161 rfl) rfl
theorem q1336 : (Jvm.Cond.static ({ cls := "java/lang/StringLatin1", name := "equals", desc := "([B[B)Z" } : Jvm.MethodName)) ∈ lw_all := lw_g (lw_at lw_m6 42 rfl) rfl
theorem q1337 : (Jvm.Cond.code ({ cls := "java/lang/StringLatin1", name := "equals", desc := "([B[B)Z" } : Jvm.MethodName) prog_38_method_13_code (3 : Nat) (Option.some Jvm.ClassFile.FieldType.boolean)) ∈ lw_all := lw_g (lw_at lw_m6 43 rfl) rfl
theorem q1412 : (Jvm.Cond.static ({ cls := "java/lang/StringLatin1", name := "charAt", desc := "([BI)C" } : Jvm.MethodName)) ∈ lw_all := lw_g (lw_at lw_m6 118 rfl) rfl
theorem q1413 : (Jvm.Cond.code ({ cls := "java/lang/StringLatin1", name := "charAt", desc := "([BI)C" } : Jvm.MethodName) prog_38_method_2_code (2 : Nat) (Option.some Jvm.ClassFile.FieldType.char)) ∈ lw_all := lw_g (lw_at lw_m6 119 rfl) rfl
theorem q1414 : (Jvm.Cond.methodLink "java/lang/StringLatin1" (9 : Nat) ({ cls := "java/lang/String", name := "checkIndex", desc := "(II)V" } : Jvm.MethodName)) ∈ lw_all := lw_g (lw_at lw_m6 120 rfl) rfl
/-! jdk/internal/util/ArraysSupport -/
set_option maxRecDepth 100000
def RJ11 : String := "jdk/internal/util/ArraysSupport"
abbrev cJ11_newLength : ByteArray := prog_58_method_27_code
def yJ11_newLength : MethodName := ⟨RJ11, "newLength", "(III)I"⟩
def dkwJ11_newLength_1 : List UInt8 := [184, 0, 201, 172]
abbrev dktJ11_newLength_1 : List UInt8 := dkwJ11_newLength_1 ++ []
def dkwJ11_newLength_0 : List UInt8 := [26, 27, 28, 184, 0, 194, 96, 62, 3, 29, 162, 0, 11, 29, 18, 200, 163, 0, 5, 29, 172, 26, 27]
abbrev dktJ11_newLength_0 : List UInt8 := dkwJ11_newLength_0 ++ dktJ11_newLength_1
theorem dksJ11_newLength_0 : cJ11_newLength.data.toList.drop 0 = dktJ11_newLength_0 := by decide +kernel
theorem dksJ11_newLength_1 : cJ11_newLength.data.toList.drop 23 = dktJ11_newLength_1 := dk_seg dksJ11_newLength_0 23 rfl rfl
theorem dJ11_newLength_0 : decode cJ11_newLength 0 = .ok (.iload_n 0, 1) := dk_26 (dk_at dksJ11_newLength_0 0 rfl rfl)
theorem dJ11_newLength_1 : decode cJ11_newLength 1 = .ok (.iload_n 1, 1) := dk_27 (dk_at dksJ11_newLength_0 1 rfl rfl)
theorem dJ11_newLength_2 : decode cJ11_newLength 2 = .ok (.iload_n 2, 1) := dk_28 (dk_at dksJ11_newLength_0 2 rfl rfl)
theorem dJ11_newLength_3 : decode cJ11_newLength 3 = .ok (.invokestatic 194, 3) := dk_184 0 194 (dk_at dksJ11_newLength_0 3 rfl rfl)
theorem dJ11_newLength_6 : decode cJ11_newLength 6 = .ok (.iadd, 1) := dk_96 (dk_at dksJ11_newLength_0 6 rfl rfl)
theorem dJ11_newLength_7 : decode cJ11_newLength 7 = .ok (.istore_n 3, 1) := dk_62 (dk_at dksJ11_newLength_0 7 rfl rfl)
theorem dJ11_newLength_8 : decode cJ11_newLength 8 = .ok (.iconst 0, 1) := dk_3 (dk_at dksJ11_newLength_0 8 rfl rfl)
theorem dJ11_newLength_9 : decode cJ11_newLength 9 = .ok (.iload_n 3, 1) := dk_29 (dk_at dksJ11_newLength_0 9 rfl rfl)
theorem dJ11_newLength_10 : decode cJ11_newLength 10 = .ok (.if_icmp .ge 11, 3) := dk_162 0 11 (dk_at dksJ11_newLength_0 10 rfl rfl)
theorem dJ11_newLength_13 : decode cJ11_newLength 13 = .ok (.iload_n 3, 1) := dk_29 (dk_at dksJ11_newLength_0 13 rfl rfl)
theorem dJ11_newLength_14 : decode cJ11_newLength 14 = .ok (.ldc 200, 2) := dk_18 200 (dk_at dksJ11_newLength_0 14 rfl rfl)
theorem dJ11_newLength_16 : decode cJ11_newLength 16 = .ok (.if_icmp .gt 5, 3) := dk_163 0 5 (dk_at dksJ11_newLength_0 16 rfl rfl)
theorem dJ11_newLength_19 : decode cJ11_newLength 19 = .ok (.iload_n 3, 1) := dk_29 (dk_at dksJ11_newLength_0 19 rfl rfl)
theorem dJ11_newLength_20 : decode cJ11_newLength 20 = .ok (.ireturn, 1) := dk_172 (dk_at dksJ11_newLength_0 20 rfl rfl)
theorem dJ11_newLength_21 : decode cJ11_newLength 21 = .ok (.iload_n 0, 1) := dk_26 (dk_at dksJ11_newLength_0 21 rfl rfl)
theorem dJ11_newLength_22 : decode cJ11_newLength 22 = .ok (.iload_n 1, 1) := dk_27 (dk_at dksJ11_newLength_0 22 rfl rfl)
theorem dJ11_newLength_23 : decode cJ11_newLength 23 = .ok (.invokestatic 201, 3) := dk_184 0 201 (dk_at dksJ11_newLength_1 0 rfl rfl)
theorem dJ11_newLength_26 : decode cJ11_newLength 26 = .ok (.ireturn, 1) := dk_172 (dk_at dksJ11_newLength_1 3 rfl rfl)
abbrev cJ11_hugeLength : ByteArray := prog_58_method_28_code
def yJ11_hugeLength : MethodName := ⟨RJ11, "hugeLength", "(II)I"⟩
def dkwJ11_hugeLength_2 : List UInt8 := [191, 28, 18, 200, 163, 0, 6, 18, 200, 172, 28, 172]
abbrev dktJ11_hugeLength_2 : List UInt8 := dkwJ11_hugeLength_2 ++ []
def dkwJ11_hugeLength_1 : List UInt8 := [26, 182, 0, 98, 18, 208, 182, 0, 94, 27, 182, 0, 98, 18, 210, 182, 0, 94, 182, 0, 101, 183, 0, 212]
abbrev dktJ11_hugeLength_1 : List UInt8 := dkwJ11_hugeLength_1 ++ dktJ11_hugeLength_2
def dkwJ11_hugeLength_0 : List UInt8 := [26, 27, 96, 61, 28, 156, 0, 44, 187, 0, 204, 89, 187, 0, 89, 89, 183, 0, 91, 18, 206, 182, 0, 94]
abbrev dktJ11_hugeLength_0 : List UInt8 := dkwJ11_hugeLength_0 ++ dktJ11_hugeLength_1
theorem dksJ11_hugeLength_0 : cJ11_hugeLength.data.toList.drop 0 = dktJ11_hugeLength_0 := by decide +kernel
theorem dksJ11_hugeLength_1 : cJ11_hugeLength.data.toList.drop 24 = dktJ11_hugeLength_1 := dk_seg dksJ11_hugeLength_0 24 rfl rfl
theorem dksJ11_hugeLength_2 : cJ11_hugeLength.data.toList.drop 48 = dktJ11_hugeLength_2 := dk_seg dksJ11_hugeLength_1 24 rfl rfl
theorem dJ11_hugeLength_0 : decode cJ11_hugeLength 0 = .ok (.iload_n 0, 1) := dk_26 (dk_at dksJ11_hugeLength_0 0 rfl rfl)
theorem dJ11_hugeLength_1 : decode cJ11_hugeLength 1 = .ok (.iload_n 1, 1) := dk_27 (dk_at dksJ11_hugeLength_0 1 rfl rfl)
theorem dJ11_hugeLength_2 : decode cJ11_hugeLength 2 = .ok (.iadd, 1) := dk_96 (dk_at dksJ11_hugeLength_0 2 rfl rfl)
theorem dJ11_hugeLength_3 : decode cJ11_hugeLength 3 = .ok (.istore_n 2, 1) := dk_61 (dk_at dksJ11_hugeLength_0 3 rfl rfl)
theorem dJ11_hugeLength_4 : decode cJ11_hugeLength 4 = .ok (.iload_n 2, 1) := dk_28 (dk_at dksJ11_hugeLength_0 4 rfl rfl)
theorem dJ11_hugeLength_5 : decode cJ11_hugeLength 5 = .ok (.ifCond .ge 44, 3) := dk_156 0 44 (dk_at dksJ11_hugeLength_0 5 rfl rfl)
theorem dJ11_hugeLength_8 : decode cJ11_hugeLength 8 = .ok (.new 204, 3) := dk_187 0 204 (dk_at dksJ11_hugeLength_0 8 rfl rfl)
theorem dJ11_hugeLength_11 : decode cJ11_hugeLength 11 = .ok (.dup, 1) := dk_89 (dk_at dksJ11_hugeLength_0 11 rfl rfl)
theorem dJ11_hugeLength_12 : decode cJ11_hugeLength 12 = .ok (.new 89, 3) := dk_187 0 89 (dk_at dksJ11_hugeLength_0 12 rfl rfl)
theorem dJ11_hugeLength_15 : decode cJ11_hugeLength 15 = .ok (.dup, 1) := dk_89 (dk_at dksJ11_hugeLength_0 15 rfl rfl)
theorem dJ11_hugeLength_16 : decode cJ11_hugeLength 16 = .ok (.invokespecial 91, 3) := dk_183 0 91 (dk_at dksJ11_hugeLength_0 16 rfl rfl)
theorem dJ11_hugeLength_19 : decode cJ11_hugeLength 19 = .ok (.ldc 206, 2) := dk_18 206 (dk_at dksJ11_hugeLength_0 19 rfl rfl)
theorem dJ11_hugeLength_21 : decode cJ11_hugeLength 21 = .ok (.invokevirtual 94, 3) := dk_182 0 94 (dk_at dksJ11_hugeLength_0 21 rfl rfl)
theorem dJ11_hugeLength_24 : decode cJ11_hugeLength 24 = .ok (.iload_n 0, 1) := dk_26 (dk_at dksJ11_hugeLength_1 0 rfl rfl)
theorem dJ11_hugeLength_25 : decode cJ11_hugeLength 25 = .ok (.invokevirtual 98, 3) := dk_182 0 98 (dk_at dksJ11_hugeLength_1 1 rfl rfl)
theorem dJ11_hugeLength_28 : decode cJ11_hugeLength 28 = .ok (.ldc 208, 2) := dk_18 208 (dk_at dksJ11_hugeLength_1 4 rfl rfl)
theorem dJ11_hugeLength_30 : decode cJ11_hugeLength 30 = .ok (.invokevirtual 94, 3) := dk_182 0 94 (dk_at dksJ11_hugeLength_1 6 rfl rfl)
theorem dJ11_hugeLength_33 : decode cJ11_hugeLength 33 = .ok (.iload_n 1, 1) := dk_27 (dk_at dksJ11_hugeLength_1 9 rfl rfl)
theorem dJ11_hugeLength_34 : decode cJ11_hugeLength 34 = .ok (.invokevirtual 98, 3) := dk_182 0 98 (dk_at dksJ11_hugeLength_1 10 rfl rfl)
theorem dJ11_hugeLength_37 : decode cJ11_hugeLength 37 = .ok (.ldc 210, 2) := dk_18 210 (dk_at dksJ11_hugeLength_1 13 rfl rfl)
theorem dJ11_hugeLength_39 : decode cJ11_hugeLength 39 = .ok (.invokevirtual 94, 3) := dk_182 0 94 (dk_at dksJ11_hugeLength_1 15 rfl rfl)
theorem dJ11_hugeLength_42 : decode cJ11_hugeLength 42 = .ok (.invokevirtual 101, 3) := dk_182 0 101 (dk_at dksJ11_hugeLength_1 18 rfl rfl)
theorem dJ11_hugeLength_45 : decode cJ11_hugeLength 45 = .ok (.invokespecial 212, 3) := dk_183 0 212 (dk_at dksJ11_hugeLength_1 21 rfl rfl)
theorem dJ11_hugeLength_48 : decode cJ11_hugeLength 48 = .ok (.athrow, 1) := dk_191 (dk_at dksJ11_hugeLength_2 0 rfl rfl)
theorem dJ11_hugeLength_49 : decode cJ11_hugeLength 49 = .ok (.iload_n 2, 1) := dk_28 (dk_at dksJ11_hugeLength_2 1 rfl rfl)
theorem dJ11_hugeLength_50 : decode cJ11_hugeLength 50 = .ok (.ldc 200, 2) := dk_18 200 (dk_at dksJ11_hugeLength_2 2 rfl rfl)
theorem dJ11_hugeLength_52 : decode cJ11_hugeLength 52 = .ok (.if_icmp .gt 6, 3) := dk_163 0 6 (dk_at dksJ11_hugeLength_2 4 rfl rfl)
theorem dJ11_hugeLength_55 : decode cJ11_hugeLength 55 = .ok (.ldc 200, 2) := dk_18 200 (dk_at dksJ11_hugeLength_2 7 rfl rfl)
theorem dJ11_hugeLength_57 : decode cJ11_hugeLength 57 = .ok (.ireturn, 1) := dk_172 (dk_at dksJ11_hugeLength_2 9 rfl rfl)
theorem dJ11_hugeLength_58 : decode cJ11_hugeLength 58 = .ok (.iload_n 2, 1) := dk_28 (dk_at dksJ11_hugeLength_2 10 rfl rfl)
theorem dJ11_hugeLength_59 : decode cJ11_hugeLength 59 = .ok (.ireturn, 1) := dk_172 (dk_at dksJ11_hugeLength_2 11 rfl rfl)
theorem q111 : (Jvm.Cond.initialized "jdk/internal/util/ArraysSupport") ∈ lw_all := lw_g (lw_at lw_m1 17 rfl) rfl
theorem q378 : (Jvm.Cond.static ({ cls := "jdk/internal/util/ArraysSupport", name := "newLength", desc := "(III)I" } : Jvm.MethodName)) ∈ lw_all := lw_g (lw_at lw_m2 44 rfl) rfl
theorem q379 : (Jvm.Cond.code ({ cls := "jdk/internal/util/ArraysSupport", name := "newLength", desc := "(III)I" } : Jvm.MethodName) prog_58_method_27_code (4 : Nat) (Option.some Jvm.ClassFile.FieldType.int)) ∈ lw_all := lw_g (lw_at lw_m2 45 rfl) rfl
theorem q380 : (Jvm.Cond.methodLink "jdk/internal/util/ArraysSupport" (194 : Nat) ({ cls := "java/lang/Math", name := "max", desc := "(II)I" } : Jvm.MethodName)) ∈ lw_all := lw_g (lw_at lw_m2 46 rfl) rfl
theorem q383 : (Jvm.Cond.constant "jdk/internal/util/ArraysSupport" (200 : Nat) (2147483639 : Int32)) ∈ lw_all := lw_g (lw_at lw_m2 49 rfl) rfl
theorem q384 : (Jvm.Cond.methodLink "jdk/internal/util/ArraysSupport" (201 : Nat) ({ cls := "jdk/internal/util/ArraysSupport", name := "hugeLength", desc := "(II)I" } : Jvm.MethodName)) ∈ lw_all := lw_g (lw_at lw_m2 50 rfl) rfl
theorem q385 : (Jvm.Cond.static ({ cls := "jdk/internal/util/ArraysSupport", name := "hugeLength", desc := "(II)I" } : Jvm.MethodName)) ∈ lw_all := lw_g (lw_at lw_m2 51 rfl) rfl
theorem q386 : (Jvm.Cond.code ({ cls := "jdk/internal/util/ArraysSupport", name := "hugeLength", desc := "(II)I" } : Jvm.MethodName) prog_58_method_28_code (3 : Nat) (Option.some Jvm.ClassFile.FieldType.int)) ∈ lw_all := lw_g (lw_at lw_m2 52 rfl) rfl
/-! java/lang/Math -/
set_option maxRecDepth 100000
def RJ12 : String := "java/lang/Math"
abbrev cJ12_max : ByteArray := prog_31_method_65_code
def yJ12_max : MethodName := ⟨RJ12, "max", "(II)I"⟩
def dkwJ12_max_0 : List UInt8 := [26, 27, 161, 0, 7, 26, 167, 0, 4, 27, 172]
abbrev dktJ12_max_0 : List UInt8 := dkwJ12_max_0 ++ []
theorem dksJ12_max_0 : cJ12_max.data.toList.drop 0 = dktJ12_max_0 := by decide +kernel
theorem dJ12_max_0 : decode cJ12_max 0 = .ok (.iload_n 0, 1) := dk_26 (dk_at dksJ12_max_0 0 rfl rfl)
theorem dJ12_max_1 : decode cJ12_max 1 = .ok (.iload_n 1, 1) := dk_27 (dk_at dksJ12_max_0 1 rfl rfl)
theorem dJ12_max_2 : decode cJ12_max 2 = .ok (.if_icmp .lt 7, 3) := dk_161 0 7 (dk_at dksJ12_max_0 2 rfl rfl)
theorem dJ12_max_5 : decode cJ12_max 5 = .ok (.iload_n 0, 1) := dk_26 (dk_at dksJ12_max_0 5 rfl rfl)
theorem dJ12_max_6 : decode cJ12_max 6 = .ok (.goto 4, 3) := dk_167 0 4 (dk_at dksJ12_max_0 6 rfl rfl)
theorem dJ12_max_9 : decode cJ12_max 9 = .ok (.iload_n 1, 1) := dk_27 (dk_at dksJ12_max_0 9 rfl rfl)
theorem dJ12_max_10 : decode cJ12_max 10 = .ok (.ireturn, 1) := dk_172 (dk_at dksJ12_max_0 10 rfl rfl)
abbrev cJ12_min : ByteArray := prog_31_method_69_code
def yJ12_min : MethodName := ⟨RJ12, "min", "(II)I"⟩
def dkwJ12_min_0 : List UInt8 := [26, 27, 163, 0, 7, 26, 167, 0, 4, 27, 172]
abbrev dktJ12_min_0 : List UInt8 := dkwJ12_min_0 ++ []
theorem dksJ12_min_0 : cJ12_min.data.toList.drop 0 = dktJ12_min_0 := by decide +kernel
theorem dJ12_min_0 : decode cJ12_min 0 = .ok (.iload_n 0, 1) := dk_26 (dk_at dksJ12_min_0 0 rfl rfl)
theorem dJ12_min_1 : decode cJ12_min 1 = .ok (.iload_n 1, 1) := dk_27 (dk_at dksJ12_min_0 1 rfl rfl)
theorem dJ12_min_2 : decode cJ12_min 2 = .ok (.if_icmp .gt 7, 3) := dk_163 0 7 (dk_at dksJ12_min_0 2 rfl rfl)
theorem dJ12_min_5 : decode cJ12_min 5 = .ok (.iload_n 0, 1) := dk_26 (dk_at dksJ12_min_0 5 rfl rfl)
theorem dJ12_min_6 : decode cJ12_min 6 = .ok (.goto 4, 3) := dk_167 0 4 (dk_at dksJ12_min_0 6 rfl rfl)
theorem dJ12_min_9 : decode cJ12_min 9 = .ok (.iload_n 1, 1) := dk_27 (dk_at dksJ12_min_0 9 rfl rfl)
theorem dJ12_min_10 : decode cJ12_min 10 = .ok (.ireturn, 1) := dk_172 (dk_at dksJ12_min_0 10 rfl rfl)
theorem q112 : (Jvm.Cond.initialized "java/lang/Math") ∈ lw_all := lw_g (lw_at lw_m1 18 rfl) rfl
theorem q381 : (Jvm.Cond.static ({ cls := "java/lang/Math", name := "max", desc := "(II)I" } : Jvm.MethodName)) ∈ lw_all := lw_g (lw_at lw_m2 47 rfl) rfl
theorem q382 : (Jvm.Cond.code ({ cls := "java/lang/Math", name := "max", desc := "(II)I" } : Jvm.MethodName) prog_31_method_65_code (2 : Nat) (Option.some Jvm.ClassFile.FieldType.int)) ∈ lw_all := lw_g (lw_at lw_m2 48 rfl) rfl
theorem q399 : (Jvm.Cond.static ({ cls := "java/lang/Math", name := "min", desc := "(II)I" } : Jvm.MethodName)) ∈ lw_all := lw_g (lw_at lw_m2 65 rfl) rfl
theorem q400 : (Jvm.Cond.code ({ cls := "java/lang/Math", name := "min", desc := "(II)I" } : Jvm.MethodName) prog_31_method_69_code (2 : Nat) (Option.some Jvm.ClassFile.FieldType.int)) ∈ lw_all := lw_g (lw_at lw_m2 66 rfl) rfl
/-! java/util/Arrays -/
set_option maxRecDepth 100000
def RJ13 : String := "java/util/Arrays"
abbrev cJ13_copyOf : ByteArray := prog_48_method_121_code
def yJ13_copyOf : MethodName := ⟨RJ13, "copyOf", "([BI)[B"⟩
def dkwJ13_copyOf_1 : List UInt8 := [27, 184, 1, 48, 184, 0, 150, 44, 176]
abbrev dktJ13_copyOf_1 : List UInt8 := dkwJ13_copyOf_1 ++ []
def dkwJ13_copyOf_0 : List UInt8 := [27, 42, 190, 160, 0, 11, 42, 182, 1, 54, 192, 1, 55, 176, 27, 188, 8, 77, 42, 3, 44, 3, 42, 190]
abbrev dktJ13_copyOf_0 : List UInt8 := dkwJ13_copyOf_0 ++ dktJ13_copyOf_1
theorem dksJ13_copyOf_0 : cJ13_copyOf.data.toList.drop 0 = dktJ13_copyOf_0 := by decide +kernel
theorem dksJ13_copyOf_1 : cJ13_copyOf.data.toList.drop 24 = dktJ13_copyOf_1 := dk_seg dksJ13_copyOf_0 24 rfl rfl
theorem dJ13_copyOf_0 : decode cJ13_copyOf 0 = .ok (.iload_n 1, 1) := dk_27 (dk_at dksJ13_copyOf_0 0 rfl rfl)
theorem dJ13_copyOf_1 : decode cJ13_copyOf 1 = .ok (.aload_n 0, 1) := dk_42 (dk_at dksJ13_copyOf_0 1 rfl rfl)
theorem dJ13_copyOf_2 : decode cJ13_copyOf 2 = .ok (.arraylength, 1) := dk_190 (dk_at dksJ13_copyOf_0 2 rfl rfl)
theorem dJ13_copyOf_3 : decode cJ13_copyOf 3 = .ok (.if_icmp .ne 11, 3) := dk_160 0 11 (dk_at dksJ13_copyOf_0 3 rfl rfl)
theorem dJ13_copyOf_6 : decode cJ13_copyOf 6 = .ok (.aload_n 0, 1) := dk_42 (dk_at dksJ13_copyOf_0 6 rfl rfl)
theorem dJ13_copyOf_7 : decode cJ13_copyOf 7 = .ok (.invokevirtual 310, 3) := dk_182 1 54 (dk_at dksJ13_copyOf_0 7 rfl rfl)
theorem dJ13_copyOf_10 : decode cJ13_copyOf 10 = .ok (.checkcast 311, 3) := dk_192 1 55 (dk_at dksJ13_copyOf_0 10 rfl rfl)
theorem dJ13_copyOf_13 : decode cJ13_copyOf 13 = .ok (.areturn, 1) := dk_176 (dk_at dksJ13_copyOf_0 13 rfl rfl)
theorem dJ13_copyOf_14 : decode cJ13_copyOf 14 = .ok (.iload_n 1, 1) := dk_27 (dk_at dksJ13_copyOf_0 14 rfl rfl)
theorem dJ13_copyOf_15 : decode cJ13_copyOf 15 = .ok (.newarray .byte, 2) := dk_188_8 (dk_at dksJ13_copyOf_0 15 rfl rfl)
theorem dJ13_copyOf_17 : decode cJ13_copyOf 17 = .ok (.astore_n 2, 1) := dk_77 (dk_at dksJ13_copyOf_0 17 rfl rfl)
theorem dJ13_copyOf_18 : decode cJ13_copyOf 18 = .ok (.aload_n 0, 1) := dk_42 (dk_at dksJ13_copyOf_0 18 rfl rfl)
theorem dJ13_copyOf_19 : decode cJ13_copyOf 19 = .ok (.iconst 0, 1) := dk_3 (dk_at dksJ13_copyOf_0 19 rfl rfl)
theorem dJ13_copyOf_20 : decode cJ13_copyOf 20 = .ok (.aload_n 2, 1) := dk_44 (dk_at dksJ13_copyOf_0 20 rfl rfl)
theorem dJ13_copyOf_21 : decode cJ13_copyOf 21 = .ok (.iconst 0, 1) := dk_3 (dk_at dksJ13_copyOf_0 21 rfl rfl)
theorem dJ13_copyOf_22 : decode cJ13_copyOf 22 = .ok (.aload_n 0, 1) := dk_42 (dk_at dksJ13_copyOf_0 22 rfl rfl)
theorem dJ13_copyOf_23 : decode cJ13_copyOf 23 = .ok (.arraylength, 1) := dk_190 (dk_at dksJ13_copyOf_0 23 rfl rfl)
theorem dJ13_copyOf_24 : decode cJ13_copyOf 24 = .ok (.iload_n 1, 1) := dk_27 (dk_at dksJ13_copyOf_1 0 rfl rfl)
theorem dJ13_copyOf_25 : decode cJ13_copyOf 25 = .ok (.invokestatic 304, 3) := dk_184 1 48 (dk_at dksJ13_copyOf_1 1 rfl rfl)
theorem dJ13_copyOf_28 : decode cJ13_copyOf 28 = .ok (.invokestatic 150, 3) := dk_184 0 150 (dk_at dksJ13_copyOf_1 4 rfl rfl)
theorem dJ13_copyOf_31 : decode cJ13_copyOf 31 = .ok (.aload_n 2, 1) := dk_44 (dk_at dksJ13_copyOf_1 7 rfl rfl)
theorem dJ13_copyOf_32 : decode cJ13_copyOf 32 = .ok (.areturn, 1) := dk_176 (dk_at dksJ13_copyOf_1 8 rfl rfl)
abbrev cJ13_copyOfRange : ByteArray := prog_48_method_132_code
def yJ13_copyOfRange : MethodName := ⟨RJ13, "copyOfRange", "([BII)[B"⟩
def dkwJ13_copyOfRange_1 : List UInt8 := [176]
abbrev dktJ13_copyOfRange_1 : List UInt8 := dkwJ13_copyOfRange_1 ++ []
def dkwJ13_copyOfRange_0 : List UInt8 := [27, 154, 0, 9, 28, 42, 190, 159, 0, 10, 42, 27, 28, 184, 1, 83, 176, 42, 182, 1, 54, 192, 1, 55]
abbrev dktJ13_copyOfRange_0 : List UInt8 := dkwJ13_copyOfRange_0 ++ dktJ13_copyOfRange_1
theorem dksJ13_copyOfRange_0 : cJ13_copyOfRange.data.toList.drop 0 = dktJ13_copyOfRange_0 := by decide +kernel
theorem dksJ13_copyOfRange_1 : cJ13_copyOfRange.data.toList.drop 24 = dktJ13_copyOfRange_1 := dk_seg dksJ13_copyOfRange_0 24 rfl rfl
theorem dJ13_copyOfRange_0 : decode cJ13_copyOfRange 0 = .ok (.iload_n 1, 1) := dk_27 (dk_at dksJ13_copyOfRange_0 0 rfl rfl)
theorem dJ13_copyOfRange_1 : decode cJ13_copyOfRange 1 = .ok (.ifCond .ne 9, 3) := dk_154 0 9 (dk_at dksJ13_copyOfRange_0 1 rfl rfl)
theorem dJ13_copyOfRange_4 : decode cJ13_copyOfRange 4 = .ok (.iload_n 2, 1) := dk_28 (dk_at dksJ13_copyOfRange_0 4 rfl rfl)
theorem dJ13_copyOfRange_5 : decode cJ13_copyOfRange 5 = .ok (.aload_n 0, 1) := dk_42 (dk_at dksJ13_copyOfRange_0 5 rfl rfl)
theorem dJ13_copyOfRange_6 : decode cJ13_copyOfRange 6 = .ok (.arraylength, 1) := dk_190 (dk_at dksJ13_copyOfRange_0 6 rfl rfl)
theorem dJ13_copyOfRange_7 : decode cJ13_copyOfRange 7 = .ok (.if_icmp .eq 10, 3) := dk_159 0 10 (dk_at dksJ13_copyOfRange_0 7 rfl rfl)
theorem dJ13_copyOfRange_10 : decode cJ13_copyOfRange 10 = .ok (.aload_n 0, 1) := dk_42 (dk_at dksJ13_copyOfRange_0 10 rfl rfl)
theorem dJ13_copyOfRange_11 : decode cJ13_copyOfRange 11 = .ok (.iload_n 1, 1) := dk_27 (dk_at dksJ13_copyOfRange_0 11 rfl rfl)
theorem dJ13_copyOfRange_12 : decode cJ13_copyOfRange 12 = .ok (.iload_n 2, 1) := dk_28 (dk_at dksJ13_copyOfRange_0 12 rfl rfl)
theorem dJ13_copyOfRange_13 : decode cJ13_copyOfRange 13 = .ok (.invokestatic 339, 3) := dk_184 1 83 (dk_at dksJ13_copyOfRange_0 13 rfl rfl)
theorem dJ13_copyOfRange_16 : decode cJ13_copyOfRange 16 = .ok (.areturn, 1) := dk_176 (dk_at dksJ13_copyOfRange_0 16 rfl rfl)
theorem dJ13_copyOfRange_17 : decode cJ13_copyOfRange 17 = .ok (.aload_n 0, 1) := dk_42 (dk_at dksJ13_copyOfRange_0 17 rfl rfl)
theorem dJ13_copyOfRange_18 : decode cJ13_copyOfRange 18 = .ok (.invokevirtual 310, 3) := dk_182 1 54 (dk_at dksJ13_copyOfRange_0 18 rfl rfl)
theorem dJ13_copyOfRange_21 : decode cJ13_copyOfRange 21 = .ok (.checkcast 311, 3) := dk_192 1 55 (dk_at dksJ13_copyOfRange_0 21 rfl rfl)
theorem dJ13_copyOfRange_24 : decode cJ13_copyOfRange 24 = .ok (.areturn, 1) := dk_176 (dk_at dksJ13_copyOfRange_1 0 rfl rfl)
abbrev cJ13_copyOfRangeByte : ByteArray := prog_48_method_133_code
def yJ13_copyOfRangeByte : MethodName := ⟨RJ13, "copyOfRangeByte", "([BII)[B"⟩
def dkwJ13_copyOfRangeByte_1 : List UInt8 := [184, 1, 48, 184, 0, 150, 25, 4, 176]
abbrev dktJ13_copyOfRangeByte_1 : List UInt8 := dkwJ13_copyOfRangeByte_1 ++ []
def dkwJ13_copyOfRangeByte_0 : List UInt8 := [27, 28, 184, 1, 87, 28, 27, 100, 62, 29, 188, 8, 58, 4, 42, 27, 25, 4, 3, 42, 190, 27, 100, 29]
abbrev dktJ13_copyOfRangeByte_0 : List UInt8 := dkwJ13_copyOfRangeByte_0 ++ dktJ13_copyOfRangeByte_1
theorem dksJ13_copyOfRangeByte_0 : cJ13_copyOfRangeByte.data.toList.drop 0 = dktJ13_copyOfRangeByte_0 := by decide +kernel
theorem dksJ13_copyOfRangeByte_1 : cJ13_copyOfRangeByte.data.toList.drop 24 = dktJ13_copyOfRangeByte_1 := dk_seg dksJ13_copyOfRangeByte_0 24 rfl rfl
theorem dJ13_copyOfRangeByte_0 : decode cJ13_copyOfRangeByte 0 = .ok (.iload_n 1, 1) := dk_27 (dk_at dksJ13_copyOfRangeByte_0 0 rfl rfl)
theorem dJ13_copyOfRangeByte_1 : decode cJ13_copyOfRangeByte 1 = .ok (.iload_n 2, 1) := dk_28 (dk_at dksJ13_copyOfRangeByte_0 1 rfl rfl)
theorem dJ13_copyOfRangeByte_2 : decode cJ13_copyOfRangeByte 2 = .ok (.invokestatic 343, 3) := dk_184 1 87 (dk_at dksJ13_copyOfRangeByte_0 2 rfl rfl)
theorem dJ13_copyOfRangeByte_5 : decode cJ13_copyOfRangeByte 5 = .ok (.iload_n 2, 1) := dk_28 (dk_at dksJ13_copyOfRangeByte_0 5 rfl rfl)
theorem dJ13_copyOfRangeByte_6 : decode cJ13_copyOfRangeByte 6 = .ok (.iload_n 1, 1) := dk_27 (dk_at dksJ13_copyOfRangeByte_0 6 rfl rfl)
theorem dJ13_copyOfRangeByte_7 : decode cJ13_copyOfRangeByte 7 = .ok (.isub, 1) := dk_100 (dk_at dksJ13_copyOfRangeByte_0 7 rfl rfl)
theorem dJ13_copyOfRangeByte_8 : decode cJ13_copyOfRangeByte 8 = .ok (.istore_n 3, 1) := dk_62 (dk_at dksJ13_copyOfRangeByte_0 8 rfl rfl)
theorem dJ13_copyOfRangeByte_9 : decode cJ13_copyOfRangeByte 9 = .ok (.iload_n 3, 1) := dk_29 (dk_at dksJ13_copyOfRangeByte_0 9 rfl rfl)
theorem dJ13_copyOfRangeByte_10 : decode cJ13_copyOfRangeByte 10 = .ok (.newarray .byte, 2) := dk_188_8 (dk_at dksJ13_copyOfRangeByte_0 10 rfl rfl)
theorem dJ13_copyOfRangeByte_12 : decode cJ13_copyOfRangeByte 12 = .ok (.astore 4, 2) := dk_58 4 (dk_at dksJ13_copyOfRangeByte_0 12 rfl rfl)
theorem dJ13_copyOfRangeByte_14 : decode cJ13_copyOfRangeByte 14 = .ok (.aload_n 0, 1) := dk_42 (dk_at dksJ13_copyOfRangeByte_0 14 rfl rfl)
theorem dJ13_copyOfRangeByte_15 : decode cJ13_copyOfRangeByte 15 = .ok (.iload_n 1, 1) := dk_27 (dk_at dksJ13_copyOfRangeByte_0 15 rfl rfl)
theorem dJ13_copyOfRangeByte_16 : decode cJ13_copyOfRangeByte 16 = .ok (.aload 4, 2) := dk_25 4 (dk_at dksJ13_copyOfRangeByte_0 16 rfl rfl)
theorem dJ13_copyOfRangeByte_18 : decode cJ13_copyOfRangeByte 18 = .ok (.iconst 0, 1) := dk_3 (dk_at dksJ13_copyOfRangeByte_0 18 rfl rfl)
theorem dJ13_copyOfRangeByte_19 : decode cJ13_copyOfRangeByte 19 = .ok (.aload_n 0, 1) := dk_42 (dk_at dksJ13_copyOfRangeByte_0 19 rfl rfl)
theorem dJ13_copyOfRangeByte_20 : decode cJ13_copyOfRangeByte 20 = .ok (.arraylength, 1) := dk_190 (dk_at dksJ13_copyOfRangeByte_0 20 rfl rfl)
theorem dJ13_copyOfRangeByte_21 : decode cJ13_copyOfRangeByte 21 = .ok (.iload_n 1, 1) := dk_27 (dk_at dksJ13_copyOfRangeByte_0 21 rfl rfl)
theorem dJ13_copyOfRangeByte_22 : decode cJ13_copyOfRangeByte 22 = .ok (.isub, 1) := dk_100 (dk_at dksJ13_copyOfRangeByte_0 22 rfl rfl)
theorem dJ13_copyOfRangeByte_23 : decode cJ13_copyOfRangeByte 23 = .ok (.iload_n 3, 1) := dk_29 (dk_at dksJ13_copyOfRangeByte_0 23 rfl rfl)
theorem dJ13_copyOfRangeByte_24 : decode cJ13_copyOfRangeByte 24 = .ok (.invokestatic 304, 3) := dk_184 1 48 (dk_at dksJ13_copyOfRangeByte_1 0 rfl rfl)
theorem dJ13_copyOfRangeByte_27 : decode cJ13_copyOfRangeByte 27 = .ok (.invokestatic 150, 3) := dk_184 0 150 (dk_at dksJ13_copyOfRangeByte_1 3 rfl rfl)
theorem dJ13_copyOfRangeByte_30 : decode cJ13_copyOfRangeByte 30 = .ok (.aload 4, 2) := dk_25 4 (dk_at dksJ13_copyOfRangeByte_1 6 rfl rfl)
theorem dJ13_copyOfRangeByte_32 : decode cJ13_copyOfRangeByte 32 = .ok (.areturn, 1) := dk_176 (dk_at dksJ13_copyOfRangeByte_1 8 rfl rfl)
abbrev cJ13_checkLength : ByteArray := prog_48_method_131_code
def yJ13_checkLength : MethodName := ⟨RJ13, "checkLength", "(II)V"⟩
def dkwJ13_checkLength_1 : List UInt8 := [182, 0, 50, 27, 182, 0, 54, 182, 0, 61, 183, 0, 65, 191, 177]
abbrev dktJ13_checkLength_1 : List UInt8 := dkwJ13_checkLength_1 ++ []
def dkwJ13_checkLength_0 : List UInt8 := [27, 26, 162, 0, 35, 187, 0, 43, 89, 187, 0, 45, 89, 183, 0, 47, 26, 182, 0, 54, 19, 1, 81]
abbrev dktJ13_checkLength_0 : List UInt8 := dkwJ13_checkLength_0 ++ dktJ13_checkLength_1
theorem dksJ13_checkLength_0 : cJ13_checkLength.data.toList.drop 0 = dktJ13_checkLength_0 := by decide +kernel
theorem dksJ13_checkLength_1 : cJ13_checkLength.data.toList.drop 23 = dktJ13_checkLength_1 := dk_seg dksJ13_checkLength_0 23 rfl rfl
theorem dJ13_checkLength_0 : decode cJ13_checkLength 0 = .ok (.iload_n 1, 1) := dk_27 (dk_at dksJ13_checkLength_0 0 rfl rfl)
theorem dJ13_checkLength_1 : decode cJ13_checkLength 1 = .ok (.iload_n 0, 1) := dk_26 (dk_at dksJ13_checkLength_0 1 rfl rfl)
theorem dJ13_checkLength_2 : decode cJ13_checkLength 2 = .ok (.if_icmp .ge 35, 3) := dk_162 0 35 (dk_at dksJ13_checkLength_0 2 rfl rfl)
theorem dJ13_checkLength_5 : decode cJ13_checkLength 5 = .ok (.new 43, 3) := dk_187 0 43 (dk_at dksJ13_checkLength_0 5 rfl rfl)
theorem dJ13_checkLength_8 : decode cJ13_checkLength 8 = .ok (.dup, 1) := dk_89 (dk_at dksJ13_checkLength_0 8 rfl rfl)
theorem dJ13_checkLength_9 : decode cJ13_checkLength 9 = .ok (.new 45, 3) := dk_187 0 45 (dk_at dksJ13_checkLength_0 9 rfl rfl)
theorem dJ13_checkLength_12 : decode cJ13_checkLength 12 = .ok (.dup, 1) := dk_89 (dk_at dksJ13_checkLength_0 12 rfl rfl)
theorem dJ13_checkLength_13 : decode cJ13_checkLength 13 = .ok (.invokespecial 47, 3) := dk_183 0 47 (dk_at dksJ13_checkLength_0 13 rfl rfl)
theorem dJ13_checkLength_16 : decode cJ13_checkLength 16 = .ok (.iload_n 0, 1) := dk_26 (dk_at dksJ13_checkLength_0 16 rfl rfl)
theorem dJ13_checkLength_17 : decode cJ13_checkLength 17 = .ok (.invokevirtual 54, 3) := dk_182 0 54 (dk_at dksJ13_checkLength_0 17 rfl rfl)
theorem dJ13_checkLength_20 : decode cJ13_checkLength 20 = .ok (.ldc_w 337, 3) := dk_19 1 81 (dk_at dksJ13_checkLength_0 20 rfl rfl)
theorem dJ13_checkLength_23 : decode cJ13_checkLength 23 = .ok (.invokevirtual 50, 3) := dk_182 0 50 (dk_at dksJ13_checkLength_1 0 rfl rfl)
theorem dJ13_checkLength_26 : decode cJ13_checkLength 26 = .ok (.iload_n 1, 1) := dk_27 (dk_at dksJ13_checkLength_1 3 rfl rfl)
theorem dJ13_checkLength_27 : decode cJ13_checkLength 27 = .ok (.invokevirtual 54, 3) := dk_182 0 54 (dk_at dksJ13_checkLength_1 4 rfl rfl)
theorem dJ13_checkLength_30 : decode cJ13_checkLength 30 = .ok (.invokevirtual 61, 3) := dk_182 0 61 (dk_at dksJ13_checkLength_1 7 rfl rfl)
theorem dJ13_checkLength_33 : decode cJ13_checkLength 33 = .ok (.invokespecial 65, 3) := dk_183 0 65 (dk_at dksJ13_checkLength_1 10 rfl rfl)
theorem dJ13_checkLength_36 : decode cJ13_checkLength 36 = .ok (.athrow, 1) := dk_191 (dk_at dksJ13_checkLength_1 13 rfl rfl)
theorem dJ13_checkLength_37 : decode cJ13_checkLength 37 = .ok (.return_, 1) := dk_177 (dk_at dksJ13_checkLength_1 14 rfl rfl)
abbrev cJ13_copyOfRange_2 : ByteArray := prog_48_method_130_code
def yJ13_copyOfRange_2 : MethodName := ⟨RJ13, "copyOfRange", "([Ljava/lang/Object;IILjava/lang/Class;)[Ljava/lang/Object;"⟩
def dkwJ13_copyOfRange_2_3 : List UInt8 := [58, 5, 42, 27, 25, 5, 3, 42, 190, 27, 100, 21, 4, 184, 1, 48, 184, 0, 150, 25, 5, 176]
abbrev dktJ13_copyOfRange_2_3 : List UInt8 := dkwJ13_copyOfRange_2_3 ++ []
def dkwJ13_copyOfRange_2_2 : List UInt8 := [166, 0, 11, 21, 4, 189, 0, 2, 167, 0, 15, 45, 182, 0, 90, 21, 4, 184, 0, 95, 192, 0, 110]
abbrev dktJ13_copyOfRange_2_2 : List UInt8 := dkwJ13_copyOfRange_2_2 ++ dktJ13_copyOfRange_2_3
def dkwJ13_copyOfRange_2_1 : List UInt8 := [182, 0, 54, 19, 1, 81, 182, 0, 50, 28, 182, 0, 54, 182, 0, 61, 183, 0, 65, 191, 45, 18, 110]
abbrev dktJ13_copyOfRange_2_1 : List UInt8 := dkwJ13_copyOfRange_2_1 ++ dktJ13_copyOfRange_2_2
def dkwJ13_copyOfRange_2_0 : List UInt8 := [28, 27, 100, 54, 4, 21, 4, 156, 0, 35, 187, 0, 43, 89, 187, 0, 45, 89, 183, 0, 47, 27]
abbrev dktJ13_copyOfRange_2_0 : List UInt8 := dkwJ13_copyOfRange_2_0 ++ dktJ13_copyOfRange_2_1
theorem dksJ13_copyOfRange_2_0 : cJ13_copyOfRange_2.data.toList.drop 0 = dktJ13_copyOfRange_2_0 := by decide +kernel
theorem dksJ13_copyOfRange_2_1 : cJ13_copyOfRange_2.data.toList.drop 22 = dktJ13_copyOfRange_2_1 := dk_seg dksJ13_copyOfRange_2_0 22 rfl rfl
theorem dksJ13_copyOfRange_2_2 : cJ13_copyOfRange_2.data.toList.drop 45 = dktJ13_copyOfRange_2_2 := dk_seg dksJ13_copyOfRange_2_1 23 rfl rfl
theorem dksJ13_copyOfRange_2_3 : cJ13_copyOfRange_2.data.toList.drop 68 = dktJ13_copyOfRange_2_3 := dk_seg dksJ13_copyOfRange_2_2 23 rfl rfl
theorem dJ13_copyOfRange_2_0 : decode cJ13_copyOfRange_2 0 = .ok (.iload_n 2, 1) := dk_28 (dk_at dksJ13_copyOfRange_2_0 0 rfl rfl)
theorem dJ13_copyOfRange_2_1 : decode cJ13_copyOfRange_2 1 = .ok (.iload_n 1, 1) := dk_27 (dk_at dksJ13_copyOfRange_2_0 1 rfl rfl)
theorem dJ13_copyOfRange_2_2 : decode cJ13_copyOfRange_2 2 = .ok (.isub, 1) := dk_100 (dk_at dksJ13_copyOfRange_2_0 2 rfl rfl)
theorem dJ13_copyOfRange_2_3 : decode cJ13_copyOfRange_2 3 = .ok (.istore 4, 2) := dk_54 4 (dk_at dksJ13_copyOfRange_2_0 3 rfl rfl)
theorem dJ13_copyOfRange_2_5 : decode cJ13_copyOfRange_2 5 = .ok (.iload 4, 2) := dk_21 4 (dk_at dksJ13_copyOfRange_2_0 5 rfl rfl)
theorem dJ13_copyOfRange_2_7 : decode cJ13_copyOfRange_2 7 = .ok (.ifCond .ge 35, 3) := dk_156 0 35 (dk_at dksJ13_copyOfRange_2_0 7 rfl rfl)
theorem dJ13_copyOfRange_2_10 : decode cJ13_copyOfRange_2 10 = .ok (.new 43, 3) := dk_187 0 43 (dk_at dksJ13_copyOfRange_2_0 10 rfl rfl)
theorem dJ13_copyOfRange_2_13 : decode cJ13_copyOfRange_2 13 = .ok (.dup, 1) := dk_89 (dk_at dksJ13_copyOfRange_2_0 13 rfl rfl)
theorem dJ13_copyOfRange_2_14 : decode cJ13_copyOfRange_2 14 = .ok (.new 45, 3) := dk_187 0 45 (dk_at dksJ13_copyOfRange_2_0 14 rfl rfl)
theorem dJ13_copyOfRange_2_17 : decode cJ13_copyOfRange_2 17 = .ok (.dup, 1) := dk_89 (dk_at dksJ13_copyOfRange_2_0 17 rfl rfl)
theorem dJ13_copyOfRange_2_18 : decode cJ13_copyOfRange_2 18 = .ok (.invokespecial 47, 3) := dk_183 0 47 (dk_at dksJ13_copyOfRange_2_0 18 rfl rfl)
theorem dJ13_copyOfRange_2_21 : decode cJ13_copyOfRange_2 21 = .ok (.iload_n 1, 1) := dk_27 (dk_at dksJ13_copyOfRange_2_0 21 rfl rfl)
theorem dJ13_copyOfRange_2_22 : decode cJ13_copyOfRange_2 22 = .ok (.invokevirtual 54, 3) := dk_182 0 54 (dk_at dksJ13_copyOfRange_2_1 0 rfl rfl)
theorem dJ13_copyOfRange_2_25 : decode cJ13_copyOfRange_2 25 = .ok (.ldc_w 337, 3) := dk_19 1 81 (dk_at dksJ13_copyOfRange_2_1 3 rfl rfl)
theorem dJ13_copyOfRange_2_28 : decode cJ13_copyOfRange_2 28 = .ok (.invokevirtual 50, 3) := dk_182 0 50 (dk_at dksJ13_copyOfRange_2_1 6 rfl rfl)
theorem dJ13_copyOfRange_2_31 : decode cJ13_copyOfRange_2 31 = .ok (.iload_n 2, 1) := dk_28 (dk_at dksJ13_copyOfRange_2_1 9 rfl rfl)
theorem dJ13_copyOfRange_2_32 : decode cJ13_copyOfRange_2 32 = .ok (.invokevirtual 54, 3) := dk_182 0 54 (dk_at dksJ13_copyOfRange_2_1 10 rfl rfl)
theorem dJ13_copyOfRange_2_35 : decode cJ13_copyOfRange_2 35 = .ok (.invokevirtual 61, 3) := dk_182 0 61 (dk_at dksJ13_copyOfRange_2_1 13 rfl rfl)
theorem dJ13_copyOfRange_2_38 : decode cJ13_copyOfRange_2 38 = .ok (.invokespecial 65, 3) := dk_183 0 65 (dk_at dksJ13_copyOfRange_2_1 16 rfl rfl)
theorem dJ13_copyOfRange_2_41 : decode cJ13_copyOfRange_2 41 = .ok (.athrow, 1) := dk_191 (dk_at dksJ13_copyOfRange_2_1 19 rfl rfl)
theorem dJ13_copyOfRange_2_42 : decode cJ13_copyOfRange_2 42 = .ok (.aload_n 3, 1) := dk_45 (dk_at dksJ13_copyOfRange_2_1 20 rfl rfl)
theorem dJ13_copyOfRange_2_43 : decode cJ13_copyOfRange_2 43 = .ok (.ldc 110, 2) := dk_18 110 (dk_at dksJ13_copyOfRange_2_1 21 rfl rfl)
theorem dJ13_copyOfRange_2_45 : decode cJ13_copyOfRange_2 45 = .ok (.if_acmp .ne 11, 3) := dk_166 0 11 (dk_at dksJ13_copyOfRange_2_2 0 rfl rfl)
theorem dJ13_copyOfRange_2_48 : decode cJ13_copyOfRange_2 48 = .ok (.iload 4, 2) := dk_21 4 (dk_at dksJ13_copyOfRange_2_2 3 rfl rfl)
theorem dJ13_copyOfRange_2_50 : decode cJ13_copyOfRange_2 50 = .ok (.anewarray 2, 3) := dk_189 0 2 (dk_at dksJ13_copyOfRange_2_2 5 rfl rfl)
theorem dJ13_copyOfRange_2_53 : decode cJ13_copyOfRange_2 53 = .ok (.goto 15, 3) := dk_167 0 15 (dk_at dksJ13_copyOfRange_2_2 8 rfl rfl)
theorem dJ13_copyOfRange_2_56 : decode cJ13_copyOfRange_2 56 = .ok (.aload_n 3, 1) := dk_45 (dk_at dksJ13_copyOfRange_2_2 11 rfl rfl)
theorem dJ13_copyOfRange_2_57 : decode cJ13_copyOfRange_2 57 = .ok (.invokevirtual 90, 3) := dk_182 0 90 (dk_at dksJ13_copyOfRange_2_2 12 rfl rfl)
theorem dJ13_copyOfRange_2_60 : decode cJ13_copyOfRange_2 60 = .ok (.iload 4, 2) := dk_21 4 (dk_at dksJ13_copyOfRange_2_2 15 rfl rfl)
theorem dJ13_copyOfRange_2_62 : decode cJ13_copyOfRange_2 62 = .ok (.invokestatic 95, 3) := dk_184 0 95 (dk_at dksJ13_copyOfRange_2_2 17 rfl rfl)
theorem dJ13_copyOfRange_2_65 : decode cJ13_copyOfRange_2 65 = .ok (.checkcast 110, 3) := dk_192 0 110 (dk_at dksJ13_copyOfRange_2_2 20 rfl rfl)
theorem dJ13_copyOfRange_2_68 : decode cJ13_copyOfRange_2 68 = .ok (.astore 5, 2) := dk_58 5 (dk_at dksJ13_copyOfRange_2_3 0 rfl rfl)
theorem dJ13_copyOfRange_2_70 : decode cJ13_copyOfRange_2 70 = .ok (.aload_n 0, 1) := dk_42 (dk_at dksJ13_copyOfRange_2_3 2 rfl rfl)
theorem dJ13_copyOfRange_2_71 : decode cJ13_copyOfRange_2 71 = .ok (.iload_n 1, 1) := dk_27 (dk_at dksJ13_copyOfRange_2_3 3 rfl rfl)
theorem dJ13_copyOfRange_2_72 : decode cJ13_copyOfRange_2 72 = .ok (.aload 5, 2) := dk_25 5 (dk_at dksJ13_copyOfRange_2_3 4 rfl rfl)
theorem dJ13_copyOfRange_2_74 : decode cJ13_copyOfRange_2 74 = .ok (.iconst 0, 1) := dk_3 (dk_at dksJ13_copyOfRange_2_3 6 rfl rfl)
theorem dJ13_copyOfRange_2_75 : decode cJ13_copyOfRange_2 75 = .ok (.aload_n 0, 1) := dk_42 (dk_at dksJ13_copyOfRange_2_3 7 rfl rfl)
theorem dJ13_copyOfRange_2_76 : decode cJ13_copyOfRange_2 76 = .ok (.arraylength, 1) := dk_190 (dk_at dksJ13_copyOfRange_2_3 8 rfl rfl)
theorem dJ13_copyOfRange_2_77 : decode cJ13_copyOfRange_2 77 = .ok (.iload_n 1, 1) := dk_27 (dk_at dksJ13_copyOfRange_2_3 9 rfl rfl)
theorem dJ13_copyOfRange_2_78 : decode cJ13_copyOfRange_2 78 = .ok (.isub, 1) := dk_100 (dk_at dksJ13_copyOfRange_2_3 10 rfl rfl)
theorem dJ13_copyOfRange_2_79 : decode cJ13_copyOfRange_2 79 = .ok (.iload 4, 2) := dk_21 4 (dk_at dksJ13_copyOfRange_2_3 11 rfl rfl)
theorem dJ13_copyOfRange_2_81 : decode cJ13_copyOfRange_2 81 = .ok (.invokestatic 304, 3) := dk_184 1 48 (dk_at dksJ13_copyOfRange_2_3 13 rfl rfl)
theorem dJ13_copyOfRange_2_84 : decode cJ13_copyOfRange_2 84 = .ok (.invokestatic 150, 3) := dk_184 0 150 (dk_at dksJ13_copyOfRange_2_3 16 rfl rfl)
theorem dJ13_copyOfRange_2_87 : decode cJ13_copyOfRange_2 87 = .ok (.aload 5, 2) := dk_25 5 (dk_at dksJ13_copyOfRange_2_3 19 rfl rfl)
theorem dJ13_copyOfRange_2_89 : decode cJ13_copyOfRange_2 89 = .ok (.areturn, 1) := dk_176 (dk_at dksJ13_copyOfRange_2_3 21 rfl rfl)
abbrev cJ13_copyOf_2 : ByteArray := prog_48_method_119_code
def yJ13_copyOf_2 : MethodName := ⟨RJ13, "copyOf", "([Ljava/lang/Object;I)[Ljava/lang/Object;"⟩
def dkwJ13_copyOf_2_0 : List UInt8 := [42, 27, 42, 182, 0, 86, 184, 1, 44, 176]
abbrev dktJ13_copyOf_2_0 : List UInt8 := dkwJ13_copyOf_2_0 ++ []
theorem dksJ13_copyOf_2_0 : cJ13_copyOf_2.data.toList.drop 0 = dktJ13_copyOf_2_0 := by decide +kernel
theorem dJ13_copyOf_2_0 : decode cJ13_copyOf_2 0 = .ok (.aload_n 0, 1) := dk_42 (dk_at dksJ13_copyOf_2_0 0 rfl rfl)
theorem dJ13_copyOf_2_1 : decode cJ13_copyOf_2 1 = .ok (.iload_n 1, 1) := dk_27 (dk_at dksJ13_copyOf_2_0 1 rfl rfl)
theorem dJ13_copyOf_2_2 : decode cJ13_copyOf_2 2 = .ok (.aload_n 0, 1) := dk_42 (dk_at dksJ13_copyOf_2_0 2 rfl rfl)
theorem dJ13_copyOf_2_3 : decode cJ13_copyOf_2 3 = .ok (.invokevirtual 86, 3) := dk_182 0 86 (dk_at dksJ13_copyOf_2_0 3 rfl rfl)
theorem dJ13_copyOf_2_6 : decode cJ13_copyOf_2 6 = .ok (.invokestatic 300, 3) := dk_184 1 44 (dk_at dksJ13_copyOf_2_0 6 rfl rfl)
theorem dJ13_copyOf_2_9 : decode cJ13_copyOf_2 9 = .ok (.areturn, 1) := dk_176 (dk_at dksJ13_copyOf_2_0 9 rfl rfl)
abbrev cJ13_copyOf_3 : ByteArray := prog_48_method_120_code
def yJ13_copyOf_3 : MethodName := ⟨RJ13, "copyOf", "([Ljava/lang/Object;ILjava/lang/Class;)[Ljava/lang/Object;"⟩
def dkwJ13_copyOf_3_1 : List UInt8 := [78, 42, 3, 45, 3, 42, 190, 27, 184, 1, 48, 184, 0, 150, 45, 176]
abbrev dktJ13_copyOf_3_1 : List UInt8 := dkwJ13_copyOf_3_1 ++ []
def dkwJ13_copyOf_3_0 : List UInt8 := [44, 18, 110, 166, 0, 10, 27, 189, 0, 2, 167, 0, 14, 44, 182, 0, 90, 27, 184, 0, 95, 192, 0, 110]
abbrev dktJ13_copyOf_3_0 : List UInt8 := dkwJ13_copyOf_3_0 ++ dktJ13_copyOf_3_1
theorem dksJ13_copyOf_3_0 : cJ13_copyOf_3.data.toList.drop 0 = dktJ13_copyOf_3_0 := by decide +kernel
theorem dksJ13_copyOf_3_1 : cJ13_copyOf_3.data.toList.drop 24 = dktJ13_copyOf_3_1 := dk_seg dksJ13_copyOf_3_0 24 rfl rfl
theorem dJ13_copyOf_3_0 : decode cJ13_copyOf_3 0 = .ok (.aload_n 2, 1) := dk_44 (dk_at dksJ13_copyOf_3_0 0 rfl rfl)
theorem dJ13_copyOf_3_1 : decode cJ13_copyOf_3 1 = .ok (.ldc 110, 2) := dk_18 110 (dk_at dksJ13_copyOf_3_0 1 rfl rfl)
theorem dJ13_copyOf_3_3 : decode cJ13_copyOf_3 3 = .ok (.if_acmp .ne 10, 3) := dk_166 0 10 (dk_at dksJ13_copyOf_3_0 3 rfl rfl)
theorem dJ13_copyOf_3_6 : decode cJ13_copyOf_3 6 = .ok (.iload_n 1, 1) := dk_27 (dk_at dksJ13_copyOf_3_0 6 rfl rfl)
theorem dJ13_copyOf_3_7 : decode cJ13_copyOf_3 7 = .ok (.anewarray 2, 3) := dk_189 0 2 (dk_at dksJ13_copyOf_3_0 7 rfl rfl)
theorem dJ13_copyOf_3_10 : decode cJ13_copyOf_3 10 = .ok (.goto 14, 3) := dk_167 0 14 (dk_at dksJ13_copyOf_3_0 10 rfl rfl)
theorem dJ13_copyOf_3_13 : decode cJ13_copyOf_3 13 = .ok (.aload_n 2, 1) := dk_44 (dk_at dksJ13_copyOf_3_0 13 rfl rfl)
theorem dJ13_copyOf_3_14 : decode cJ13_copyOf_3 14 = .ok (.invokevirtual 90, 3) := dk_182 0 90 (dk_at dksJ13_copyOf_3_0 14 rfl rfl)
theorem dJ13_copyOf_3_17 : decode cJ13_copyOf_3 17 = .ok (.iload_n 1, 1) := dk_27 (dk_at dksJ13_copyOf_3_0 17 rfl rfl)
theorem dJ13_copyOf_3_18 : decode cJ13_copyOf_3 18 = .ok (.invokestatic 95, 3) := dk_184 0 95 (dk_at dksJ13_copyOf_3_0 18 rfl rfl)
theorem dJ13_copyOf_3_21 : decode cJ13_copyOf_3 21 = .ok (.checkcast 110, 3) := dk_192 0 110 (dk_at dksJ13_copyOf_3_0 21 rfl rfl)
theorem dJ13_copyOf_3_24 : decode cJ13_copyOf_3 24 = .ok (.astore_n 3, 1) := dk_78 (dk_at dksJ13_copyOf_3_1 0 rfl rfl)
theorem dJ13_copyOf_3_25 : decode cJ13_copyOf_3 25 = .ok (.aload_n 0, 1) := dk_42 (dk_at dksJ13_copyOf_3_1 1 rfl rfl)
theorem dJ13_copyOf_3_26 : decode cJ13_copyOf_3 26 = .ok (.iconst 0, 1) := dk_3 (dk_at dksJ13_copyOf_3_1 2 rfl rfl)
theorem dJ13_copyOf_3_27 : decode cJ13_copyOf_3 27 = .ok (.aload_n 3, 1) := dk_45 (dk_at dksJ13_copyOf_3_1 3 rfl rfl)
theorem dJ13_copyOf_3_28 : decode cJ13_copyOf_3 28 = .ok (.iconst 0, 1) := dk_3 (dk_at dksJ13_copyOf_3_1 4 rfl rfl)
theorem dJ13_copyOf_3_29 : decode cJ13_copyOf_3 29 = .ok (.aload_n 0, 1) := dk_42 (dk_at dksJ13_copyOf_3_1 5 rfl rfl)
theorem dJ13_copyOf_3_30 : decode cJ13_copyOf_3 30 = .ok (.arraylength, 1) := dk_190 (dk_at dksJ13_copyOf_3_1 6 rfl rfl)
theorem dJ13_copyOf_3_31 : decode cJ13_copyOf_3 31 = .ok (.iload_n 1, 1) := dk_27 (dk_at dksJ13_copyOf_3_1 7 rfl rfl)
theorem dJ13_copyOf_3_32 : decode cJ13_copyOf_3 32 = .ok (.invokestatic 304, 3) := dk_184 1 48 (dk_at dksJ13_copyOf_3_1 8 rfl rfl)
theorem dJ13_copyOf_3_35 : decode cJ13_copyOf_3 35 = .ok (.invokestatic 150, 3) := dk_184 0 150 (dk_at dksJ13_copyOf_3_1 11 rfl rfl)
theorem dJ13_copyOf_3_38 : decode cJ13_copyOf_3 38 = .ok (.aload_n 3, 1) := dk_45 (dk_at dksJ13_copyOf_3_1 14 rfl rfl)
theorem dJ13_copyOf_3_39 : decode cJ13_copyOf_3 39 = .ok (.areturn, 1) := dk_176 (dk_at dksJ13_copyOf_3_1 15 rfl rfl)
abbrev cJ13_fill : ByteArray := prog_48_method_110_code
def yJ13_fill : MethodName := ⟨RJ13, "fill", "([BIIB)V"⟩
def dkwJ13_fill_1 : List UInt8 := [167, 255, 242, 177]
abbrev dktJ13_fill_1 : List UInt8 := dkwJ13_fill_1 ++ []
def dkwJ13_fill_0 : List UInt8 := [42, 190, 27, 28, 184, 0, 13, 27, 54, 4, 21, 4, 28, 162, 0, 14, 42, 21, 4, 29, 84, 132, 4, 1]
abbrev dktJ13_fill_0 : List UInt8 := dkwJ13_fill_0 ++ dktJ13_fill_1
theorem dksJ13_fill_0 : cJ13_fill.data.toList.drop 0 = dktJ13_fill_0 := by decide +kernel
theorem dksJ13_fill_1 : cJ13_fill.data.toList.drop 24 = dktJ13_fill_1 := dk_seg dksJ13_fill_0 24 rfl rfl
theorem dJ13_fill_0 : decode cJ13_fill 0 = .ok (.aload_n 0, 1) := dk_42 (dk_at dksJ13_fill_0 0 rfl rfl)
theorem dJ13_fill_1 : decode cJ13_fill 1 = .ok (.arraylength, 1) := dk_190 (dk_at dksJ13_fill_0 1 rfl rfl)
theorem dJ13_fill_2 : decode cJ13_fill 2 = .ok (.iload_n 1, 1) := dk_27 (dk_at dksJ13_fill_0 2 rfl rfl)
theorem dJ13_fill_3 : decode cJ13_fill 3 = .ok (.iload_n 2, 1) := dk_28 (dk_at dksJ13_fill_0 3 rfl rfl)
theorem dJ13_fill_4 : decode cJ13_fill 4 = .ok (.invokestatic 13, 3) := dk_184 0 13 (dk_at dksJ13_fill_0 4 rfl rfl)
theorem dJ13_fill_7 : decode cJ13_fill 7 = .ok (.iload_n 1, 1) := dk_27 (dk_at dksJ13_fill_0 7 rfl rfl)
theorem dJ13_fill_8 : decode cJ13_fill 8 = .ok (.istore 4, 2) := dk_54 4 (dk_at dksJ13_fill_0 8 rfl rfl)
theorem dJ13_fill_10 : decode cJ13_fill 10 = .ok (.iload 4, 2) := dk_21 4 (dk_at dksJ13_fill_0 10 rfl rfl)
theorem dJ13_fill_12 : decode cJ13_fill 12 = .ok (.iload_n 2, 1) := dk_28 (dk_at dksJ13_fill_0 12 rfl rfl)
theorem dJ13_fill_13 : decode cJ13_fill 13 = .ok (.if_icmp .ge 14, 3) := dk_162 0 14 (dk_at dksJ13_fill_0 13 rfl rfl)
theorem dJ13_fill_16 : decode cJ13_fill 16 = .ok (.aload_n 0, 1) := dk_42 (dk_at dksJ13_fill_0 16 rfl rfl)
theorem dJ13_fill_17 : decode cJ13_fill 17 = .ok (.iload 4, 2) := dk_21 4 (dk_at dksJ13_fill_0 17 rfl rfl)
theorem dJ13_fill_19 : decode cJ13_fill 19 = .ok (.iload_n 3, 1) := dk_29 (dk_at dksJ13_fill_0 19 rfl rfl)
theorem dJ13_fill_20 : decode cJ13_fill 20 = .ok (.bastore, 1) := dk_84 (dk_at dksJ13_fill_0 20 rfl rfl)
theorem dJ13_fill_21 : decode cJ13_fill 21 = .ok (.iinc 4 1, 3) := dk_132 4 1 (dk_at dksJ13_fill_0 21 rfl rfl)
theorem dJ13_fill_24 : decode cJ13_fill 24 = .ok (.goto (-14), 3) := dk_167 255 242 (dk_at dksJ13_fill_1 0 rfl rfl)
theorem dJ13_fill_27 : decode cJ13_fill 27 = .ok (.return_, 1) := dk_177 (dk_at dksJ13_fill_1 3 rfl rfl)
abbrev cJ13_rangeCheck : ByteArray := prog_48_method_30_code
def yJ13_rangeCheck : MethodName := ⟨RJ13, "rangeCheck", "(III)V"⟩
def dkwJ13_rangeCheck_3 : List UInt8 := [183, 0, 70, 191, 177]
abbrev dktJ13_rangeCheck_3 : List UInt8 := dkwJ13_rangeCheck_3 ++ []
def dkwJ13_rangeCheck_2 : List UInt8 := [27, 156, 0, 12, 187, 0, 68, 89, 27, 183, 0, 70, 191, 28, 26, 164, 0, 12, 187, 0, 68, 89, 28]
abbrev dktJ13_rangeCheck_2 : List UInt8 := dkwJ13_rangeCheck_2 ++ dktJ13_rangeCheck_3
def dkwJ13_rangeCheck_1 : List UInt8 := [182, 0, 54, 18, 57, 182, 0, 50, 28, 182, 0, 54, 18, 59, 182, 0, 50, 182, 0, 61, 183, 0, 65, 191]
abbrev dktJ13_rangeCheck_1 : List UInt8 := dkwJ13_rangeCheck_1 ++ dktJ13_rangeCheck_2
def dkwJ13_rangeCheck_0 : List UInt8 := [27, 28, 164, 0, 44, 187, 0, 43, 89, 187, 0, 45, 89, 183, 0, 47, 18, 48, 182, 0, 50, 27]
abbrev dktJ13_rangeCheck_0 : List UInt8 := dkwJ13_rangeCheck_0 ++ dktJ13_rangeCheck_1
theorem dksJ13_rangeCheck_0 : cJ13_rangeCheck.data.toList.drop 0 = dktJ13_rangeCheck_0 := by decide +kernel
theorem dksJ13_rangeCheck_1 : cJ13_rangeCheck.data.toList.drop 22 = dktJ13_rangeCheck_1 := dk_seg dksJ13_rangeCheck_0 22 rfl rfl
theorem dksJ13_rangeCheck_2 : cJ13_rangeCheck.data.toList.drop 46 = dktJ13_rangeCheck_2 := dk_seg dksJ13_rangeCheck_1 24 rfl rfl
theorem dksJ13_rangeCheck_3 : cJ13_rangeCheck.data.toList.drop 69 = dktJ13_rangeCheck_3 := dk_seg dksJ13_rangeCheck_2 23 rfl rfl
theorem dJ13_rangeCheck_0 : decode cJ13_rangeCheck 0 = .ok (.iload_n 1, 1) := dk_27 (dk_at dksJ13_rangeCheck_0 0 rfl rfl)
theorem dJ13_rangeCheck_1 : decode cJ13_rangeCheck 1 = .ok (.iload_n 2, 1) := dk_28 (dk_at dksJ13_rangeCheck_0 1 rfl rfl)
theorem dJ13_rangeCheck_2 : decode cJ13_rangeCheck 2 = .ok (.if_icmp .le 44, 3) := dk_164 0 44 (dk_at dksJ13_rangeCheck_0 2 rfl rfl)
theorem dJ13_rangeCheck_5 : decode cJ13_rangeCheck 5 = .ok (.new 43, 3) := dk_187 0 43 (dk_at dksJ13_rangeCheck_0 5 rfl rfl)
theorem dJ13_rangeCheck_8 : decode cJ13_rangeCheck 8 = .ok (.dup, 1) := dk_89 (dk_at dksJ13_rangeCheck_0 8 rfl rfl)
theorem dJ13_rangeCheck_9 : decode cJ13_rangeCheck 9 = .ok (.new 45, 3) := dk_187 0 45 (dk_at dksJ13_rangeCheck_0 9 rfl rfl)
theorem dJ13_rangeCheck_12 : decode cJ13_rangeCheck 12 = .ok (.dup, 1) := dk_89 (dk_at dksJ13_rangeCheck_0 12 rfl rfl)
theorem dJ13_rangeCheck_13 : decode cJ13_rangeCheck 13 = .ok (.invokespecial 47, 3) := dk_183 0 47 (dk_at dksJ13_rangeCheck_0 13 rfl rfl)
theorem dJ13_rangeCheck_16 : decode cJ13_rangeCheck 16 = .ok (.ldc 48, 2) := dk_18 48 (dk_at dksJ13_rangeCheck_0 16 rfl rfl)
theorem dJ13_rangeCheck_18 : decode cJ13_rangeCheck 18 = .ok (.invokevirtual 50, 3) := dk_182 0 50 (dk_at dksJ13_rangeCheck_0 18 rfl rfl)
theorem dJ13_rangeCheck_21 : decode cJ13_rangeCheck 21 = .ok (.iload_n 1, 1) := dk_27 (dk_at dksJ13_rangeCheck_0 21 rfl rfl)
theorem dJ13_rangeCheck_22 : decode cJ13_rangeCheck 22 = .ok (.invokevirtual 54, 3) := dk_182 0 54 (dk_at dksJ13_rangeCheck_1 0 rfl rfl)
theorem dJ13_rangeCheck_25 : decode cJ13_rangeCheck 25 = .ok (.ldc 57, 2) := dk_18 57 (dk_at dksJ13_rangeCheck_1 3 rfl rfl)
theorem dJ13_rangeCheck_27 : decode cJ13_rangeCheck 27 = .ok (.invokevirtual 50, 3) := dk_182 0 50 (dk_at dksJ13_rangeCheck_1 5 rfl rfl)
theorem dJ13_rangeCheck_30 : decode cJ13_rangeCheck 30 = .ok (.iload_n 2, 1) := dk_28 (dk_at dksJ13_rangeCheck_1 8 rfl rfl)
theorem dJ13_rangeCheck_31 : decode cJ13_rangeCheck 31 = .ok (.invokevirtual 54, 3) := dk_182 0 54 (dk_at dksJ13_rangeCheck_1 9 rfl rfl)
theorem dJ13_rangeCheck_34 : decode cJ13_rangeCheck 34 = .ok (.ldc 59, 2) := dk_18 59 (dk_at dksJ13_rangeCheck_1 12 rfl rfl)
theorem dJ13_rangeCheck_36 : decode cJ13_rangeCheck 36 = .ok (.invokevirtual 50, 3) := dk_182 0 50 (dk_at dksJ13_rangeCheck_1 14 rfl rfl)
theorem dJ13_rangeCheck_39 : decode cJ13_rangeCheck 39 = .ok (.invokevirtual 61, 3) := dk_182 0 61 (dk_at dksJ13_rangeCheck_1 17 rfl rfl)
theorem dJ13_rangeCheck_42 : decode cJ13_rangeCheck 42 = .ok (.invokespecial 65, 3) := dk_183 0 65 (dk_at dksJ13_rangeCheck_1 20 rfl rfl)
theorem dJ13_rangeCheck_45 : decode cJ13_rangeCheck 45 = .ok (.athrow, 1) := dk_191 (dk_at dksJ13_rangeCheck_1 23 rfl rfl)
theorem dJ13_rangeCheck_46 : decode cJ13_rangeCheck 46 = .ok (.iload_n 1, 1) := dk_27 (dk_at dksJ13_rangeCheck_2 0 rfl rfl)
theorem dJ13_rangeCheck_47 : decode cJ13_rangeCheck 47 = .ok (.ifCond .ge 12, 3) := dk_156 0 12 (dk_at dksJ13_rangeCheck_2 1 rfl rfl)
theorem dJ13_rangeCheck_50 : decode cJ13_rangeCheck 50 = .ok (.new 68, 3) := dk_187 0 68 (dk_at dksJ13_rangeCheck_2 4 rfl rfl)
theorem dJ13_rangeCheck_53 : decode cJ13_rangeCheck 53 = .ok (.dup, 1) := dk_89 (dk_at dksJ13_rangeCheck_2 7 rfl rfl)
theorem dJ13_rangeCheck_54 : decode cJ13_rangeCheck 54 = .ok (.iload_n 1, 1) := dk_27 (dk_at dksJ13_rangeCheck_2 8 rfl rfl)
theorem dJ13_rangeCheck_55 : decode cJ13_rangeCheck 55 = .ok (.invokespecial 70, 3) := dk_183 0 70 (dk_at dksJ13_rangeCheck_2 9 rfl rfl)
theorem dJ13_rangeCheck_58 : decode cJ13_rangeCheck 58 = .ok (.athrow, 1) := dk_191 (dk_at dksJ13_rangeCheck_2 12 rfl rfl)
theorem dJ13_rangeCheck_59 : decode cJ13_rangeCheck 59 = .ok (.iload_n 2, 1) := dk_28 (dk_at dksJ13_rangeCheck_2 13 rfl rfl)
theorem dJ13_rangeCheck_60 : decode cJ13_rangeCheck 60 = .ok (.iload_n 0, 1) := dk_26 (dk_at dksJ13_rangeCheck_2 14 rfl rfl)
theorem dJ13_rangeCheck_61 : decode cJ13_rangeCheck 61 = .ok (.if_icmp .le 12, 3) := dk_164 0 12 (dk_at dksJ13_rangeCheck_2 15 rfl rfl)
theorem dJ13_rangeCheck_64 : decode cJ13_rangeCheck 64 = .ok (.new 68, 3) := dk_187 0 68 (dk_at dksJ13_rangeCheck_2 18 rfl rfl)
theorem dJ13_rangeCheck_67 : decode cJ13_rangeCheck 67 = .ok (.dup, 1) := dk_89 (dk_at dksJ13_rangeCheck_2 21 rfl rfl)
theorem dJ13_rangeCheck_68 : decode cJ13_rangeCheck 68 = .ok (.iload_n 2, 1) := dk_28 (dk_at dksJ13_rangeCheck_2 22 rfl rfl)
theorem dJ13_rangeCheck_69 : decode cJ13_rangeCheck 69 = .ok (.invokespecial 70, 3) := dk_183 0 70 (dk_at dksJ13_rangeCheck_3 0 rfl rfl)
theorem dJ13_rangeCheck_72 : decode cJ13_rangeCheck 72 = .ok (.athrow, 1) := dk_191 (dk_at dksJ13_rangeCheck_3 3 rfl rfl)
theorem dJ13_rangeCheck_73 : decode cJ13_rangeCheck 73 = .ok (.return_, 1) := dk_177 (dk_at dksJ13_rangeCheck_3 4 rfl rfl)
theorem q113 : (Jvm.Cond.initialized "java/util/Arrays") ∈ lw_all := lw_g (lw_at lw_m1 19 rfl) rfl
theorem q389 : (Jvm.Cond.static ({ cls := "java/util/Arrays", name := "copyOf", desc := "([BI)[B" } : Jvm.MethodName)) ∈ lw_all := lw_g (lw_at lw_m2 55 rfl) rfl
theorem q390 : (Jvm.Cond.code ({ cls := "java/util/Arrays", name := "copyOf", desc := "([BI)[B" } : Jvm.MethodName) prog_48_method_121_code (3 : Nat) (Option.some (Jvm.ClassFile.FieldType.array Jvm.ClassFile.FieldType.byte))) ∈ lw_all := lw_g (lw_at lw_m2 56 rfl) rfl
theorem q391 : (Jvm.Cond.methodLink "java/util/Arrays" (310 : Nat) ({ cls := "[B", name := "clone", desc := "()Ljava/lang/Object;" } : Jvm.MethodName)) ∈ lw_all := lw_g (lw_at lw_m2 57 rfl) rfl
theorem q397 : (Jvm.Cond.classLink "java/util/Arrays" (311 : Nat) "[B") ∈ lw_all := lw_g (lw_at lw_m2 63 rfl) rfl
theorem q398 : (Jvm.Cond.methodLink "java/util/Arrays" (304 : Nat) ({ cls := "java/lang/Math", name := "min", desc := "(II)I" } : Jvm.MethodName)) ∈ lw_all := lw_g (lw_at lw_m2 64 rfl) rfl
theorem q401 : (Jvm.Cond.methodLink "java/util/Arrays" (150 : Nat) ({ cls := "java/lang/System", name := "arraycopy", desc := "(Ljava/lang/Object;ILjava/lang/Object;II)V" } : Jvm.MethodName)) ∈ lw_all := lw_g (lw_at lw_m2 67 rfl) rfl
theorem q531 : (Jvm.Cond.static ({ cls := "java/util/Arrays", name := "copyOfRange", desc := "([BII)[B" } : Jvm.MethodName)) ∈ lw_all := lw_g (lw_at lw_m2 197 rfl) rfl
theorem q532 : (Jvm.Cond.code ({ cls := "java/util/Arrays", name := "copyOfRange", desc := "([BII)[B" } : Jvm.MethodName) prog_48_method_132_code (3 : Nat) (Option.some (Jvm.ClassFile.FieldType.array Jvm.ClassFile.FieldType.byte))) ∈ lw_all := lw_g (lw_at lw_m2 198 rfl) rfl
theorem q533 : (Jvm.Cond.methodLink "java/util/Arrays" (339 : Nat) ({ cls := "java/util/Arrays", name := "copyOfRangeByte", desc := "([BII)[B" } : Jvm.MethodName)) ∈ lw_all := lw_g (lw_at lw_m2 199 rfl) rfl
theorem q534 : (Jvm.Cond.static ({ cls := "java/util/Arrays", name := "copyOfRangeByte", desc := "([BII)[B" } : Jvm.MethodName)) ∈ lw_all := lw_g (lw_at lw_m2 200 rfl) rfl
theorem q535 : (Jvm.Cond.code ({ cls := "java/util/Arrays", name := "copyOfRangeByte", desc := "([BII)[B" } : Jvm.MethodName) prog_48_method_133_code (5 : Nat) (Option.some (Jvm.ClassFile.FieldType.array Jvm.ClassFile.FieldType.byte))) ∈ lw_all := lw_g (lw_at lw_m2 201 rfl) rfl
theorem q536 : (Jvm.Cond.methodLink "java/util/Arrays" (343 : Nat) ({ cls := "java/util/Arrays", name := "checkLength", desc := "(II)V" } : Jvm.MethodName)) ∈ lw_all := lw_g (lw_at lw_m2 202 rfl) rfl
theorem q537 : (Jvm.Cond.static ({ cls := "java/util/Arrays", name := "checkLength", desc := "(II)V" } : Jvm.MethodName)) ∈ lw_all := lw_g (lw_at lw_m2 203 rfl) rfl
theorem q538 : (Jvm.Cond.code ({ cls := "java/util/Arrays", name := "checkLength", desc := "(II)V" } : Jvm.MethodName) prog_48_method_131_code (2 : Nat) (Option.none : Option Jvm.ClassFile.FieldType)) ∈ lw_all := lw_g (lw_at lw_m2 204 rfl) rfl
theorem q539 : (Jvm.Cond.classLink "java/util/Arrays" (43 : Nat) "java/lang/IllegalArgumentException") ∈ lw_all := lw_g (lw_at lw_m2 205 rfl) rfl
theorem q540 : (Jvm.Cond.classLink "java/util/Arrays" (45 : Nat) "java/lang/StringBuilder") ∈ lw_all := lw_g (lw_at lw_m2 206 rfl) rfl
theorem q541 : (Jvm.Cond.methodLink "java/util/Arrays" (47 : Nat) ({ cls := "java/lang/StringBuilder", name := "<init>", desc := "()V" } : Jvm.MethodName)) ∈ lw_all := lw_g (lw_at lw_m2 207 rfl) rfl
theorem q542 : (Jvm.Cond.methodLink "java/util/Arrays" (54 : Nat) ({ cls := "java/lang/StringBuilder", name := "append", desc := "(I)Ljava/lang/StringBuilder;" } : Jvm.MethodName)) ∈ lw_all := lw_g (lw_at lw_m2 208 rfl) rfl
theorem q543 : (Jvm.Cond.stringRef "java/util/Arrays" (337 : Nat) " > ") ∈ lw_tbl := lw_at lw_m2 209 rfl
theorem q544 : (Jvm.Cond.methodLink "java/util/Arrays" (50 : Nat) ({ cls := "java/lang/StringBuilder", name := "append", desc := "(Ljava/lang/String;)Ljava/lang/StringBuilder;" } : Jvm.MethodName)) ∈ lw_all := lw_g (lw_at lw_m2 210 rfl) rfl
theorem q545 : (Jvm.Cond.methodLink "java/util/Arrays" (61 : Nat) ({ cls := "java/lang/StringBuilder", name := "toString", desc := "()Ljava/lang/String;" } : Jvm.MethodName)) ∈ lw_all := lw_g (lw_at lw_m2 211 rfl) rfl
theorem q546 : (Jvm.Cond.methodLink "java/util/Arrays" (65 : Nat) ({ cls := "java/lang/IllegalArgumentException", name := "<init>", desc := "(Ljava/lang/String;)V" } : Jvm.MethodName)) ∈ lw_all := lw_g (lw_at lw_m2 212 rfl) rfl
theorem q926 : (Jvm.Cond.static ({ cls := "java/util/Arrays", name := "copyOfRange", desc := "([Ljava/lang/Object;IILjava/lang/Class;)[Ljava/lang/Object;" } : Jvm.MethodName)) ∈ lw_all := lw_g (lw_at lw_m4 112 rfl) rfl
theorem q927 : (Jvm.Cond.code ({ cls := "java/util/Arrays", name := "copyOfRange", desc := "([Ljava/lang/Object;IILjava/lang/Class;)[Ljava/lang/Object;" } : Jvm.MethodName) prog_48_method_130_code (6 : Nat) (Option.some (Jvm.ClassFile.FieldType.array (Jvm.ClassFile.FieldType.object "java/lang/Object")))) ∈ lw_all := lw_g (lw_at lw_m4 113 rfl) rfl
theorem q928 : (Jvm.Cond.classLink "java/util/Arrays" (110 : Nat) "[Ljava/lang/Object;") ∈ lw_all := lw_g (lw_at lw_m4 114 rfl) rfl
theorem q929 : (Jvm.Cond.classLink "java/util/Arrays" (2 : Nat) "java/lang/Object") ∈ lw_all := lw_g (lw_at lw_m4 115 rfl) rfl
theorem q938 : (Jvm.Cond.static ({ cls := "java/util/Arrays", name := "copyOf", desc := "([Ljava/lang/Object;I)[Ljava/lang/Object;" } : Jvm.MethodName)) ∈ lw_all := lw_g (lw_at lw_m4 124 rfl) rfl
theorem q939 : (Jvm.Cond.code ({ cls := "java/util/Arrays", name := "copyOf", desc := "([Ljava/lang/Object;I)[Ljava/lang/Object;" } : Jvm.MethodName) prog_48_method_119_code (2 : Nat) (Option.some (Jvm.ClassFile.FieldType.array (Jvm.ClassFile.FieldType.object "java/lang/Object")))) ∈ lw_all := lw_g (lw_at lw_m4 125 rfl) rfl
theorem q940 : (Jvm.Cond.methodLink "java/util/Arrays" (86 : Nat) ({ cls := "java/lang/Object", name := "getClass", desc := "()Ljava/lang/Class;" } : Jvm.MethodName)) ∈ lw_all := lw_g (lw_at lw_m4 126 rfl) rfl
theorem q968 : (Jvm.Cond.methodLink "java/util/Arrays" (300 : Nat) ({ cls := "java/util/Arrays", name := "copyOf", desc := "([Ljava/lang/Object;ILjava/lang/Class;)[Ljava/lang/Object;" } : Jvm.MethodName)) ∈ lw_all := lw_g (lw_at lw_m4 154 rfl) rfl
theorem q969 : (Jvm.Cond.static ({ cls := "java/util/Arrays", name := "copyOf", desc := "([Ljava/lang/Object;ILjava/lang/Class;)[Ljava/lang/Object;" } : Jvm.MethodName)) ∈ lw_all := lw_g (lw_at lw_m4 155 rfl) rfl
theorem q970 : (Jvm.Cond.code ({ cls := "java/util/Arrays", name := "copyOf", desc := "([Ljava/lang/Object;ILjava/lang/Class;)[Ljava/lang/Object;" } : Jvm.MethodName) prog_48_method_120_code (4 : Nat) (Option.some (Jvm.ClassFile.FieldType.array (Jvm.ClassFile.FieldType.object "java/lang/Object")))) ∈ lw_all := lw_g (lw_at lw_m4 156 rfl) rfl
theorem q1167 : (Jvm.Cond.static ({ cls := "java/util/Arrays", name := "fill", desc := "([BIIB)V" } : Jvm.MethodName)) ∈ lw_all := lw_g (lw_at lw_m5 113 rfl) rfl
theorem q1168 : (Jvm.Cond.code ({ cls := "java/util/Arrays", name := "fill", desc := "([BIIB)V" } : Jvm.MethodName) prog_48_method_110_code (5 : Nat) (Option.none : Option Jvm.ClassFile.FieldType)) ∈ lw_all := lw_g (lw_at lw_m5 114 rfl) rfl
theorem q1169 : (Jvm.Cond.methodLink "java/util/Arrays" (13 : Nat) ({ cls := "java/util/Arrays", name := "rangeCheck", desc := "(III)V" } : Jvm.MethodName)) ∈ lw_all := lw_g (lw_at lw_m5 115 rfl) rfl
theorem q1170 : (Jvm.Cond.static ({ cls := "java/util/Arrays", name := "rangeCheck", desc := "(III)V" } : Jvm.MethodName)) ∈ lw_all := lw_g (lw_at lw_m5 116 rfl) rfl
theorem q1171 : (Jvm.Cond.code ({ cls := "java/util/Arrays", name := "rangeCheck", desc := "(III)V" } : Jvm.MethodName) prog_48_method_30_code (3 : Nat) (Option.none : Option Jvm.ClassFile.FieldType)) ∈ lw_all := lw_g (lw_at lw_m5 117 rfl) rfl
theorem q1172 : (Jvm.Cond.stringRef "java/util/Arrays" (48 : Nat) "fromIndex(") ∈ lw_tbl := lw_at lw_m5 118 rfl
theorem q1173 : (Jvm.Cond.stringRef "java/util/Arrays" (57 : Nat) ") > toIndex(") ∈ lw_tbl := lw_at lw_m5 119 rfl
theorem q1174 : (Jvm.Cond.stringRef "java/util/Arrays" (59 : Nat) ")") ∈ lw_tbl := lw_at lw_m5 120 rfl
theorem q1175 : (Jvm.Cond.classLink "java/util/Arrays" (68 : Nat) "java/lang/ArrayIndexOutOfBoundsException") ∈ lw_all := lw_g (lw_at lw_m5 121 rfl) rfl
theorem q1186 : (Jvm.Cond.methodLink "java/util/Arrays" (70 : Nat) ({ cls := "java/lang/ArrayIndexOutOfBoundsException", name := "<init>", desc := "(I)V" } : Jvm.MethodName)) ∈ lw_all := lw_g (lw_at lw_m5 132 rfl) rfl
/-! java/lang/Integer -/
set_option maxRecDepth 100000
def RJ17 : String := "java/lang/Integer"
def TJ17 : u_T := fun k => match k with
  | _ => ("java/lang/Integer", "value", "I", true)
def tyJ17 : Nat → FieldType := fun k => match k with
  | _ => .int
abbrev wsJ170 : List Cond := u_ws RJ17 TJ17 1
theorem nmJ17 : ∀ a, a < 1 → ∀ b, b < 1 → a ≠ b → (TJ17 a).2.1 ≠ (TJ17 b).2.1 := by decide +kernel
theorem tyJ17_ok : ∀ k, k < 1 → parseFieldDescriptor (TJ17 k).2.2.1 = some (tyJ17 k) := by decide +kernel
abbrev cJ17_stringSize : ByteArray := prog_28_method_13_code
def yJ17_stringSize : MethodName := ⟨RJ17, "stringSize", "(I)I"⟩
def dkwJ17_stringSize_1 : List UInt8 := [164, 0, 7, 29, 27, 96, 172, 16, 10, 28, 104, 61, 132, 3, 1, 167, 255, 233, 16, 10, 27, 96, 172]
abbrev dktJ17_stringSize_1 : List UInt8 := dkwJ17_stringSize_1 ++ []
def dkwJ17_stringSize_0 : List UInt8 := [4, 60, 26, 155, 0, 8, 3, 60, 26, 116, 59, 16, 246, 61, 4, 62, 29, 16, 10, 162, 0, 23, 26, 28]
abbrev dktJ17_stringSize_0 : List UInt8 := dkwJ17_stringSize_0 ++ dktJ17_stringSize_1
theorem dksJ17_stringSize_0 : cJ17_stringSize.data.toList.drop 0 = dktJ17_stringSize_0 := by decide +kernel
theorem dksJ17_stringSize_1 : cJ17_stringSize.data.toList.drop 24 = dktJ17_stringSize_1 := dk_seg dksJ17_stringSize_0 24 rfl rfl
theorem dJ17_stringSize_0 : decode cJ17_stringSize 0 = .ok (.iconst 1, 1) := dk_4 (dk_at dksJ17_stringSize_0 0 rfl rfl)
theorem dJ17_stringSize_1 : decode cJ17_stringSize 1 = .ok (.istore_n 1, 1) := dk_60 (dk_at dksJ17_stringSize_0 1 rfl rfl)
theorem dJ17_stringSize_2 : decode cJ17_stringSize 2 = .ok (.iload_n 0, 1) := dk_26 (dk_at dksJ17_stringSize_0 2 rfl rfl)
theorem dJ17_stringSize_3 : decode cJ17_stringSize 3 = .ok (.ifCond .lt 8, 3) := dk_155 0 8 (dk_at dksJ17_stringSize_0 3 rfl rfl)
theorem dJ17_stringSize_6 : decode cJ17_stringSize 6 = .ok (.iconst 0, 1) := dk_3 (dk_at dksJ17_stringSize_0 6 rfl rfl)
theorem dJ17_stringSize_7 : decode cJ17_stringSize 7 = .ok (.istore_n 1, 1) := dk_60 (dk_at dksJ17_stringSize_0 7 rfl rfl)
theorem dJ17_stringSize_8 : decode cJ17_stringSize 8 = .ok (.iload_n 0, 1) := dk_26 (dk_at dksJ17_stringSize_0 8 rfl rfl)
theorem dJ17_stringSize_9 : decode cJ17_stringSize 9 = .ok (.ineg, 1) := dk_116 (dk_at dksJ17_stringSize_0 9 rfl rfl)
theorem dJ17_stringSize_10 : decode cJ17_stringSize 10 = .ok (.istore_n 0, 1) := dk_59 (dk_at dksJ17_stringSize_0 10 rfl rfl)
theorem dJ17_stringSize_11 : decode cJ17_stringSize 11 = .ok (.bipush (-10), 2) := dk_16 246 (dk_at dksJ17_stringSize_0 11 rfl rfl)
theorem dJ17_stringSize_13 : decode cJ17_stringSize 13 = .ok (.istore_n 2, 1) := dk_61 (dk_at dksJ17_stringSize_0 13 rfl rfl)
theorem dJ17_stringSize_14 : decode cJ17_stringSize 14 = .ok (.iconst 1, 1) := dk_4 (dk_at dksJ17_stringSize_0 14 rfl rfl)
theorem dJ17_stringSize_15 : decode cJ17_stringSize 15 = .ok (.istore_n 3, 1) := dk_62 (dk_at dksJ17_stringSize_0 15 rfl rfl)
theorem dJ17_stringSize_16 : decode cJ17_stringSize 16 = .ok (.iload_n 3, 1) := dk_29 (dk_at dksJ17_stringSize_0 16 rfl rfl)
theorem dJ17_stringSize_17 : decode cJ17_stringSize 17 = .ok (.bipush 10, 2) := dk_16 10 (dk_at dksJ17_stringSize_0 17 rfl rfl)
theorem dJ17_stringSize_19 : decode cJ17_stringSize 19 = .ok (.if_icmp .ge 23, 3) := dk_162 0 23 (dk_at dksJ17_stringSize_0 19 rfl rfl)
theorem dJ17_stringSize_22 : decode cJ17_stringSize 22 = .ok (.iload_n 0, 1) := dk_26 (dk_at dksJ17_stringSize_0 22 rfl rfl)
theorem dJ17_stringSize_23 : decode cJ17_stringSize 23 = .ok (.iload_n 2, 1) := dk_28 (dk_at dksJ17_stringSize_0 23 rfl rfl)
theorem dJ17_stringSize_24 : decode cJ17_stringSize 24 = .ok (.if_icmp .le 7, 3) := dk_164 0 7 (dk_at dksJ17_stringSize_1 0 rfl rfl)
theorem dJ17_stringSize_27 : decode cJ17_stringSize 27 = .ok (.iload_n 3, 1) := dk_29 (dk_at dksJ17_stringSize_1 3 rfl rfl)
theorem dJ17_stringSize_28 : decode cJ17_stringSize 28 = .ok (.iload_n 1, 1) := dk_27 (dk_at dksJ17_stringSize_1 4 rfl rfl)
theorem dJ17_stringSize_29 : decode cJ17_stringSize 29 = .ok (.iadd, 1) := dk_96 (dk_at dksJ17_stringSize_1 5 rfl rfl)
theorem dJ17_stringSize_30 : decode cJ17_stringSize 30 = .ok (.ireturn, 1) := dk_172 (dk_at dksJ17_stringSize_1 6 rfl rfl)
theorem dJ17_stringSize_31 : decode cJ17_stringSize 31 = .ok (.bipush 10, 2) := dk_16 10 (dk_at dksJ17_stringSize_1 7 rfl rfl)
theorem dJ17_stringSize_33 : decode cJ17_stringSize 33 = .ok (.iload_n 2, 1) := dk_28 (dk_at dksJ17_stringSize_1 9 rfl rfl)
theorem dJ17_stringSize_34 : decode cJ17_stringSize 34 = .ok (.imul, 1) := dk_104 (dk_at dksJ17_stringSize_1 10 rfl rfl)
theorem dJ17_stringSize_35 : decode cJ17_stringSize 35 = .ok (.istore_n 2, 1) := dk_61 (dk_at dksJ17_stringSize_1 11 rfl rfl)
theorem dJ17_stringSize_36 : decode cJ17_stringSize 36 = .ok (.iinc 3 1, 3) := dk_132 3 1 (dk_at dksJ17_stringSize_1 12 rfl rfl)
theorem dJ17_stringSize_39 : decode cJ17_stringSize 39 = .ok (.goto (-23), 3) := dk_167 255 233 (dk_at dksJ17_stringSize_1 15 rfl rfl)
theorem dJ17_stringSize_42 : decode cJ17_stringSize 42 = .ok (.bipush 10, 2) := dk_16 10 (dk_at dksJ17_stringSize_1 18 rfl rfl)
theorem dJ17_stringSize_44 : decode cJ17_stringSize 44 = .ok (.iload_n 1, 1) := dk_27 (dk_at dksJ17_stringSize_1 20 rfl rfl)
theorem dJ17_stringSize_45 : decode cJ17_stringSize 45 = .ok (.iadd, 1) := dk_96 (dk_at dksJ17_stringSize_1 21 rfl rfl)
theorem dJ17_stringSize_46 : decode cJ17_stringSize 46 = .ok (.ireturn, 1) := dk_172 (dk_at dksJ17_stringSize_1 22 rfl rfl)
abbrev cJ17_getChars : ByteArray := prog_28_method_12_code
def yJ17_getChars : MethodName := ⟨RJ17, "getChars", "(II[B)I"⟩
def dkwJ17_getChars_5 : List UInt8 := [16, 45, 84, 21, 5, 172]
abbrev dktJ17_getChars_5 : List UInt8 := dkwJ17_getChars_5 ++ []
def dkwJ17_getChars_4 : List UInt8 := [132, 5, 255, 21, 5, 178, 0, 87, 26, 116, 51, 84, 21, 6, 153, 0, 12, 44, 132, 5, 255, 21, 5]
abbrev dktJ17_getChars_4 : List UInt8 := dkwJ17_getChars_4 ++ dktJ17_getChars_5
def dkwJ17_getChars_3 : List UInt8 := [167, 255, 209, 44, 132, 5, 255, 21, 5, 178, 0, 83, 26, 116, 51, 84, 26, 16, 247, 162, 0, 16, 44]
abbrev dktJ17_getChars_3 : List UInt8 := dkwJ17_getChars_3 ++ dktJ17_getChars_4
def dkwJ17_getChars_2 : List UInt8 := [21, 5, 178, 0, 83, 21, 4, 51, 84, 44, 132, 5, 255, 21, 5, 178, 0, 87, 21, 4, 51, 84]
abbrev dktJ17_getChars_2 : List UInt8 := dkwJ17_getChars_2 ++ dktJ17_getChars_3
def dkwJ17_getChars_1 : List UInt8 := [16, 156, 163, 0, 47, 26, 16, 100, 108, 62, 29, 16, 100, 104, 26, 100, 54, 4, 29, 59, 44, 132, 5, 255]
abbrev dktJ17_getChars_1 : List UInt8 := dkwJ17_getChars_1 ++ dktJ17_getChars_2
def dkwJ17_getChars_0 : List UInt8 := [27, 54, 5, 26, 156, 0, 7, 4, 167, 0, 4, 3, 54, 6, 21, 6, 154, 0, 6, 26, 116, 59, 26]
abbrev dktJ17_getChars_0 : List UInt8 := dkwJ17_getChars_0 ++ dktJ17_getChars_1
theorem dksJ17_getChars_0 : cJ17_getChars.data.toList.drop 0 = dktJ17_getChars_0 := by decide +kernel
theorem dksJ17_getChars_1 : cJ17_getChars.data.toList.drop 23 = dktJ17_getChars_1 := dk_seg dksJ17_getChars_0 23 rfl rfl
theorem dksJ17_getChars_2 : cJ17_getChars.data.toList.drop 47 = dktJ17_getChars_2 := dk_seg dksJ17_getChars_1 24 rfl rfl
theorem dksJ17_getChars_3 : cJ17_getChars.data.toList.drop 69 = dktJ17_getChars_3 := dk_seg dksJ17_getChars_2 22 rfl rfl
theorem dksJ17_getChars_4 : cJ17_getChars.data.toList.drop 92 = dktJ17_getChars_4 := dk_seg dksJ17_getChars_3 23 rfl rfl
theorem dksJ17_getChars_5 : cJ17_getChars.data.toList.drop 115 = dktJ17_getChars_5 := dk_seg dksJ17_getChars_4 23 rfl rfl
theorem dJ17_getChars_0 : decode cJ17_getChars 0 = .ok (.iload_n 1, 1) := dk_27 (dk_at dksJ17_getChars_0 0 rfl rfl)
theorem dJ17_getChars_1 : decode cJ17_getChars 1 = .ok (.istore 5, 2) := dk_54 5 (dk_at dksJ17_getChars_0 1 rfl rfl)
theorem dJ17_getChars_3 : decode cJ17_getChars 3 = .ok (.iload_n 0, 1) := dk_26 (dk_at dksJ17_getChars_0 3 rfl rfl)
theorem dJ17_getChars_4 : decode cJ17_getChars 4 = .ok (.ifCond .ge 7, 3) := dk_156 0 7 (dk_at dksJ17_getChars_0 4 rfl rfl)
theorem dJ17_getChars_7 : decode cJ17_getChars 7 = .ok (.iconst 1, 1) := dk_4 (dk_at dksJ17_getChars_0 7 rfl rfl)
theorem dJ17_getChars_8 : decode cJ17_getChars 8 = .ok (.goto 4, 3) := dk_167 0 4 (dk_at dksJ17_getChars_0 8 rfl rfl)
theorem dJ17_getChars_11 : decode cJ17_getChars 11 = .ok (.iconst 0, 1) := dk_3 (dk_at dksJ17_getChars_0 11 rfl rfl)
theorem dJ17_getChars_12 : decode cJ17_getChars 12 = .ok (.istore 6, 2) := dk_54 6 (dk_at dksJ17_getChars_0 12 rfl rfl)
theorem dJ17_getChars_14 : decode cJ17_getChars 14 = .ok (.iload 6, 2) := dk_21 6 (dk_at dksJ17_getChars_0 14 rfl rfl)
theorem dJ17_getChars_16 : decode cJ17_getChars 16 = .ok (.ifCond .ne 6, 3) := dk_154 0 6 (dk_at dksJ17_getChars_0 16 rfl rfl)
theorem dJ17_getChars_19 : decode cJ17_getChars 19 = .ok (.iload_n 0, 1) := dk_26 (dk_at dksJ17_getChars_0 19 rfl rfl)
theorem dJ17_getChars_20 : decode cJ17_getChars 20 = .ok (.ineg, 1) := dk_116 (dk_at dksJ17_getChars_0 20 rfl rfl)
theorem dJ17_getChars_21 : decode cJ17_getChars 21 = .ok (.istore_n 0, 1) := dk_59 (dk_at dksJ17_getChars_0 21 rfl rfl)
theorem dJ17_getChars_22 : decode cJ17_getChars 22 = .ok (.iload_n 0, 1) := dk_26 (dk_at dksJ17_getChars_0 22 rfl rfl)
theorem dJ17_getChars_23 : decode cJ17_getChars 23 = .ok (.bipush (-100), 2) := dk_16 156 (dk_at dksJ17_getChars_1 0 rfl rfl)
theorem dJ17_getChars_25 : decode cJ17_getChars 25 = .ok (.if_icmp .gt 47, 3) := dk_163 0 47 (dk_at dksJ17_getChars_1 2 rfl rfl)
theorem dJ17_getChars_28 : decode cJ17_getChars 28 = .ok (.iload_n 0, 1) := dk_26 (dk_at dksJ17_getChars_1 5 rfl rfl)
theorem dJ17_getChars_29 : decode cJ17_getChars 29 = .ok (.bipush 100, 2) := dk_16 100 (dk_at dksJ17_getChars_1 6 rfl rfl)
theorem dJ17_getChars_31 : decode cJ17_getChars 31 = .ok (.idiv, 1) := dk_108 (dk_at dksJ17_getChars_1 8 rfl rfl)
theorem dJ17_getChars_32 : decode cJ17_getChars 32 = .ok (.istore_n 3, 1) := dk_62 (dk_at dksJ17_getChars_1 9 rfl rfl)
theorem dJ17_getChars_33 : decode cJ17_getChars 33 = .ok (.iload_n 3, 1) := dk_29 (dk_at dksJ17_getChars_1 10 rfl rfl)
theorem dJ17_getChars_34 : decode cJ17_getChars 34 = .ok (.bipush 100, 2) := dk_16 100 (dk_at dksJ17_getChars_1 11 rfl rfl)
theorem dJ17_getChars_36 : decode cJ17_getChars 36 = .ok (.imul, 1) := dk_104 (dk_at dksJ17_getChars_1 13 rfl rfl)
theorem dJ17_getChars_37 : decode cJ17_getChars 37 = .ok (.iload_n 0, 1) := dk_26 (dk_at dksJ17_getChars_1 14 rfl rfl)
theorem dJ17_getChars_38 : decode cJ17_getChars 38 = .ok (.isub, 1) := dk_100 (dk_at dksJ17_getChars_1 15 rfl rfl)
theorem dJ17_getChars_39 : decode cJ17_getChars 39 = .ok (.istore 4, 2) := dk_54 4 (dk_at dksJ17_getChars_1 16 rfl rfl)
theorem dJ17_getChars_41 : decode cJ17_getChars 41 = .ok (.iload_n 3, 1) := dk_29 (dk_at dksJ17_getChars_1 18 rfl rfl)
theorem dJ17_getChars_42 : decode cJ17_getChars 42 = .ok (.istore_n 0, 1) := dk_59 (dk_at dksJ17_getChars_1 19 rfl rfl)
theorem dJ17_getChars_43 : decode cJ17_getChars 43 = .ok (.aload_n 2, 1) := dk_44 (dk_at dksJ17_getChars_1 20 rfl rfl)
theorem dJ17_getChars_44 : decode cJ17_getChars 44 = .ok (.iinc 5 (-1), 3) := dk_132 5 255 (dk_at dksJ17_getChars_1 21 rfl rfl)
theorem dJ17_getChars_47 : decode cJ17_getChars 47 = .ok (.iload 5, 2) := dk_21 5 (dk_at dksJ17_getChars_2 0 rfl rfl)
theorem dJ17_getChars_49 : decode cJ17_getChars 49 = .ok (.getstatic 83, 3) := dk_178 0 83 (dk_at dksJ17_getChars_2 2 rfl rfl)
theorem dJ17_getChars_52 : decode cJ17_getChars 52 = .ok (.iload 4, 2) := dk_21 4 (dk_at dksJ17_getChars_2 5 rfl rfl)
theorem dJ17_getChars_54 : decode cJ17_getChars 54 = .ok (.baload, 1) := dk_51 (dk_at dksJ17_getChars_2 7 rfl rfl)
theorem dJ17_getChars_55 : decode cJ17_getChars 55 = .ok (.bastore, 1) := dk_84 (dk_at dksJ17_getChars_2 8 rfl rfl)
theorem dJ17_getChars_56 : decode cJ17_getChars 56 = .ok (.aload_n 2, 1) := dk_44 (dk_at dksJ17_getChars_2 9 rfl rfl)
theorem dJ17_getChars_57 : decode cJ17_getChars 57 = .ok (.iinc 5 (-1), 3) := dk_132 5 255 (dk_at dksJ17_getChars_2 10 rfl rfl)
theorem dJ17_getChars_60 : decode cJ17_getChars 60 = .ok (.iload 5, 2) := dk_21 5 (dk_at dksJ17_getChars_2 13 rfl rfl)
theorem dJ17_getChars_62 : decode cJ17_getChars 62 = .ok (.getstatic 87, 3) := dk_178 0 87 (dk_at dksJ17_getChars_2 15 rfl rfl)
theorem dJ17_getChars_65 : decode cJ17_getChars 65 = .ok (.iload 4, 2) := dk_21 4 (dk_at dksJ17_getChars_2 18 rfl rfl)
theorem dJ17_getChars_67 : decode cJ17_getChars 67 = .ok (.baload, 1) := dk_51 (dk_at dksJ17_getChars_2 20 rfl rfl)
theorem dJ17_getChars_68 : decode cJ17_getChars 68 = .ok (.bastore, 1) := dk_84 (dk_at dksJ17_getChars_2 21 rfl rfl)
theorem dJ17_getChars_69 : decode cJ17_getChars 69 = .ok (.goto (-47), 3) := dk_167 255 209 (dk_at dksJ17_getChars_3 0 rfl rfl)
theorem dJ17_getChars_72 : decode cJ17_getChars 72 = .ok (.aload_n 2, 1) := dk_44 (dk_at dksJ17_getChars_3 3 rfl rfl)
theorem dJ17_getChars_73 : decode cJ17_getChars 73 = .ok (.iinc 5 (-1), 3) := dk_132 5 255 (dk_at dksJ17_getChars_3 4 rfl rfl)
theorem dJ17_getChars_76 : decode cJ17_getChars 76 = .ok (.iload 5, 2) := dk_21 5 (dk_at dksJ17_getChars_3 7 rfl rfl)
theorem dJ17_getChars_78 : decode cJ17_getChars 78 = .ok (.getstatic 83, 3) := dk_178 0 83 (dk_at dksJ17_getChars_3 9 rfl rfl)
theorem dJ17_getChars_81 : decode cJ17_getChars 81 = .ok (.iload_n 0, 1) := dk_26 (dk_at dksJ17_getChars_3 12 rfl rfl)
theorem dJ17_getChars_82 : decode cJ17_getChars 82 = .ok (.ineg, 1) := dk_116 (dk_at dksJ17_getChars_3 13 rfl rfl)
theorem dJ17_getChars_83 : decode cJ17_getChars 83 = .ok (.baload, 1) := dk_51 (dk_at dksJ17_getChars_3 14 rfl rfl)
theorem dJ17_getChars_84 : decode cJ17_getChars 84 = .ok (.bastore, 1) := dk_84 (dk_at dksJ17_getChars_3 15 rfl rfl)
theorem dJ17_getChars_85 : decode cJ17_getChars 85 = .ok (.iload_n 0, 1) := dk_26 (dk_at dksJ17_getChars_3 16 rfl rfl)
theorem dJ17_getChars_86 : decode cJ17_getChars 86 = .ok (.bipush (-9), 2) := dk_16 247 (dk_at dksJ17_getChars_3 17 rfl rfl)
theorem dJ17_getChars_88 : decode cJ17_getChars 88 = .ok (.if_icmp .ge 16, 3) := dk_162 0 16 (dk_at dksJ17_getChars_3 19 rfl rfl)
theorem dJ17_getChars_91 : decode cJ17_getChars 91 = .ok (.aload_n 2, 1) := dk_44 (dk_at dksJ17_getChars_3 22 rfl rfl)
theorem dJ17_getChars_92 : decode cJ17_getChars 92 = .ok (.iinc 5 (-1), 3) := dk_132 5 255 (dk_at dksJ17_getChars_4 0 rfl rfl)
theorem dJ17_getChars_95 : decode cJ17_getChars 95 = .ok (.iload 5, 2) := dk_21 5 (dk_at dksJ17_getChars_4 3 rfl rfl)
theorem dJ17_getChars_97 : decode cJ17_getChars 97 = .ok (.getstatic 87, 3) := dk_178 0 87 (dk_at dksJ17_getChars_4 5 rfl rfl)
theorem dJ17_getChars_100 : decode cJ17_getChars 100 = .ok (.iload_n 0, 1) := dk_26 (dk_at dksJ17_getChars_4 8 rfl rfl)
theorem dJ17_getChars_101 : decode cJ17_getChars 101 = .ok (.ineg, 1) := dk_116 (dk_at dksJ17_getChars_4 9 rfl rfl)
theorem dJ17_getChars_102 : decode cJ17_getChars 102 = .ok (.baload, 1) := dk_51 (dk_at dksJ17_getChars_4 10 rfl rfl)
theorem dJ17_getChars_103 : decode cJ17_getChars 103 = .ok (.bastore, 1) := dk_84 (dk_at dksJ17_getChars_4 11 rfl rfl)
theorem dJ17_getChars_104 : decode cJ17_getChars 104 = .ok (.iload 6, 2) := dk_21 6 (dk_at dksJ17_getChars_4 12 rfl rfl)
theorem dJ17_getChars_106 : decode cJ17_getChars 106 = .ok (.ifCond .eq 12, 3) := dk_153 0 12 (dk_at dksJ17_getChars_4 14 rfl rfl)
theorem dJ17_getChars_109 : decode cJ17_getChars 109 = .ok (.aload_n 2, 1) := dk_44 (dk_at dksJ17_getChars_4 17 rfl rfl)
theorem dJ17_getChars_110 : decode cJ17_getChars 110 = .ok (.iinc 5 (-1), 3) := dk_132 5 255 (dk_at dksJ17_getChars_4 18 rfl rfl)
theorem dJ17_getChars_113 : decode cJ17_getChars 113 = .ok (.iload 5, 2) := dk_21 5 (dk_at dksJ17_getChars_4 21 rfl rfl)
theorem dJ17_getChars_115 : decode cJ17_getChars 115 = .ok (.bipush 45, 2) := dk_16 45 (dk_at dksJ17_getChars_5 0 rfl rfl)
theorem dJ17_getChars_117 : decode cJ17_getChars 117 = .ok (.bastore, 1) := dk_84 (dk_at dksJ17_getChars_5 2 rfl rfl)
theorem dJ17_getChars_118 : decode cJ17_getChars 118 = .ok (.iload 5, 2) := dk_21 5 (dk_at dksJ17_getChars_5 3 rfl rfl)
theorem dJ17_getChars_120 : decode cJ17_getChars 120 = .ok (.ireturn, 1) := dk_172 (dk_at dksJ17_getChars_5 5 rfl rfl)
abbrev cJ17_lowestOneBit : ByteArray := prog_28_method_46_code
def yJ17_lowestOneBit : MethodName := ⟨RJ17, "lowestOneBit", "(I)I"⟩
def dkwJ17_lowestOneBit_0 : List UInt8 := [26, 26, 116, 126, 172]
abbrev dktJ17_lowestOneBit_0 : List UInt8 := dkwJ17_lowestOneBit_0 ++ []
theorem dksJ17_lowestOneBit_0 : cJ17_lowestOneBit.data.toList.drop 0 = dktJ17_lowestOneBit_0 := by decide +kernel
theorem dJ17_lowestOneBit_0 : decode cJ17_lowestOneBit 0 = .ok (.iload_n 0, 1) := dk_26 (dk_at dksJ17_lowestOneBit_0 0 rfl rfl)
theorem dJ17_lowestOneBit_1 : decode cJ17_lowestOneBit 1 = .ok (.iload_n 0, 1) := dk_26 (dk_at dksJ17_lowestOneBit_0 1 rfl rfl)
theorem dJ17_lowestOneBit_2 : decode cJ17_lowestOneBit 2 = .ok (.ineg, 1) := dk_116 (dk_at dksJ17_lowestOneBit_0 2 rfl rfl)
theorem dJ17_lowestOneBit_3 : decode cJ17_lowestOneBit 3 = .ok (.iand, 1) := dk_126 (dk_at dksJ17_lowestOneBit_0 3 rfl rfl)
theorem dJ17_lowestOneBit_4 : decode cJ17_lowestOneBit 4 = .ok (.ireturn, 1) := dk_172 (dk_at dksJ17_lowestOneBit_0 4 rfl rfl)
abbrev cJ17_numberOfTrailingZeros : ByteArray := prog_28_method_48_code
def yJ17_numberOfTrailingZeros : MethodName := ⟨RJ17, "numberOfTrailingZeros", "(I)I"⟩
def dkwJ17_numberOfTrailingZeros_3 : List UInt8 := [5, 124, 59, 27, 26, 4, 124, 96, 172]
abbrev dktJ17_numberOfTrailingZeros_3 : List UInt8 := dkwJ17_numberOfTrailingZeros_3 ++ []
def dkwJ17_numberOfTrailingZeros_2 : List UInt8 := [124, 59, 26, 16, 16, 164, 0, 10, 132, 1, 4, 26, 7, 124, 59, 26, 7, 164, 0, 10, 132, 1, 2, 26]
abbrev dktJ17_numberOfTrailingZeros_2 : List UInt8 := dkwJ17_numberOfTrailingZeros_2 ++ dktJ17_numberOfTrailingZeros_3
def dkwJ17_numberOfTrailingZeros_1 : List UInt8 := [164, 0, 11, 132, 1, 16, 26, 16, 16, 124, 59, 26, 17, 1, 0, 164, 0, 11, 132, 1, 8, 26, 16, 8]
abbrev dktJ17_numberOfTrailingZeros_1 : List UInt8 := dkwJ17_numberOfTrailingZeros_1 ++ dktJ17_numberOfTrailingZeros_2
def dkwJ17_numberOfTrailingZeros_0 : List UInt8 := [26, 2, 130, 26, 4, 100, 126, 59, 26, 157, 0, 8, 26, 16, 32, 126, 172, 4, 60, 26, 19, 1, 8]
abbrev dktJ17_numberOfTrailingZeros_0 : List UInt8 := dkwJ17_numberOfTrailingZeros_0 ++ dktJ17_numberOfTrailingZeros_1
theorem dksJ17_numberOfTrailingZeros_0 : cJ17_numberOfTrailingZeros.data.toList.drop 0 = dktJ17_numberOfTrailingZeros_0 := by decide +kernel
theorem dksJ17_numberOfTrailingZeros_1 : cJ17_numberOfTrailingZeros.data.toList.drop 23 = dktJ17_numberOfTrailingZeros_1 := dk_seg dksJ17_numberOfTrailingZeros_0 23 rfl rfl
theorem dksJ17_numberOfTrailingZeros_2 : cJ17_numberOfTrailingZeros.data.toList.drop 47 = dktJ17_numberOfTrailingZeros_2 := dk_seg dksJ17_numberOfTrailingZeros_1 24 rfl rfl
theorem dksJ17_numberOfTrailingZeros_3 : cJ17_numberOfTrailingZeros.data.toList.drop 71 = dktJ17_numberOfTrailingZeros_3 := dk_seg dksJ17_numberOfTrailingZeros_2 24 rfl rfl
theorem dJ17_numberOfTrailingZeros_0 : decode cJ17_numberOfTrailingZeros 0 = .ok (.iload_n 0, 1) := dk_26 (dk_at dksJ17_numberOfTrailingZeros_0 0 rfl rfl)
theorem dJ17_numberOfTrailingZeros_1 : decode cJ17_numberOfTrailingZeros 1 = .ok (.iconst (-1), 1) := dk_2 (dk_at dksJ17_numberOfTrailingZeros_0 1 rfl rfl)
theorem dJ17_numberOfTrailingZeros_2 : decode cJ17_numberOfTrailingZeros 2 = .ok (.ixor, 1) := dk_130 (dk_at dksJ17_numberOfTrailingZeros_0 2 rfl rfl)
theorem dJ17_numberOfTrailingZeros_3 : decode cJ17_numberOfTrailingZeros 3 = .ok (.iload_n 0, 1) := dk_26 (dk_at dksJ17_numberOfTrailingZeros_0 3 rfl rfl)
theorem dJ17_numberOfTrailingZeros_4 : decode cJ17_numberOfTrailingZeros 4 = .ok (.iconst 1, 1) := dk_4 (dk_at dksJ17_numberOfTrailingZeros_0 4 rfl rfl)
theorem dJ17_numberOfTrailingZeros_5 : decode cJ17_numberOfTrailingZeros 5 = .ok (.isub, 1) := dk_100 (dk_at dksJ17_numberOfTrailingZeros_0 5 rfl rfl)
theorem dJ17_numberOfTrailingZeros_6 : decode cJ17_numberOfTrailingZeros 6 = .ok (.iand, 1) := dk_126 (dk_at dksJ17_numberOfTrailingZeros_0 6 rfl rfl)
theorem dJ17_numberOfTrailingZeros_7 : decode cJ17_numberOfTrailingZeros 7 = .ok (.istore_n 0, 1) := dk_59 (dk_at dksJ17_numberOfTrailingZeros_0 7 rfl rfl)
theorem dJ17_numberOfTrailingZeros_8 : decode cJ17_numberOfTrailingZeros 8 = .ok (.iload_n 0, 1) := dk_26 (dk_at dksJ17_numberOfTrailingZeros_0 8 rfl rfl)
theorem dJ17_numberOfTrailingZeros_9 : decode cJ17_numberOfTrailingZeros 9 = .ok (.ifCond .gt 8, 3) := dk_157 0 8 (dk_at dksJ17_numberOfTrailingZeros_0 9 rfl rfl)
theorem dJ17_numberOfTrailingZeros_12 : decode cJ17_numberOfTrailingZeros 12 = .ok (.iload_n 0, 1) := dk_26 (dk_at dksJ17_numberOfTrailingZeros_0 12 rfl rfl)
theorem dJ17_numberOfTrailingZeros_13 : decode cJ17_numberOfTrailingZeros 13 = .ok (.bipush 32, 2) := dk_16 32 (dk_at dksJ17_numberOfTrailingZeros_0 13 rfl rfl)
theorem dJ17_numberOfTrailingZeros_15 : decode cJ17_numberOfTrailingZeros 15 = .ok (.iand, 1) := dk_126 (dk_at dksJ17_numberOfTrailingZeros_0 15 rfl rfl)
theorem dJ17_numberOfTrailingZeros_16 : decode cJ17_numberOfTrailingZeros 16 = .ok (.ireturn, 1) := dk_172 (dk_at dksJ17_numberOfTrailingZeros_0 16 rfl rfl)
theorem dJ17_numberOfTrailingZeros_17 : decode cJ17_numberOfTrailingZeros 17 = .ok (.iconst 1, 1) := dk_4 (dk_at dksJ17_numberOfTrailingZeros_0 17 rfl rfl)
theorem dJ17_numberOfTrailingZeros_18 : decode cJ17_numberOfTrailingZeros 18 = .ok (.istore_n 1, 1) := dk_60 (dk_at dksJ17_numberOfTrailingZeros_0 18 rfl rfl)
theorem dJ17_numberOfTrailingZeros_19 : decode cJ17_numberOfTrailingZeros 19 = .ok (.iload_n 0, 1) := dk_26 (dk_at dksJ17_numberOfTrailingZeros_0 19 rfl rfl)
theorem dJ17_numberOfTrailingZeros_20 : decode cJ17_numberOfTrailingZeros 20 = .ok (.ldc_w 264, 3) := dk_19 1 8 (dk_at dksJ17_numberOfTrailingZeros_0 20 rfl rfl)
theorem dJ17_numberOfTrailingZeros_23 : decode cJ17_numberOfTrailingZeros 23 = .ok (.if_icmp .le 11, 3) := dk_164 0 11 (dk_at dksJ17_numberOfTrailingZeros_1 0 rfl rfl)
theorem dJ17_numberOfTrailingZeros_26 : decode cJ17_numberOfTrailingZeros 26 = .ok (.iinc 1 16, 3) := dk_132 1 16 (dk_at dksJ17_numberOfTrailingZeros_1 3 rfl rfl)
theorem dJ17_numberOfTrailingZeros_29 : decode cJ17_numberOfTrailingZeros 29 = .ok (.iload_n 0, 1) := dk_26 (dk_at dksJ17_numberOfTrailingZeros_1 6 rfl rfl)
theorem dJ17_numberOfTrailingZeros_30 : decode cJ17_numberOfTrailingZeros 30 = .ok (.bipush 16, 2) := dk_16 16 (dk_at dksJ17_numberOfTrailingZeros_1 7 rfl rfl)
theorem dJ17_numberOfTrailingZeros_32 : decode cJ17_numberOfTrailingZeros 32 = .ok (.iushr, 1) := dk_124 (dk_at dksJ17_numberOfTrailingZeros_1 9 rfl rfl)
theorem dJ17_numberOfTrailingZeros_33 : decode cJ17_numberOfTrailingZeros 33 = .ok (.istore_n 0, 1) := dk_59 (dk_at dksJ17_numberOfTrailingZeros_1 10 rfl rfl)
theorem dJ17_numberOfTrailingZeros_34 : decode cJ17_numberOfTrailingZeros 34 = .ok (.iload_n 0, 1) := dk_26 (dk_at dksJ17_numberOfTrailingZeros_1 11 rfl rfl)
theorem dJ17_numberOfTrailingZeros_35 : decode cJ17_numberOfTrailingZeros 35 = .ok (.sipush 256, 3) := dk_17 1 0 (dk_at dksJ17_numberOfTrailingZeros_1 12 rfl rfl)
theorem dJ17_numberOfTrailingZeros_38 : decode cJ17_numberOfTrailingZeros 38 = .ok (.if_icmp .le 11, 3) := dk_164 0 11 (dk_at dksJ17_numberOfTrailingZeros_1 15 rfl rfl)
theorem dJ17_numberOfTrailingZeros_41 : decode cJ17_numberOfTrailingZeros 41 = .ok (.iinc 1 8, 3) := dk_132 1 8 (dk_at dksJ17_numberOfTrailingZeros_1 18 rfl rfl)
theorem dJ17_numberOfTrailingZeros_44 : decode cJ17_numberOfTrailingZeros 44 = .ok (.iload_n 0, 1) := dk_26 (dk_at dksJ17_numberOfTrailingZeros_1 21 rfl rfl)
theorem dJ17_numberOfTrailingZeros_45 : decode cJ17_numberOfTrailingZeros 45 = .ok (.bipush 8, 2) := dk_16 8 (dk_at dksJ17_numberOfTrailingZeros_1 22 rfl rfl)
theorem dJ17_numberOfTrailingZeros_47 : decode cJ17_numberOfTrailingZeros 47 = .ok (.iushr, 1) := dk_124 (dk_at dksJ17_numberOfTrailingZeros_2 0 rfl rfl)
theorem dJ17_numberOfTrailingZeros_48 : decode cJ17_numberOfTrailingZeros 48 = .ok (.istore_n 0, 1) := dk_59 (dk_at dksJ17_numberOfTrailingZeros_2 1 rfl rfl)
theorem dJ17_numberOfTrailingZeros_49 : decode cJ17_numberOfTrailingZeros 49 = .ok (.iload_n 0, 1) := dk_26 (dk_at dksJ17_numberOfTrailingZeros_2 2 rfl rfl)
theorem dJ17_numberOfTrailingZeros_50 : decode cJ17_numberOfTrailingZeros 50 = .ok (.bipush 16, 2) := dk_16 16 (dk_at dksJ17_numberOfTrailingZeros_2 3 rfl rfl)
theorem dJ17_numberOfTrailingZeros_52 : decode cJ17_numberOfTrailingZeros 52 = .ok (.if_icmp .le 10, 3) := dk_164 0 10 (dk_at dksJ17_numberOfTrailingZeros_2 5 rfl rfl)
theorem dJ17_numberOfTrailingZeros_55 : decode cJ17_numberOfTrailingZeros 55 = .ok (.iinc 1 4, 3) := dk_132 1 4 (dk_at dksJ17_numberOfTrailingZeros_2 8 rfl rfl)
theorem dJ17_numberOfTrailingZeros_58 : decode cJ17_numberOfTrailingZeros 58 = .ok (.iload_n 0, 1) := dk_26 (dk_at dksJ17_numberOfTrailingZeros_2 11 rfl rfl)
theorem dJ17_numberOfTrailingZeros_59 : decode cJ17_numberOfTrailingZeros 59 = .ok (.iconst 4, 1) := dk_7 (dk_at dksJ17_numberOfTrailingZeros_2 12 rfl rfl)
theorem dJ17_numberOfTrailingZeros_60 : decode cJ17_numberOfTrailingZeros 60 = .ok (.iushr, 1) := dk_124 (dk_at dksJ17_numberOfTrailingZeros_2 13 rfl rfl)
theorem dJ17_numberOfTrailingZeros_61 : decode cJ17_numberOfTrailingZeros 61 = .ok (.istore_n 0, 1) := dk_59 (dk_at dksJ17_numberOfTrailingZeros_2 14 rfl rfl)
theorem dJ17_numberOfTrailingZeros_62 : decode cJ17_numberOfTrailingZeros 62 = .ok (.iload_n 0, 1) := dk_26 (dk_at dksJ17_numberOfTrailingZeros_2 15 rfl rfl)
theorem dJ17_numberOfTrailingZeros_63 : decode cJ17_numberOfTrailingZeros 63 = .ok (.iconst 4, 1) := dk_7 (dk_at dksJ17_numberOfTrailingZeros_2 16 rfl rfl)
theorem dJ17_numberOfTrailingZeros_64 : decode cJ17_numberOfTrailingZeros 64 = .ok (.if_icmp .le 10, 3) := dk_164 0 10 (dk_at dksJ17_numberOfTrailingZeros_2 17 rfl rfl)
theorem dJ17_numberOfTrailingZeros_67 : decode cJ17_numberOfTrailingZeros 67 = .ok (.iinc 1 2, 3) := dk_132 1 2 (dk_at dksJ17_numberOfTrailingZeros_2 20 rfl rfl)
theorem dJ17_numberOfTrailingZeros_70 : decode cJ17_numberOfTrailingZeros 70 = .ok (.iload_n 0, 1) := dk_26 (dk_at dksJ17_numberOfTrailingZeros_2 23 rfl rfl)
theorem dJ17_numberOfTrailingZeros_71 : decode cJ17_numberOfTrailingZeros 71 = .ok (.iconst 2, 1) := dk_5 (dk_at dksJ17_numberOfTrailingZeros_3 0 rfl rfl)
theorem dJ17_numberOfTrailingZeros_72 : decode cJ17_numberOfTrailingZeros 72 = .ok (.iushr, 1) := dk_124 (dk_at dksJ17_numberOfTrailingZeros_3 1 rfl rfl)
theorem dJ17_numberOfTrailingZeros_73 : decode cJ17_numberOfTrailingZeros 73 = .ok (.istore_n 0, 1) := dk_59 (dk_at dksJ17_numberOfTrailingZeros_3 2 rfl rfl)
theorem dJ17_numberOfTrailingZeros_74 : decode cJ17_numberOfTrailingZeros 74 = .ok (.iload_n 1, 1) := dk_27 (dk_at dksJ17_numberOfTrailingZeros_3 3 rfl rfl)
theorem dJ17_numberOfTrailingZeros_75 : decode cJ17_numberOfTrailingZeros 75 = .ok (.iload_n 0, 1) := dk_26 (dk_at dksJ17_numberOfTrailingZeros_3 4 rfl rfl)
theorem dJ17_numberOfTrailingZeros_76 : decode cJ17_numberOfTrailingZeros 76 = .ok (.iconst 1, 1) := dk_4 (dk_at dksJ17_numberOfTrailingZeros_3 5 rfl rfl)
theorem dJ17_numberOfTrailingZeros_77 : decode cJ17_numberOfTrailingZeros 77 = .ok (.iushr, 1) := dk_124 (dk_at dksJ17_numberOfTrailingZeros_3 6 rfl rfl)
theorem dJ17_numberOfTrailingZeros_78 : decode cJ17_numberOfTrailingZeros 78 = .ok (.iadd, 1) := dk_96 (dk_at dksJ17_numberOfTrailingZeros_3 7 rfl rfl)
theorem dJ17_numberOfTrailingZeros_79 : decode cJ17_numberOfTrailingZeros 79 = .ok (.ireturn, 1) := dk_172 (dk_at dksJ17_numberOfTrailingZeros_3 8 rfl rfl)
abbrev cJ17_bitCount : ByteArray := prog_28_method_49_code
def yJ17_bitCount : MethodName := ⟨RJ17, "bitCount", "(I)I"⟩
def dkwJ17_bitCount_2 : List UInt8 := [26, 16, 63, 126, 172]
abbrev dktJ17_bitCount_2 : List UInt8 := dkwJ17_bitCount_2 ++ []
def dkwJ17_bitCount_1 : List UInt8 := [26, 26, 7, 124, 96, 19, 1, 11, 126, 59, 26, 26, 16, 8, 124, 96, 59, 26, 26, 16, 16, 124, 96, 59]
abbrev dktJ17_bitCount_1 : List UInt8 := dkwJ17_bitCount_1 ++ dktJ17_bitCount_2
def dkwJ17_bitCount_0 : List UInt8 := [26, 26, 4, 124, 19, 1, 9, 126, 100, 59, 26, 19, 1, 10, 126, 26, 5, 124, 19, 1, 10, 126, 96, 59]
abbrev dktJ17_bitCount_0 : List UInt8 := dkwJ17_bitCount_0 ++ dktJ17_bitCount_1
theorem dksJ17_bitCount_0 : cJ17_bitCount.data.toList.drop 0 = dktJ17_bitCount_0 := by decide +kernel
theorem dksJ17_bitCount_1 : cJ17_bitCount.data.toList.drop 24 = dktJ17_bitCount_1 := dk_seg dksJ17_bitCount_0 24 rfl rfl
theorem dksJ17_bitCount_2 : cJ17_bitCount.data.toList.drop 48 = dktJ17_bitCount_2 := dk_seg dksJ17_bitCount_1 24 rfl rfl
theorem dJ17_bitCount_0 : decode cJ17_bitCount 0 = .ok (.iload_n 0, 1) := dk_26 (dk_at dksJ17_bitCount_0 0 rfl rfl)
theorem dJ17_bitCount_1 : decode cJ17_bitCount 1 = .ok (.iload_n 0, 1) := dk_26 (dk_at dksJ17_bitCount_0 1 rfl rfl)
theorem dJ17_bitCount_2 : decode cJ17_bitCount 2 = .ok (.iconst 1, 1) := dk_4 (dk_at dksJ17_bitCount_0 2 rfl rfl)
theorem dJ17_bitCount_3 : decode cJ17_bitCount 3 = .ok (.iushr, 1) := dk_124 (dk_at dksJ17_bitCount_0 3 rfl rfl)
theorem dJ17_bitCount_4 : decode cJ17_bitCount 4 = .ok (.ldc_w 265, 3) := dk_19 1 9 (dk_at dksJ17_bitCount_0 4 rfl rfl)
theorem dJ17_bitCount_7 : decode cJ17_bitCount 7 = .ok (.iand, 1) := dk_126 (dk_at dksJ17_bitCount_0 7 rfl rfl)
theorem dJ17_bitCount_8 : decode cJ17_bitCount 8 = .ok (.isub, 1) := dk_100 (dk_at dksJ17_bitCount_0 8 rfl rfl)
theorem dJ17_bitCount_9 : decode cJ17_bitCount 9 = .ok (.istore_n 0, 1) := dk_59 (dk_at dksJ17_bitCount_0 9 rfl rfl)
theorem dJ17_bitCount_10 : decode cJ17_bitCount 10 = .ok (.iload_n 0, 1) := dk_26 (dk_at dksJ17_bitCount_0 10 rfl rfl)
theorem dJ17_bitCount_11 : decode cJ17_bitCount 11 = .ok (.ldc_w 266, 3) := dk_19 1 10 (dk_at dksJ17_bitCount_0 11 rfl rfl)
theorem dJ17_bitCount_14 : decode cJ17_bitCount 14 = .ok (.iand, 1) := dk_126 (dk_at dksJ17_bitCount_0 14 rfl rfl)
theorem dJ17_bitCount_15 : decode cJ17_bitCount 15 = .ok (.iload_n 0, 1) := dk_26 (dk_at dksJ17_bitCount_0 15 rfl rfl)
theorem dJ17_bitCount_16 : decode cJ17_bitCount 16 = .ok (.iconst 2, 1) := dk_5 (dk_at dksJ17_bitCount_0 16 rfl rfl)
theorem dJ17_bitCount_17 : decode cJ17_bitCount 17 = .ok (.iushr, 1) := dk_124 (dk_at dksJ17_bitCount_0 17 rfl rfl)
theorem dJ17_bitCount_18 : decode cJ17_bitCount 18 = .ok (.ldc_w 266, 3) := dk_19 1 10 (dk_at dksJ17_bitCount_0 18 rfl rfl)
theorem dJ17_bitCount_21 : decode cJ17_bitCount 21 = .ok (.iand, 1) := dk_126 (dk_at dksJ17_bitCount_0 21 rfl rfl)
theorem dJ17_bitCount_22 : decode cJ17_bitCount 22 = .ok (.iadd, 1) := dk_96 (dk_at dksJ17_bitCount_0 22 rfl rfl)
theorem dJ17_bitCount_23 : decode cJ17_bitCount 23 = .ok (.istore_n 0, 1) := dk_59 (dk_at dksJ17_bitCount_0 23 rfl rfl)
theorem dJ17_bitCount_24 : decode cJ17_bitCount 24 = .ok (.iload_n 0, 1) := dk_26 (dk_at dksJ17_bitCount_1 0 rfl rfl)
theorem dJ17_bitCount_25 : decode cJ17_bitCount 25 = .ok (.iload_n 0, 1) := dk_26 (dk_at dksJ17_bitCount_1 1 rfl rfl)
theorem dJ17_bitCount_26 : decode cJ17_bitCount 26 = .ok (.iconst 4, 1) := dk_7 (dk_at dksJ17_bitCount_1 2 rfl rfl)
theorem dJ17_bitCount_27 : decode cJ17_bitCount 27 = .ok (.iushr, 1) := dk_124 (dk_at dksJ17_bitCount_1 3 rfl rfl)
theorem dJ17_bitCount_28 : decode cJ17_bitCount 28 = .ok (.iadd, 1) := dk_96 (dk_at dksJ17_bitCount_1 4 rfl rfl)
theorem dJ17_bitCount_29 : decode cJ17_bitCount 29 = .ok (.ldc_w 267, 3) := dk_19 1 11 (dk_at dksJ17_bitCount_1 5 rfl rfl)
theorem dJ17_bitCount_32 : decode cJ17_bitCount 32 = .ok (.iand, 1) := dk_126 (dk_at dksJ17_bitCount_1 8 rfl rfl)
theorem dJ17_bitCount_33 : decode cJ17_bitCount 33 = .ok (.istore_n 0, 1) := dk_59 (dk_at dksJ17_bitCount_1 9 rfl rfl)
theorem dJ17_bitCount_34 : decode cJ17_bitCount 34 = .ok (.iload_n 0, 1) := dk_26 (dk_at dksJ17_bitCount_1 10 rfl rfl)
theorem dJ17_bitCount_35 : decode cJ17_bitCount 35 = .ok (.iload_n 0, 1) := dk_26 (dk_at dksJ17_bitCount_1 11 rfl rfl)
theorem dJ17_bitCount_36 : decode cJ17_bitCount 36 = .ok (.bipush 8, 2) := dk_16 8 (dk_at dksJ17_bitCount_1 12 rfl rfl)
theorem dJ17_bitCount_38 : decode cJ17_bitCount 38 = .ok (.iushr, 1) := dk_124 (dk_at dksJ17_bitCount_1 14 rfl rfl)
theorem dJ17_bitCount_39 : decode cJ17_bitCount 39 = .ok (.iadd, 1) := dk_96 (dk_at dksJ17_bitCount_1 15 rfl rfl)
theorem dJ17_bitCount_40 : decode cJ17_bitCount 40 = .ok (.istore_n 0, 1) := dk_59 (dk_at dksJ17_bitCount_1 16 rfl rfl)
theorem dJ17_bitCount_41 : decode cJ17_bitCount 41 = .ok (.iload_n 0, 1) := dk_26 (dk_at dksJ17_bitCount_1 17 rfl rfl)
theorem dJ17_bitCount_42 : decode cJ17_bitCount 42 = .ok (.iload_n 0, 1) := dk_26 (dk_at dksJ17_bitCount_1 18 rfl rfl)
theorem dJ17_bitCount_43 : decode cJ17_bitCount 43 = .ok (.bipush 16, 2) := dk_16 16 (dk_at dksJ17_bitCount_1 19 rfl rfl)
theorem dJ17_bitCount_45 : decode cJ17_bitCount 45 = .ok (.iushr, 1) := dk_124 (dk_at dksJ17_bitCount_1 21 rfl rfl)
theorem dJ17_bitCount_46 : decode cJ17_bitCount 46 = .ok (.iadd, 1) := dk_96 (dk_at dksJ17_bitCount_1 22 rfl rfl)
theorem dJ17_bitCount_47 : decode cJ17_bitCount 47 = .ok (.istore_n 0, 1) := dk_59 (dk_at dksJ17_bitCount_1 23 rfl rfl)
theorem dJ17_bitCount_48 : decode cJ17_bitCount 48 = .ok (.iload_n 0, 1) := dk_26 (dk_at dksJ17_bitCount_2 0 rfl rfl)
theorem dJ17_bitCount_49 : decode cJ17_bitCount 49 = .ok (.bipush 63, 2) := dk_16 63 (dk_at dksJ17_bitCount_2 1 rfl rfl)
theorem dJ17_bitCount_51 : decode cJ17_bitCount 51 = .ok (.iand, 1) := dk_126 (dk_at dksJ17_bitCount_2 3 rfl rfl)
theorem dJ17_bitCount_52 : decode cJ17_bitCount 52 = .ok (.ireturn, 1) := dk_172 (dk_at dksJ17_bitCount_2 4 rfl rfl)
abbrev cJ17_valueOf : ByteArray := prog_28_method_22_code
def yJ17_valueOf : MethodName := ⟨RJ17, "valueOf", "(I)Ljava/lang/Integer;"⟩
def dkwJ17_valueOf_1 : List UInt8 := [187, 0, 1, 89, 26, 183, 0, 199, 176]
abbrev dktJ17_valueOf_1 : List UInt8 := dkwJ17_valueOf_1 ++ []
def dkwJ17_valueOf_0 : List UInt8 := [26, 16, 128, 161, 0, 20, 26, 178, 0, 191, 163, 0, 13, 178, 0, 195, 26, 17, 0, 128, 96, 50, 176]
abbrev dktJ17_valueOf_0 : List UInt8 := dkwJ17_valueOf_0 ++ dktJ17_valueOf_1
theorem dksJ17_valueOf_0 : cJ17_valueOf.data.toList.drop 0 = dktJ17_valueOf_0 := by decide +kernel
theorem dksJ17_valueOf_1 : cJ17_valueOf.data.toList.drop 23 = dktJ17_valueOf_1 := dk_seg dksJ17_valueOf_0 23 rfl rfl
theorem dJ17_valueOf_0 : decode cJ17_valueOf 0 = .ok (.iload_n 0, 1) := dk_26 (dk_at dksJ17_valueOf_0 0 rfl rfl)
theorem dJ17_valueOf_1 : decode cJ17_valueOf 1 = .ok (.bipush (-128), 2) := dk_16 128 (dk_at dksJ17_valueOf_0 1 rfl rfl)
theorem dJ17_valueOf_3 : decode cJ17_valueOf 3 = .ok (.if_icmp .lt 20, 3) := dk_161 0 20 (dk_at dksJ17_valueOf_0 3 rfl rfl)
theorem dJ17_valueOf_6 : decode cJ17_valueOf 6 = .ok (.iload_n 0, 1) := dk_26 (dk_at dksJ17_valueOf_0 6 rfl rfl)
theorem dJ17_valueOf_7 : decode cJ17_valueOf 7 = .ok (.getstatic 191, 3) := dk_178 0 191 (dk_at dksJ17_valueOf_0 7 rfl rfl)
theorem dJ17_valueOf_10 : decode cJ17_valueOf 10 = .ok (.if_icmp .gt 13, 3) := dk_163 0 13 (dk_at dksJ17_valueOf_0 10 rfl rfl)
theorem dJ17_valueOf_13 : decode cJ17_valueOf 13 = .ok (.getstatic 195, 3) := dk_178 0 195 (dk_at dksJ17_valueOf_0 13 rfl rfl)
theorem dJ17_valueOf_16 : decode cJ17_valueOf 16 = .ok (.iload_n 0, 1) := dk_26 (dk_at dksJ17_valueOf_0 16 rfl rfl)
theorem dJ17_valueOf_17 : decode cJ17_valueOf 17 = .ok (.sipush 128, 3) := dk_17 0 128 (dk_at dksJ17_valueOf_0 17 rfl rfl)
theorem dJ17_valueOf_20 : decode cJ17_valueOf 20 = .ok (.iadd, 1) := dk_96 (dk_at dksJ17_valueOf_0 20 rfl rfl)
theorem dJ17_valueOf_21 : decode cJ17_valueOf 21 = .ok (.aaload, 1) := dk_50 (dk_at dksJ17_valueOf_0 21 rfl rfl)
theorem dJ17_valueOf_22 : decode cJ17_valueOf 22 = .ok (.areturn, 1) := dk_176 (dk_at dksJ17_valueOf_0 22 rfl rfl)
theorem dJ17_valueOf_23 : decode cJ17_valueOf 23 = .ok (.new 1, 3) := dk_187 0 1 (dk_at dksJ17_valueOf_1 0 rfl rfl)
theorem dJ17_valueOf_26 : decode cJ17_valueOf 26 = .ok (.dup, 1) := dk_89 (dk_at dksJ17_valueOf_1 3 rfl rfl)
theorem dJ17_valueOf_27 : decode cJ17_valueOf 27 = .ok (.iload_n 0, 1) := dk_26 (dk_at dksJ17_valueOf_1 4 rfl rfl)
theorem dJ17_valueOf_28 : decode cJ17_valueOf 28 = .ok (.invokespecial 199, 3) := dk_183 0 199 (dk_at dksJ17_valueOf_1 5 rfl rfl)
theorem dJ17_valueOf_31 : decode cJ17_valueOf 31 = .ok (.areturn, 1) := dk_176 (dk_at dksJ17_valueOf_1 8 rfl rfl)
abbrev cJ17_init : ByteArray := prog_28_method_23_code
def yJ17_init : MethodName := ⟨RJ17, "<init>", "(I)V"⟩
def dkwJ17_init_0 : List UInt8 := [42, 183, 0, 202, 42, 27, 181, 0, 205, 177]
abbrev dktJ17_init_0 : List UInt8 := dkwJ17_init_0 ++ []
theorem dksJ17_init_0 : cJ17_init.data.toList.drop 0 = dktJ17_init_0 := by decide +kernel
theorem dJ17_init_0 : decode cJ17_init 0 = .ok (.aload_n 0, 1) := dk_42 (dk_at dksJ17_init_0 0 rfl rfl)
theorem dJ17_init_1 : decode cJ17_init 1 = .ok (.invokespecial 202, 3) := dk_183 0 202 (dk_at dksJ17_init_0 1 rfl rfl)
theorem dJ17_init_4 : decode cJ17_init 4 = .ok (.aload_n 0, 1) := dk_42 (dk_at dksJ17_init_0 4 rfl rfl)
theorem dJ17_init_5 : decode cJ17_init 5 = .ok (.iload_n 1, 1) := dk_27 (dk_at dksJ17_init_0 5 rfl rfl)
theorem dJ17_init_6 : decode cJ17_init 6 = .ok (.putfield 205, 3) := dk_181 0 205 (dk_at dksJ17_init_0 6 rfl rfl)
theorem dJ17_init_9 : decode cJ17_init 9 = .ok (.return_, 1) := dk_177 (dk_at dksJ17_init_0 9 rfl rfl)
abbrev cJ17_intValue : ByteArray := prog_28_method_27_code
def yJ17_intValue : MethodName := ⟨RJ17, "intValue", "()I"⟩
theorem dJ17_intValue_0 : decode cJ17_intValue 0 = .ok (.aload_n 0, 1) := by decide +kernel
theorem dJ17_intValue_1 : decode cJ17_intValue 1 = .ok (.getfield 205, 3) := by decide +kernel
theorem dJ17_intValue_4 : decode cJ17_intValue 4 = .ok (.ireturn, 1) := by decide +kernel
theorem q118 : (Jvm.Cond.initialized "java/lang/Integer") ∈ lw_all := lw_g (lw_at lw_m1 24 rfl) rfl
theorem q486 : (Jvm.Cond.static ({ cls := "java/lang/Integer", name := "stringSize", desc := "(I)I" } : Jvm.MethodName)) ∈ lw_all := lw_g (lw_at lw_m2 152 rfl) rfl
theorem q487 : (Jvm.Cond.code ({ cls := "java/lang/Integer", name := "stringSize", desc := "(I)I" } : Jvm.MethodName) prog_28_method_13_code (4 : Nat) (Option.some Jvm.ClassFile.FieldType.int)) ∈ lw_all := lw_g (lw_at lw_m2 153 rfl) rfl
theorem q489 : (Jvm.Cond.static ({ cls := "java/lang/Integer", name := "getChars", desc := "(II[B)I" } : Jvm.MethodName)) ∈ lw_all := lw_g (lw_at lw_m2 155 rfl) rfl
theorem q490 : (Jvm.Cond.code ({ cls := "java/lang/Integer", name := "getChars", desc := "(II[B)I" } : Jvm.MethodName) prog_28_method_12_code (7 : Nat) (Option.some Jvm.ClassFile.FieldType.int)) ∈ lw_all := lw_g (lw_at lw_m2 156 rfl) rfl
theorem q491 : (Jvm.Cond.fieldLink "java/lang/Integer" (83 : Nat) "java/lang/Integer" "DigitOnes" "[B") ∈ lw_all := lw_g (lw_at lw_m2 157 rfl) rfl
theorem q492 : (Jvm.Cond.laysStatic "java/lang/Integer" "DigitOnes" "[B") ∈ lw_tbl := lw_at lw_m2 158 rfl
theorem q493 : (Jvm.Cond.fieldLink "java/lang/Integer" (87 : Nat) "java/lang/Integer" "DigitTens" "[B") ∈ lw_all := lw_g (lw_at lw_m2 159 rfl) rfl
theorem q494 : (Jvm.Cond.laysStatic "java/lang/Integer" "DigitTens" "[B") ∈ lw_tbl := lw_at lw_m2 160 rfl
theorem q718 : (Jvm.Cond.static ({ cls := "java/lang/Integer", name := "lowestOneBit", desc := "(I)I" } : Jvm.MethodName)) ∈ lw_all := lw_g (lw_at lw_m3 144 rfl) rfl
theorem q719 : (Jvm.Cond.code ({ cls := "java/lang/Integer", name := "lowestOneBit", desc := "(I)I" } : Jvm.MethodName) prog_28_method_46_code (1 : Nat) (Option.some Jvm.ClassFile.FieldType.int)) ∈ lw_all := lw_g (lw_at lw_m3 145 rfl) rfl
theorem q726 : (Jvm.Cond.static ({ cls := "java/lang/Integer", name := "numberOfTrailingZeros", desc := "(I)I" } : Jvm.MethodName)) ∈ lw_all := lw_g (lw_at lw_m3 152 rfl) rfl
theorem q727 : (Jvm.Cond.code ({ cls := "java/lang/Integer", name := "numberOfTrailingZeros", desc := "(I)I" } : Jvm.MethodName) prog_28_method_48_code (2 : Nat) (Option.some Jvm.ClassFile.FieldType.int)) ∈ lw_all := lw_g (lw_at lw_m3 153 rfl) rfl
theorem q728 : (Jvm.Cond.constant "java/lang/Integer" (264 : Nat) (65536 : Int32)) ∈ lw_all := lw_g (lw_at lw_m3 154 rfl) rfl
theorem q750 : (Jvm.Cond.static ({ cls := "java/lang/Integer", name := "bitCount", desc := "(I)I" } : Jvm.MethodName)) ∈ lw_all := lw_g (lw_at lw_m3 176 rfl) rfl
theorem q751 : (Jvm.Cond.code ({ cls := "java/lang/Integer", name := "bitCount", desc := "(I)I" } : Jvm.MethodName) prog_28_method_49_code (1 : Nat) (Option.some Jvm.ClassFile.FieldType.int)) ∈ lw_all := lw_g (lw_at lw_m3 177 rfl) rfl
theorem q752 : (Jvm.Cond.constant "java/lang/Integer" (265 : Nat) (1431655765 : Int32)) ∈ lw_all := lw_g (lw_at lw_m3 178 rfl) rfl
theorem q753 : (Jvm.Cond.constant "java/lang/Integer" (266 : Nat) (858993459 : Int32)) ∈ lw_all := lw_g (lw_at lw_m3 179 rfl) rfl
theorem q754 : (Jvm.Cond.constant "java/lang/Integer" (267 : Nat) (252645135 : Int32)) ∈ lw_all := lw_g (lw_at lw_m3 180 rfl) rfl
theorem q856 : (Jvm.Cond.static ({ cls := "java/lang/Integer", name := "valueOf", desc := "(I)Ljava/lang/Integer;" } : Jvm.MethodName)) ∈ lw_all := lw_g (lw_at lw_m4 42 rfl) rfl
theorem q857 : (Jvm.Cond.code ({ cls := "java/lang/Integer", name := "valueOf", desc := "(I)Ljava/lang/Integer;" } : Jvm.MethodName) prog_28_method_22_code (1 : Nat) (Option.some (Jvm.ClassFile.FieldType.object "java/lang/Integer"))) ∈ lw_all := lw_g (lw_at lw_m4 43 rfl) rfl
theorem q858 : (Jvm.Cond.fieldLink "java/lang/Integer" (191 : Nat) "java/lang/Integer$IntegerCache" "high" "I") ∈ lw_all := lw_g (lw_at lw_m4 44 rfl) rfl
theorem q860 : (Jvm.Cond.fieldLink "java/lang/Integer" (195 : Nat) "java/lang/Integer$IntegerCache" "cache" "[Ljava/lang/Integer;") ∈ lw_all := lw_g (lw_at lw_m4 46 rfl) rfl
theorem q862 : (Jvm.Cond.classLink "java/lang/Integer" (1 : Nat) "java/lang/Integer") ∈ lw_all := lw_g (lw_at lw_m4 48 rfl) rfl
theorem q863 : (Jvm.Cond.instantiable "java/lang/Integer" (1 : Nat)) ∈ lw_all := lw_g (lw_at lw_m4 49 rfl) rfl
theorem q864 : (Jvm.Cond.methodLink "java/lang/Integer" (199 : Nat) ({ cls := "java/lang/Integer", name := "<init>", desc := "(I)V" } : Jvm.MethodName)) ∈ lw_all := lw_g (lw_at lw_m4 50 rfl) rfl
theorem q865 : (Jvm.Cond.instanceMethod ({ cls := "java/lang/Integer", name := "<init>", desc := "(I)V" } : Jvm.MethodName)) ∈ lw_all := lw_g (lw_at lw_m4 51 rfl) rfl
theorem q866 : (Jvm.Cond.code ({ cls := "java/lang/Integer", name := "<init>", desc := "(I)V" } : Jvm.MethodName) prog_28_method_23_code (2 : Nat) (Option.none : Option Jvm.ClassFile.FieldType)) ∈ lw_all := lw_g (lw_at lw_m4 52 rfl) rfl
theorem q867 : (Jvm.Cond.methodLink "java/lang/Integer" (202 : Nat) ({ cls := "java/lang/Number", name := "<init>", desc := "()V" } : Jvm.MethodName)) ∈ lw_all := lw_g (lw_at lw_m4 53 rfl) rfl
theorem q871 : (Jvm.Cond.fieldLink "java/lang/Integer" (205 : Nat) "java/lang/Integer" "value" "I") ∈ lw_all := lw_g (lw_at lw_m4 57 rfl) rfl
theorem q872 : (Jvm.Cond.laysFinal "java/lang/Integer" "java/lang/Integer" "value" "I") ∈ lw_all := lw_g (lw_at lw_m4 58 rfl) rfl
theorem q873 : (Jvm.Cond.soleField "java/lang/Integer" "value") ∈ lw_all := lw_g (lw_at lw_m4 59 rfl) rfl
theorem q874 : (Jvm.Cond.superclass "java/lang/Integer" "java/lang/Number") ∈ lw_all := lw_g (lw_at lw_m4 60 rfl) rfl
theorem q876 : (Jvm.Cond.instanceMethod ({ cls := "java/lang/Integer", name := "intValue", desc := "()I" } : Jvm.MethodName)) ∈ lw_all := lw_g (lw_at lw_m4 62 rfl) rfl
theorem q877 : (Jvm.Cond.selects "java/lang/Integer" ({ cls := "java/lang/Integer", name := "intValue", desc := "()I" } : Jvm.MethodName) ({ cls := "java/lang/Integer", name := "intValue", desc := "()I" } : Jvm.MethodName)) ∈ lw_all := lw_g (lw_at lw_m4 63 rfl) rfl
theorem q878 : (Jvm.Cond.code ({ cls := "java/lang/Integer", name := "intValue", desc := "()I" } : Jvm.MethodName) prog_28_method_27_code (1 : Nat) (Option.some Jvm.ClassFile.FieldType.int)) ∈ lw_all := lw_g (lw_at lw_m4 64 rfl) rfl
theorem q960 : (Jvm.Cond.selects "java/lang/Integer" ({ cls := "java/lang/Object", name := "getClass", desc := "()Ljava/lang/Class;" } : Jvm.MethodName) ({ cls := "java/lang/Object", name := "getClass", desc := "()Ljava/lang/Class;" } : Jvm.MethodName)) ∈ lw_all := lw_g (lw_at lw_m4 146 rfl) rfl
theorem q2272 : (Jvm.Cond.castable "java/lang/Integer" "java/lang/Object") ∈ lw_tbl := lw_at lw_m10 18 rfl
theorem in_J17 : ∀ w ∈ wsJ170, w ∈ lw_all := lw_in wsJ170 [872] (by decide +kernel) (by decide +kernel)
