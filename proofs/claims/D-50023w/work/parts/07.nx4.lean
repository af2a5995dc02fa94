/-! ColourDuel$Graph -/
set_option maxRecDepth 100000
def RX4 : String := "ColourDuel$Graph"
def TX4 : u_T := fun k => match k with
  | 0 => ("ColourDuel$Graph", "colours", "I", true)
  | 1 => ("ColourDuel$Graph", "lists", "[I", true)
  | 2 => ("ColourDuel$Graph", "near", "[I", true)
  | 3 => ("ColourDuel$Graph", "size", "I", false)
  | _ => ("ColourDuel$Graph", "edges", "I", false)
def tyX4 : Nat → FieldType := fun k => match k with
  | 0 => .int
  | 1 => .array .int
  | 2 => .array .int
  | 3 => .int
  | _ => .int
abbrev wsX40 : List Cond := u_ws RX4 TX4 5
theorem nmX4 : ∀ a, a < 5 → ∀ b, b < 5 → a ≠ b → (TX4 a).2.1 ≠ (TX4 b).2.1 := by decide +kernel
theorem tyX4_ok : ∀ k, k < 5 → parseFieldDescriptor (TX4 k).2.2.1 = some (tyX4 k) := by decide +kernel
abbrev cX4_init : ByteArray := prog_7_method_1_code
def yX4_init : MethodName := ⟨RX4, "<init>", "(I)V"⟩
def dkwX4_init_1 : List UInt8 := [181, 0, 18, 177]
abbrev dktX4_init_1 : List UInt8 := dkwX4_init_1 ++ []
def dkwX4_init_0 : List UInt8 := [42, 183, 0, 3, 42, 16, 9, 188, 10, 181, 0, 9, 42, 16, 9, 188, 10, 181, 0, 15, 42, 27]
abbrev dktX4_init_0 : List UInt8 := dkwX4_init_0 ++ dktX4_init_1
theorem dksX4_init_0 : cX4_init.data.toList.drop 0 = dktX4_init_0 := by decide +kernel
theorem dksX4_init_1 : cX4_init.data.toList.drop 22 = dktX4_init_1 := dk_seg dksX4_init_0 22 rfl rfl
theorem dX4_init_0 : decode cX4_init 0 = .ok (.aload_n 0, 1) := dk_42 (dk_at dksX4_init_0 0 rfl rfl)
theorem dX4_init_1 : decode cX4_init 1 = .ok (.invokespecial 3, 3) := dk_183 0 3 (dk_at dksX4_init_0 1 rfl rfl)
theorem dX4_init_4 : decode cX4_init 4 = .ok (.aload_n 0, 1) := dk_42 (dk_at dksX4_init_0 4 rfl rfl)
theorem dX4_init_5 : decode cX4_init 5 = .ok (.bipush 9, 2) := dk_16 9 (dk_at dksX4_init_0 5 rfl rfl)
theorem dX4_init_7 : decode cX4_init 7 = .ok (.newarray .int, 2) := dk_188_10 (dk_at dksX4_init_0 7 rfl rfl)
theorem dX4_init_9 : decode cX4_init 9 = .ok (.putfield 9, 3) := dk_181 0 9 (dk_at dksX4_init_0 9 rfl rfl)
theorem dX4_init_12 : decode cX4_init 12 = .ok (.aload_n 0, 1) := dk_42 (dk_at dksX4_init_0 12 rfl rfl)
theorem dX4_init_13 : decode cX4_init 13 = .ok (.bipush 9, 2) := dk_16 9 (dk_at dksX4_init_0 13 rfl rfl)
theorem dX4_init_15 : decode cX4_init 15 = .ok (.newarray .int, 2) := dk_188_10 (dk_at dksX4_init_0 15 rfl rfl)
theorem dX4_init_17 : decode cX4_init 17 = .ok (.putfield 15, 3) := dk_181 0 15 (dk_at dksX4_init_0 17 rfl rfl)
theorem dX4_init_20 : decode cX4_init 20 = .ok (.aload_n 0, 1) := dk_42 (dk_at dksX4_init_0 20 rfl rfl)
theorem dX4_init_21 : decode cX4_init 21 = .ok (.iload_n 1, 1) := dk_27 (dk_at dksX4_init_0 21 rfl rfl)
theorem dX4_init_22 : decode cX4_init 22 = .ok (.putfield 18, 3) := dk_181 0 18 (dk_at dksX4_init_1 0 rfl rfl)
theorem dX4_init_25 : decode cX4_init 25 = .ok (.return_, 1) := dk_177 (dk_at dksX4_init_1 3 rfl rfl)
abbrev cX4_firstPart : ByteArray := prog_7_method_5_code
def yX4_firstPart : MethodName := ⟨RX4, "firstPart", "(I)I"⟩
def dkwX4_firstPart_0 : List UInt8 := [42, 27, 184, 0, 28, 27, 182, 0, 34, 172]
abbrev dktX4_firstPart_0 : List UInt8 := dkwX4_firstPart_0 ++ []
theorem dksX4_firstPart_0 : cX4_firstPart.data.toList.drop 0 = dktX4_firstPart_0 := by decide +kernel
theorem dX4_firstPart_0 : decode cX4_firstPart 0 = .ok (.aload_n 0, 1) := dk_42 (dk_at dksX4_firstPart_0 0 rfl rfl)
theorem dX4_firstPart_1 : decode cX4_firstPart 1 = .ok (.iload_n 1, 1) := dk_27 (dk_at dksX4_firstPart_0 1 rfl rfl)
theorem dX4_firstPart_2 : decode cX4_firstPart 2 = .ok (.invokestatic 28, 3) := dk_184 0 28 (dk_at dksX4_firstPart_0 2 rfl rfl)
theorem dX4_firstPart_5 : decode cX4_firstPart 5 = .ok (.iload_n 1, 1) := dk_27 (dk_at dksX4_firstPart_0 5 rfl rfl)
theorem dX4_firstPart_6 : decode cX4_firstPart 6 = .ok (.invokevirtual 34, 3) := dk_182 0 34 (dk_at dksX4_firstPart_0 6 rfl rfl)
theorem dX4_firstPart_9 : decode cX4_firstPart 9 = .ok (.ireturn, 1) := dk_172 (dk_at dksX4_firstPart_0 9 rfl rfl)
abbrev cX4_partFrom : ByteArray := prog_7_method_6_code
def yX4_partFrom : MethodName := ⟨RX4, "partFrom", "(II)I"⟩
def dkwX4_partFrom_2 : List UInt8 := [62, 132, 5, 1, 167, 255, 222, 167, 255, 207, 29, 172]
abbrev dktX4_partFrom_2 : List UInt8 := dkwX4_partFrom_2 ++ []
def dkwX4_partFrom_1 : List UInt8 := [162, 0, 31, 21, 4, 21, 5, 184, 0, 38, 153, 0, 15, 29, 42, 180, 0, 15, 21, 5, 46, 28, 126, 128]
abbrev dktX4_partFrom_1 : List UInt8 := dkwX4_partFrom_1 ++ dktX4_partFrom_2
def dkwX4_partFrom_0 : List UInt8 := [27, 62, 3, 54, 4, 29, 21, 4, 159, 0, 49, 29, 54, 4, 3, 54, 5, 21, 5, 42, 180, 0, 22]
abbrev dktX4_partFrom_0 : List UInt8 := dkwX4_partFrom_0 ++ dktX4_partFrom_1
theorem dksX4_partFrom_0 : cX4_partFrom.data.toList.drop 0 = dktX4_partFrom_0 := by decide +kernel
theorem dksX4_partFrom_1 : cX4_partFrom.data.toList.drop 23 = dktX4_partFrom_1 := dk_seg dksX4_partFrom_0 23 rfl rfl
theorem dksX4_partFrom_2 : cX4_partFrom.data.toList.drop 47 = dktX4_partFrom_2 := dk_seg dksX4_partFrom_1 24 rfl rfl
theorem dX4_partFrom_0 : decode cX4_partFrom 0 = .ok (.iload_n 1, 1) := dk_27 (dk_at dksX4_partFrom_0 0 rfl rfl)
theorem dX4_partFrom_1 : decode cX4_partFrom 1 = .ok (.istore_n 3, 1) := dk_62 (dk_at dksX4_partFrom_0 1 rfl rfl)
theorem dX4_partFrom_2 : decode cX4_partFrom 2 = .ok (.iconst 0, 1) := dk_3 (dk_at dksX4_partFrom_0 2 rfl rfl)
theorem dX4_partFrom_3 : decode cX4_partFrom 3 = .ok (.istore 4, 2) := dk_54 4 (dk_at dksX4_partFrom_0 3 rfl rfl)
theorem dX4_partFrom_5 : decode cX4_partFrom 5 = .ok (.iload_n 3, 1) := dk_29 (dk_at dksX4_partFrom_0 5 rfl rfl)
theorem dX4_partFrom_6 : decode cX4_partFrom 6 = .ok (.iload 4, 2) := dk_21 4 (dk_at dksX4_partFrom_0 6 rfl rfl)
theorem dX4_partFrom_8 : decode cX4_partFrom 8 = .ok (.if_icmp .eq 49, 3) := dk_159 0 49 (dk_at dksX4_partFrom_0 8 rfl rfl)
theorem dX4_partFrom_11 : decode cX4_partFrom 11 = .ok (.iload_n 3, 1) := dk_29 (dk_at dksX4_partFrom_0 11 rfl rfl)
theorem dX4_partFrom_12 : decode cX4_partFrom 12 = .ok (.istore 4, 2) := dk_54 4 (dk_at dksX4_partFrom_0 12 rfl rfl)
theorem dX4_partFrom_14 : decode cX4_partFrom 14 = .ok (.iconst 0, 1) := dk_3 (dk_at dksX4_partFrom_0 14 rfl rfl)
theorem dX4_partFrom_15 : decode cX4_partFrom 15 = .ok (.istore 5, 2) := dk_54 5 (dk_at dksX4_partFrom_0 15 rfl rfl)
theorem dX4_partFrom_17 : decode cX4_partFrom 17 = .ok (.iload 5, 2) := dk_21 5 (dk_at dksX4_partFrom_0 17 rfl rfl)
theorem dX4_partFrom_19 : decode cX4_partFrom 19 = .ok (.aload_n 0, 1) := dk_42 (dk_at dksX4_partFrom_0 19 rfl rfl)
theorem dX4_partFrom_20 : decode cX4_partFrom 20 = .ok (.getfield 22, 3) := dk_180 0 22 (dk_at dksX4_partFrom_0 20 rfl rfl)
theorem dX4_partFrom_23 : decode cX4_partFrom 23 = .ok (.if_icmp .ge 31, 3) := dk_162 0 31 (dk_at dksX4_partFrom_1 0 rfl rfl)
theorem dX4_partFrom_26 : decode cX4_partFrom 26 = .ok (.iload 4, 2) := dk_21 4 (dk_at dksX4_partFrom_1 3 rfl rfl)
theorem dX4_partFrom_28 : decode cX4_partFrom 28 = .ok (.iload 5, 2) := dk_21 5 (dk_at dksX4_partFrom_1 5 rfl rfl)
theorem dX4_partFrom_30 : decode cX4_partFrom 30 = .ok (.invokestatic 38, 3) := dk_184 0 38 (dk_at dksX4_partFrom_1 7 rfl rfl)
theorem dX4_partFrom_33 : decode cX4_partFrom 33 = .ok (.ifCond .eq 15, 3) := dk_153 0 15 (dk_at dksX4_partFrom_1 10 rfl rfl)
theorem dX4_partFrom_36 : decode cX4_partFrom 36 = .ok (.iload_n 3, 1) := dk_29 (dk_at dksX4_partFrom_1 13 rfl rfl)
theorem dX4_partFrom_37 : decode cX4_partFrom 37 = .ok (.aload_n 0, 1) := dk_42 (dk_at dksX4_partFrom_1 14 rfl rfl)
theorem dX4_partFrom_38 : decode cX4_partFrom 38 = .ok (.getfield 15, 3) := dk_180 0 15 (dk_at dksX4_partFrom_1 15 rfl rfl)
theorem dX4_partFrom_41 : decode cX4_partFrom 41 = .ok (.iload 5, 2) := dk_21 5 (dk_at dksX4_partFrom_1 18 rfl rfl)
theorem dX4_partFrom_43 : decode cX4_partFrom 43 = .ok (.iaload, 1) := dk_46 (dk_at dksX4_partFrom_1 20 rfl rfl)
theorem dX4_partFrom_44 : decode cX4_partFrom 44 = .ok (.iload_n 2, 1) := dk_28 (dk_at dksX4_partFrom_1 21 rfl rfl)
theorem dX4_partFrom_45 : decode cX4_partFrom 45 = .ok (.iand, 1) := dk_126 (dk_at dksX4_partFrom_1 22 rfl rfl)
theorem dX4_partFrom_46 : decode cX4_partFrom 46 = .ok (.ior, 1) := dk_128 (dk_at dksX4_partFrom_1 23 rfl rfl)
theorem dX4_partFrom_47 : decode cX4_partFrom 47 = .ok (.istore_n 3, 1) := dk_62 (dk_at dksX4_partFrom_2 0 rfl rfl)
theorem dX4_partFrom_48 : decode cX4_partFrom 48 = .ok (.iinc 5 1, 3) := dk_132 5 1 (dk_at dksX4_partFrom_2 1 rfl rfl)
theorem dX4_partFrom_51 : decode cX4_partFrom 51 = .ok (.goto (-34), 3) := dk_167 255 222 (dk_at dksX4_partFrom_2 4 rfl rfl)
theorem dX4_partFrom_54 : decode cX4_partFrom 54 = .ok (.goto (-49), 3) := dk_167 255 207 (dk_at dksX4_partFrom_2 7 rfl rfl)
theorem dX4_partFrom_57 : decode cX4_partFrom 57 = .ok (.iload_n 3, 1) := dk_29 (dk_at dksX4_partFrom_2 10 rfl rfl)
theorem dX4_partFrom_58 : decode cX4_partFrom 58 = .ok (.ireturn, 1) := dk_172 (dk_at dksX4_partFrom_2 11 rfl rfl)
abbrev cX4_countParts : ByteArray := prog_7_method_7_code
def yX4_countParts : MethodName := ⟨RX4, "countParts", "(I)I"⟩
def dkwX4_countParts_1 : List UInt8 := [28, 172]
abbrev dktX4_countParts_1 : List UInt8 := dkwX4_countParts_1 ++ []
def dkwX4_countParts_0 : List UInt8 := [3, 61, 27, 62, 29, 153, 0, 19, 29, 42, 29, 182, 0, 42, 2, 130, 126, 62, 132, 2, 1, 167, 255, 239]
abbrev dktX4_countParts_0 : List UInt8 := dkwX4_countParts_0 ++ dktX4_countParts_1
theorem dksX4_countParts_0 : cX4_countParts.data.toList.drop 0 = dktX4_countParts_0 := by decide +kernel
theorem dksX4_countParts_1 : cX4_countParts.data.toList.drop 24 = dktX4_countParts_1 := dk_seg dksX4_countParts_0 24 rfl rfl
theorem dX4_countParts_0 : decode cX4_countParts 0 = .ok (.iconst 0, 1) := dk_3 (dk_at dksX4_countParts_0 0 rfl rfl)
theorem dX4_countParts_1 : decode cX4_countParts 1 = .ok (.istore_n 2, 1) := dk_61 (dk_at dksX4_countParts_0 1 rfl rfl)
theorem dX4_countParts_2 : decode cX4_countParts 2 = .ok (.iload_n 1, 1) := dk_27 (dk_at dksX4_countParts_0 2 rfl rfl)
theorem dX4_countParts_3 : decode cX4_countParts 3 = .ok (.istore_n 3, 1) := dk_62 (dk_at dksX4_countParts_0 3 rfl rfl)
theorem dX4_countParts_4 : decode cX4_countParts 4 = .ok (.iload_n 3, 1) := dk_29 (dk_at dksX4_countParts_0 4 rfl rfl)
theorem dX4_countParts_5 : decode cX4_countParts 5 = .ok (.ifCond .eq 19, 3) := dk_153 0 19 (dk_at dksX4_countParts_0 5 rfl rfl)
theorem dX4_countParts_8 : decode cX4_countParts 8 = .ok (.iload_n 3, 1) := dk_29 (dk_at dksX4_countParts_0 8 rfl rfl)
theorem dX4_countParts_9 : decode cX4_countParts 9 = .ok (.aload_n 0, 1) := dk_42 (dk_at dksX4_countParts_0 9 rfl rfl)
theorem dX4_countParts_10 : decode cX4_countParts 10 = .ok (.iload_n 3, 1) := dk_29 (dk_at dksX4_countParts_0 10 rfl rfl)
theorem dX4_countParts_11 : decode cX4_countParts 11 = .ok (.invokevirtual 42, 3) := dk_182 0 42 (dk_at dksX4_countParts_0 11 rfl rfl)
theorem dX4_countParts_14 : decode cX4_countParts 14 = .ok (.iconst (-1), 1) := dk_2 (dk_at dksX4_countParts_0 14 rfl rfl)
theorem dX4_countParts_15 : decode cX4_countParts 15 = .ok (.ixor, 1) := dk_130 (dk_at dksX4_countParts_0 15 rfl rfl)
theorem dX4_countParts_16 : decode cX4_countParts 16 = .ok (.iand, 1) := dk_126 (dk_at dksX4_countParts_0 16 rfl rfl)
theorem dX4_countParts_17 : decode cX4_countParts 17 = .ok (.istore_n 3, 1) := dk_62 (dk_at dksX4_countParts_0 17 rfl rfl)
theorem dX4_countParts_18 : decode cX4_countParts 18 = .ok (.iinc 2 1, 3) := dk_132 2 1 (dk_at dksX4_countParts_0 18 rfl rfl)
theorem dX4_countParts_21 : decode cX4_countParts 21 = .ok (.goto (-17), 3) := dk_167 255 239 (dk_at dksX4_countParts_0 21 rfl rfl)
theorem dX4_countParts_24 : decode cX4_countParts 24 = .ok (.iload_n 2, 1) := dk_28 (dk_at dksX4_countParts_1 0 rfl rfl)
theorem dX4_countParts_25 : decode cX4_countParts 25 = .ok (.ireturn, 1) := dk_172 (dk_at dksX4_countParts_1 1 rfl rfl)
abbrev cX4_hasRoom : ByteArray := prog_7_method_3_code
def yX4_hasRoom : MethodName := ⟨RX4, "hasRoom", "()Z"⟩
def dkwX4_hasRoom_2 : List UInt8 := [172]
abbrev dktX4_hasRoom_2 : List UInt8 := dkwX4_hasRoom_2 ++ []
def dkwX4_hasRoom_1 : List UInt8 := [167, 255, 236, 42, 180, 0, 22, 16, 9, 162, 0, 14, 27, 17, 78, 32, 163, 0, 7, 4, 167, 0, 4, 3]
abbrev dktX4_hasRoom_1 : List UInt8 := dkwX4_hasRoom_1 ++ dktX4_hasRoom_2
def dkwX4_hasRoom_0 : List UInt8 := [4, 60, 3, 61, 28, 42, 180, 0, 22, 163, 0, 18, 27, 42, 180, 0, 18, 4, 96, 104, 60, 132, 2, 1]
abbrev dktX4_hasRoom_0 : List UInt8 := dkwX4_hasRoom_0 ++ dktX4_hasRoom_1
theorem dksX4_hasRoom_0 : cX4_hasRoom.data.toList.drop 0 = dktX4_hasRoom_0 := by decide +kernel
theorem dksX4_hasRoom_1 : cX4_hasRoom.data.toList.drop 24 = dktX4_hasRoom_1 := dk_seg dksX4_hasRoom_0 24 rfl rfl
theorem dksX4_hasRoom_2 : cX4_hasRoom.data.toList.drop 48 = dktX4_hasRoom_2 := dk_seg dksX4_hasRoom_1 24 rfl rfl
theorem dX4_hasRoom_0 : decode cX4_hasRoom 0 = .ok (.iconst 1, 1) := dk_4 (dk_at dksX4_hasRoom_0 0 rfl rfl)
theorem dX4_hasRoom_1 : decode cX4_hasRoom 1 = .ok (.istore_n 1, 1) := dk_60 (dk_at dksX4_hasRoom_0 1 rfl rfl)
theorem dX4_hasRoom_2 : decode cX4_hasRoom 2 = .ok (.iconst 0, 1) := dk_3 (dk_at dksX4_hasRoom_0 2 rfl rfl)
theorem dX4_hasRoom_3 : decode cX4_hasRoom 3 = .ok (.istore_n 2, 1) := dk_61 (dk_at dksX4_hasRoom_0 3 rfl rfl)
theorem dX4_hasRoom_4 : decode cX4_hasRoom 4 = .ok (.iload_n 2, 1) := dk_28 (dk_at dksX4_hasRoom_0 4 rfl rfl)
theorem dX4_hasRoom_5 : decode cX4_hasRoom 5 = .ok (.aload_n 0, 1) := dk_42 (dk_at dksX4_hasRoom_0 5 rfl rfl)
theorem dX4_hasRoom_6 : decode cX4_hasRoom 6 = .ok (.getfield 22, 3) := dk_180 0 22 (dk_at dksX4_hasRoom_0 6 rfl rfl)
theorem dX4_hasRoom_9 : decode cX4_hasRoom 9 = .ok (.if_icmp .gt 18, 3) := dk_163 0 18 (dk_at dksX4_hasRoom_0 9 rfl rfl)
theorem dX4_hasRoom_12 : decode cX4_hasRoom 12 = .ok (.iload_n 1, 1) := dk_27 (dk_at dksX4_hasRoom_0 12 rfl rfl)
theorem dX4_hasRoom_13 : decode cX4_hasRoom 13 = .ok (.aload_n 0, 1) := dk_42 (dk_at dksX4_hasRoom_0 13 rfl rfl)
theorem dX4_hasRoom_14 : decode cX4_hasRoom 14 = .ok (.getfield 18, 3) := dk_180 0 18 (dk_at dksX4_hasRoom_0 14 rfl rfl)
theorem dX4_hasRoom_17 : decode cX4_hasRoom 17 = .ok (.iconst 1, 1) := dk_4 (dk_at dksX4_hasRoom_0 17 rfl rfl)
theorem dX4_hasRoom_18 : decode cX4_hasRoom 18 = .ok (.iadd, 1) := dk_96 (dk_at dksX4_hasRoom_0 18 rfl rfl)
theorem dX4_hasRoom_19 : decode cX4_hasRoom 19 = .ok (.imul, 1) := dk_104 (dk_at dksX4_hasRoom_0 19 rfl rfl)
theorem dX4_hasRoom_20 : decode cX4_hasRoom 20 = .ok (.istore_n 1, 1) := dk_60 (dk_at dksX4_hasRoom_0 20 rfl rfl)
theorem dX4_hasRoom_21 : decode cX4_hasRoom 21 = .ok (.iinc 2 1, 3) := dk_132 2 1 (dk_at dksX4_hasRoom_0 21 rfl rfl)
theorem dX4_hasRoom_24 : decode cX4_hasRoom 24 = .ok (.goto (-20), 3) := dk_167 255 236 (dk_at dksX4_hasRoom_1 0 rfl rfl)
theorem dX4_hasRoom_27 : decode cX4_hasRoom 27 = .ok (.aload_n 0, 1) := dk_42 (dk_at dksX4_hasRoom_1 3 rfl rfl)
theorem dX4_hasRoom_28 : decode cX4_hasRoom 28 = .ok (.getfield 22, 3) := dk_180 0 22 (dk_at dksX4_hasRoom_1 4 rfl rfl)
theorem dX4_hasRoom_31 : decode cX4_hasRoom 31 = .ok (.bipush 9, 2) := dk_16 9 (dk_at dksX4_hasRoom_1 7 rfl rfl)
theorem dX4_hasRoom_33 : decode cX4_hasRoom 33 = .ok (.if_icmp .ge 14, 3) := dk_162 0 14 (dk_at dksX4_hasRoom_1 9 rfl rfl)
theorem dX4_hasRoom_36 : decode cX4_hasRoom 36 = .ok (.iload_n 1, 1) := dk_27 (dk_at dksX4_hasRoom_1 12 rfl rfl)
theorem dX4_hasRoom_37 : decode cX4_hasRoom 37 = .ok (.sipush 20000, 3) := dk_17 78 32 (dk_at dksX4_hasRoom_1 13 rfl rfl)
theorem dX4_hasRoom_40 : decode cX4_hasRoom 40 = .ok (.if_icmp .gt 7, 3) := dk_163 0 7 (dk_at dksX4_hasRoom_1 16 rfl rfl)
theorem dX4_hasRoom_43 : decode cX4_hasRoom 43 = .ok (.iconst 1, 1) := dk_4 (dk_at dksX4_hasRoom_1 19 rfl rfl)
theorem dX4_hasRoom_44 : decode cX4_hasRoom 44 = .ok (.goto 4, 3) := dk_167 0 4 (dk_at dksX4_hasRoom_1 20 rfl rfl)
theorem dX4_hasRoom_47 : decode cX4_hasRoom 47 = .ok (.iconst 0, 1) := dk_3 (dk_at dksX4_hasRoom_1 23 rfl rfl)
theorem dX4_hasRoom_48 : decode cX4_hasRoom 48 = .ok (.ireturn, 1) := dk_172 (dk_at dksX4_hasRoom_2 0 rfl rfl)
abbrev cX4_allColours : ByteArray := prog_7_method_2_code
def yX4_allColours : MethodName := ⟨RX4, "allColours", "()I"⟩
def dkwX4_allColours_0 : List UInt8 := [4, 42, 180, 0, 18, 120, 4, 100, 172]
abbrev dktX4_allColours_0 : List UInt8 := dkwX4_allColours_0 ++ []
theorem dksX4_allColours_0 : cX4_allColours.data.toList.drop 0 = dktX4_allColours_0 := by decide +kernel
theorem dX4_allColours_0 : decode cX4_allColours 0 = .ok (.iconst 1, 1) := dk_4 (dk_at dksX4_allColours_0 0 rfl rfl)
theorem dX4_allColours_1 : decode cX4_allColours 1 = .ok (.aload_n 0, 1) := dk_42 (dk_at dksX4_allColours_0 1 rfl rfl)
theorem dX4_allColours_2 : decode cX4_allColours 2 = .ok (.getfield 18, 3) := dk_180 0 18 (dk_at dksX4_allColours_0 2 rfl rfl)
theorem dX4_allColours_5 : decode cX4_allColours 5 = .ok (.ishl, 1) := dk_120 (dk_at dksX4_allColours_0 5 rfl rfl)
theorem dX4_allColours_6 : decode cX4_allColours 6 = .ok (.iconst 1, 1) := dk_4 (dk_at dksX4_allColours_0 6 rfl rfl)
theorem dX4_allColours_7 : decode cX4_allColours 7 = .ok (.isub, 1) := dk_100 (dk_at dksX4_allColours_0 7 rfl rfl)
theorem dX4_allColours_8 : decode cX4_allColours 8 = .ok (.ireturn, 1) := dk_172 (dk_at dksX4_allColours_0 8 rfl rfl)
abbrev cX4_link : ByteArray := prog_7_method_4_code
def yX4_link : MethodName := ⟨RX4, "link", "(II)V"⟩
def dkwX4_link_1 : List UInt8 := [42, 89, 180, 0, 25, 4, 96, 181, 0, 25, 177]
abbrev dktX4_link_1 : List UInt8 := dkwX4_link_1 ++ []
def dkwX4_link_0 : List UInt8 := [42, 180, 0, 15, 27, 92, 46, 4, 28, 120, 128, 79, 42, 180, 0, 15, 28, 92, 46, 4, 27, 120, 128, 79]
abbrev dktX4_link_0 : List UInt8 := dkwX4_link_0 ++ dktX4_link_1
theorem dksX4_link_0 : cX4_link.data.toList.drop 0 = dktX4_link_0 := by decide +kernel
theorem dksX4_link_1 : cX4_link.data.toList.drop 24 = dktX4_link_1 := dk_seg dksX4_link_0 24 rfl rfl
theorem dX4_link_0 : decode cX4_link 0 = .ok (.aload_n 0, 1) := dk_42 (dk_at dksX4_link_0 0 rfl rfl)
theorem dX4_link_1 : decode cX4_link 1 = .ok (.getfield 15, 3) := dk_180 0 15 (dk_at dksX4_link_0 1 rfl rfl)
theorem dX4_link_4 : decode cX4_link 4 = .ok (.iload_n 1, 1) := dk_27 (dk_at dksX4_link_0 4 rfl rfl)
theorem dX4_link_5 : decode cX4_link 5 = .ok (.dup2, 1) := dk_92 (dk_at dksX4_link_0 5 rfl rfl)
theorem dX4_link_6 : decode cX4_link 6 = .ok (.iaload, 1) := dk_46 (dk_at dksX4_link_0 6 rfl rfl)
theorem dX4_link_7 : decode cX4_link 7 = .ok (.iconst 1, 1) := dk_4 (dk_at dksX4_link_0 7 rfl rfl)
theorem dX4_link_8 : decode cX4_link 8 = .ok (.iload_n 2, 1) := dk_28 (dk_at dksX4_link_0 8 rfl rfl)
theorem dX4_link_9 : decode cX4_link 9 = .ok (.ishl, 1) := dk_120 (dk_at dksX4_link_0 9 rfl rfl)
theorem dX4_link_10 : decode cX4_link 10 = .ok (.ior, 1) := dk_128 (dk_at dksX4_link_0 10 rfl rfl)
theorem dX4_link_11 : decode cX4_link 11 = .ok (.iastore, 1) := dk_79 (dk_at dksX4_link_0 11 rfl rfl)
theorem dX4_link_12 : decode cX4_link 12 = .ok (.aload_n 0, 1) := dk_42 (dk_at dksX4_link_0 12 rfl rfl)
theorem dX4_link_13 : decode cX4_link 13 = .ok (.getfield 15, 3) := dk_180 0 15 (dk_at dksX4_link_0 13 rfl rfl)
theorem dX4_link_16 : decode cX4_link 16 = .ok (.iload_n 2, 1) := dk_28 (dk_at dksX4_link_0 16 rfl rfl)
theorem dX4_link_17 : decode cX4_link 17 = .ok (.dup2, 1) := dk_92 (dk_at dksX4_link_0 17 rfl rfl)
theorem dX4_link_18 : decode cX4_link 18 = .ok (.iaload, 1) := dk_46 (dk_at dksX4_link_0 18 rfl rfl)
theorem dX4_link_19 : decode cX4_link 19 = .ok (.iconst 1, 1) := dk_4 (dk_at dksX4_link_0 19 rfl rfl)
theorem dX4_link_20 : decode cX4_link 20 = .ok (.iload_n 1, 1) := dk_27 (dk_at dksX4_link_0 20 rfl rfl)
theorem dX4_link_21 : decode cX4_link 21 = .ok (.ishl, 1) := dk_120 (dk_at dksX4_link_0 21 rfl rfl)
theorem dX4_link_22 : decode cX4_link 22 = .ok (.ior, 1) := dk_128 (dk_at dksX4_link_0 22 rfl rfl)
theorem dX4_link_23 : decode cX4_link 23 = .ok (.iastore, 1) := dk_79 (dk_at dksX4_link_0 23 rfl rfl)
theorem dX4_link_24 : decode cX4_link 24 = .ok (.aload_n 0, 1) := dk_42 (dk_at dksX4_link_1 0 rfl rfl)
theorem dX4_link_25 : decode cX4_link 25 = .ok (.dup, 1) := dk_89 (dk_at dksX4_link_1 1 rfl rfl)
theorem dX4_link_26 : decode cX4_link 26 = .ok (.getfield 25, 3) := dk_180 0 25 (dk_at dksX4_link_1 2 rfl rfl)
theorem dX4_link_29 : decode cX4_link 29 = .ok (.iconst 1, 1) := dk_4 (dk_at dksX4_link_1 5 rfl rfl)
theorem dX4_link_30 : decode cX4_link 30 = .ok (.iadd, 1) := dk_96 (dk_at dksX4_link_1 6 rfl rfl)
theorem dX4_link_31 : decode cX4_link 31 = .ok (.putfield 25, 3) := dk_181 0 25 (dk_at dksX4_link_1 7 rfl rfl)
theorem dX4_link_34 : decode cX4_link 34 = .ok (.return_, 1) := dk_177 (dk_at dksX4_link_1 10 rfl rfl)
theorem q98 : (Jvm.Cond.initialized "ColourDuel$Graph") ∈ lw_all := lw_g (lw_at lw_m1 4 rfl) rfl
theorem q192 : (Jvm.Cond.instantiable "ColourDuel$Graph" (5 : Nat)) ∈ lw_all := lw_g (lw_at lw_m1 98 rfl) rfl
theorem q194 : (Jvm.Cond.instanceMethod ({ cls := "ColourDuel$Graph", name := "<init>", desc := "(I)V" } : Jvm.MethodName)) ∈ lw_all := lw_g (lw_at lw_m1 100 rfl) rfl
theorem q195 : (Jvm.Cond.code ({ cls := "ColourDuel$Graph", name := "<init>", desc := "(I)V" } : Jvm.MethodName) prog_7_method_1_code (2 : Nat) (Option.none : Option Jvm.ClassFile.FieldType)) ∈ lw_all := lw_g (lw_at lw_m1 101 rfl) rfl
theorem q196 : (Jvm.Cond.methodLink "ColourDuel$Graph" (3 : Nat) ({ cls := "java/lang/Object", name := "<init>", desc := "()V" } : Jvm.MethodName)) ∈ lw_all := lw_g (lw_at lw_m1 102 rfl) rfl
theorem q197 : (Jvm.Cond.fieldLink "ColourDuel$Graph" (18 : Nat) "ColourDuel$Graph" "colours" "I") ∈ lw_all := lw_g (lw_at lw_m1 103 rfl) rfl
theorem q202 : (Jvm.Cond.fieldLink "ColourDuel$Graph" (9 : Nat) "ColourDuel$Graph" "lists" "[I") ∈ lw_all := lw_g (lw_at lw_m1 108 rfl) rfl
theorem q207 : (Jvm.Cond.fieldLink "ColourDuel$Graph" (15 : Nat) "ColourDuel$Graph" "near" "[I") ∈ lw_all := lw_g (lw_at lw_m1 113 rfl) rfl
theorem q212 : (Jvm.Cond.fieldLink "ColourDuel$Graph" (22 : Nat) "ColourDuel$Graph" "size" "I") ∈ lw_all := lw_g (lw_at lw_m1 118 rfl) rfl
theorem q218 : (Jvm.Cond.fieldLink "ColourDuel$Graph" (25 : Nat) "ColourDuel$Graph" "edges" "I") ∈ lw_all := lw_g (lw_at lw_m1 124 rfl) rfl
theorem q220 : (Jvm.Cond.laysFinal "ColourDuel$Graph" "ColourDuel$Graph" "colours" "I") ∈ lw_all := lw_g (lw_at lw_m1 126 rfl) rfl
theorem q221 : (Jvm.Cond.soleField "ColourDuel$Graph" "colours") ∈ lw_all := lw_g (lw_at lw_m1 127 rfl) rfl
theorem q222 : (Jvm.Cond.laysFinal "ColourDuel$Graph" "ColourDuel$Graph" "lists" "[I") ∈ lw_all := lw_g (lw_at lw_m1 128 rfl) rfl
theorem q223 : (Jvm.Cond.soleField "ColourDuel$Graph" "lists") ∈ lw_all := lw_g (lw_at lw_m1 129 rfl) rfl
theorem q224 : (Jvm.Cond.laysFinal "ColourDuel$Graph" "ColourDuel$Graph" "near" "[I") ∈ lw_all := lw_g (lw_at lw_m1 130 rfl) rfl
theorem q225 : (Jvm.Cond.soleField "ColourDuel$Graph" "near") ∈ lw_all := lw_g (lw_at lw_m1 131 rfl) rfl
theorem q226 : (Jvm.Cond.lays "ColourDuel$Graph" "ColourDuel$Graph" "size" "I") ∈ lw_all := lw_g (lw_at lw_m1 132 rfl) rfl
theorem q227 : (Jvm.Cond.soleField "ColourDuel$Graph" "size") ∈ lw_all := lw_g (lw_at lw_m1 133 rfl) rfl
theorem q228 : (Jvm.Cond.lays "ColourDuel$Graph" "ColourDuel$Graph" "edges" "I") ∈ lw_all := lw_g (lw_at lw_m1 134 rfl) rfl
theorem q229 : (Jvm.Cond.soleField "ColourDuel$Graph" "edges") ∈ lw_all := lw_g (lw_at lw_m1 135 rfl) rfl
theorem q230 : (Jvm.Cond.superclass "ColourDuel$Graph" "java/lang/Object") ∈ lw_all := lw_g (lw_at lw_m1 136 rfl) rfl
theorem q714 : (Jvm.Cond.instanceMethod ({ cls := "ColourDuel$Graph", name := "firstPart", desc := "(I)I" } : Jvm.MethodName)) ∈ lw_all := lw_g (lw_at lw_m3 140 rfl) rfl
theorem q715 : (Jvm.Cond.selects "ColourDuel$Graph" ({ cls := "ColourDuel$Graph", name := "firstPart", desc := "(I)I" } : Jvm.MethodName) ({ cls := "ColourDuel$Graph", name := "firstPart", desc := "(I)I" } : Jvm.MethodName)) ∈ lw_all := lw_g (lw_at lw_m3 141 rfl) rfl
theorem q716 : (Jvm.Cond.code ({ cls := "ColourDuel$Graph", name := "firstPart", desc := "(I)I" } : Jvm.MethodName) prog_7_method_5_code (2 : Nat) (Option.some Jvm.ClassFile.FieldType.int)) ∈ lw_all := lw_g (lw_at lw_m3 142 rfl) rfl
theorem q717 : (Jvm.Cond.methodLink "ColourDuel$Graph" (28 : Nat) ({ cls := "java/lang/Integer", name := "lowestOneBit", desc := "(I)I" } : Jvm.MethodName)) ∈ lw_all := lw_g (lw_at lw_m3 143 rfl) rfl
theorem q720 : (Jvm.Cond.methodLink "ColourDuel$Graph" (34 : Nat) ({ cls := "ColourDuel$Graph", name := "partFrom", desc := "(II)I" } : Jvm.MethodName)) ∈ lw_all := lw_g (lw_at lw_m3 146 rfl) rfl
theorem q721 : (Jvm.Cond.instanceMethod ({ cls := "ColourDuel$Graph", name := "partFrom", desc := "(II)I" } : Jvm.MethodName)) ∈ lw_all := lw_g (lw_at lw_m3 147 rfl) rfl
theorem q722 : (Jvm.Cond.selects "ColourDuel$Graph" ({ cls := "ColourDuel$Graph", name := "partFrom", desc := "(II)I" } : Jvm.MethodName) ({ cls := "ColourDuel$Graph", name := "partFrom", desc := "(II)I" } : Jvm.MethodName)) ∈ lw_all := lw_g (lw_at lw_m3 148 rfl) rfl
theorem q723 : (Jvm.Cond.code ({ cls := "ColourDuel$Graph", name := "partFrom", desc := "(II)I" } : Jvm.MethodName) prog_7_method_6_code (6 : Nat) (Option.some Jvm.ClassFile.FieldType.int)) ∈ lw_all := lw_g (lw_at lw_m3 149 rfl) rfl
theorem q724 : (Jvm.Cond.methodLinkNest "ColourDuel$Graph" (38 : Nat) ({ cls := "ColourDuel", name := "has", desc := "(II)Z" } : Jvm.MethodName) "ColourDuel") ∈ lw_tbl := lw_at lw_m3 150 rfl
theorem q949 : (Jvm.Cond.selects "ColourDuel$Graph" ({ cls := "java/lang/Object", name := "getClass", desc := "()Ljava/lang/Class;" } : Jvm.MethodName) ({ cls := "java/lang/Object", name := "getClass", desc := "()Ljava/lang/Class;" } : Jvm.MethodName)) ∈ lw_all := lw_g (lw_at lw_m4 135 rfl) rfl
theorem q995 : (Jvm.Cond.instanceMethod ({ cls := "ColourDuel$Graph", name := "countParts", desc := "(I)I" } : Jvm.MethodName)) ∈ lw_all := lw_g (lw_at lw_m4 181 rfl) rfl
theorem q996 : (Jvm.Cond.selects "ColourDuel$Graph" ({ cls := "ColourDuel$Graph", name := "countParts", desc := "(I)I" } : Jvm.MethodName) ({ cls := "ColourDuel$Graph", name := "countParts", desc := "(I)I" } : Jvm.MethodName)) ∈ lw_all := lw_g (lw_at lw_m4 182 rfl) rfl
theorem q997 : (Jvm.Cond.code ({ cls := "ColourDuel$Graph", name := "countParts", desc := "(I)I" } : Jvm.MethodName) prog_7_method_7_code (4 : Nat) (Option.some Jvm.ClassFile.FieldType.int)) ∈ lw_all := lw_g (lw_at lw_m4 183 rfl) rfl
theorem q998 : (Jvm.Cond.methodLink "ColourDuel$Graph" (42 : Nat) ({ cls := "ColourDuel$Graph", name := "firstPart", desc := "(I)I" } : Jvm.MethodName)) ∈ lw_all := lw_g (lw_at lw_m4 184 rfl) rfl
theorem q1392 : (Jvm.Cond.instanceMethod ({ cls := "ColourDuel$Graph", name := "hasRoom", desc := "()Z" } : Jvm.MethodName)) ∈ lw_all := lw_g (lw_at lw_m6 98 rfl) rfl
theorem q1393 : (Jvm.Cond.selects "ColourDuel$Graph" ({ cls := "ColourDuel$Graph", name := "hasRoom", desc := "()Z" } : Jvm.MethodName) ({ cls := "ColourDuel$Graph", name := "hasRoom", desc := "()Z" } : Jvm.MethodName)) ∈ lw_all := lw_g (lw_at lw_m6 99 rfl) rfl
theorem q1394 : (Jvm.Cond.code ({ cls := "ColourDuel$Graph", name := "hasRoom", desc := "()Z" } : Jvm.MethodName) prog_7_method_3_code (3 : Nat) (Option.some Jvm.ClassFile.FieldType.boolean)) ∈ lw_all := lw_g (lw_at lw_m6 100 rfl) rfl
theorem q1396 : (Jvm.Cond.instanceMethod ({ cls := "ColourDuel$Graph", name := "allColours", desc := "()I" } : Jvm.MethodName)) ∈ lw_all := lw_g (lw_at lw_m6 102 rfl) rfl
theorem q1397 : (Jvm.Cond.selects "ColourDuel$Graph" ({ cls := "ColourDuel$Graph", name := "allColours", desc := "()I" } : Jvm.MethodName) ({ cls := "ColourDuel$Graph", name := "allColours", desc := "()I" } : Jvm.MethodName)) ∈ lw_all := lw_g (lw_at lw_m6 103 rfl) rfl
theorem q1398 : (Jvm.Cond.code ({ cls := "ColourDuel$Graph", name := "allColours", desc := "()I" } : Jvm.MethodName) prog_7_method_2_code (1 : Nat) (Option.some Jvm.ClassFile.FieldType.int)) ∈ lw_all := lw_g (lw_at lw_m6 104 rfl) rfl
theorem q1425 : (Jvm.Cond.instanceMethod ({ cls := "ColourDuel$Graph", name := "link", desc := "(II)V" } : Jvm.MethodName)) ∈ lw_all := lw_g (lw_at lw_m6 131 rfl) rfl
theorem q1426 : (Jvm.Cond.selects "ColourDuel$Graph" ({ cls := "ColourDuel$Graph", name := "link", desc := "(II)V" } : Jvm.MethodName) ({ cls := "ColourDuel$Graph", name := "link", desc := "(II)V" } : Jvm.MethodName)) ∈ lw_all := lw_g (lw_at lw_m6 132 rfl) rfl
theorem q1427 : (Jvm.Cond.code ({ cls := "ColourDuel$Graph", name := "link", desc := "(II)V" } : Jvm.MethodName) prog_7_method_4_code (3 : Nat) (Option.none : Option Jvm.ClassFile.FieldType)) ∈ lw_all := lw_g (lw_at lw_m6 133 rfl) rfl
theorem q2255 : (Jvm.Cond.castable "ColourDuel$Graph" "java/lang/Object") ∈ lw_tbl := lw_at lw_m10 1 rfl
theorem in_X4 : ∀ w ∈ wsX40, w ∈ lw_all := lw_in wsX40 [220, 222, 224, 226, 228] (by decide +kernel) (by decide +kernel)
/-! ColourDuel$Account -/
set_option maxRecDepth 100000
def RX5 : String := "ColourDuel$Account"
def TX5 : u_T := fun k => match k with
  | 0 => ("ColourDuel$Account", "lays", "I", false)
  | 1 => ("ColourDuel$Account", "passes", "I", false)
  | 2 => ("ColourDuel$Account", "falls", "I", false)
  | 3 => ("ColourDuel$Account", "lasts", "I", false)
  | _ => ("ColourDuel$Account", "colours", "I", false)
def tyX5 : Nat → FieldType := fun k => match k with
  | 0 => .int
  | 1 => .int
  | 2 => .int
  | 3 => .int
  | _ => .int
abbrev wsX50 : List Cond := u_ws RX5 TX5 5
theorem nmX5 : ∀ a, a < 5 → ∀ b, b < 5 → a ≠ b → (TX5 a).2.1 ≠ (TX5 b).2.1 := by decide +kernel
theorem tyX5_ok : ∀ k, k < 5 → parseFieldDescriptor (TX5 k).2.2.1 = some (tyX5 k) := by decide +kernel
abbrev cX5_init : ByteArray := prog_3_method_1_code
def yX5_init : MethodName := ⟨RX5, "<init>", "()V"⟩
theorem dX5_init_0 : decode cX5_init 0 = .ok (.aload_n 0, 1) := by decide +kernel
theorem dX5_init_1 : decode cX5_init 1 = .ok (.invokespecial 1, 3) := by decide +kernel
theorem dX5_init_4 : decode cX5_init 4 = .ok (.return_, 1) := by decide +kernel
abbrev cX5_copy : ByteArray := prog_3_method_2_code
def yX5_copy : MethodName := ⟨RX5, "copy", "()LColourDuel$Account;"⟩
def dkwX5_copy_2 : List UInt8 := [43, 176]
abbrev dktX5_copy_2 : List UInt8 := dkwX5_copy_2 ++ []
def dkwX5_copy_1 : List UInt8 := [43, 42, 180, 0, 17, 181, 0, 17, 43, 42, 180, 0, 20, 181, 0, 20, 43, 42, 180, 0, 23, 181, 0, 23]
abbrev dktX5_copy_1 : List UInt8 := dkwX5_copy_1 ++ dktX5_copy_2
def dkwX5_copy_0 : List UInt8 := [187, 0, 7, 89, 183, 0, 9, 76, 43, 42, 180, 0, 10, 181, 0, 10, 43, 42, 180, 0, 14, 181, 0, 14]
abbrev dktX5_copy_0 : List UInt8 := dkwX5_copy_0 ++ dktX5_copy_1
theorem dksX5_copy_0 : cX5_copy.data.toList.drop 0 = dktX5_copy_0 := by decide +kernel
theorem dksX5_copy_1 : cX5_copy.data.toList.drop 24 = dktX5_copy_1 := dk_seg dksX5_copy_0 24 rfl rfl
theorem dksX5_copy_2 : cX5_copy.data.toList.drop 48 = dktX5_copy_2 := dk_seg dksX5_copy_1 24 rfl rfl
theorem dX5_copy_0 : decode cX5_copy 0 = .ok (.new 7, 3) := dk_187 0 7 (dk_at dksX5_copy_0 0 rfl rfl)
theorem dX5_copy_3 : decode cX5_copy 3 = .ok (.dup, 1) := dk_89 (dk_at dksX5_copy_0 3 rfl rfl)
theorem dX5_copy_4 : decode cX5_copy 4 = .ok (.invokespecial 9, 3) := dk_183 0 9 (dk_at dksX5_copy_0 4 rfl rfl)
theorem dX5_copy_7 : decode cX5_copy 7 = .ok (.astore_n 1, 1) := dk_76 (dk_at dksX5_copy_0 7 rfl rfl)
theorem dX5_copy_8 : decode cX5_copy 8 = .ok (.aload_n 1, 1) := dk_43 (dk_at dksX5_copy_0 8 rfl rfl)
theorem dX5_copy_9 : decode cX5_copy 9 = .ok (.aload_n 0, 1) := dk_42 (dk_at dksX5_copy_0 9 rfl rfl)
theorem dX5_copy_10 : decode cX5_copy 10 = .ok (.getfield 10, 3) := dk_180 0 10 (dk_at dksX5_copy_0 10 rfl rfl)
theorem dX5_copy_13 : decode cX5_copy 13 = .ok (.putfield 10, 3) := dk_181 0 10 (dk_at dksX5_copy_0 13 rfl rfl)
theorem dX5_copy_16 : decode cX5_copy 16 = .ok (.aload_n 1, 1) := dk_43 (dk_at dksX5_copy_0 16 rfl rfl)
theorem dX5_copy_17 : decode cX5_copy 17 = .ok (.aload_n 0, 1) := dk_42 (dk_at dksX5_copy_0 17 rfl rfl)
theorem dX5_copy_18 : decode cX5_copy 18 = .ok (.getfield 14, 3) := dk_180 0 14 (dk_at dksX5_copy_0 18 rfl rfl)
theorem dX5_copy_21 : decode cX5_copy 21 = .ok (.putfield 14, 3) := dk_181 0 14 (dk_at dksX5_copy_0 21 rfl rfl)
theorem dX5_copy_24 : decode cX5_copy 24 = .ok (.aload_n 1, 1) := dk_43 (dk_at dksX5_copy_1 0 rfl rfl)
theorem dX5_copy_25 : decode cX5_copy 25 = .ok (.aload_n 0, 1) := dk_42 (dk_at dksX5_copy_1 1 rfl rfl)
theorem dX5_copy_26 : decode cX5_copy 26 = .ok (.getfield 17, 3) := dk_180 0 17 (dk_at dksX5_copy_1 2 rfl rfl)
theorem dX5_copy_29 : decode cX5_copy 29 = .ok (.putfield 17, 3) := dk_181 0 17 (dk_at dksX5_copy_1 5 rfl rfl)
theorem dX5_copy_32 : decode cX5_copy 32 = .ok (.aload_n 1, 1) := dk_43 (dk_at dksX5_copy_1 8 rfl rfl)
theorem dX5_copy_33 : decode cX5_copy 33 = .ok (.aload_n 0, 1) := dk_42 (dk_at dksX5_copy_1 9 rfl rfl)
theorem dX5_copy_34 : decode cX5_copy 34 = .ok (.getfield 20, 3) := dk_180 0 20 (dk_at dksX5_copy_1 10 rfl rfl)
theorem dX5_copy_37 : decode cX5_copy 37 = .ok (.putfield 20, 3) := dk_181 0 20 (dk_at dksX5_copy_1 13 rfl rfl)
theorem dX5_copy_40 : decode cX5_copy 40 = .ok (.aload_n 1, 1) := dk_43 (dk_at dksX5_copy_1 16 rfl rfl)
theorem dX5_copy_41 : decode cX5_copy 41 = .ok (.aload_n 0, 1) := dk_42 (dk_at dksX5_copy_1 17 rfl rfl)
theorem dX5_copy_42 : decode cX5_copy 42 = .ok (.getfield 23, 3) := dk_180 0 23 (dk_at dksX5_copy_1 18 rfl rfl)
theorem dX5_copy_45 : decode cX5_copy 45 = .ok (.putfield 23, 3) := dk_181 0 23 (dk_at dksX5_copy_1 21 rfl rfl)
theorem dX5_copy_48 : decode cX5_copy 48 = .ok (.aload_n 1, 1) := dk_43 (dk_at dksX5_copy_2 0 rfl rfl)
theorem dX5_copy_49 : decode cX5_copy 49 = .ok (.areturn, 1) := dk_176 (dk_at dksX5_copy_2 1 rfl rfl)
abbrev cX5_get : ByteArray := prog_3_method_3_code
def yX5_get : MethodName := ⟨RX5, "get", "(I)I"⟩
def dkwX5_get_3 : List UInt8 := [184, 0, 26, 172]
abbrev dktX5_get_3 : List UInt8 := dkwX5_get_3 ++ []
def dkwX5_get_2 : List UInt8 := [42, 180, 0, 10, 172, 42, 180, 0, 14, 172, 42, 180, 0, 17, 172, 42, 180, 0, 20, 172, 42, 180, 0, 23]
abbrev dktX5_get_2 : List UInt8 := dkwX5_get_2 ++ dktX5_get_3
def dkwX5_get_1 : List UInt8 := [170, 0, 0, 0, 0, 0, 51, 0, 0, 0, 0, 0, 0, 0, 3, 0, 0, 0, 31, 0, 0, 0, 36, 0, 0, 0, 41, 0, 0, 0, 46]
abbrev dktX5_get_1 : List UInt8 := dkwX5_get_1 ++ dktX5_get_2
def dkwX5_get_0 : List UInt8 := [27]
abbrev dktX5_get_0 : List UInt8 := dkwX5_get_0 ++ dktX5_get_1
theorem dksX5_get_0 : cX5_get.data.toList.drop 0 = dktX5_get_0 := by decide +kernel
theorem dksX5_get_1 : cX5_get.data.toList.drop 1 = dktX5_get_1 := dk_seg dksX5_get_0 1 rfl rfl
theorem dksX5_get_2 : cX5_get.data.toList.drop 32 = dktX5_get_2 := dk_seg dksX5_get_1 31 rfl rfl
theorem dksX5_get_3 : cX5_get.data.toList.drop 56 = dktX5_get_3 := dk_seg dksX5_get_2 24 rfl rfl
theorem dX5_get_0 : decode cX5_get 0 = .ok (.iload_n 1, 1) := dk_27 (dk_at dksX5_get_0 0 rfl rfl)
theorem dX5_get_1 : decode cX5_get 1 = .ok (.tableswitch 51 0 3 #[31, 36, 41, 46], 31) := by decide +kernel
theorem dX5_get_32 : decode cX5_get 32 = .ok (.aload_n 0, 1) := dk_42 (dk_at dksX5_get_2 0 rfl rfl)
theorem dX5_get_33 : decode cX5_get 33 = .ok (.getfield 10, 3) := dk_180 0 10 (dk_at dksX5_get_2 1 rfl rfl)
theorem dX5_get_36 : decode cX5_get 36 = .ok (.ireturn, 1) := dk_172 (dk_at dksX5_get_2 4 rfl rfl)
theorem dX5_get_37 : decode cX5_get 37 = .ok (.aload_n 0, 1) := dk_42 (dk_at dksX5_get_2 5 rfl rfl)
theorem dX5_get_38 : decode cX5_get 38 = .ok (.getfield 14, 3) := dk_180 0 14 (dk_at dksX5_get_2 6 rfl rfl)
theorem dX5_get_41 : decode cX5_get 41 = .ok (.ireturn, 1) := dk_172 (dk_at dksX5_get_2 9 rfl rfl)
theorem dX5_get_42 : decode cX5_get 42 = .ok (.aload_n 0, 1) := dk_42 (dk_at dksX5_get_2 10 rfl rfl)
theorem dX5_get_43 : decode cX5_get 43 = .ok (.getfield 17, 3) := dk_180 0 17 (dk_at dksX5_get_2 11 rfl rfl)
theorem dX5_get_46 : decode cX5_get 46 = .ok (.ireturn, 1) := dk_172 (dk_at dksX5_get_2 14 rfl rfl)
theorem dX5_get_47 : decode cX5_get 47 = .ok (.aload_n 0, 1) := dk_42 (dk_at dksX5_get_2 15 rfl rfl)
theorem dX5_get_48 : decode cX5_get 48 = .ok (.getfield 20, 3) := dk_180 0 20 (dk_at dksX5_get_2 16 rfl rfl)
theorem dX5_get_51 : decode cX5_get 51 = .ok (.ireturn, 1) := dk_172 (dk_at dksX5_get_2 19 rfl rfl)
theorem dX5_get_52 : decode cX5_get 52 = .ok (.aload_n 0, 1) := dk_42 (dk_at dksX5_get_2 20 rfl rfl)
theorem dX5_get_53 : decode cX5_get 53 = .ok (.getfield 23, 3) := dk_180 0 23 (dk_at dksX5_get_2 21 rfl rfl)
theorem dX5_get_56 : decode cX5_get 56 = .ok (.invokestatic 26, 3) := dk_184 0 26 (dk_at dksX5_get_3 0 rfl rfl)
theorem dX5_get_59 : decode cX5_get 59 = .ok (.ireturn, 1) := dk_172 (dk_at dksX5_get_3 3 rfl rfl)
theorem q99 : (Jvm.Cond.initialized "ColourDuel$Account") ∈ lw_all := lw_g (lw_at lw_m1 5 rfl) rfl
theorem q237 : (Jvm.Cond.instantiable "ColourDuel$Account" (5 : Nat)) ∈ lw_all := lw_g (lw_at lw_m1 143 rfl) rfl
theorem q239 : (Jvm.Cond.instanceMethod ({ cls := "ColourDuel$Account", name := "<init>", desc := "()V" } : Jvm.MethodName)) ∈ lw_all := lw_g (lw_at lw_m1 145 rfl) rfl
theorem q240 : (Jvm.Cond.code ({ cls := "ColourDuel$Account", name := "<init>", desc := "()V" } : Jvm.MethodName) prog_3_method_1_code (1 : Nat) (Option.none : Option Jvm.ClassFile.FieldType)) ∈ lw_all := lw_g (lw_at lw_m1 146 rfl) rfl
theorem q241 : (Jvm.Cond.methodLink "ColourDuel$Account" (1 : Nat) ({ cls := "java/lang/Object", name := "<init>", desc := "()V" } : Jvm.MethodName)) ∈ lw_all := lw_g (lw_at lw_m1 147 rfl) rfl
theorem q242 : (Jvm.Cond.fieldLink "ColourDuel$Account" (10 : Nat) "ColourDuel$Account" "lays" "I") ∈ lw_all := lw_g (lw_at lw_m1 148 rfl) rfl
theorem q244 : (Jvm.Cond.fieldLink "ColourDuel$Account" (14 : Nat) "ColourDuel$Account" "passes" "I") ∈ lw_all := lw_g (lw_at lw_m1 150 rfl) rfl
theorem q246 : (Jvm.Cond.fieldLink "ColourDuel$Account" (17 : Nat) "ColourDuel$Account" "falls" "I") ∈ lw_all := lw_g (lw_at lw_m1 152 rfl) rfl
theorem q248 : (Jvm.Cond.fieldLink "ColourDuel$Account" (20 : Nat) "ColourDuel$Account" "lasts" "I") ∈ lw_all := lw_g (lw_at lw_m1 154 rfl) rfl
theorem q250 : (Jvm.Cond.fieldLink "ColourDuel$Account" (23 : Nat) "ColourDuel$Account" "colours" "I") ∈ lw_all := lw_g (lw_at lw_m1 156 rfl) rfl
theorem q252 : (Jvm.Cond.lays "ColourDuel$Account" "ColourDuel$Account" "lays" "I") ∈ lw_all := lw_g (lw_at lw_m1 158 rfl) rfl
theorem q253 : (Jvm.Cond.soleField "ColourDuel$Account" "lays") ∈ lw_all := lw_g (lw_at lw_m1 159 rfl) rfl
theorem q254 : (Jvm.Cond.lays "ColourDuel$Account" "ColourDuel$Account" "passes" "I") ∈ lw_all := lw_g (lw_at lw_m1 160 rfl) rfl
theorem q255 : (Jvm.Cond.soleField "ColourDuel$Account" "passes") ∈ lw_all := lw_g (lw_at lw_m1 161 rfl) rfl
theorem q256 : (Jvm.Cond.lays "ColourDuel$Account" "ColourDuel$Account" "falls" "I") ∈ lw_all := lw_g (lw_at lw_m1 162 rfl) rfl
theorem q257 : (Jvm.Cond.soleField "ColourDuel$Account" "falls") ∈ lw_all := lw_g (lw_at lw_m1 163 rfl) rfl
theorem q258 : (Jvm.Cond.lays "ColourDuel$Account" "ColourDuel$Account" "lasts" "I") ∈ lw_all := lw_g (lw_at lw_m1 164 rfl) rfl
theorem q259 : (Jvm.Cond.soleField "ColourDuel$Account" "lasts") ∈ lw_all := lw_g (lw_at lw_m1 165 rfl) rfl
theorem q260 : (Jvm.Cond.lays "ColourDuel$Account" "ColourDuel$Account" "colours" "I") ∈ lw_all := lw_g (lw_at lw_m1 166 rfl) rfl
theorem q261 : (Jvm.Cond.soleField "ColourDuel$Account" "colours") ∈ lw_all := lw_g (lw_at lw_m1 167 rfl) rfl
theorem q262 : (Jvm.Cond.superclass "ColourDuel$Account" "java/lang/Object") ∈ lw_all := lw_g (lw_at lw_m1 168 rfl) rfl
theorem q895 : (Jvm.Cond.instanceMethod ({ cls := "ColourDuel$Account", name := "copy", desc := "()LColourDuel$Account;" } : Jvm.MethodName)) ∈ lw_all := lw_g (lw_at lw_m4 81 rfl) rfl
theorem q896 : (Jvm.Cond.selects "ColourDuel$Account" ({ cls := "ColourDuel$Account", name := "copy", desc := "()LColourDuel$Account;" } : Jvm.MethodName) ({ cls := "ColourDuel$Account", name := "copy", desc := "()LColourDuel$Account;" } : Jvm.MethodName)) ∈ lw_all := lw_g (lw_at lw_m4 82 rfl) rfl
theorem q897 : (Jvm.Cond.code ({ cls := "ColourDuel$Account", name := "copy", desc := "()LColourDuel$Account;" } : Jvm.MethodName) prog_3_method_2_code (2 : Nat) (Option.some (Jvm.ClassFile.FieldType.object "ColourDuel$Account"))) ∈ lw_all := lw_g (lw_at lw_m4 83 rfl) rfl
theorem q898 : (Jvm.Cond.classLink "ColourDuel$Account" (7 : Nat) "ColourDuel$Account") ∈ lw_all := lw_g (lw_at lw_m4 84 rfl) rfl
theorem q899 : (Jvm.Cond.methodLink "ColourDuel$Account" (9 : Nat) ({ cls := "ColourDuel$Account", name := "<init>", desc := "()V" } : Jvm.MethodName)) ∈ lw_all := lw_g (lw_at lw_m4 85 rfl) rfl
theorem q945 : (Jvm.Cond.selects "ColourDuel$Account" ({ cls := "java/lang/Object", name := "getClass", desc := "()Ljava/lang/Class;" } : Jvm.MethodName) ({ cls := "java/lang/Object", name := "getClass", desc := "()Ljava/lang/Class;" } : Jvm.MethodName)) ∈ lw_all := lw_g (lw_at lw_m4 131 rfl) rfl
theorem q1753 : (Jvm.Cond.instanceMethod ({ cls := "ColourDuel$Account", name := "get", desc := "(I)I" } : Jvm.MethodName)) ∈ lw_all := lw_g (lw_at lw_m7 219 rfl) rfl
theorem q1754 : (Jvm.Cond.selects "ColourDuel$Account" ({ cls := "ColourDuel$Account", name := "get", desc := "(I)I" } : Jvm.MethodName) ({ cls := "ColourDuel$Account", name := "get", desc := "(I)I" } : Jvm.MethodName)) ∈ lw_all := lw_g (lw_at lw_m7 220 rfl) rfl
theorem q1755 : (Jvm.Cond.code ({ cls := "ColourDuel$Account", name := "get", desc := "(I)I" } : Jvm.MethodName) prog_3_method_3_code (2 : Nat) (Option.some Jvm.ClassFile.FieldType.int)) ∈ lw_all := lw_g (lw_at lw_m7 221 rfl) rfl
theorem q1756 : (Jvm.Cond.methodLink "ColourDuel$Account" (26 : Nat) ({ cls := "java/lang/Integer", name := "bitCount", desc := "(I)I" } : Jvm.MethodName)) ∈ lw_all := lw_g (lw_at lw_m7 222 rfl) rfl
theorem q2251 : (Jvm.Cond.castable "ColourDuel$Account" "java/lang/Object") ∈ lw_tbl := lw_at lw_m9 237 rfl
theorem in_X5 : ∀ w ∈ wsX50, w ∈ lw_all := lw_in wsX50 [252, 254, 256, 258, 260] (by decide +kernel) (by decide +kernel)
/-! ColourDuel$Reader -/
set_option maxRecDepth 100000
def RX7 : String := "ColourDuel$Reader"
def TX7 : u_T := fun k => match k with
  | 0 => ("ColourDuel$Reader", "end", "I", true)
  | 1 => ("ColourDuel$Reader", "graph", "LColourDuel$Graph;", false)
  | 2 => ("ColourDuel$Reader", "at", "I", false)
  | 3 => ("ColourDuel$Reader", "from", "I", false)
  | _ => ("ColourDuel$Reader", "this$0", "LColourDuel;", true)
def tyX7 : Nat → FieldType := fun k => match k with
  | 0 => .int
  | 1 => .object "ColourDuel$Graph"
  | 2 => .int
  | 3 => .int
  | _ => .object "ColourDuel"
abbrev wsX70 : List Cond := u_ws RX7 TX7 5
theorem nmX7 : ∀ a, a < 5 → ∀ b, b < 5 → a ≠ b → (TX7 a).2.1 ≠ (TX7 b).2.1 := by decide +kernel
theorem tyX7_ok : ∀ k, k < 5 → parseFieldDescriptor (TX7 k).2.2.1 = some (tyX7 k) := by decide +kernel
abbrev cX7_init : ByteArray := prog_11_method_1_code
def yX7_init : MethodName := ⟨RX7, "<init>", "(LColourDuel;I)V"⟩
def dkwX7_init_0 : List UInt8 := [42, 43, 181, 0, 3, 42, 183, 0, 9, 42, 28, 181, 0, 15, 177]
abbrev dktX7_init_0 : List UInt8 := dkwX7_init_0 ++ []
theorem dksX7_init_0 : cX7_init.data.toList.drop 0 = dktX7_init_0 := by decide +kernel
theorem dX7_init_0 : decode cX7_init 0 = .ok (.aload_n 0, 1) := dk_42 (dk_at dksX7_init_0 0 rfl rfl)
theorem dX7_init_1 : decode cX7_init 1 = .ok (.aload_n 1, 1) := dk_43 (dk_at dksX7_init_0 1 rfl rfl)
theorem dX7_init_2 : decode cX7_init 2 = .ok (.putfield 3, 3) := dk_181 0 3 (dk_at dksX7_init_0 2 rfl rfl)
theorem dX7_init_5 : decode cX7_init 5 = .ok (.aload_n 0, 1) := dk_42 (dk_at dksX7_init_0 5 rfl rfl)
theorem dX7_init_6 : decode cX7_init 6 = .ok (.invokespecial 9, 3) := dk_183 0 9 (dk_at dksX7_init_0 6 rfl rfl)
theorem dX7_init_9 : decode cX7_init 9 = .ok (.aload_n 0, 1) := dk_42 (dk_at dksX7_init_0 9 rfl rfl)
theorem dX7_init_10 : decode cX7_init 10 = .ok (.iload_n 2, 1) := dk_28 (dk_at dksX7_init_0 10 rfl rfl)
theorem dX7_init_11 : decode cX7_init 11 = .ok (.putfield 15, 3) := dk_181 0 15 (dk_at dksX7_init_0 11 rfl rfl)
theorem dX7_init_14 : decode cX7_init 14 = .ok (.return_, 1) := dk_177 (dk_at dksX7_init_0 14 rfl rfl)
abbrev cX7_read : ByteArray := prog_11_method_13_code
def yX7_read : MethodName := ⟨RX7, "read", "()LColourDuel$Board;"⟩
def dkwX7_read_8 : List UInt8 := [176]
abbrev dktX7_read_8 : List UInt8 := dkwX7_read_8 ++ []
def dkwX7_read_7 : List UInt8 := [180, 0, 38, 182, 0, 182, 167, 255, 213, 187, 0, 26, 89, 16, 254, 42, 180, 0, 19, 183, 0, 28, 191, 44]
abbrev dktX7_read_7 : List UInt8 := dkwX7_read_7 ++ dktX7_read_8
def dkwX7_read_6 : List UInt8 := [153, 0, 11, 42, 44, 182, 0, 178, 167, 255, 234, 42, 18, 181, 182, 0, 158, 153, 0, 15, 42, 44, 42]
abbrev dktX7_read_6 : List UInt8 := dkwX7_read_6 ++ dktX7_read_7
def dkwX7_read_5 : List UInt8 := [183, 0, 174, 77, 44, 27, 181, 0, 151, 42, 182, 0, 34, 2, 159, 0, 55, 42, 18, 177, 182, 0, 158]
abbrev dktX7_read_5 : List UInt8 := dkwX7_read_5 ++ dktX7_read_6
def dkwX7_read_4 : List UInt8 := [18, 170, 182, 0, 158, 153, 0, 10, 42, 182, 0, 172, 167, 255, 243, 187, 0, 137, 89, 42, 180, 0, 88]
abbrev dktX7_read_4 : List UInt8 := dkwX7_read_4 ++ dktX7_read_5
def dkwX7_read_3 : List UInt8 := [180, 0, 19, 182, 0, 73, 42, 42, 180, 0, 38, 182, 0, 168, 42, 18, 166, 182, 0, 158, 154, 255, 242, 42]
abbrev dktX7_read_3 : List UInt8 := dkwX7_read_3 ++ dktX7_read_4
def dkwX7_read_2 : List UInt8 := [182, 0, 122, 167, 0, 4, 3, 60, 42, 182, 0, 119, 42, 42, 18, 166, 182, 0, 158, 16, 254, 42]
abbrev dktX7_read_2 : List UInt8 := dkwX7_read_2 ++ dktX7_read_3
def dkwX7_read_1 : List UInt8 := [182, 0, 122, 183, 0, 162, 181, 0, 88, 42, 18, 165, 182, 0, 158, 153, 0, 13, 42, 3, 16, 9]
abbrev dktX7_read_1 : List UInt8 := dkwX7_read_1 ++ dktX7_read_2
def dkwX7_read_0 : List UInt8 := [42, 42, 18, 157, 182, 0, 158, 16, 254, 42, 180, 0, 19, 182, 0, 73, 42, 187, 0, 93, 89, 42, 4, 6]
abbrev dktX7_read_0 : List UInt8 := dkwX7_read_0 ++ dktX7_read_1
theorem dksX7_read_0 : cX7_read.data.toList.drop 0 = dktX7_read_0 := by decide +kernel
theorem dksX7_read_1 : cX7_read.data.toList.drop 24 = dktX7_read_1 := dk_seg dksX7_read_0 24 rfl rfl
theorem dksX7_read_2 : cX7_read.data.toList.drop 46 = dktX7_read_2 := dk_seg dksX7_read_1 22 rfl rfl
theorem dksX7_read_3 : cX7_read.data.toList.drop 68 = dktX7_read_3 := dk_seg dksX7_read_2 22 rfl rfl
theorem dksX7_read_4 : cX7_read.data.toList.drop 92 = dktX7_read_4 := dk_seg dksX7_read_3 24 rfl rfl
theorem dksX7_read_5 : cX7_read.data.toList.drop 115 = dktX7_read_5 := dk_seg dksX7_read_4 23 rfl rfl
theorem dksX7_read_6 : cX7_read.data.toList.drop 138 = dktX7_read_6 := dk_seg dksX7_read_5 23 rfl rfl
theorem dksX7_read_7 : cX7_read.data.toList.drop 161 = dktX7_read_7 := dk_seg dksX7_read_6 23 rfl rfl
theorem dksX7_read_8 : cX7_read.data.toList.drop 185 = dktX7_read_8 := dk_seg dksX7_read_7 24 rfl rfl
theorem dX7_read_0 : decode cX7_read 0 = .ok (.aload_n 0, 1) := dk_42 (dk_at dksX7_read_0 0 rfl rfl)
theorem dX7_read_1 : decode cX7_read 1 = .ok (.aload_n 0, 1) := dk_42 (dk_at dksX7_read_0 1 rfl rfl)
theorem dX7_read_2 : decode cX7_read 2 = .ok (.ldc 157, 2) := dk_18 157 (dk_at dksX7_read_0 2 rfl rfl)
theorem dX7_read_4 : decode cX7_read 4 = .ok (.invokevirtual 158, 3) := dk_182 0 158 (dk_at dksX7_read_0 4 rfl rfl)
theorem dX7_read_7 : decode cX7_read 7 = .ok (.bipush (-2), 2) := dk_16 254 (dk_at dksX7_read_0 7 rfl rfl)
theorem dX7_read_9 : decode cX7_read 9 = .ok (.aload_n 0, 1) := dk_42 (dk_at dksX7_read_0 9 rfl rfl)
theorem dX7_read_10 : decode cX7_read 10 = .ok (.getfield 19, 3) := dk_180 0 19 (dk_at dksX7_read_0 10 rfl rfl)
theorem dX7_read_13 : decode cX7_read 13 = .ok (.invokevirtual 73, 3) := dk_182 0 73 (dk_at dksX7_read_0 13 rfl rfl)
theorem dX7_read_16 : decode cX7_read 16 = .ok (.aload_n 0, 1) := dk_42 (dk_at dksX7_read_0 16 rfl rfl)
theorem dX7_read_17 : decode cX7_read 17 = .ok (.new 93, 3) := dk_187 0 93 (dk_at dksX7_read_0 17 rfl rfl)
theorem dX7_read_20 : decode cX7_read 20 = .ok (.dup, 1) := dk_89 (dk_at dksX7_read_0 20 rfl rfl)
theorem dX7_read_21 : decode cX7_read 21 = .ok (.aload_n 0, 1) := dk_42 (dk_at dksX7_read_0 21 rfl rfl)
theorem dX7_read_22 : decode cX7_read 22 = .ok (.iconst 1, 1) := dk_4 (dk_at dksX7_read_0 22 rfl rfl)
theorem dX7_read_23 : decode cX7_read 23 = .ok (.iconst 3, 1) := dk_6 (dk_at dksX7_read_0 23 rfl rfl)
theorem dX7_read_24 : decode cX7_read 24 = .ok (.invokevirtual 122, 3) := dk_182 0 122 (dk_at dksX7_read_1 0 rfl rfl)
theorem dX7_read_27 : decode cX7_read 27 = .ok (.invokespecial 162, 3) := dk_183 0 162 (dk_at dksX7_read_1 3 rfl rfl)
theorem dX7_read_30 : decode cX7_read 30 = .ok (.putfield 88, 3) := dk_181 0 88 (dk_at dksX7_read_1 6 rfl rfl)
theorem dX7_read_33 : decode cX7_read 33 = .ok (.aload_n 0, 1) := dk_42 (dk_at dksX7_read_1 9 rfl rfl)
theorem dX7_read_34 : decode cX7_read 34 = .ok (.ldc 165, 2) := dk_18 165 (dk_at dksX7_read_1 10 rfl rfl)
theorem dX7_read_36 : decode cX7_read 36 = .ok (.invokevirtual 158, 3) := dk_182 0 158 (dk_at dksX7_read_1 12 rfl rfl)
theorem dX7_read_39 : decode cX7_read 39 = .ok (.ifCond .eq 13, 3) := dk_153 0 13 (dk_at dksX7_read_1 15 rfl rfl)
theorem dX7_read_42 : decode cX7_read 42 = .ok (.aload_n 0, 1) := dk_42 (dk_at dksX7_read_1 18 rfl rfl)
theorem dX7_read_43 : decode cX7_read 43 = .ok (.iconst 0, 1) := dk_3 (dk_at dksX7_read_1 19 rfl rfl)
theorem dX7_read_44 : decode cX7_read 44 = .ok (.bipush 9, 2) := dk_16 9 (dk_at dksX7_read_1 20 rfl rfl)
theorem dX7_read_46 : decode cX7_read 46 = .ok (.invokevirtual 122, 3) := dk_182 0 122 (dk_at dksX7_read_2 0 rfl rfl)
theorem dX7_read_49 : decode cX7_read 49 = .ok (.goto 4, 3) := dk_167 0 4 (dk_at dksX7_read_2 3 rfl rfl)
theorem dX7_read_52 : decode cX7_read 52 = .ok (.iconst 0, 1) := dk_3 (dk_at dksX7_read_2 6 rfl rfl)
theorem dX7_read_53 : decode cX7_read 53 = .ok (.istore_n 1, 1) := dk_60 (dk_at dksX7_read_2 7 rfl rfl)
theorem dX7_read_54 : decode cX7_read 54 = .ok (.aload_n 0, 1) := dk_42 (dk_at dksX7_read_2 8 rfl rfl)
theorem dX7_read_55 : decode cX7_read 55 = .ok (.invokevirtual 119, 3) := dk_182 0 119 (dk_at dksX7_read_2 9 rfl rfl)
theorem dX7_read_58 : decode cX7_read 58 = .ok (.aload_n 0, 1) := dk_42 (dk_at dksX7_read_2 12 rfl rfl)
theorem dX7_read_59 : decode cX7_read 59 = .ok (.aload_n 0, 1) := dk_42 (dk_at dksX7_read_2 13 rfl rfl)
theorem dX7_read_60 : decode cX7_read 60 = .ok (.ldc 166, 2) := dk_18 166 (dk_at dksX7_read_2 14 rfl rfl)
theorem dX7_read_62 : decode cX7_read 62 = .ok (.invokevirtual 158, 3) := dk_182 0 158 (dk_at dksX7_read_2 16 rfl rfl)
theorem dX7_read_65 : decode cX7_read 65 = .ok (.bipush (-2), 2) := dk_16 254 (dk_at dksX7_read_2 19 rfl rfl)
theorem dX7_read_67 : decode cX7_read 67 = .ok (.aload_n 0, 1) := dk_42 (dk_at dksX7_read_2 21 rfl rfl)
theorem dX7_read_68 : decode cX7_read 68 = .ok (.getfield 19, 3) := dk_180 0 19 (dk_at dksX7_read_3 0 rfl rfl)
theorem dX7_read_71 : decode cX7_read 71 = .ok (.invokevirtual 73, 3) := dk_182 0 73 (dk_at dksX7_read_3 3 rfl rfl)
theorem dX7_read_74 : decode cX7_read 74 = .ok (.aload_n 0, 1) := dk_42 (dk_at dksX7_read_3 6 rfl rfl)
theorem dX7_read_75 : decode cX7_read 75 = .ok (.aload_n 0, 1) := dk_42 (dk_at dksX7_read_3 7 rfl rfl)
theorem dX7_read_76 : decode cX7_read 76 = .ok (.getfield 38, 3) := dk_180 0 38 (dk_at dksX7_read_3 8 rfl rfl)
theorem dX7_read_79 : decode cX7_read 79 = .ok (.invokevirtual 168, 3) := dk_182 0 168 (dk_at dksX7_read_3 11 rfl rfl)
theorem dX7_read_82 : decode cX7_read 82 = .ok (.aload_n 0, 1) := dk_42 (dk_at dksX7_read_3 14 rfl rfl)
theorem dX7_read_83 : decode cX7_read 83 = .ok (.ldc 166, 2) := dk_18 166 (dk_at dksX7_read_3 15 rfl rfl)
theorem dX7_read_85 : decode cX7_read 85 = .ok (.invokevirtual 158, 3) := dk_182 0 158 (dk_at dksX7_read_3 17 rfl rfl)
theorem dX7_read_88 : decode cX7_read 88 = .ok (.ifCond .ne (-14), 3) := dk_154 255 242 (dk_at dksX7_read_3 20 rfl rfl)
theorem dX7_read_91 : decode cX7_read 91 = .ok (.aload_n 0, 1) := dk_42 (dk_at dksX7_read_3 23 rfl rfl)
theorem dX7_read_92 : decode cX7_read 92 = .ok (.ldc 170, 2) := dk_18 170 (dk_at dksX7_read_4 0 rfl rfl)
theorem dX7_read_94 : decode cX7_read 94 = .ok (.invokevirtual 158, 3) := dk_182 0 158 (dk_at dksX7_read_4 2 rfl rfl)
theorem dX7_read_97 : decode cX7_read 97 = .ok (.ifCond .eq 10, 3) := dk_153 0 10 (dk_at dksX7_read_4 5 rfl rfl)
theorem dX7_read_100 : decode cX7_read 100 = .ok (.aload_n 0, 1) := dk_42 (dk_at dksX7_read_4 8 rfl rfl)
theorem dX7_read_101 : decode cX7_read 101 = .ok (.invokevirtual 172, 3) := dk_182 0 172 (dk_at dksX7_read_4 9 rfl rfl)
theorem dX7_read_104 : decode cX7_read 104 = .ok (.goto (-13), 3) := dk_167 255 243 (dk_at dksX7_read_4 12 rfl rfl)
theorem dX7_read_107 : decode cX7_read 107 = .ok (.new 137, 3) := dk_187 0 137 (dk_at dksX7_read_4 15 rfl rfl)
theorem dX7_read_110 : decode cX7_read 110 = .ok (.dup, 1) := dk_89 (dk_at dksX7_read_4 18 rfl rfl)
theorem dX7_read_111 : decode cX7_read 111 = .ok (.aload_n 0, 1) := dk_42 (dk_at dksX7_read_4 19 rfl rfl)
theorem dX7_read_112 : decode cX7_read 112 = .ok (.getfield 88, 3) := dk_180 0 88 (dk_at dksX7_read_4 20 rfl rfl)
theorem dX7_read_115 : decode cX7_read 115 = .ok (.invokespecial 174, 3) := dk_183 0 174 (dk_at dksX7_read_5 0 rfl rfl)
theorem dX7_read_118 : decode cX7_read 118 = .ok (.astore_n 2, 1) := dk_77 (dk_at dksX7_read_5 3 rfl rfl)
theorem dX7_read_119 : decode cX7_read 119 = .ok (.aload_n 2, 1) := dk_44 (dk_at dksX7_read_5 4 rfl rfl)
theorem dX7_read_120 : decode cX7_read 120 = .ok (.iload_n 1, 1) := dk_27 (dk_at dksX7_read_5 5 rfl rfl)
theorem dX7_read_121 : decode cX7_read 121 = .ok (.putfield 151, 3) := dk_181 0 151 (dk_at dksX7_read_5 6 rfl rfl)
theorem dX7_read_124 : decode cX7_read 124 = .ok (.aload_n 0, 1) := dk_42 (dk_at dksX7_read_5 9 rfl rfl)
theorem dX7_read_125 : decode cX7_read 125 = .ok (.invokevirtual 34, 3) := dk_182 0 34 (dk_at dksX7_read_5 10 rfl rfl)
theorem dX7_read_128 : decode cX7_read 128 = .ok (.iconst (-1), 1) := dk_2 (dk_at dksX7_read_5 13 rfl rfl)
theorem dX7_read_129 : decode cX7_read 129 = .ok (.if_icmp .eq 55, 3) := dk_159 0 55 (dk_at dksX7_read_5 14 rfl rfl)
theorem dX7_read_132 : decode cX7_read 132 = .ok (.aload_n 0, 1) := dk_42 (dk_at dksX7_read_5 17 rfl rfl)
theorem dX7_read_133 : decode cX7_read 133 = .ok (.ldc 177, 2) := dk_18 177 (dk_at dksX7_read_5 18 rfl rfl)
theorem dX7_read_135 : decode cX7_read 135 = .ok (.invokevirtual 158, 3) := dk_182 0 158 (dk_at dksX7_read_5 20 rfl rfl)
theorem dX7_read_138 : decode cX7_read 138 = .ok (.ifCond .eq 11, 3) := dk_153 0 11 (dk_at dksX7_read_6 0 rfl rfl)
theorem dX7_read_141 : decode cX7_read 141 = .ok (.aload_n 0, 1) := dk_42 (dk_at dksX7_read_6 3 rfl rfl)
theorem dX7_read_142 : decode cX7_read 142 = .ok (.aload_n 2, 1) := dk_44 (dk_at dksX7_read_6 4 rfl rfl)
theorem dX7_read_143 : decode cX7_read 143 = .ok (.invokevirtual 178, 3) := dk_182 0 178 (dk_at dksX7_read_6 5 rfl rfl)
theorem dX7_read_146 : decode cX7_read 146 = .ok (.goto (-22), 3) := dk_167 255 234 (dk_at dksX7_read_6 8 rfl rfl)
theorem dX7_read_149 : decode cX7_read 149 = .ok (.aload_n 0, 1) := dk_42 (dk_at dksX7_read_6 11 rfl rfl)
theorem dX7_read_150 : decode cX7_read 150 = .ok (.ldc 181, 2) := dk_18 181 (dk_at dksX7_read_6 12 rfl rfl)
theorem dX7_read_152 : decode cX7_read 152 = .ok (.invokevirtual 158, 3) := dk_182 0 158 (dk_at dksX7_read_6 14 rfl rfl)
theorem dX7_read_155 : decode cX7_read 155 = .ok (.ifCond .eq 15, 3) := dk_153 0 15 (dk_at dksX7_read_6 17 rfl rfl)
theorem dX7_read_158 : decode cX7_read 158 = .ok (.aload_n 0, 1) := dk_42 (dk_at dksX7_read_6 20 rfl rfl)
theorem dX7_read_159 : decode cX7_read 159 = .ok (.aload_n 2, 1) := dk_44 (dk_at dksX7_read_6 21 rfl rfl)
theorem dX7_read_160 : decode cX7_read 160 = .ok (.aload_n 0, 1) := dk_42 (dk_at dksX7_read_6 22 rfl rfl)
theorem dX7_read_161 : decode cX7_read 161 = .ok (.getfield 38, 3) := dk_180 0 38 (dk_at dksX7_read_7 0 rfl rfl)
theorem dX7_read_164 : decode cX7_read 164 = .ok (.invokevirtual 182, 3) := dk_182 0 182 (dk_at dksX7_read_7 3 rfl rfl)
theorem dX7_read_167 : decode cX7_read 167 = .ok (.goto (-43), 3) := dk_167 255 213 (dk_at dksX7_read_7 6 rfl rfl)
theorem dX7_read_170 : decode cX7_read 170 = .ok (.new 26, 3) := dk_187 0 26 (dk_at dksX7_read_7 9 rfl rfl)
theorem dX7_read_173 : decode cX7_read 173 = .ok (.dup, 1) := dk_89 (dk_at dksX7_read_7 12 rfl rfl)
theorem dX7_read_174 : decode cX7_read 174 = .ok (.bipush (-2), 2) := dk_16 254 (dk_at dksX7_read_7 13 rfl rfl)
theorem dX7_read_176 : decode cX7_read 176 = .ok (.aload_n 0, 1) := dk_42 (dk_at dksX7_read_7 15 rfl rfl)
theorem dX7_read_177 : decode cX7_read 177 = .ok (.getfield 19, 3) := dk_180 0 19 (dk_at dksX7_read_7 16 rfl rfl)
theorem dX7_read_180 : decode cX7_read 180 = .ok (.invokespecial 28, 3) := dk_183 0 28 (dk_at dksX7_read_7 19 rfl rfl)
theorem dX7_read_183 : decode cX7_read 183 = .ok (.athrow, 1) := dk_191 (dk_at dksX7_read_7 22 rfl rfl)
theorem dX7_read_184 : decode cX7_read 184 = .ok (.aload_n 2, 1) := dk_44 (dk_at dksX7_read_7 23 rfl rfl)
theorem dX7_read_185 : decode cX7_read 185 = .ok (.areturn, 1) := dk_176 (dk_at dksX7_read_8 0 rfl rfl)
abbrev cX7_accept : ByteArray := prog_11_method_5_code
def yX7_accept : MethodName := ⟨RX7, "accept", "(Ljava/lang/String;)Z"⟩
def dkwX7_accept_1 : List UInt8 := [167, 0, 4, 3, 96, 181, 0, 19, 28, 172]
abbrev dktX7_accept_1 : List UInt8 := dkwX7_accept_1 ++ []
def dkwX7_accept_0 : List UInt8 := [42, 182, 0, 57, 43, 182, 0, 60, 61, 42, 89, 180, 0, 19, 28, 153, 0, 10, 43, 182, 0, 66]
abbrev dktX7_accept_0 : List UInt8 := dkwX7_accept_0 ++ dktX7_accept_1
theorem dksX7_accept_0 : cX7_accept.data.toList.drop 0 = dktX7_accept_0 := by decide +kernel
theorem dksX7_accept_1 : cX7_accept.data.toList.drop 22 = dktX7_accept_1 := dk_seg dksX7_accept_0 22 rfl rfl
theorem dX7_accept_0 : decode cX7_accept 0 = .ok (.aload_n 0, 1) := dk_42 (dk_at dksX7_accept_0 0 rfl rfl)
theorem dX7_accept_1 : decode cX7_accept 1 = .ok (.invokevirtual 57, 3) := dk_182 0 57 (dk_at dksX7_accept_0 1 rfl rfl)
theorem dX7_accept_4 : decode cX7_accept 4 = .ok (.aload_n 1, 1) := dk_43 (dk_at dksX7_accept_0 4 rfl rfl)
theorem dX7_accept_5 : decode cX7_accept 5 = .ok (.invokevirtual 60, 3) := dk_182 0 60 (dk_at dksX7_accept_0 5 rfl rfl)
theorem dX7_accept_8 : decode cX7_accept 8 = .ok (.istore_n 2, 1) := dk_61 (dk_at dksX7_accept_0 8 rfl rfl)
theorem dX7_accept_9 : decode cX7_accept 9 = .ok (.aload_n 0, 1) := dk_42 (dk_at dksX7_accept_0 9 rfl rfl)
theorem dX7_accept_10 : decode cX7_accept 10 = .ok (.dup, 1) := dk_89 (dk_at dksX7_accept_0 10 rfl rfl)
theorem dX7_accept_11 : decode cX7_accept 11 = .ok (.getfield 19, 3) := dk_180 0 19 (dk_at dksX7_accept_0 11 rfl rfl)
theorem dX7_accept_14 : decode cX7_accept 14 = .ok (.iload_n 2, 1) := dk_28 (dk_at dksX7_accept_0 14 rfl rfl)
theorem dX7_accept_15 : decode cX7_accept 15 = .ok (.ifCond .eq 10, 3) := dk_153 0 10 (dk_at dksX7_accept_0 15 rfl rfl)
theorem dX7_accept_18 : decode cX7_accept 18 = .ok (.aload_n 1, 1) := dk_43 (dk_at dksX7_accept_0 18 rfl rfl)
theorem dX7_accept_19 : decode cX7_accept 19 = .ok (.invokevirtual 66, 3) := dk_182 0 66 (dk_at dksX7_accept_0 19 rfl rfl)
theorem dX7_accept_22 : decode cX7_accept 22 = .ok (.goto 4, 3) := dk_167 0 4 (dk_at dksX7_accept_1 0 rfl rfl)
theorem dX7_accept_25 : decode cX7_accept 25 = .ok (.iconst 0, 1) := dk_3 (dk_at dksX7_accept_1 3 rfl rfl)
theorem dX7_accept_26 : decode cX7_accept 26 = .ok (.iadd, 1) := dk_96 (dk_at dksX7_accept_1 4 rfl rfl)
theorem dX7_accept_27 : decode cX7_accept 27 = .ok (.putfield 19, 3) := dk_181 0 19 (dk_at dksX7_accept_1 5 rfl rfl)
theorem dX7_accept_30 : decode cX7_accept 30 = .ok (.iload_n 2, 1) := dk_28 (dk_at dksX7_accept_1 8 rfl rfl)
theorem dX7_accept_31 : decode cX7_accept 31 = .ok (.ireturn, 1) := dk_172 (dk_at dksX7_accept_1 9 rfl rfl)
abbrev cX7_word : ByteArray := prog_11_method_4_code
def yX7_word : MethodName := ⟨RX7, "word", "()Ljava/lang/String;"⟩
def dkwX7_word_3 : List UInt8 := [182, 0, 49, 87, 132, 2, 1, 167, 255, 208, 43, 182, 0, 53, 176]
abbrev dktX7_word_3 : List UInt8 := dkwX7_word_3 ++ []
def dkwX7_word_2 : List UInt8 := [20, 0, 41, 20, 0, 43, 184, 0, 45, 153, 0, 24, 43, 42, 180, 0, 3, 180, 0, 22, 28, 51, 146]
abbrev dktX7_word_2 : List UInt8 := dkwX7_word_2 ++ dktX7_word_3
def dkwX7_word_1 : List UInt8 := [180, 0, 19, 61, 28, 42, 180, 0, 15, 162, 0, 46, 42, 180, 0, 3, 180, 0, 22, 28, 51, 133]
abbrev dktX7_word_1 : List UInt8 := dkwX7_word_1 ++ dktX7_word_2
def dkwX7_word_0 : List UInt8 := [187, 0, 31, 89, 183, 0, 33, 76, 42, 182, 0, 34, 87, 42, 42, 180, 0, 19, 181, 0, 38, 42]
abbrev dktX7_word_0 : List UInt8 := dkwX7_word_0 ++ dktX7_word_1
theorem dksX7_word_0 : cX7_word.data.toList.drop 0 = dktX7_word_0 := by decide +kernel
theorem dksX7_word_1 : cX7_word.data.toList.drop 22 = dktX7_word_1 := dk_seg dksX7_word_0 22 rfl rfl
theorem dksX7_word_2 : cX7_word.data.toList.drop 44 = dktX7_word_2 := dk_seg dksX7_word_1 22 rfl rfl
theorem dksX7_word_3 : cX7_word.data.toList.drop 67 = dktX7_word_3 := dk_seg dksX7_word_2 23 rfl rfl
theorem dX7_word_0 : decode cX7_word 0 = .ok (.new 31, 3) := dk_187 0 31 (dk_at dksX7_word_0 0 rfl rfl)
theorem dX7_word_3 : decode cX7_word 3 = .ok (.dup, 1) := dk_89 (dk_at dksX7_word_0 3 rfl rfl)
theorem dX7_word_4 : decode cX7_word 4 = .ok (.invokespecial 33, 3) := dk_183 0 33 (dk_at dksX7_word_0 4 rfl rfl)
theorem dX7_word_7 : decode cX7_word 7 = .ok (.astore_n 1, 1) := dk_76 (dk_at dksX7_word_0 7 rfl rfl)
theorem dX7_word_8 : decode cX7_word 8 = .ok (.aload_n 0, 1) := dk_42 (dk_at dksX7_word_0 8 rfl rfl)
theorem dX7_word_9 : decode cX7_word 9 = .ok (.invokevirtual 34, 3) := dk_182 0 34 (dk_at dksX7_word_0 9 rfl rfl)
theorem dX7_word_12 : decode cX7_word 12 = .ok (.pop, 1) := dk_87 (dk_at dksX7_word_0 12 rfl rfl)
theorem dX7_word_13 : decode cX7_word 13 = .ok (.aload_n 0, 1) := dk_42 (dk_at dksX7_word_0 13 rfl rfl)
theorem dX7_word_14 : decode cX7_word 14 = .ok (.aload_n 0, 1) := dk_42 (dk_at dksX7_word_0 14 rfl rfl)
theorem dX7_word_15 : decode cX7_word 15 = .ok (.getfield 19, 3) := dk_180 0 19 (dk_at dksX7_word_0 15 rfl rfl)
theorem dX7_word_18 : decode cX7_word 18 = .ok (.putfield 38, 3) := dk_181 0 38 (dk_at dksX7_word_0 18 rfl rfl)
theorem dX7_word_21 : decode cX7_word 21 = .ok (.aload_n 0, 1) := dk_42 (dk_at dksX7_word_0 21 rfl rfl)
theorem dX7_word_22 : decode cX7_word 22 = .ok (.getfield 19, 3) := dk_180 0 19 (dk_at dksX7_word_1 0 rfl rfl)
theorem dX7_word_25 : decode cX7_word 25 = .ok (.istore_n 2, 1) := dk_61 (dk_at dksX7_word_1 3 rfl rfl)
theorem dX7_word_26 : decode cX7_word 26 = .ok (.iload_n 2, 1) := dk_28 (dk_at dksX7_word_1 4 rfl rfl)
theorem dX7_word_27 : decode cX7_word 27 = .ok (.aload_n 0, 1) := dk_42 (dk_at dksX7_word_1 5 rfl rfl)
theorem dX7_word_28 : decode cX7_word 28 = .ok (.getfield 15, 3) := dk_180 0 15 (dk_at dksX7_word_1 6 rfl rfl)
theorem dX7_word_31 : decode cX7_word 31 = .ok (.if_icmp .ge 46, 3) := dk_162 0 46 (dk_at dksX7_word_1 9 rfl rfl)
theorem dX7_word_34 : decode cX7_word 34 = .ok (.aload_n 0, 1) := dk_42 (dk_at dksX7_word_1 12 rfl rfl)
theorem dX7_word_35 : decode cX7_word 35 = .ok (.getfield 3, 3) := dk_180 0 3 (dk_at dksX7_word_1 13 rfl rfl)
theorem dX7_word_38 : decode cX7_word 38 = .ok (.getfield 22, 3) := dk_180 0 22 (dk_at dksX7_word_1 16 rfl rfl)
theorem dX7_word_41 : decode cX7_word 41 = .ok (.iload_n 2, 1) := dk_28 (dk_at dksX7_word_1 19 rfl rfl)
theorem dX7_word_42 : decode cX7_word 42 = .ok (.baload, 1) := dk_51 (dk_at dksX7_word_1 20 rfl rfl)
theorem dX7_word_43 : decode cX7_word 43 = .ok (.i2l, 1) := dk_133 (dk_at dksX7_word_1 21 rfl rfl)
theorem dX7_word_44 : decode cX7_word 44 = .ok (.ldc2_w 41, 3) := dk_20 0 41 (dk_at dksX7_word_2 0 rfl rfl)
theorem dX7_word_47 : decode cX7_word 47 = .ok (.ldc2_w 43, 3) := dk_20 0 43 (dk_at dksX7_word_2 3 rfl rfl)
theorem dX7_word_50 : decode cX7_word 50 = .ok (.invokestatic 45, 3) := dk_184 0 45 (dk_at dksX7_word_2 6 rfl rfl)
theorem dX7_word_53 : decode cX7_word 53 = .ok (.ifCond .eq 24, 3) := dk_153 0 24 (dk_at dksX7_word_2 9 rfl rfl)
theorem dX7_word_56 : decode cX7_word 56 = .ok (.aload_n 1, 1) := dk_43 (dk_at dksX7_word_2 12 rfl rfl)
theorem dX7_word_57 : decode cX7_word 57 = .ok (.aload_n 0, 1) := dk_42 (dk_at dksX7_word_2 13 rfl rfl)
theorem dX7_word_58 : decode cX7_word 58 = .ok (.getfield 3, 3) := dk_180 0 3 (dk_at dksX7_word_2 14 rfl rfl)
theorem dX7_word_61 : decode cX7_word 61 = .ok (.getfield 22, 3) := dk_180 0 22 (dk_at dksX7_word_2 17 rfl rfl)
theorem dX7_word_64 : decode cX7_word 64 = .ok (.iload_n 2, 1) := dk_28 (dk_at dksX7_word_2 20 rfl rfl)
theorem dX7_word_65 : decode cX7_word 65 = .ok (.baload, 1) := dk_51 (dk_at dksX7_word_2 21 rfl rfl)
theorem dX7_word_66 : decode cX7_word 66 = .ok (.i2c, 1) := dk_146 (dk_at dksX7_word_2 22 rfl rfl)
theorem dX7_word_67 : decode cX7_word 67 = .ok (.invokevirtual 49, 3) := dk_182 0 49 (dk_at dksX7_word_3 0 rfl rfl)
theorem dX7_word_70 : decode cX7_word 70 = .ok (.pop, 1) := dk_87 (dk_at dksX7_word_3 3 rfl rfl)
theorem dX7_word_71 : decode cX7_word 71 = .ok (.iinc 2 1, 3) := dk_132 2 1 (dk_at dksX7_word_3 4 rfl rfl)
theorem dX7_word_74 : decode cX7_word 74 = .ok (.goto (-48), 3) := dk_167 255 208 (dk_at dksX7_word_3 7 rfl rfl)
theorem dX7_word_77 : decode cX7_word 77 = .ok (.aload_n 1, 1) := dk_43 (dk_at dksX7_word_3 10 rfl rfl)
theorem dX7_word_78 : decode cX7_word 78 = .ok (.invokevirtual 53, 3) := dk_182 0 53 (dk_at dksX7_word_3 11 rfl rfl)
theorem dX7_word_81 : decode cX7_word 81 = .ok (.areturn, 1) := dk_176 (dk_at dksX7_word_3 14 rfl rfl)
abbrev cX7_peek : ByteArray := prog_11_method_2_code
def yX7_peek : MethodName := ⟨RX7, "peek", "()I"⟩
def dkwX7_peek_3 : List UInt8 := [167, 0, 4, 2, 172]
abbrev dktX7_peek_3 : List UInt8 := dkwX7_peek_3 ++ []
def dkwX7_peek_2 : List UInt8 := [180, 0, 15, 162, 0, 22, 42, 180, 0, 3, 180, 0, 22, 42, 180, 0, 19, 51, 17, 0, 255, 126]
abbrev dktX7_peek_2 : List UInt8 := dkwX7_peek_2 ++ dktX7_peek_3
def dkwX7_peek_1 : List UInt8 := [16, 32, 160, 0, 16, 42, 89, 180, 0, 19, 4, 96, 181, 0, 19, 167, 255, 218, 42, 180, 0, 19, 42]
abbrev dktX7_peek_1 : List UInt8 := dkwX7_peek_1 ++ dktX7_peek_2
def dkwX7_peek_0 : List UInt8 := [42, 180, 0, 19, 42, 180, 0, 15, 162, 0, 33, 42, 180, 0, 3, 180, 0, 22, 42, 180, 0, 19, 51]
abbrev dktX7_peek_0 : List UInt8 := dkwX7_peek_0 ++ dktX7_peek_1
theorem dksX7_peek_0 : cX7_peek.data.toList.drop 0 = dktX7_peek_0 := by decide +kernel
theorem dksX7_peek_1 : cX7_peek.data.toList.drop 23 = dktX7_peek_1 := dk_seg dksX7_peek_0 23 rfl rfl
theorem dksX7_peek_2 : cX7_peek.data.toList.drop 46 = dktX7_peek_2 := dk_seg dksX7_peek_1 23 rfl rfl
theorem dksX7_peek_3 : cX7_peek.data.toList.drop 68 = dktX7_peek_3 := dk_seg dksX7_peek_2 22 rfl rfl
theorem dX7_peek_0 : decode cX7_peek 0 = .ok (.aload_n 0, 1) := dk_42 (dk_at dksX7_peek_0 0 rfl rfl)
theorem dX7_peek_1 : decode cX7_peek 1 = .ok (.getfield 19, 3) := dk_180 0 19 (dk_at dksX7_peek_0 1 rfl rfl)
theorem dX7_peek_4 : decode cX7_peek 4 = .ok (.aload_n 0, 1) := dk_42 (dk_at dksX7_peek_0 4 rfl rfl)
theorem dX7_peek_5 : decode cX7_peek 5 = .ok (.getfield 15, 3) := dk_180 0 15 (dk_at dksX7_peek_0 5 rfl rfl)
theorem dX7_peek_8 : decode cX7_peek 8 = .ok (.if_icmp .ge 33, 3) := dk_162 0 33 (dk_at dksX7_peek_0 8 rfl rfl)
theorem dX7_peek_11 : decode cX7_peek 11 = .ok (.aload_n 0, 1) := dk_42 (dk_at dksX7_peek_0 11 rfl rfl)
theorem dX7_peek_12 : decode cX7_peek 12 = .ok (.getfield 3, 3) := dk_180 0 3 (dk_at dksX7_peek_0 12 rfl rfl)
theorem dX7_peek_15 : decode cX7_peek 15 = .ok (.getfield 22, 3) := dk_180 0 22 (dk_at dksX7_peek_0 15 rfl rfl)
theorem dX7_peek_18 : decode cX7_peek 18 = .ok (.aload_n 0, 1) := dk_42 (dk_at dksX7_peek_0 18 rfl rfl)
theorem dX7_peek_19 : decode cX7_peek 19 = .ok (.getfield 19, 3) := dk_180 0 19 (dk_at dksX7_peek_0 19 rfl rfl)
theorem dX7_peek_22 : decode cX7_peek 22 = .ok (.baload, 1) := dk_51 (dk_at dksX7_peek_0 22 rfl rfl)
theorem dX7_peek_23 : decode cX7_peek 23 = .ok (.bipush 32, 2) := dk_16 32 (dk_at dksX7_peek_1 0 rfl rfl)
theorem dX7_peek_25 : decode cX7_peek 25 = .ok (.if_icmp .ne 16, 3) := dk_160 0 16 (dk_at dksX7_peek_1 2 rfl rfl)
theorem dX7_peek_28 : decode cX7_peek 28 = .ok (.aload_n 0, 1) := dk_42 (dk_at dksX7_peek_1 5 rfl rfl)
theorem dX7_peek_29 : decode cX7_peek 29 = .ok (.dup, 1) := dk_89 (dk_at dksX7_peek_1 6 rfl rfl)
theorem dX7_peek_30 : decode cX7_peek 30 = .ok (.getfield 19, 3) := dk_180 0 19 (dk_at dksX7_peek_1 7 rfl rfl)
theorem dX7_peek_33 : decode cX7_peek 33 = .ok (.iconst 1, 1) := dk_4 (dk_at dksX7_peek_1 10 rfl rfl)
theorem dX7_peek_34 : decode cX7_peek 34 = .ok (.iadd, 1) := dk_96 (dk_at dksX7_peek_1 11 rfl rfl)
theorem dX7_peek_35 : decode cX7_peek 35 = .ok (.putfield 19, 3) := dk_181 0 19 (dk_at dksX7_peek_1 12 rfl rfl)
theorem dX7_peek_38 : decode cX7_peek 38 = .ok (.goto (-38), 3) := dk_167 255 218 (dk_at dksX7_peek_1 15 rfl rfl)
theorem dX7_peek_41 : decode cX7_peek 41 = .ok (.aload_n 0, 1) := dk_42 (dk_at dksX7_peek_1 18 rfl rfl)
theorem dX7_peek_42 : decode cX7_peek 42 = .ok (.getfield 19, 3) := dk_180 0 19 (dk_at dksX7_peek_1 19 rfl rfl)
theorem dX7_peek_45 : decode cX7_peek 45 = .ok (.aload_n 0, 1) := dk_42 (dk_at dksX7_peek_1 22 rfl rfl)
theorem dX7_peek_46 : decode cX7_peek 46 = .ok (.getfield 15, 3) := dk_180 0 15 (dk_at dksX7_peek_2 0 rfl rfl)
theorem dX7_peek_49 : decode cX7_peek 49 = .ok (.if_icmp .ge 22, 3) := dk_162 0 22 (dk_at dksX7_peek_2 3 rfl rfl)
theorem dX7_peek_52 : decode cX7_peek 52 = .ok (.aload_n 0, 1) := dk_42 (dk_at dksX7_peek_2 6 rfl rfl)
theorem dX7_peek_53 : decode cX7_peek 53 = .ok (.getfield 3, 3) := dk_180 0 3 (dk_at dksX7_peek_2 7 rfl rfl)
theorem dX7_peek_56 : decode cX7_peek 56 = .ok (.getfield 22, 3) := dk_180 0 22 (dk_at dksX7_peek_2 10 rfl rfl)
theorem dX7_peek_59 : decode cX7_peek 59 = .ok (.aload_n 0, 1) := dk_42 (dk_at dksX7_peek_2 13 rfl rfl)
theorem dX7_peek_60 : decode cX7_peek 60 = .ok (.getfield 19, 3) := dk_180 0 19 (dk_at dksX7_peek_2 14 rfl rfl)
theorem dX7_peek_63 : decode cX7_peek 63 = .ok (.baload, 1) := dk_51 (dk_at dksX7_peek_2 17 rfl rfl)
theorem dX7_peek_64 : decode cX7_peek 64 = .ok (.sipush 255, 3) := dk_17 0 255 (dk_at dksX7_peek_2 18 rfl rfl)
theorem dX7_peek_67 : decode cX7_peek 67 = .ok (.iand, 1) := dk_126 (dk_at dksX7_peek_2 21 rfl rfl)
theorem dX7_peek_68 : decode cX7_peek 68 = .ok (.goto 4, 3) := dk_167 0 4 (dk_at dksX7_peek_3 0 rfl rfl)
theorem dX7_peek_71 : decode cX7_peek 71 = .ok (.iconst (-1), 1) := dk_2 (dk_at dksX7_peek_3 3 rfl rfl)
theorem dX7_peek_72 : decode cX7_peek 72 = .ok (.ireturn, 1) := dk_172 (dk_at dksX7_peek_3 4 rfl rfl)
abbrev cX7_require : ByteArray := prog_11_method_3_code
def yX7_require : MethodName := ⟨RX7, "require", "(ZII)V"⟩
def dkwX7_require_0 : List UInt8 := [27, 154, 0, 13, 187, 0, 26, 89, 28, 29, 183, 0, 28, 191, 177]
abbrev dktX7_require_0 : List UInt8 := dkwX7_require_0 ++ []
theorem dksX7_require_0 : cX7_require.data.toList.drop 0 = dktX7_require_0 := by decide +kernel
theorem dX7_require_0 : decode cX7_require 0 = .ok (.iload_n 1, 1) := dk_27 (dk_at dksX7_require_0 0 rfl rfl)
theorem dX7_require_1 : decode cX7_require 1 = .ok (.ifCond .ne 13, 3) := dk_154 0 13 (dk_at dksX7_require_0 1 rfl rfl)
theorem dX7_require_4 : decode cX7_require 4 = .ok (.new 26, 3) := dk_187 0 26 (dk_at dksX7_require_0 4 rfl rfl)
theorem dX7_require_7 : decode cX7_require 7 = .ok (.dup, 1) := dk_89 (dk_at dksX7_require_0 7 rfl rfl)
theorem dX7_require_8 : decode cX7_require 8 = .ok (.iload_n 2, 1) := dk_28 (dk_at dksX7_require_0 8 rfl rfl)
theorem dX7_require_9 : decode cX7_require 9 = .ok (.iload_n 3, 1) := dk_29 (dk_at dksX7_require_0 9 rfl rfl)
theorem dX7_require_10 : decode cX7_require 10 = .ok (.invokespecial 28, 3) := dk_183 0 28 (dk_at dksX7_require_0 10 rfl rfl)
theorem dX7_require_13 : decode cX7_require 13 = .ok (.athrow, 1) := dk_191 (dk_at dksX7_require_0 13 rfl rfl)
theorem dX7_require_14 : decode cX7_require 14 = .ok (.return_, 1) := dk_177 (dk_at dksX7_require_0 14 rfl rfl)
abbrev cX7_number : ByteArray := prog_11_method_6_code
def yX7_number : MethodName := ⟨RX7, "number", "(II)I"⟩
def dkwX7_number_5 : List UInt8 := [133, 27, 133, 28, 133, 184, 0, 45, 16, 253, 42, 180, 0, 38, 182, 0, 73, 21, 4, 172]
abbrev dktX7_number_5 : List UInt8 := dkwX7_number_5 ++ []
def dkwX7_number_4 : List UInt8 := [16, 48, 100, 184, 0, 78, 54, 4, 42, 89, 180, 0, 19, 4, 96, 181, 0, 19, 167, 255, 182, 42, 21, 4]
abbrev dktX7_number_4 : List UInt8 := dkwX7_number_4 ++ dktX7_number_5
def dkwX7_number_3 : List UInt8 := [153, 0, 44, 18, 77, 16, 10, 21, 4, 104, 42, 180, 0, 3, 180, 0, 22, 42, 180, 0, 19, 51, 96]
abbrev dktX7_number_3 : List UInt8 := dkwX7_number_3 ++ dktX7_number_4
def dkwX7_number_2 : List UInt8 := [42, 180, 0, 3, 180, 0, 22, 42, 180, 0, 19, 51, 133, 20, 0, 69, 20, 0, 71, 184, 0, 45]
abbrev dktX7_number_2 : List UInt8 := dkwX7_number_2 ++ dktX7_number_3
def dkwX7_number_1 : List UInt8 := [29, 16, 254, 42, 180, 0, 38, 182, 0, 73, 3, 54, 4, 42, 180, 0, 19, 42, 180, 0, 15, 162, 0, 69]
abbrev dktX7_number_1 : List UInt8 := dkwX7_number_1 ++ dktX7_number_2
def dkwX7_number_0 : List UInt8 := [42, 182, 0, 34, 133, 20, 0, 69, 20, 0, 71, 184, 0, 45, 62, 42, 42, 180, 0, 19, 181, 0, 38, 42]
abbrev dktX7_number_0 : List UInt8 := dkwX7_number_0 ++ dktX7_number_1
theorem dksX7_number_0 : cX7_number.data.toList.drop 0 = dktX7_number_0 := by decide +kernel
theorem dksX7_number_1 : cX7_number.data.toList.drop 24 = dktX7_number_1 := dk_seg dksX7_number_0 24 rfl rfl
theorem dksX7_number_2 : cX7_number.data.toList.drop 48 = dktX7_number_2 := dk_seg dksX7_number_1 24 rfl rfl
theorem dksX7_number_3 : cX7_number.data.toList.drop 70 = dktX7_number_3 := dk_seg dksX7_number_2 22 rfl rfl
theorem dksX7_number_4 : cX7_number.data.toList.drop 93 = dktX7_number_4 := dk_seg dksX7_number_3 23 rfl rfl
theorem dksX7_number_5 : cX7_number.data.toList.drop 117 = dktX7_number_5 := dk_seg dksX7_number_4 24 rfl rfl
theorem dX7_number_0 : decode cX7_number 0 = .ok (.aload_n 0, 1) := dk_42 (dk_at dksX7_number_0 0 rfl rfl)
theorem dX7_number_1 : decode cX7_number 1 = .ok (.invokevirtual 34, 3) := dk_182 0 34 (dk_at dksX7_number_0 1 rfl rfl)
theorem dX7_number_4 : decode cX7_number 4 = .ok (.i2l, 1) := dk_133 (dk_at dksX7_number_0 4 rfl rfl)
theorem dX7_number_5 : decode cX7_number 5 = .ok (.ldc2_w 69, 3) := dk_20 0 69 (dk_at dksX7_number_0 5 rfl rfl)
theorem dX7_number_8 : decode cX7_number 8 = .ok (.ldc2_w 71, 3) := dk_20 0 71 (dk_at dksX7_number_0 8 rfl rfl)
theorem dX7_number_11 : decode cX7_number 11 = .ok (.invokestatic 45, 3) := dk_184 0 45 (dk_at dksX7_number_0 11 rfl rfl)
theorem dX7_number_14 : decode cX7_number 14 = .ok (.istore_n 3, 1) := dk_62 (dk_at dksX7_number_0 14 rfl rfl)
theorem dX7_number_15 : decode cX7_number 15 = .ok (.aload_n 0, 1) := dk_42 (dk_at dksX7_number_0 15 rfl rfl)
theorem dX7_number_16 : decode cX7_number 16 = .ok (.aload_n 0, 1) := dk_42 (dk_at dksX7_number_0 16 rfl rfl)
theorem dX7_number_17 : decode cX7_number 17 = .ok (.getfield 19, 3) := dk_180 0 19 (dk_at dksX7_number_0 17 rfl rfl)
theorem dX7_number_20 : decode cX7_number 20 = .ok (.putfield 38, 3) := dk_181 0 38 (dk_at dksX7_number_0 20 rfl rfl)
theorem dX7_number_23 : decode cX7_number 23 = .ok (.aload_n 0, 1) := dk_42 (dk_at dksX7_number_0 23 rfl rfl)
theorem dX7_number_24 : decode cX7_number 24 = .ok (.iload_n 3, 1) := dk_29 (dk_at dksX7_number_1 0 rfl rfl)
theorem dX7_number_25 : decode cX7_number 25 = .ok (.bipush (-2), 2) := dk_16 254 (dk_at dksX7_number_1 1 rfl rfl)
theorem dX7_number_27 : decode cX7_number 27 = .ok (.aload_n 0, 1) := dk_42 (dk_at dksX7_number_1 3 rfl rfl)
theorem dX7_number_28 : decode cX7_number 28 = .ok (.getfield 38, 3) := dk_180 0 38 (dk_at dksX7_number_1 4 rfl rfl)
theorem dX7_number_31 : decode cX7_number 31 = .ok (.invokevirtual 73, 3) := dk_182 0 73 (dk_at dksX7_number_1 7 rfl rfl)
theorem dX7_number_34 : decode cX7_number 34 = .ok (.iconst 0, 1) := dk_3 (dk_at dksX7_number_1 10 rfl rfl)
theorem dX7_number_35 : decode cX7_number 35 = .ok (.istore 4, 2) := dk_54 4 (dk_at dksX7_number_1 11 rfl rfl)
theorem dX7_number_37 : decode cX7_number 37 = .ok (.aload_n 0, 1) := dk_42 (dk_at dksX7_number_1 13 rfl rfl)
theorem dX7_number_38 : decode cX7_number 38 = .ok (.getfield 19, 3) := dk_180 0 19 (dk_at dksX7_number_1 14 rfl rfl)
theorem dX7_number_41 : decode cX7_number 41 = .ok (.aload_n 0, 1) := dk_42 (dk_at dksX7_number_1 17 rfl rfl)
theorem dX7_number_42 : decode cX7_number 42 = .ok (.getfield 15, 3) := dk_180 0 15 (dk_at dksX7_number_1 18 rfl rfl)
theorem dX7_number_45 : decode cX7_number 45 = .ok (.if_icmp .ge 69, 3) := dk_162 0 69 (dk_at dksX7_number_1 21 rfl rfl)
theorem dX7_number_48 : decode cX7_number 48 = .ok (.aload_n 0, 1) := dk_42 (dk_at dksX7_number_2 0 rfl rfl)
theorem dX7_number_49 : decode cX7_number 49 = .ok (.getfield 3, 3) := dk_180 0 3 (dk_at dksX7_number_2 1 rfl rfl)
theorem dX7_number_52 : decode cX7_number 52 = .ok (.getfield 22, 3) := dk_180 0 22 (dk_at dksX7_number_2 4 rfl rfl)
theorem dX7_number_55 : decode cX7_number 55 = .ok (.aload_n 0, 1) := dk_42 (dk_at dksX7_number_2 7 rfl rfl)
theorem dX7_number_56 : decode cX7_number 56 = .ok (.getfield 19, 3) := dk_180 0 19 (dk_at dksX7_number_2 8 rfl rfl)
theorem dX7_number_59 : decode cX7_number 59 = .ok (.baload, 1) := dk_51 (dk_at dksX7_number_2 11 rfl rfl)
theorem dX7_number_60 : decode cX7_number 60 = .ok (.i2l, 1) := dk_133 (dk_at dksX7_number_2 12 rfl rfl)
theorem dX7_number_61 : decode cX7_number 61 = .ok (.ldc2_w 69, 3) := dk_20 0 69 (dk_at dksX7_number_2 13 rfl rfl)
theorem dX7_number_64 : decode cX7_number 64 = .ok (.ldc2_w 71, 3) := dk_20 0 71 (dk_at dksX7_number_2 16 rfl rfl)
theorem dX7_number_67 : decode cX7_number 67 = .ok (.invokestatic 45, 3) := dk_184 0 45 (dk_at dksX7_number_2 19 rfl rfl)
theorem dX7_number_70 : decode cX7_number 70 = .ok (.ifCond .eq 44, 3) := dk_153 0 44 (dk_at dksX7_number_3 0 rfl rfl)
theorem dX7_number_73 : decode cX7_number 73 = .ok (.ldc 77, 2) := dk_18 77 (dk_at dksX7_number_3 3 rfl rfl)
theorem dX7_number_75 : decode cX7_number 75 = .ok (.bipush 10, 2) := dk_16 10 (dk_at dksX7_number_3 5 rfl rfl)
theorem dX7_number_77 : decode cX7_number 77 = .ok (.iload 4, 2) := dk_21 4 (dk_at dksX7_number_3 7 rfl rfl)
theorem dX7_number_79 : decode cX7_number 79 = .ok (.imul, 1) := dk_104 (dk_at dksX7_number_3 9 rfl rfl)
theorem dX7_number_80 : decode cX7_number 80 = .ok (.aload_n 0, 1) := dk_42 (dk_at dksX7_number_3 10 rfl rfl)
theorem dX7_number_81 : decode cX7_number 81 = .ok (.getfield 3, 3) := dk_180 0 3 (dk_at dksX7_number_3 11 rfl rfl)
theorem dX7_number_84 : decode cX7_number 84 = .ok (.getfield 22, 3) := dk_180 0 22 (dk_at dksX7_number_3 14 rfl rfl)
theorem dX7_number_87 : decode cX7_number 87 = .ok (.aload_n 0, 1) := dk_42 (dk_at dksX7_number_3 17 rfl rfl)
theorem dX7_number_88 : decode cX7_number 88 = .ok (.getfield 19, 3) := dk_180 0 19 (dk_at dksX7_number_3 18 rfl rfl)
theorem dX7_number_91 : decode cX7_number 91 = .ok (.baload, 1) := dk_51 (dk_at dksX7_number_3 21 rfl rfl)
theorem dX7_number_92 : decode cX7_number 92 = .ok (.iadd, 1) := dk_96 (dk_at dksX7_number_3 22 rfl rfl)
theorem dX7_number_93 : decode cX7_number 93 = .ok (.bipush 48, 2) := dk_16 48 (dk_at dksX7_number_4 0 rfl rfl)
theorem dX7_number_95 : decode cX7_number 95 = .ok (.isub, 1) := dk_100 (dk_at dksX7_number_4 2 rfl rfl)
theorem dX7_number_96 : decode cX7_number 96 = .ok (.invokestatic 78, 3) := dk_184 0 78 (dk_at dksX7_number_4 3 rfl rfl)
theorem dX7_number_99 : decode cX7_number 99 = .ok (.istore 4, 2) := dk_54 4 (dk_at dksX7_number_4 6 rfl rfl)
theorem dX7_number_101 : decode cX7_number 101 = .ok (.aload_n 0, 1) := dk_42 (dk_at dksX7_number_4 8 rfl rfl)
theorem dX7_number_102 : decode cX7_number 102 = .ok (.dup, 1) := dk_89 (dk_at dksX7_number_4 9 rfl rfl)
theorem dX7_number_103 : decode cX7_number 103 = .ok (.getfield 19, 3) := dk_180 0 19 (dk_at dksX7_number_4 10 rfl rfl)
theorem dX7_number_106 : decode cX7_number 106 = .ok (.iconst 1, 1) := dk_4 (dk_at dksX7_number_4 13 rfl rfl)
theorem dX7_number_107 : decode cX7_number 107 = .ok (.iadd, 1) := dk_96 (dk_at dksX7_number_4 14 rfl rfl)
theorem dX7_number_108 : decode cX7_number 108 = .ok (.putfield 19, 3) := dk_181 0 19 (dk_at dksX7_number_4 15 rfl rfl)
theorem dX7_number_111 : decode cX7_number 111 = .ok (.goto (-74), 3) := dk_167 255 182 (dk_at dksX7_number_4 18 rfl rfl)
theorem dX7_number_114 : decode cX7_number 114 = .ok (.aload_n 0, 1) := dk_42 (dk_at dksX7_number_4 21 rfl rfl)
theorem dX7_number_115 : decode cX7_number 115 = .ok (.iload 4, 2) := dk_21 4 (dk_at dksX7_number_4 22 rfl rfl)
theorem dX7_number_117 : decode cX7_number 117 = .ok (.i2l, 1) := dk_133 (dk_at dksX7_number_5 0 rfl rfl)
theorem dX7_number_118 : decode cX7_number 118 = .ok (.iload_n 1, 1) := dk_27 (dk_at dksX7_number_5 1 rfl rfl)
theorem dX7_number_119 : decode cX7_number 119 = .ok (.i2l, 1) := dk_133 (dk_at dksX7_number_5 2 rfl rfl)
theorem dX7_number_120 : decode cX7_number 120 = .ok (.iload_n 2, 1) := dk_28 (dk_at dksX7_number_5 3 rfl rfl)
theorem dX7_number_121 : decode cX7_number 121 = .ok (.i2l, 1) := dk_133 (dk_at dksX7_number_5 4 rfl rfl)
theorem dX7_number_122 : decode cX7_number 122 = .ok (.invokestatic 45, 3) := dk_184 0 45 (dk_at dksX7_number_5 5 rfl rfl)
theorem dX7_number_125 : decode cX7_number 125 = .ok (.bipush (-3), 2) := dk_16 253 (dk_at dksX7_number_5 8 rfl rfl)
theorem dX7_number_127 : decode cX7_number 127 = .ok (.aload_n 0, 1) := dk_42 (dk_at dksX7_number_5 10 rfl rfl)
theorem dX7_number_128 : decode cX7_number 128 = .ok (.getfield 38, 3) := dk_180 0 38 (dk_at dksX7_number_5 11 rfl rfl)
theorem dX7_number_131 : decode cX7_number 131 = .ok (.invokevirtual 73, 3) := dk_182 0 73 (dk_at dksX7_number_5 14 rfl rfl)
theorem dX7_number_134 : decode cX7_number 134 = .ok (.iload 4, 2) := dk_21 4 (dk_at dksX7_number_5 17 rfl rfl)
theorem dX7_number_136 : decode cX7_number 136 = .ok (.ireturn, 1) := dk_172 (dk_at dksX7_number_5 19 rfl rfl)
abbrev cX7_semicolon : ByteArray := prog_11_method_7_code
def yX7_semicolon : MethodName := ⟨RX7, "semicolon", "()V"⟩
def dkwX7_semicolon_1 : List UInt8 := [182, 0, 73, 42, 89, 180, 0, 19, 4, 96, 181, 0, 19, 177]
abbrev dktX7_semicolon_1 : List UInt8 := dkwX7_semicolon_1 ++ []
def dkwX7_semicolon_0 : List UInt8 := [42, 182, 0, 34, 16, 59, 160, 0, 7, 4, 167, 0, 4, 3, 60, 42, 27, 16, 254, 42, 180, 0, 19]
abbrev dktX7_semicolon_0 : List UInt8 := dkwX7_semicolon_0 ++ dktX7_semicolon_1
theorem dksX7_semicolon_0 : cX7_semicolon.data.toList.drop 0 = dktX7_semicolon_0 := by decide +kernel
theorem dksX7_semicolon_1 : cX7_semicolon.data.toList.drop 23 = dktX7_semicolon_1 := dk_seg dksX7_semicolon_0 23 rfl rfl
theorem dX7_semicolon_0 : decode cX7_semicolon 0 = .ok (.aload_n 0, 1) := dk_42 (dk_at dksX7_semicolon_0 0 rfl rfl)
theorem dX7_semicolon_1 : decode cX7_semicolon 1 = .ok (.invokevirtual 34, 3) := dk_182 0 34 (dk_at dksX7_semicolon_0 1 rfl rfl)
theorem dX7_semicolon_4 : decode cX7_semicolon 4 = .ok (.bipush 59, 2) := dk_16 59 (dk_at dksX7_semicolon_0 4 rfl rfl)
theorem dX7_semicolon_6 : decode cX7_semicolon 6 = .ok (.if_icmp .ne 7, 3) := dk_160 0 7 (dk_at dksX7_semicolon_0 6 rfl rfl)
theorem dX7_semicolon_9 : decode cX7_semicolon 9 = .ok (.iconst 1, 1) := dk_4 (dk_at dksX7_semicolon_0 9 rfl rfl)
theorem dX7_semicolon_10 : decode cX7_semicolon 10 = .ok (.goto 4, 3) := dk_167 0 4 (dk_at dksX7_semicolon_0 10 rfl rfl)
theorem dX7_semicolon_13 : decode cX7_semicolon 13 = .ok (.iconst 0, 1) := dk_3 (dk_at dksX7_semicolon_0 13 rfl rfl)
theorem dX7_semicolon_14 : decode cX7_semicolon 14 = .ok (.istore_n 1, 1) := dk_60 (dk_at dksX7_semicolon_0 14 rfl rfl)
theorem dX7_semicolon_15 : decode cX7_semicolon 15 = .ok (.aload_n 0, 1) := dk_42 (dk_at dksX7_semicolon_0 15 rfl rfl)
theorem dX7_semicolon_16 : decode cX7_semicolon 16 = .ok (.iload_n 1, 1) := dk_27 (dk_at dksX7_semicolon_0 16 rfl rfl)
theorem dX7_semicolon_17 : decode cX7_semicolon 17 = .ok (.bipush (-2), 2) := dk_16 254 (dk_at dksX7_semicolon_0 17 rfl rfl)
theorem dX7_semicolon_19 : decode cX7_semicolon 19 = .ok (.aload_n 0, 1) := dk_42 (dk_at dksX7_semicolon_0 19 rfl rfl)
theorem dX7_semicolon_20 : decode cX7_semicolon 20 = .ok (.getfield 19, 3) := dk_180 0 19 (dk_at dksX7_semicolon_0 20 rfl rfl)
theorem dX7_semicolon_23 : decode cX7_semicolon 23 = .ok (.invokevirtual 73, 3) := dk_182 0 73 (dk_at dksX7_semicolon_1 0 rfl rfl)
theorem dX7_semicolon_26 : decode cX7_semicolon 26 = .ok (.aload_n 0, 1) := dk_42 (dk_at dksX7_semicolon_1 3 rfl rfl)
theorem dX7_semicolon_27 : decode cX7_semicolon 27 = .ok (.dup, 1) := dk_89 (dk_at dksX7_semicolon_1 4 rfl rfl)
theorem dX7_semicolon_28 : decode cX7_semicolon 28 = .ok (.getfield 19, 3) := dk_180 0 19 (dk_at dksX7_semicolon_1 5 rfl rfl)
theorem dX7_semicolon_31 : decode cX7_semicolon 31 = .ok (.iconst 1, 1) := dk_4 (dk_at dksX7_semicolon_1 8 rfl rfl)
theorem dX7_semicolon_32 : decode cX7_semicolon 32 = .ok (.iadd, 1) := dk_96 (dk_at dksX7_semicolon_1 9 rfl rfl)
theorem dX7_semicolon_33 : decode cX7_semicolon 33 = .ok (.putfield 19, 3) := dk_181 0 19 (dk_at dksX7_semicolon_1 10 rfl rfl)
theorem dX7_semicolon_36 : decode cX7_semicolon 36 = .ok (.return_, 1) := dk_177 (dk_at dksX7_semicolon_1 13 rfl rfl)
abbrev cX7_vertex : ByteArray := prog_11_method_9_code
def yX7_vertex : MethodName := ⟨RX7, "vertex", "(I)V"⟩
def dkwX7_vertex_3 : List UInt8 := [182, 0, 119, 177]
abbrev dktX7_vertex_3 : List UInt8 := dkwX7_vertex_3 ++ []
def dkwX7_vertex_2 : List UInt8 := [167, 0, 8, 42, 6, 182, 0, 115, 79, 42, 180, 0, 88, 89, 180, 0, 109, 4, 96, 181, 0, 109, 42]
abbrev dktX7_vertex_2 : List UInt8 := dkwX7_vertex_2 ++ dktX7_vertex_3
def dkwX7_vertex_1 : List UInt8 := [180, 0, 88, 180, 0, 109, 42, 182, 0, 34, 16, 59, 160, 0, 13, 42, 180, 0, 88, 182, 0, 112]
abbrev dktX7_vertex_1 : List UInt8 := dkwX7_vertex_1 ++ dktX7_vertex_2
def dkwX7_vertex_0 : List UInt8 := [42, 42, 180, 0, 88, 182, 0, 101, 16, 250, 27, 182, 0, 73, 42, 180, 0, 88, 180, 0, 105, 42]
abbrev dktX7_vertex_0 : List UInt8 := dkwX7_vertex_0 ++ dktX7_vertex_1
theorem dksX7_vertex_0 : cX7_vertex.data.toList.drop 0 = dktX7_vertex_0 := by decide +kernel
theorem dksX7_vertex_1 : cX7_vertex.data.toList.drop 22 = dktX7_vertex_1 := dk_seg dksX7_vertex_0 22 rfl rfl
theorem dksX7_vertex_2 : cX7_vertex.data.toList.drop 44 = dktX7_vertex_2 := dk_seg dksX7_vertex_1 22 rfl rfl
theorem dksX7_vertex_3 : cX7_vertex.data.toList.drop 67 = dktX7_vertex_3 := dk_seg dksX7_vertex_2 23 rfl rfl
theorem dX7_vertex_0 : decode cX7_vertex 0 = .ok (.aload_n 0, 1) := dk_42 (dk_at dksX7_vertex_0 0 rfl rfl)
theorem dX7_vertex_1 : decode cX7_vertex 1 = .ok (.aload_n 0, 1) := dk_42 (dk_at dksX7_vertex_0 1 rfl rfl)
theorem dX7_vertex_2 : decode cX7_vertex 2 = .ok (.getfield 88, 3) := dk_180 0 88 (dk_at dksX7_vertex_0 2 rfl rfl)
theorem dX7_vertex_5 : decode cX7_vertex 5 = .ok (.invokevirtual 101, 3) := dk_182 0 101 (dk_at dksX7_vertex_0 5 rfl rfl)
theorem dX7_vertex_8 : decode cX7_vertex 8 = .ok (.bipush (-6), 2) := dk_16 250 (dk_at dksX7_vertex_0 8 rfl rfl)
theorem dX7_vertex_10 : decode cX7_vertex 10 = .ok (.iload_n 1, 1) := dk_27 (dk_at dksX7_vertex_0 10 rfl rfl)
theorem dX7_vertex_11 : decode cX7_vertex 11 = .ok (.invokevirtual 73, 3) := dk_182 0 73 (dk_at dksX7_vertex_0 11 rfl rfl)
theorem dX7_vertex_14 : decode cX7_vertex 14 = .ok (.aload_n 0, 1) := dk_42 (dk_at dksX7_vertex_0 14 rfl rfl)
theorem dX7_vertex_15 : decode cX7_vertex 15 = .ok (.getfield 88, 3) := dk_180 0 88 (dk_at dksX7_vertex_0 15 rfl rfl)
theorem dX7_vertex_18 : decode cX7_vertex 18 = .ok (.getfield 105, 3) := dk_180 0 105 (dk_at dksX7_vertex_0 18 rfl rfl)
theorem dX7_vertex_21 : decode cX7_vertex 21 = .ok (.aload_n 0, 1) := dk_42 (dk_at dksX7_vertex_0 21 rfl rfl)
theorem dX7_vertex_22 : decode cX7_vertex 22 = .ok (.getfield 88, 3) := dk_180 0 88 (dk_at dksX7_vertex_1 0 rfl rfl)
theorem dX7_vertex_25 : decode cX7_vertex 25 = .ok (.getfield 109, 3) := dk_180 0 109 (dk_at dksX7_vertex_1 3 rfl rfl)
theorem dX7_vertex_28 : decode cX7_vertex 28 = .ok (.aload_n 0, 1) := dk_42 (dk_at dksX7_vertex_1 6 rfl rfl)
theorem dX7_vertex_29 : decode cX7_vertex 29 = .ok (.invokevirtual 34, 3) := dk_182 0 34 (dk_at dksX7_vertex_1 7 rfl rfl)
theorem dX7_vertex_32 : decode cX7_vertex 32 = .ok (.bipush 59, 2) := dk_16 59 (dk_at dksX7_vertex_1 10 rfl rfl)
theorem dX7_vertex_34 : decode cX7_vertex 34 = .ok (.if_icmp .ne 13, 3) := dk_160 0 13 (dk_at dksX7_vertex_1 12 rfl rfl)
theorem dX7_vertex_37 : decode cX7_vertex 37 = .ok (.aload_n 0, 1) := dk_42 (dk_at dksX7_vertex_1 15 rfl rfl)
theorem dX7_vertex_38 : decode cX7_vertex 38 = .ok (.getfield 88, 3) := dk_180 0 88 (dk_at dksX7_vertex_1 16 rfl rfl)
theorem dX7_vertex_41 : decode cX7_vertex 41 = .ok (.invokevirtual 112, 3) := dk_182 0 112 (dk_at dksX7_vertex_1 19 rfl rfl)
theorem dX7_vertex_44 : decode cX7_vertex 44 = .ok (.goto 8, 3) := dk_167 0 8 (dk_at dksX7_vertex_2 0 rfl rfl)
theorem dX7_vertex_47 : decode cX7_vertex 47 = .ok (.aload_n 0, 1) := dk_42 (dk_at dksX7_vertex_2 3 rfl rfl)
theorem dX7_vertex_48 : decode cX7_vertex 48 = .ok (.iconst 3, 1) := dk_6 (dk_at dksX7_vertex_2 4 rfl rfl)
theorem dX7_vertex_49 : decode cX7_vertex 49 = .ok (.invokevirtual 115, 3) := dk_182 0 115 (dk_at dksX7_vertex_2 5 rfl rfl)
theorem dX7_vertex_52 : decode cX7_vertex 52 = .ok (.iastore, 1) := dk_79 (dk_at dksX7_vertex_2 8 rfl rfl)
theorem dX7_vertex_53 : decode cX7_vertex 53 = .ok (.aload_n 0, 1) := dk_42 (dk_at dksX7_vertex_2 9 rfl rfl)
theorem dX7_vertex_54 : decode cX7_vertex 54 = .ok (.getfield 88, 3) := dk_180 0 88 (dk_at dksX7_vertex_2 10 rfl rfl)
theorem dX7_vertex_57 : decode cX7_vertex 57 = .ok (.dup, 1) := dk_89 (dk_at dksX7_vertex_2 13 rfl rfl)
theorem dX7_vertex_58 : decode cX7_vertex 58 = .ok (.getfield 109, 3) := dk_180 0 109 (dk_at dksX7_vertex_2 14 rfl rfl)
theorem dX7_vertex_61 : decode cX7_vertex 61 = .ok (.iconst 1, 1) := dk_4 (dk_at dksX7_vertex_2 17 rfl rfl)
theorem dX7_vertex_62 : decode cX7_vertex 62 = .ok (.iadd, 1) := dk_96 (dk_at dksX7_vertex_2 18 rfl rfl)
theorem dX7_vertex_63 : decode cX7_vertex 63 = .ok (.putfield 109, 3) := dk_181 0 109 (dk_at dksX7_vertex_2 19 rfl rfl)
theorem dX7_vertex_66 : decode cX7_vertex 66 = .ok (.aload_n 0, 1) := dk_42 (dk_at dksX7_vertex_2 22 rfl rfl)
theorem dX7_vertex_67 : decode cX7_vertex 67 = .ok (.invokevirtual 119, 3) := dk_182 0 119 (dk_at dksX7_vertex_3 0 rfl rfl)
theorem dX7_vertex_70 : decode cX7_vertex 70 = .ok (.return_, 1) := dk_177 (dk_at dksX7_vertex_3 3 rfl rfl)
abbrev cX7_letters : ByteArray := prog_11_method_8_code
def yX7_letters : MethodName := ⟨RX7, "letters", "(I)I"⟩
def dkwX7_letters_5 : List UInt8 := [180, 0, 38, 182, 0, 73, 42, 89, 180, 0, 19, 44, 182, 0, 66, 96, 181, 0, 19, 29, 172]
abbrev dktX7_letters_5 : List UInt8 := dkwX7_letters_5 ++ []
def dkwX7_letters_4 : List UInt8 := [132, 4, 1, 167, 255, 190, 42, 44, 182, 0, 66, 27, 163, 0, 7, 4, 167, 0, 4, 3, 16, 253, 42]
abbrev dktX7_letters_4 : List UInt8 := dkwX7_letters_4 ++ dktX7_letters_5
def dkwX7_letters_3 : List UInt8 := [154, 0, 7, 4, 167, 0, 4, 3, 16, 253, 42, 180, 0, 38, 182, 0, 73, 29, 4, 21, 5, 120, 128, 62]
abbrev dktX7_letters_3 : List UInt8 := dkwX7_letters_3 ++ dktX7_letters_4
def dkwX7_letters_2 : List UInt8 := [16, 97, 100, 54, 5, 42, 21, 5, 42, 180, 0, 88, 180, 0, 92, 162, 0, 16, 29, 21, 5, 184, 0, 97]
abbrev dktX7_letters_2 : List UInt8 := dkwX7_letters_2 ++ dktX7_letters_3
def dkwX7_letters_1 : List UInt8 := [182, 0, 73, 3, 62, 3, 54, 4, 21, 4, 44, 182, 0, 66, 162, 0, 63, 44, 21, 4, 182, 0, 84]
abbrev dktX7_letters_1 : List UInt8 := dkwX7_letters_1 ++ dktX7_letters_2
def dkwX7_letters_0 : List UInt8 := [42, 182, 0, 57, 77, 42, 44, 182, 0, 66, 158, 0, 7, 4, 167, 0, 4, 3, 16, 254, 42, 180, 0, 38]
abbrev dktX7_letters_0 : List UInt8 := dkwX7_letters_0 ++ dktX7_letters_1
theorem dksX7_letters_0 : cX7_letters.data.toList.drop 0 = dktX7_letters_0 := by decide +kernel
theorem dksX7_letters_1 : cX7_letters.data.toList.drop 24 = dktX7_letters_1 := dk_seg dksX7_letters_0 24 rfl rfl
theorem dksX7_letters_2 : cX7_letters.data.toList.drop 47 = dktX7_letters_2 := dk_seg dksX7_letters_1 23 rfl rfl
theorem dksX7_letters_3 : cX7_letters.data.toList.drop 71 = dktX7_letters_3 := dk_seg dksX7_letters_2 24 rfl rfl
theorem dksX7_letters_4 : cX7_letters.data.toList.drop 95 = dktX7_letters_4 := dk_seg dksX7_letters_3 24 rfl rfl
theorem dksX7_letters_5 : cX7_letters.data.toList.drop 118 = dktX7_letters_5 := dk_seg dksX7_letters_4 23 rfl rfl
theorem dX7_letters_0 : decode cX7_letters 0 = .ok (.aload_n 0, 1) := dk_42 (dk_at dksX7_letters_0 0 rfl rfl)
theorem dX7_letters_1 : decode cX7_letters 1 = .ok (.invokevirtual 57, 3) := dk_182 0 57 (dk_at dksX7_letters_0 1 rfl rfl)
theorem dX7_letters_4 : decode cX7_letters 4 = .ok (.astore_n 2, 1) := dk_77 (dk_at dksX7_letters_0 4 rfl rfl)
theorem dX7_letters_5 : decode cX7_letters 5 = .ok (.aload_n 0, 1) := dk_42 (dk_at dksX7_letters_0 5 rfl rfl)
theorem dX7_letters_6 : decode cX7_letters 6 = .ok (.aload_n 2, 1) := dk_44 (dk_at dksX7_letters_0 6 rfl rfl)
theorem dX7_letters_7 : decode cX7_letters 7 = .ok (.invokevirtual 66, 3) := dk_182 0 66 (dk_at dksX7_letters_0 7 rfl rfl)
theorem dX7_letters_10 : decode cX7_letters 10 = .ok (.ifCond .le 7, 3) := dk_158 0 7 (dk_at dksX7_letters_0 10 rfl rfl)
theorem dX7_letters_13 : decode cX7_letters 13 = .ok (.iconst 1, 1) := dk_4 (dk_at dksX7_letters_0 13 rfl rfl)
theorem dX7_letters_14 : decode cX7_letters 14 = .ok (.goto 4, 3) := dk_167 0 4 (dk_at dksX7_letters_0 14 rfl rfl)
theorem dX7_letters_17 : decode cX7_letters 17 = .ok (.iconst 0, 1) := dk_3 (dk_at dksX7_letters_0 17 rfl rfl)
theorem dX7_letters_18 : decode cX7_letters 18 = .ok (.bipush (-2), 2) := dk_16 254 (dk_at dksX7_letters_0 18 rfl rfl)
theorem dX7_letters_20 : decode cX7_letters 20 = .ok (.aload_n 0, 1) := dk_42 (dk_at dksX7_letters_0 20 rfl rfl)
theorem dX7_letters_21 : decode cX7_letters 21 = .ok (.getfield 38, 3) := dk_180 0 38 (dk_at dksX7_letters_0 21 rfl rfl)
theorem dX7_letters_24 : decode cX7_letters 24 = .ok (.invokevirtual 73, 3) := dk_182 0 73 (dk_at dksX7_letters_1 0 rfl rfl)
theorem dX7_letters_27 : decode cX7_letters 27 = .ok (.iconst 0, 1) := dk_3 (dk_at dksX7_letters_1 3 rfl rfl)
theorem dX7_letters_28 : decode cX7_letters 28 = .ok (.istore_n 3, 1) := dk_62 (dk_at dksX7_letters_1 4 rfl rfl)
theorem dX7_letters_29 : decode cX7_letters 29 = .ok (.iconst 0, 1) := dk_3 (dk_at dksX7_letters_1 5 rfl rfl)
theorem dX7_letters_30 : decode cX7_letters 30 = .ok (.istore 4, 2) := dk_54 4 (dk_at dksX7_letters_1 6 rfl rfl)
theorem dX7_letters_32 : decode cX7_letters 32 = .ok (.iload 4, 2) := dk_21 4 (dk_at dksX7_letters_1 8 rfl rfl)
theorem dX7_letters_34 : decode cX7_letters 34 = .ok (.aload_n 2, 1) := dk_44 (dk_at dksX7_letters_1 10 rfl rfl)
theorem dX7_letters_35 : decode cX7_letters 35 = .ok (.invokevirtual 66, 3) := dk_182 0 66 (dk_at dksX7_letters_1 11 rfl rfl)
theorem dX7_letters_38 : decode cX7_letters 38 = .ok (.if_icmp .ge 63, 3) := dk_162 0 63 (dk_at dksX7_letters_1 14 rfl rfl)
theorem dX7_letters_41 : decode cX7_letters 41 = .ok (.aload_n 2, 1) := dk_44 (dk_at dksX7_letters_1 17 rfl rfl)
theorem dX7_letters_42 : decode cX7_letters 42 = .ok (.iload 4, 2) := dk_21 4 (dk_at dksX7_letters_1 18 rfl rfl)
theorem dX7_letters_44 : decode cX7_letters 44 = .ok (.invokevirtual 84, 3) := dk_182 0 84 (dk_at dksX7_letters_1 20 rfl rfl)
theorem dX7_letters_47 : decode cX7_letters 47 = .ok (.bipush 97, 2) := dk_16 97 (dk_at dksX7_letters_2 0 rfl rfl)
theorem dX7_letters_49 : decode cX7_letters 49 = .ok (.isub, 1) := dk_100 (dk_at dksX7_letters_2 2 rfl rfl)
theorem dX7_letters_50 : decode cX7_letters 50 = .ok (.istore 5, 2) := dk_54 5 (dk_at dksX7_letters_2 3 rfl rfl)
theorem dX7_letters_52 : decode cX7_letters 52 = .ok (.aload_n 0, 1) := dk_42 (dk_at dksX7_letters_2 5 rfl rfl)
theorem dX7_letters_53 : decode cX7_letters 53 = .ok (.iload 5, 2) := dk_21 5 (dk_at dksX7_letters_2 6 rfl rfl)
theorem dX7_letters_55 : decode cX7_letters 55 = .ok (.aload_n 0, 1) := dk_42 (dk_at dksX7_letters_2 8 rfl rfl)
theorem dX7_letters_56 : decode cX7_letters 56 = .ok (.getfield 88, 3) := dk_180 0 88 (dk_at dksX7_letters_2 9 rfl rfl)
theorem dX7_letters_59 : decode cX7_letters 59 = .ok (.getfield 92, 3) := dk_180 0 92 (dk_at dksX7_letters_2 12 rfl rfl)
theorem dX7_letters_62 : decode cX7_letters 62 = .ok (.if_icmp .ge 16, 3) := dk_162 0 16 (dk_at dksX7_letters_2 15 rfl rfl)
theorem dX7_letters_65 : decode cX7_letters 65 = .ok (.iload_n 3, 1) := dk_29 (dk_at dksX7_letters_2 18 rfl rfl)
theorem dX7_letters_66 : decode cX7_letters 66 = .ok (.iload 5, 2) := dk_21 5 (dk_at dksX7_letters_2 19 rfl rfl)
theorem dX7_letters_68 : decode cX7_letters 68 = .ok (.invokestatic 97, 3) := dk_184 0 97 (dk_at dksX7_letters_2 21 rfl rfl)
theorem dX7_letters_71 : decode cX7_letters 71 = .ok (.ifCond .ne 7, 3) := dk_154 0 7 (dk_at dksX7_letters_3 0 rfl rfl)
theorem dX7_letters_74 : decode cX7_letters 74 = .ok (.iconst 1, 1) := dk_4 (dk_at dksX7_letters_3 3 rfl rfl)
theorem dX7_letters_75 : decode cX7_letters 75 = .ok (.goto 4, 3) := dk_167 0 4 (dk_at dksX7_letters_3 4 rfl rfl)
theorem dX7_letters_78 : decode cX7_letters 78 = .ok (.iconst 0, 1) := dk_3 (dk_at dksX7_letters_3 7 rfl rfl)
theorem dX7_letters_79 : decode cX7_letters 79 = .ok (.bipush (-3), 2) := dk_16 253 (dk_at dksX7_letters_3 8 rfl rfl)
theorem dX7_letters_81 : decode cX7_letters 81 = .ok (.aload_n 0, 1) := dk_42 (dk_at dksX7_letters_3 10 rfl rfl)
theorem dX7_letters_82 : decode cX7_letters 82 = .ok (.getfield 38, 3) := dk_180 0 38 (dk_at dksX7_letters_3 11 rfl rfl)
theorem dX7_letters_85 : decode cX7_letters 85 = .ok (.invokevirtual 73, 3) := dk_182 0 73 (dk_at dksX7_letters_3 14 rfl rfl)
theorem dX7_letters_88 : decode cX7_letters 88 = .ok (.iload_n 3, 1) := dk_29 (dk_at dksX7_letters_3 17 rfl rfl)
theorem dX7_letters_89 : decode cX7_letters 89 = .ok (.iconst 1, 1) := dk_4 (dk_at dksX7_letters_3 18 rfl rfl)
theorem dX7_letters_90 : decode cX7_letters 90 = .ok (.iload 5, 2) := dk_21 5 (dk_at dksX7_letters_3 19 rfl rfl)
theorem dX7_letters_92 : decode cX7_letters 92 = .ok (.ishl, 1) := dk_120 (dk_at dksX7_letters_3 21 rfl rfl)
theorem dX7_letters_93 : decode cX7_letters 93 = .ok (.ior, 1) := dk_128 (dk_at dksX7_letters_3 22 rfl rfl)
theorem dX7_letters_94 : decode cX7_letters 94 = .ok (.istore_n 3, 1) := dk_62 (dk_at dksX7_letters_3 23 rfl rfl)
theorem dX7_letters_95 : decode cX7_letters 95 = .ok (.iinc 4 1, 3) := dk_132 4 1 (dk_at dksX7_letters_4 0 rfl rfl)
theorem dX7_letters_98 : decode cX7_letters 98 = .ok (.goto (-66), 3) := dk_167 255 190 (dk_at dksX7_letters_4 3 rfl rfl)
theorem dX7_letters_101 : decode cX7_letters 101 = .ok (.aload_n 0, 1) := dk_42 (dk_at dksX7_letters_4 6 rfl rfl)
theorem dX7_letters_102 : decode cX7_letters 102 = .ok (.aload_n 2, 1) := dk_44 (dk_at dksX7_letters_4 7 rfl rfl)
theorem dX7_letters_103 : decode cX7_letters 103 = .ok (.invokevirtual 66, 3) := dk_182 0 66 (dk_at dksX7_letters_4 8 rfl rfl)
theorem dX7_letters_106 : decode cX7_letters 106 = .ok (.iload_n 1, 1) := dk_27 (dk_at dksX7_letters_4 11 rfl rfl)
theorem dX7_letters_107 : decode cX7_letters 107 = .ok (.if_icmp .gt 7, 3) := dk_163 0 7 (dk_at dksX7_letters_4 12 rfl rfl)
theorem dX7_letters_110 : decode cX7_letters 110 = .ok (.iconst 1, 1) := dk_4 (dk_at dksX7_letters_4 15 rfl rfl)
theorem dX7_letters_111 : decode cX7_letters 111 = .ok (.goto 4, 3) := dk_167 0 4 (dk_at dksX7_letters_4 16 rfl rfl)
theorem dX7_letters_114 : decode cX7_letters 114 = .ok (.iconst 0, 1) := dk_3 (dk_at dksX7_letters_4 19 rfl rfl)
theorem dX7_letters_115 : decode cX7_letters 115 = .ok (.bipush (-3), 2) := dk_16 253 (dk_at dksX7_letters_4 20 rfl rfl)
theorem dX7_letters_117 : decode cX7_letters 117 = .ok (.aload_n 0, 1) := dk_42 (dk_at dksX7_letters_4 22 rfl rfl)
theorem dX7_letters_118 : decode cX7_letters 118 = .ok (.getfield 38, 3) := dk_180 0 38 (dk_at dksX7_letters_5 0 rfl rfl)
theorem dX7_letters_121 : decode cX7_letters 121 = .ok (.invokevirtual 73, 3) := dk_182 0 73 (dk_at dksX7_letters_5 3 rfl rfl)
theorem dX7_letters_124 : decode cX7_letters 124 = .ok (.aload_n 0, 1) := dk_42 (dk_at dksX7_letters_5 6 rfl rfl)
theorem dX7_letters_125 : decode cX7_letters 125 = .ok (.dup, 1) := dk_89 (dk_at dksX7_letters_5 7 rfl rfl)
theorem dX7_letters_126 : decode cX7_letters 126 = .ok (.getfield 19, 3) := dk_180 0 19 (dk_at dksX7_letters_5 8 rfl rfl)
theorem dX7_letters_129 : decode cX7_letters 129 = .ok (.aload_n 2, 1) := dk_44 (dk_at dksX7_letters_5 11 rfl rfl)
theorem dX7_letters_130 : decode cX7_letters 130 = .ok (.invokevirtual 66, 3) := dk_182 0 66 (dk_at dksX7_letters_5 12 rfl rfl)
theorem dX7_letters_133 : decode cX7_letters 133 = .ok (.iadd, 1) := dk_96 (dk_at dksX7_letters_5 15 rfl rfl)
theorem dX7_letters_134 : decode cX7_letters 134 = .ok (.putfield 19, 3) := dk_181 0 19 (dk_at dksX7_letters_5 16 rfl rfl)
theorem dX7_letters_137 : decode cX7_letters 137 = .ok (.iload_n 3, 1) := dk_29 (dk_at dksX7_letters_5 19 rfl rfl)
theorem dX7_letters_138 : decode cX7_letters 138 = .ok (.ireturn, 1) := dk_172 (dk_at dksX7_letters_5 20 rfl rfl)
abbrev cX7_edge : ByteArray := prog_11_method_10_code
def yX7_edge : MethodName := ⟨RX7, "edge", "()V"⟩
def dkwX7_edge_3 : List UInt8 := [3, 16, 252, 42, 180, 0, 38, 182, 0, 73, 42, 180, 0, 88, 27, 28, 182, 0, 128, 42, 182, 0, 119, 177]
abbrev dktX7_edge_3 : List UInt8 := dkwX7_edge_3 ++ []
def dkwX7_edge_2 : List UInt8 := [182, 0, 73, 42, 42, 180, 0, 88, 180, 0, 125, 27, 46, 28, 184, 0, 97, 154, 0, 7, 4, 167, 0, 4]
abbrev dktX7_edge_2 : List UInt8 := dkwX7_edge_2 ++ dktX7_edge_3
def dkwX7_edge_1 : List UInt8 := [4, 100, 182, 0, 122, 61, 42, 27, 28, 159, 0, 7, 4, 167, 0, 4, 3, 16, 253, 42, 180, 0, 38]
abbrev dktX7_edge_1 : List UInt8 := dkwX7_edge_1 ++ dktX7_edge_2
def dkwX7_edge_0 : List UInt8 := [42, 3, 42, 180, 0, 88, 180, 0, 109, 4, 100, 182, 0, 122, 60, 42, 3, 42, 180, 0, 88, 180, 0, 109]
abbrev dktX7_edge_0 : List UInt8 := dkwX7_edge_0 ++ dktX7_edge_1
theorem dksX7_edge_0 : cX7_edge.data.toList.drop 0 = dktX7_edge_0 := by decide +kernel
theorem dksX7_edge_1 : cX7_edge.data.toList.drop 24 = dktX7_edge_1 := dk_seg dksX7_edge_0 24 rfl rfl
theorem dksX7_edge_2 : cX7_edge.data.toList.drop 47 = dktX7_edge_2 := dk_seg dksX7_edge_1 23 rfl rfl
theorem dksX7_edge_3 : cX7_edge.data.toList.drop 71 = dktX7_edge_3 := dk_seg dksX7_edge_2 24 rfl rfl
theorem dX7_edge_0 : decode cX7_edge 0 = .ok (.aload_n 0, 1) := dk_42 (dk_at dksX7_edge_0 0 rfl rfl)
theorem dX7_edge_1 : decode cX7_edge 1 = .ok (.iconst 0, 1) := dk_3 (dk_at dksX7_edge_0 1 rfl rfl)
theorem dX7_edge_2 : decode cX7_edge 2 = .ok (.aload_n 0, 1) := dk_42 (dk_at dksX7_edge_0 2 rfl rfl)
theorem dX7_edge_3 : decode cX7_edge 3 = .ok (.getfield 88, 3) := dk_180 0 88 (dk_at dksX7_edge_0 3 rfl rfl)
theorem dX7_edge_6 : decode cX7_edge 6 = .ok (.getfield 109, 3) := dk_180 0 109 (dk_at dksX7_edge_0 6 rfl rfl)
theorem dX7_edge_9 : decode cX7_edge 9 = .ok (.iconst 1, 1) := dk_4 (dk_at dksX7_edge_0 9 rfl rfl)
theorem dX7_edge_10 : decode cX7_edge 10 = .ok (.isub, 1) := dk_100 (dk_at dksX7_edge_0 10 rfl rfl)
theorem dX7_edge_11 : decode cX7_edge 11 = .ok (.invokevirtual 122, 3) := dk_182 0 122 (dk_at dksX7_edge_0 11 rfl rfl)
theorem dX7_edge_14 : decode cX7_edge 14 = .ok (.istore_n 1, 1) := dk_60 (dk_at dksX7_edge_0 14 rfl rfl)
theorem dX7_edge_15 : decode cX7_edge 15 = .ok (.aload_n 0, 1) := dk_42 (dk_at dksX7_edge_0 15 rfl rfl)
theorem dX7_edge_16 : decode cX7_edge 16 = .ok (.iconst 0, 1) := dk_3 (dk_at dksX7_edge_0 16 rfl rfl)
theorem dX7_edge_17 : decode cX7_edge 17 = .ok (.aload_n 0, 1) := dk_42 (dk_at dksX7_edge_0 17 rfl rfl)
theorem dX7_edge_18 : decode cX7_edge 18 = .ok (.getfield 88, 3) := dk_180 0 88 (dk_at dksX7_edge_0 18 rfl rfl)
theorem dX7_edge_21 : decode cX7_edge 21 = .ok (.getfield 109, 3) := dk_180 0 109 (dk_at dksX7_edge_0 21 rfl rfl)
theorem dX7_edge_24 : decode cX7_edge 24 = .ok (.iconst 1, 1) := dk_4 (dk_at dksX7_edge_1 0 rfl rfl)
theorem dX7_edge_25 : decode cX7_edge 25 = .ok (.isub, 1) := dk_100 (dk_at dksX7_edge_1 1 rfl rfl)
theorem dX7_edge_26 : decode cX7_edge 26 = .ok (.invokevirtual 122, 3) := dk_182 0 122 (dk_at dksX7_edge_1 2 rfl rfl)
theorem dX7_edge_29 : decode cX7_edge 29 = .ok (.istore_n 2, 1) := dk_61 (dk_at dksX7_edge_1 5 rfl rfl)
theorem dX7_edge_30 : decode cX7_edge 30 = .ok (.aload_n 0, 1) := dk_42 (dk_at dksX7_edge_1 6 rfl rfl)
theorem dX7_edge_31 : decode cX7_edge 31 = .ok (.iload_n 1, 1) := dk_27 (dk_at dksX7_edge_1 7 rfl rfl)
theorem dX7_edge_32 : decode cX7_edge 32 = .ok (.iload_n 2, 1) := dk_28 (dk_at dksX7_edge_1 8 rfl rfl)
theorem dX7_edge_33 : decode cX7_edge 33 = .ok (.if_icmp .eq 7, 3) := dk_159 0 7 (dk_at dksX7_edge_1 9 rfl rfl)
theorem dX7_edge_36 : decode cX7_edge 36 = .ok (.iconst 1, 1) := dk_4 (dk_at dksX7_edge_1 12 rfl rfl)
theorem dX7_edge_37 : decode cX7_edge 37 = .ok (.goto 4, 3) := dk_167 0 4 (dk_at dksX7_edge_1 13 rfl rfl)
theorem dX7_edge_40 : decode cX7_edge 40 = .ok (.iconst 0, 1) := dk_3 (dk_at dksX7_edge_1 16 rfl rfl)
theorem dX7_edge_41 : decode cX7_edge 41 = .ok (.bipush (-3), 2) := dk_16 253 (dk_at dksX7_edge_1 17 rfl rfl)
theorem dX7_edge_43 : decode cX7_edge 43 = .ok (.aload_n 0, 1) := dk_42 (dk_at dksX7_edge_1 19 rfl rfl)
theorem dX7_edge_44 : decode cX7_edge 44 = .ok (.getfield 38, 3) := dk_180 0 38 (dk_at dksX7_edge_1 20 rfl rfl)
theorem dX7_edge_47 : decode cX7_edge 47 = .ok (.invokevirtual 73, 3) := dk_182 0 73 (dk_at dksX7_edge_2 0 rfl rfl)
theorem dX7_edge_50 : decode cX7_edge 50 = .ok (.aload_n 0, 1) := dk_42 (dk_at dksX7_edge_2 3 rfl rfl)
theorem dX7_edge_51 : decode cX7_edge 51 = .ok (.aload_n 0, 1) := dk_42 (dk_at dksX7_edge_2 4 rfl rfl)
theorem dX7_edge_52 : decode cX7_edge 52 = .ok (.getfield 88, 3) := dk_180 0 88 (dk_at dksX7_edge_2 5 rfl rfl)
theorem dX7_edge_55 : decode cX7_edge 55 = .ok (.getfield 125, 3) := dk_180 0 125 (dk_at dksX7_edge_2 8 rfl rfl)
theorem dX7_edge_58 : decode cX7_edge 58 = .ok (.iload_n 1, 1) := dk_27 (dk_at dksX7_edge_2 11 rfl rfl)
theorem dX7_edge_59 : decode cX7_edge 59 = .ok (.iaload, 1) := dk_46 (dk_at dksX7_edge_2 12 rfl rfl)
theorem dX7_edge_60 : decode cX7_edge 60 = .ok (.iload_n 2, 1) := dk_28 (dk_at dksX7_edge_2 13 rfl rfl)
theorem dX7_edge_61 : decode cX7_edge 61 = .ok (.invokestatic 97, 3) := dk_184 0 97 (dk_at dksX7_edge_2 14 rfl rfl)
theorem dX7_edge_64 : decode cX7_edge 64 = .ok (.ifCond .ne 7, 3) := dk_154 0 7 (dk_at dksX7_edge_2 17 rfl rfl)
theorem dX7_edge_67 : decode cX7_edge 67 = .ok (.iconst 1, 1) := dk_4 (dk_at dksX7_edge_2 20 rfl rfl)
theorem dX7_edge_68 : decode cX7_edge 68 = .ok (.goto 4, 3) := dk_167 0 4 (dk_at dksX7_edge_2 21 rfl rfl)
theorem dX7_edge_71 : decode cX7_edge 71 = .ok (.iconst 0, 1) := dk_3 (dk_at dksX7_edge_3 0 rfl rfl)
theorem dX7_edge_72 : decode cX7_edge 72 = .ok (.bipush (-4), 2) := dk_16 252 (dk_at dksX7_edge_3 1 rfl rfl)
theorem dX7_edge_74 : decode cX7_edge 74 = .ok (.aload_n 0, 1) := dk_42 (dk_at dksX7_edge_3 3 rfl rfl)
theorem dX7_edge_75 : decode cX7_edge 75 = .ok (.getfield 38, 3) := dk_180 0 38 (dk_at dksX7_edge_3 4 rfl rfl)
theorem dX7_edge_78 : decode cX7_edge 78 = .ok (.invokevirtual 73, 3) := dk_182 0 73 (dk_at dksX7_edge_3 7 rfl rfl)
theorem dX7_edge_81 : decode cX7_edge 81 = .ok (.aload_n 0, 1) := dk_42 (dk_at dksX7_edge_3 10 rfl rfl)
theorem dX7_edge_82 : decode cX7_edge 82 = .ok (.getfield 88, 3) := dk_180 0 88 (dk_at dksX7_edge_3 11 rfl rfl)
theorem dX7_edge_85 : decode cX7_edge 85 = .ok (.iload_n 1, 1) := dk_27 (dk_at dksX7_edge_3 14 rfl rfl)
theorem dX7_edge_86 : decode cX7_edge 86 = .ok (.iload_n 2, 1) := dk_28 (dk_at dksX7_edge_3 15 rfl rfl)
theorem dX7_edge_87 : decode cX7_edge 87 = .ok (.invokevirtual 128, 3) := dk_182 0 128 (dk_at dksX7_edge_3 16 rfl rfl)
theorem dX7_edge_90 : decode cX7_edge 90 = .ok (.aload_n 0, 1) := dk_42 (dk_at dksX7_edge_3 19 rfl rfl)
theorem dX7_edge_91 : decode cX7_edge 91 = .ok (.invokevirtual 119, 3) := dk_182 0 119 (dk_at dksX7_edge_3 20 rfl rfl)
theorem dX7_edge_94 : decode cX7_edge 94 = .ok (.return_, 1) := dk_177 (dk_at dksX7_edge_3 23 rfl rfl)
abbrev cX7_lay : ByteArray := prog_11_method_11_code
def yX7_lay : MethodName := ⟨RX7, "lay", "(LColourDuel$Board;)V"⟩
def dkwX7_lay_2 : List UInt8 := [182, 0, 73, 43, 28, 29, 182, 0, 148, 42, 182, 0, 119, 177]
abbrev dktX7_lay_2 : List UInt8 := dkwX7_lay_2 ++ []
def dkwX7_lay_1 : List UInt8 := [42, 178, 0, 136, 43, 28, 29, 182, 0, 142, 154, 0, 7, 4, 167, 0, 4, 3, 16, 251, 42, 180, 0, 38]
abbrev dktX7_lay_1 : List UInt8 := dkwX7_lay_1 ++ dktX7_lay_2
def dkwX7_lay_0 : List UInt8 := [42, 3, 42, 180, 0, 88, 180, 0, 109, 4, 100, 182, 0, 122, 61, 42, 4, 182, 0, 115, 184, 0, 131, 62]
abbrev dktX7_lay_0 : List UInt8 := dkwX7_lay_0 ++ dktX7_lay_1
theorem dksX7_lay_0 : cX7_lay.data.toList.drop 0 = dktX7_lay_0 := by decide +kernel
theorem dksX7_lay_1 : cX7_lay.data.toList.drop 24 = dktX7_lay_1 := dk_seg dksX7_lay_0 24 rfl rfl
theorem dksX7_lay_2 : cX7_lay.data.toList.drop 48 = dktX7_lay_2 := dk_seg dksX7_lay_1 24 rfl rfl
theorem dX7_lay_0 : decode cX7_lay 0 = .ok (.aload_n 0, 1) := dk_42 (dk_at dksX7_lay_0 0 rfl rfl)
theorem dX7_lay_1 : decode cX7_lay 1 = .ok (.iconst 0, 1) := dk_3 (dk_at dksX7_lay_0 1 rfl rfl)
theorem dX7_lay_2 : decode cX7_lay 2 = .ok (.aload_n 0, 1) := dk_42 (dk_at dksX7_lay_0 2 rfl rfl)
theorem dX7_lay_3 : decode cX7_lay 3 = .ok (.getfield 88, 3) := dk_180 0 88 (dk_at dksX7_lay_0 3 rfl rfl)
theorem dX7_lay_6 : decode cX7_lay 6 = .ok (.getfield 109, 3) := dk_180 0 109 (dk_at dksX7_lay_0 6 rfl rfl)
theorem dX7_lay_9 : decode cX7_lay 9 = .ok (.iconst 1, 1) := dk_4 (dk_at dksX7_lay_0 9 rfl rfl)
theorem dX7_lay_10 : decode cX7_lay 10 = .ok (.isub, 1) := dk_100 (dk_at dksX7_lay_0 10 rfl rfl)
theorem dX7_lay_11 : decode cX7_lay 11 = .ok (.invokevirtual 122, 3) := dk_182 0 122 (dk_at dksX7_lay_0 11 rfl rfl)
theorem dX7_lay_14 : decode cX7_lay 14 = .ok (.istore_n 2, 1) := dk_61 (dk_at dksX7_lay_0 14 rfl rfl)
theorem dX7_lay_15 : decode cX7_lay 15 = .ok (.aload_n 0, 1) := dk_42 (dk_at dksX7_lay_0 15 rfl rfl)
theorem dX7_lay_16 : decode cX7_lay 16 = .ok (.iconst 1, 1) := dk_4 (dk_at dksX7_lay_0 16 rfl rfl)
theorem dX7_lay_17 : decode cX7_lay 17 = .ok (.invokevirtual 115, 3) := dk_182 0 115 (dk_at dksX7_lay_0 17 rfl rfl)
theorem dX7_lay_20 : decode cX7_lay 20 = .ok (.invokestatic 131, 3) := dk_184 0 131 (dk_at dksX7_lay_0 20 rfl rfl)
theorem dX7_lay_23 : decode cX7_lay 23 = .ok (.istore_n 3, 1) := dk_62 (dk_at dksX7_lay_0 23 rfl rfl)
theorem dX7_lay_24 : decode cX7_lay 24 = .ok (.aload_n 0, 1) := dk_42 (dk_at dksX7_lay_1 0 rfl rfl)
theorem dX7_lay_25 : decode cX7_lay 25 = .ok (.getstatic 136, 3) := dk_178 0 136 (dk_at dksX7_lay_1 1 rfl rfl)
theorem dX7_lay_28 : decode cX7_lay 28 = .ok (.aload_n 1, 1) := dk_43 (dk_at dksX7_lay_1 4 rfl rfl)
theorem dX7_lay_29 : decode cX7_lay 29 = .ok (.iload_n 2, 1) := dk_28 (dk_at dksX7_lay_1 5 rfl rfl)
theorem dX7_lay_30 : decode cX7_lay 30 = .ok (.iload_n 3, 1) := dk_29 (dk_at dksX7_lay_1 6 rfl rfl)
theorem dX7_lay_31 : decode cX7_lay 31 = .ok (.invokevirtual 142, 3) := dk_182 0 142 (dk_at dksX7_lay_1 7 rfl rfl)
theorem dX7_lay_34 : decode cX7_lay 34 = .ok (.ifCond .ne 7, 3) := dk_154 0 7 (dk_at dksX7_lay_1 10 rfl rfl)
theorem dX7_lay_37 : decode cX7_lay 37 = .ok (.iconst 1, 1) := dk_4 (dk_at dksX7_lay_1 13 rfl rfl)
theorem dX7_lay_38 : decode cX7_lay 38 = .ok (.goto 4, 3) := dk_167 0 4 (dk_at dksX7_lay_1 14 rfl rfl)
theorem dX7_lay_41 : decode cX7_lay 41 = .ok (.iconst 0, 1) := dk_3 (dk_at dksX7_lay_1 17 rfl rfl)
theorem dX7_lay_42 : decode cX7_lay 42 = .ok (.bipush (-5), 2) := dk_16 251 (dk_at dksX7_lay_1 18 rfl rfl)
theorem dX7_lay_44 : decode cX7_lay 44 = .ok (.aload_n 0, 1) := dk_42 (dk_at dksX7_lay_1 20 rfl rfl)
theorem dX7_lay_45 : decode cX7_lay 45 = .ok (.getfield 38, 3) := dk_180 0 38 (dk_at dksX7_lay_1 21 rfl rfl)
theorem dX7_lay_48 : decode cX7_lay 48 = .ok (.invokevirtual 73, 3) := dk_182 0 73 (dk_at dksX7_lay_2 0 rfl rfl)
theorem dX7_lay_51 : decode cX7_lay 51 = .ok (.aload_n 1, 1) := dk_43 (dk_at dksX7_lay_2 3 rfl rfl)
theorem dX7_lay_52 : decode cX7_lay 52 = .ok (.iload_n 2, 1) := dk_28 (dk_at dksX7_lay_2 4 rfl rfl)
theorem dX7_lay_53 : decode cX7_lay 53 = .ok (.iload_n 3, 1) := dk_29 (dk_at dksX7_lay_2 5 rfl rfl)
theorem dX7_lay_54 : decode cX7_lay 54 = .ok (.invokevirtual 148, 3) := dk_182 0 148 (dk_at dksX7_lay_2 6 rfl rfl)
theorem dX7_lay_57 : decode cX7_lay 57 = .ok (.aload_n 0, 1) := dk_42 (dk_at dksX7_lay_2 9 rfl rfl)
theorem dX7_lay_58 : decode cX7_lay 58 = .ok (.invokevirtual 119, 3) := dk_182 0 119 (dk_at dksX7_lay_2 10 rfl rfl)
theorem dX7_lay_61 : decode cX7_lay 61 = .ok (.return_, 1) := dk_177 (dk_at dksX7_lay_2 13 rfl rfl)
abbrev cX7_pass : ByteArray := prog_11_method_12_code
def yX7_pass : MethodName := ⟨RX7, "pass", "(LColourDuel$Board;I)V"⟩
def dkwX7_pass_1 : List UInt8 := [182, 0, 119, 177]
abbrev dktX7_pass_1 : List UInt8 := dkwX7_pass_1 ++ []
def dkwX7_pass_0 : List UInt8 := [42, 43, 180, 0, 151, 158, 0, 7, 4, 167, 0, 4, 3, 16, 251, 28, 182, 0, 73, 43, 182, 0, 154, 42]
abbrev dktX7_pass_0 : List UInt8 := dkwX7_pass_0 ++ dktX7_pass_1
theorem dksX7_pass_0 : cX7_pass.data.toList.drop 0 = dktX7_pass_0 := by decide +kernel
theorem dksX7_pass_1 : cX7_pass.data.toList.drop 24 = dktX7_pass_1 := dk_seg dksX7_pass_0 24 rfl rfl
theorem dX7_pass_0 : decode cX7_pass 0 = .ok (.aload_n 0, 1) := dk_42 (dk_at dksX7_pass_0 0 rfl rfl)
theorem dX7_pass_1 : decode cX7_pass 1 = .ok (.aload_n 1, 1) := dk_43 (dk_at dksX7_pass_0 1 rfl rfl)
theorem dX7_pass_2 : decode cX7_pass 2 = .ok (.getfield 151, 3) := dk_180 0 151 (dk_at dksX7_pass_0 2 rfl rfl)
theorem dX7_pass_5 : decode cX7_pass 5 = .ok (.ifCond .le 7, 3) := dk_158 0 7 (dk_at dksX7_pass_0 5 rfl rfl)
theorem dX7_pass_8 : decode cX7_pass 8 = .ok (.iconst 1, 1) := dk_4 (dk_at dksX7_pass_0 8 rfl rfl)
theorem dX7_pass_9 : decode cX7_pass 9 = .ok (.goto 4, 3) := dk_167 0 4 (dk_at dksX7_pass_0 9 rfl rfl)
theorem dX7_pass_12 : decode cX7_pass 12 = .ok (.iconst 0, 1) := dk_3 (dk_at dksX7_pass_0 12 rfl rfl)
theorem dX7_pass_13 : decode cX7_pass 13 = .ok (.bipush (-5), 2) := dk_16 251 (dk_at dksX7_pass_0 13 rfl rfl)
theorem dX7_pass_15 : decode cX7_pass 15 = .ok (.iload_n 2, 1) := dk_28 (dk_at dksX7_pass_0 15 rfl rfl)
theorem dX7_pass_16 : decode cX7_pass 16 = .ok (.invokevirtual 73, 3) := dk_182 0 73 (dk_at dksX7_pass_0 16 rfl rfl)
theorem dX7_pass_19 : decode cX7_pass 19 = .ok (.aload_n 1, 1) := dk_43 (dk_at dksX7_pass_0 19 rfl rfl)
theorem dX7_pass_20 : decode cX7_pass 20 = .ok (.invokevirtual 154, 3) := dk_182 0 154 (dk_at dksX7_pass_0 20 rfl rfl)
theorem dX7_pass_23 : decode cX7_pass 23 = .ok (.aload_n 0, 1) := dk_42 (dk_at dksX7_pass_0 23 rfl rfl)
theorem dX7_pass_24 : decode cX7_pass 24 = .ok (.invokevirtual 119, 3) := dk_182 0 119 (dk_at dksX7_pass_1 0 rfl rfl)
theorem dX7_pass_27 : decode cX7_pass 27 = .ok (.return_, 1) := dk_177 (dk_at dksX7_pass_1 3 rfl rfl)
theorem q122 : (Jvm.Cond.initialized "ColourDuel$Reader") ∈ lw_all := lw_g (lw_at lw_m1 28 rfl) rfl
theorem q199 : (Jvm.Cond.fieldLinkNest "ColourDuel$Reader" (92 : Nat) "ColourDuel$Graph" "colours" "I" "ColourDuel") ∈ lw_tbl := lw_at lw_m1 105 rfl
theorem q205 : (Jvm.Cond.fieldLinkNest "ColourDuel$Reader" (105 : Nat) "ColourDuel$Graph" "lists" "[I" "ColourDuel") ∈ lw_tbl := lw_at lw_m1 111 rfl
theorem q210 : (Jvm.Cond.fieldLinkNest "ColourDuel$Reader" (125 : Nat) "ColourDuel$Graph" "near" "[I" "ColourDuel") ∈ lw_tbl := lw_at lw_m1 116 rfl
theorem q216 : (Jvm.Cond.fieldLinkNest "ColourDuel$Reader" (109 : Nat) "ColourDuel$Graph" "size" "I" "ColourDuel") ∈ lw_tbl := lw_at lw_m1 122 rfl
theorem q625 : (Jvm.Cond.fieldLinkNest "ColourDuel$Reader" (151 : Nat) "ColourDuel$Board" "passes" "I" "ColourDuel") ∈ lw_tbl := lw_at lw_m3 51 rfl
theorem q668 : (Jvm.Cond.fieldLinkNest "ColourDuel$Reader" (22 : Nat) "ColourDuel" "buffer" "[B" "ColourDuel") ∈ lw_tbl := lw_at lw_m3 94 rfl
theorem q952 : (Jvm.Cond.selects "ColourDuel$Reader" ({ cls := "java/lang/Object", name := "getClass", desc := "()Ljava/lang/Class;" } : Jvm.MethodName) ({ cls := "java/lang/Object", name := "getClass", desc := "()Ljava/lang/Class;" } : Jvm.MethodName)) ∈ lw_all := lw_g (lw_at lw_m4 138 rfl) rfl
theorem q1285 : (Jvm.Cond.instantiable "ColourDuel$Reader" (5 : Nat)) ∈ lw_all := lw_g (lw_at lw_m5 231 rfl) rfl
theorem q1287 : (Jvm.Cond.instanceMethod ({ cls := "ColourDuel$Reader", name := "<init>", desc := "(LColourDuel;I)V" } : Jvm.MethodName)) ∈ lw_all := lw_g (lw_at lw_m5 233 rfl) rfl
theorem q1288 : (Jvm.Cond.code ({ cls := "ColourDuel$Reader", name := "<init>", desc := "(LColourDuel;I)V" } : Jvm.MethodName) prog_11_method_1_code (3 : Nat) (Option.none : Option Jvm.ClassFile.FieldType)) ∈ lw_all := lw_g (lw_at lw_m5 234 rfl) rfl
theorem q1289 : (Jvm.Cond.methodLink "ColourDuel$Reader" (9 : Nat) ({ cls := "java/lang/Object", name := "<init>", desc := "()V" } : Jvm.MethodName)) ∈ lw_all := lw_g (lw_at lw_m5 235 rfl) rfl
theorem q1290 : (Jvm.Cond.fieldLink "ColourDuel$Reader" (15 : Nat) "ColourDuel$Reader" "end" "I") ∈ lw_all := lw_g (lw_at lw_m5 236 rfl) rfl
theorem q1291 : (Jvm.Cond.fieldLink "ColourDuel$Reader" (88 : Nat) "ColourDuel$Reader" "graph" "LColourDuel$Graph;") ∈ lw_all := lw_g (lw_at lw_m5 237 rfl) rfl
theorem q1292 : (Jvm.Cond.fieldLink "ColourDuel$Reader" (19 : Nat) "ColourDuel$Reader" "at" "I") ∈ lw_all := lw_g (lw_at lw_m5 238 rfl) rfl
theorem q1293 : (Jvm.Cond.fieldLink "ColourDuel$Reader" (38 : Nat) "ColourDuel$Reader" "from" "I") ∈ lw_all := lw_g (lw_at lw_m5 239 rfl) rfl
theorem q1294 : (Jvm.Cond.fieldLink "ColourDuel$Reader" (3 : Nat) "ColourDuel$Reader" "this$0" "LColourDuel;") ∈ lw_all := lw_g (lw_at lw_m6 0 rfl) rfl
theorem q1295 : (Jvm.Cond.laysFinal "ColourDuel$Reader" "ColourDuel$Reader" "end" "I") ∈ lw_all := lw_g (lw_at lw_m6 1 rfl) rfl
theorem q1296 : (Jvm.Cond.soleField "ColourDuel$Reader" "end") ∈ lw_all := lw_g (lw_at lw_m6 2 rfl) rfl
theorem q1297 : (Jvm.Cond.lays "ColourDuel$Reader" "ColourDuel$Reader" "graph" "LColourDuel$Graph;") ∈ lw_all := lw_g (lw_at lw_m6 3 rfl) rfl
theorem q1298 : (Jvm.Cond.soleField "ColourDuel$Reader" "graph") ∈ lw_all := lw_g (lw_at lw_m6 4 rfl) rfl
theorem q1299 : (Jvm.Cond.lays "ColourDuel$Reader" "ColourDuel$Reader" "at" "I") ∈ lw_all := lw_g (lw_at lw_m6 5 rfl) rfl
theorem q1300 : (Jvm.Cond.soleField "ColourDuel$Reader" "at") ∈ lw_all := lw_g (lw_at lw_m6 6 rfl) rfl
theorem q1301 : (Jvm.Cond.lays "ColourDuel$Reader" "ColourDuel$Reader" "from" "I") ∈ lw_all := lw_g (lw_at lw_m6 7 rfl) rfl
theorem q1302 : (Jvm.Cond.soleField "ColourDuel$Reader" "from") ∈ lw_all := lw_g (lw_at lw_m6 8 rfl) rfl
theorem q1303 : (Jvm.Cond.laysFinal "ColourDuel$Reader" "ColourDuel$Reader" "this$0" "LColourDuel;") ∈ lw_all := lw_g (lw_at lw_m6 9 rfl) rfl
theorem q1304 : (Jvm.Cond.soleField "ColourDuel$Reader" "this$0") ∈ lw_all := lw_g (lw_at lw_m6 10 rfl) rfl
theorem q1305 : (Jvm.Cond.superclass "ColourDuel$Reader" "java/lang/Object") ∈ lw_all := lw_g (lw_at lw_m6 11 rfl) rfl
theorem q1307 : (Jvm.Cond.instanceMethod ({ cls := "ColourDuel$Reader", name := "read", desc := "()LColourDuel$Board;" } : Jvm.MethodName)) ∈ lw_all := lw_g (lw_at lw_m6 13 rfl) rfl
theorem q1308 : (Jvm.Cond.selects "ColourDuel$Reader" ({ cls := "ColourDuel$Reader", name := "read", desc := "()LColourDuel$Board;" } : Jvm.MethodName) ({ cls := "ColourDuel$Reader", name := "read", desc := "()LColourDuel$Board;" } : Jvm.MethodName)) ∈ lw_all := lw_g (lw_at lw_m6 14 rfl) rfl
theorem q1309 : (Jvm.Cond.code ({ cls := "ColourDuel$Reader", name := "read", desc := "()LColourDuel$Board;" } : Jvm.MethodName) prog_11_method_13_code (3 : Nat) (Option.some (Jvm.ClassFile.FieldType.object "ColourDuel$Board"))) ∈ lw_all := lw_g (lw_at lw_m6 15 rfl) rfl
theorem q1310 : (Jvm.Cond.stringRef "ColourDuel$Reader" (157 : Nat) "colours") ∈ lw_tbl := lw_at lw_m6 16 rfl
theorem q1311 : (Jvm.Cond.methodLink "ColourDuel$Reader" (158 : Nat) ({ cls := "ColourDuel$Reader", name := "accept", desc := "(Ljava/lang/String;)Z" } : Jvm.MethodName)) ∈ lw_all := lw_g (lw_at lw_m6 17 rfl) rfl
theorem q1312 : (Jvm.Cond.privateMethod ({ cls := "ColourDuel$Reader", name := "accept", desc := "(Ljava/lang/String;)Z" } : Jvm.MethodName)) ∈ lw_tbl := lw_at lw_m6 18 rfl
theorem q1313 : (Jvm.Cond.instanceMethod ({ cls := "ColourDuel$Reader", name := "accept", desc := "(Ljava/lang/String;)Z" } : Jvm.MethodName)) ∈ lw_all := lw_g (lw_at lw_m6 19 rfl) rfl
theorem q1314 : (Jvm.Cond.code ({ cls := "ColourDuel$Reader", name := "accept", desc := "(Ljava/lang/String;)Z" } : Jvm.MethodName) prog_11_method_5_code (3 : Nat) (Option.some Jvm.ClassFile.FieldType.boolean)) ∈ lw_all := lw_g (lw_at lw_m6 20 rfl) rfl
theorem q1315 : (Jvm.Cond.methodLink "ColourDuel$Reader" (57 : Nat) ({ cls := "ColourDuel$Reader", name := "word", desc := "()Ljava/lang/String;" } : Jvm.MethodName)) ∈ lw_all := lw_g (lw_at lw_m6 21 rfl) rfl
theorem q1316 : (Jvm.Cond.privateMethod ({ cls := "ColourDuel$Reader", name := "word", desc := "()Ljava/lang/String;" } : Jvm.MethodName)) ∈ lw_tbl := lw_at lw_m6 22 rfl
theorem q1317 : (Jvm.Cond.instanceMethod ({ cls := "ColourDuel$Reader", name := "word", desc := "()Ljava/lang/String;" } : Jvm.MethodName)) ∈ lw_all := lw_g (lw_at lw_m6 23 rfl) rfl
theorem q1318 : (Jvm.Cond.code ({ cls := "ColourDuel$Reader", name := "word", desc := "()Ljava/lang/String;" } : Jvm.MethodName) prog_11_method_4_code (3 : Nat) (Option.some (Jvm.ClassFile.FieldType.object "java/lang/String"))) ∈ lw_all := lw_g (lw_at lw_m6 24 rfl) rfl
theorem q1319 : (Jvm.Cond.classLink "ColourDuel$Reader" (31 : Nat) "java/lang/StringBuilder") ∈ lw_all := lw_g (lw_at lw_m6 25 rfl) rfl
theorem q1320 : (Jvm.Cond.methodLink "ColourDuel$Reader" (33 : Nat) ({ cls := "java/lang/StringBuilder", name := "<init>", desc := "()V" } : Jvm.MethodName)) ∈ lw_all := lw_g (lw_at lw_m6 26 rfl) rfl
theorem q1321 : (Jvm.Cond.methodLink "ColourDuel$Reader" (34 : Nat) ({ cls := "ColourDuel$Reader", name := "peek", desc := "()I" } : Jvm.MethodName)) ∈ lw_all := lw_g (lw_at lw_m6 27 rfl) rfl
theorem q1322 : (Jvm.Cond.privateMethod ({ cls := "ColourDuel$Reader", name := "peek", desc := "()I" } : Jvm.MethodName)) ∈ lw_tbl := lw_at lw_m6 28 rfl
theorem q1323 : (Jvm.Cond.instanceMethod ({ cls := "ColourDuel$Reader", name := "peek", desc := "()I" } : Jvm.MethodName)) ∈ lw_all := lw_g (lw_at lw_m6 29 rfl) rfl
theorem q1324 : (Jvm.Cond.code ({ cls := "ColourDuel$Reader", name := "peek", desc := "()I" } : Jvm.MethodName) prog_11_method_2_code (1 : Nat) (Option.some Jvm.ClassFile.FieldType.int)) ∈ lw_all := lw_g (lw_at lw_m6 30 rfl) rfl
theorem q1325 : (Jvm.Cond.constantLong "ColourDuel$Reader" (41 : Nat) (97 : Int64)) ∈ lw_all := lw_g (lw_at lw_m6 31 rfl) rfl
theorem q1326 : (Jvm.Cond.constantLong "ColourDuel$Reader" (43 : Nat) (122 : Int64)) ∈ lw_all := lw_g (lw_at lw_m6 32 rfl) rfl
theorem q1327 : (Jvm.Cond.methodLinkNest "ColourDuel$Reader" (45 : Nat) ({ cls := "ColourDuel", name := "inRange", desc := "(JJJ)Z" } : Jvm.MethodName) "ColourDuel") ∈ lw_tbl := lw_at lw_m6 33 rfl
theorem q1328 : (Jvm.Cond.methodLink "ColourDuel$Reader" (49 : Nat) ({ cls := "java/lang/StringBuilder", name := "append", desc := "(C)Ljava/lang/StringBuilder;" } : Jvm.MethodName)) ∈ lw_all := lw_g (lw_at lw_m6 34 rfl) rfl
theorem q1329 : (Jvm.Cond.methodLink "ColourDuel$Reader" (53 : Nat) ({ cls := "java/lang/StringBuilder", name := "toString", desc := "()Ljava/lang/String;" } : Jvm.MethodName)) ∈ lw_all := lw_g (lw_at lw_m6 35 rfl) rfl
theorem q1330 : (Jvm.Cond.methodLink "ColourDuel$Reader" (60 : Nat) ({ cls := "java/lang/String", name := "equals", desc := "(Ljava/lang/Object;)Z" } : Jvm.MethodName)) ∈ lw_all := lw_g (lw_at lw_m6 36 rfl) rfl
theorem q1338 : (Jvm.Cond.methodLink "ColourDuel$Reader" (66 : Nat) ({ cls := "java/lang/String", name := "length", desc := "()I" } : Jvm.MethodName)) ∈ lw_all := lw_g (lw_at lw_m6 44 rfl) rfl
theorem q1339 : (Jvm.Cond.methodLink "ColourDuel$Reader" (73 : Nat) ({ cls := "ColourDuel$Reader", name := "require", desc := "(ZII)V" } : Jvm.MethodName)) ∈ lw_all := lw_g (lw_at lw_m6 45 rfl) rfl
theorem q1340 : (Jvm.Cond.privateMethod ({ cls := "ColourDuel$Reader", name := "require", desc := "(ZII)V" } : Jvm.MethodName)) ∈ lw_tbl := lw_at lw_m6 46 rfl
theorem q1341 : (Jvm.Cond.instanceMethod ({ cls := "ColourDuel$Reader", name := "require", desc := "(ZII)V" } : Jvm.MethodName)) ∈ lw_all := lw_g (lw_at lw_m6 47 rfl) rfl
theorem q1342 : (Jvm.Cond.code ({ cls := "ColourDuel$Reader", name := "require", desc := "(ZII)V" } : Jvm.MethodName) prog_11_method_3_code (4 : Nat) (Option.none : Option Jvm.ClassFile.FieldType)) ∈ lw_all := lw_g (lw_at lw_m6 48 rfl) rfl
theorem q1343 : (Jvm.Cond.classLink "ColourDuel$Reader" (26 : Nat) "ColourDuel$TextError") ∈ lw_all := lw_g (lw_at lw_m6 49 rfl) rfl
theorem q1352 : (Jvm.Cond.methodLink "ColourDuel$Reader" (28 : Nat) ({ cls := "ColourDuel$TextError", name := "<init>", desc := "(II)V" } : Jvm.MethodName)) ∈ lw_all := lw_g (lw_at lw_m6 58 rfl) rfl
theorem q1371 : (Jvm.Cond.classLink "ColourDuel$Reader" (93 : Nat) "ColourDuel$Graph") ∈ lw_all := lw_g (lw_at lw_m6 77 rfl) rfl
theorem q1372 : (Jvm.Cond.methodLink "ColourDuel$Reader" (122 : Nat) ({ cls := "ColourDuel$Reader", name := "number", desc := "(II)I" } : Jvm.MethodName)) ∈ lw_all := lw_g (lw_at lw_m6 78 rfl) rfl
theorem q1373 : (Jvm.Cond.privateMethod ({ cls := "ColourDuel$Reader", name := "number", desc := "(II)I" } : Jvm.MethodName)) ∈ lw_tbl := lw_at lw_m6 79 rfl
theorem q1374 : (Jvm.Cond.instanceMethod ({ cls := "ColourDuel$Reader", name := "number", desc := "(II)I" } : Jvm.MethodName)) ∈ lw_all := lw_g (lw_at lw_m6 80 rfl) rfl
theorem q1375 : (Jvm.Cond.code ({ cls := "ColourDuel$Reader", name := "number", desc := "(II)I" } : Jvm.MethodName) prog_11_method_6_code (5 : Nat) (Option.some Jvm.ClassFile.FieldType.int)) ∈ lw_all := lw_g (lw_at lw_m6 81 rfl) rfl
theorem q1376 : (Jvm.Cond.constantLong "ColourDuel$Reader" (69 : Nat) (48 : Int64)) ∈ lw_all := lw_g (lw_at lw_m6 82 rfl) rfl
theorem q1377 : (Jvm.Cond.constantLong "ColourDuel$Reader" (71 : Nat) (57 : Int64)) ∈ lw_all := lw_g (lw_at lw_m6 83 rfl) rfl
theorem q1378 : (Jvm.Cond.constant "ColourDuel$Reader" (77 : Nat) (100000 : Int32)) ∈ lw_all := lw_g (lw_at lw_m6 84 rfl) rfl
theorem q1379 : (Jvm.Cond.methodLink "ColourDuel$Reader" (78 : Nat) ({ cls := "java/lang/Math", name := "min", desc := "(II)I" } : Jvm.MethodName)) ∈ lw_all := lw_g (lw_at lw_m6 85 rfl) rfl
theorem q1380 : (Jvm.Cond.methodLink "ColourDuel$Reader" (162 : Nat) ({ cls := "ColourDuel$Graph", name := "<init>", desc := "(I)V" } : Jvm.MethodName)) ∈ lw_all := lw_g (lw_at lw_m6 86 rfl) rfl
theorem q1381 : (Jvm.Cond.stringRef "ColourDuel$Reader" (165 : Nat) "passes") ∈ lw_tbl := lw_at lw_m6 87 rfl
theorem q1382 : (Jvm.Cond.methodLink "ColourDuel$Reader" (119 : Nat) ({ cls := "ColourDuel$Reader", name := "semicolon", desc := "()V" } : Jvm.MethodName)) ∈ lw_all := lw_g (lw_at lw_m6 88 rfl) rfl
theorem q1383 : (Jvm.Cond.privateMethod ({ cls := "ColourDuel$Reader", name := "semicolon", desc := "()V" } : Jvm.MethodName)) ∈ lw_tbl := lw_at lw_m6 89 rfl
theorem q1384 : (Jvm.Cond.instanceMethod ({ cls := "ColourDuel$Reader", name := "semicolon", desc := "()V" } : Jvm.MethodName)) ∈ lw_all := lw_g (lw_at lw_m6 90 rfl) rfl
theorem q1385 : (Jvm.Cond.code ({ cls := "ColourDuel$Reader", name := "semicolon", desc := "()V" } : Jvm.MethodName) prog_11_method_7_code (2 : Nat) (Option.none : Option Jvm.ClassFile.FieldType)) ∈ lw_all := lw_g (lw_at lw_m6 91 rfl) rfl
theorem q1386 : (Jvm.Cond.stringRef "ColourDuel$Reader" (166 : Nat) "vertex") ∈ lw_tbl := lw_at lw_m6 92 rfl
theorem q1387 : (Jvm.Cond.methodLink "ColourDuel$Reader" (168 : Nat) ({ cls := "ColourDuel$Reader", name := "vertex", desc := "(I)V" } : Jvm.MethodName)) ∈ lw_all := lw_g (lw_at lw_m6 93 rfl) rfl
theorem q1388 : (Jvm.Cond.privateMethod ({ cls := "ColourDuel$Reader", name := "vertex", desc := "(I)V" } : Jvm.MethodName)) ∈ lw_tbl := lw_at lw_m6 94 rfl
theorem q1389 : (Jvm.Cond.instanceMethod ({ cls := "ColourDuel$Reader", name := "vertex", desc := "(I)V" } : Jvm.MethodName)) ∈ lw_all := lw_g (lw_at lw_m6 95 rfl) rfl
theorem q1390 : (Jvm.Cond.code ({ cls := "ColourDuel$Reader", name := "vertex", desc := "(I)V" } : Jvm.MethodName) prog_11_method_9_code (2 : Nat) (Option.none : Option Jvm.ClassFile.FieldType)) ∈ lw_all := lw_g (lw_at lw_m6 96 rfl) rfl
theorem q1391 : (Jvm.Cond.methodLink "ColourDuel$Reader" (101 : Nat) ({ cls := "ColourDuel$Graph", name := "hasRoom", desc := "()Z" } : Jvm.MethodName)) ∈ lw_all := lw_g (lw_at lw_m6 97 rfl) rfl
theorem q1395 : (Jvm.Cond.methodLink "ColourDuel$Reader" (112 : Nat) ({ cls := "ColourDuel$Graph", name := "allColours", desc := "()I" } : Jvm.MethodName)) ∈ lw_all := lw_g (lw_at lw_m6 101 rfl) rfl
theorem q1399 : (Jvm.Cond.methodLink "ColourDuel$Reader" (115 : Nat) ({ cls := "ColourDuel$Reader", name := "letters", desc := "(I)I" } : Jvm.MethodName)) ∈ lw_all := lw_g (lw_at lw_m6 105 rfl) rfl
theorem q1400 : (Jvm.Cond.privateMethod ({ cls := "ColourDuel$Reader", name := "letters", desc := "(I)I" } : Jvm.MethodName)) ∈ lw_tbl := lw_at lw_m6 106 rfl
theorem q1401 : (Jvm.Cond.instanceMethod ({ cls := "ColourDuel$Reader", name := "letters", desc := "(I)I" } : Jvm.MethodName)) ∈ lw_all := lw_g (lw_at lw_m6 107 rfl) rfl
theorem q1402 : (Jvm.Cond.code ({ cls := "ColourDuel$Reader", name := "letters", desc := "(I)I" } : Jvm.MethodName) prog_11_method_8_code (6 : Nat) (Option.some Jvm.ClassFile.FieldType.int)) ∈ lw_all := lw_g (lw_at lw_m6 108 rfl) rfl
theorem q1403 : (Jvm.Cond.methodLink "ColourDuel$Reader" (84 : Nat) ({ cls := "java/lang/String", name := "charAt", desc := "(I)C" } : Jvm.MethodName)) ∈ lw_all := lw_g (lw_at lw_m6 109 rfl) rfl
theorem q1418 : (Jvm.Cond.methodLinkNest "ColourDuel$Reader" (97 : Nat) ({ cls := "ColourDuel", name := "has", desc := "(II)Z" } : Jvm.MethodName) "ColourDuel") ∈ lw_tbl := lw_at lw_m6 124 rfl
theorem q1419 : (Jvm.Cond.stringRef "ColourDuel$Reader" (170 : Nat) "edge") ∈ lw_tbl := lw_at lw_m6 125 rfl
theorem q1420 : (Jvm.Cond.methodLink "ColourDuel$Reader" (172 : Nat) ({ cls := "ColourDuel$Reader", name := "edge", desc := "()V" } : Jvm.MethodName)) ∈ lw_all := lw_g (lw_at lw_m6 126 rfl) rfl
theorem q1421 : (Jvm.Cond.privateMethod ({ cls := "ColourDuel$Reader", name := "edge", desc := "()V" } : Jvm.MethodName)) ∈ lw_tbl := lw_at lw_m6 127 rfl
theorem q1422 : (Jvm.Cond.instanceMethod ({ cls := "ColourDuel$Reader", name := "edge", desc := "()V" } : Jvm.MethodName)) ∈ lw_all := lw_g (lw_at lw_m6 128 rfl) rfl
theorem q1423 : (Jvm.Cond.code ({ cls := "ColourDuel$Reader", name := "edge", desc := "()V" } : Jvm.MethodName) prog_11_method_10_code (3 : Nat) (Option.none : Option Jvm.ClassFile.FieldType)) ∈ lw_all := lw_g (lw_at lw_m6 129 rfl) rfl
theorem q1424 : (Jvm.Cond.methodLink "ColourDuel$Reader" (128 : Nat) ({ cls := "ColourDuel$Graph", name := "link", desc := "(II)V" } : Jvm.MethodName)) ∈ lw_all := lw_g (lw_at lw_m6 130 rfl) rfl
theorem q1428 : (Jvm.Cond.classLink "ColourDuel$Reader" (137 : Nat) "ColourDuel$Board") ∈ lw_all := lw_g (lw_at lw_m6 134 rfl) rfl
theorem q1429 : (Jvm.Cond.methodLink "ColourDuel$Reader" (174 : Nat) ({ cls := "ColourDuel$Board", name := "<init>", desc := "(LColourDuel$Graph;)V" } : Jvm.MethodName)) ∈ lw_all := lw_g (lw_at lw_m6 135 rfl) rfl
theorem q1430 : (Jvm.Cond.stringRef "ColourDuel$Reader" (177 : Nat) "lay") ∈ lw_tbl := lw_at lw_m6 136 rfl
theorem q1431 : (Jvm.Cond.methodLink "ColourDuel$Reader" (178 : Nat) ({ cls := "ColourDuel$Reader", name := "lay", desc := "(LColourDuel$Board;)V" } : Jvm.MethodName)) ∈ lw_all := lw_g (lw_at lw_m6 137 rfl) rfl
theorem q1432 : (Jvm.Cond.privateMethod ({ cls := "ColourDuel$Reader", name := "lay", desc := "(LColourDuel$Board;)V" } : Jvm.MethodName)) ∈ lw_tbl := lw_at lw_m6 138 rfl
theorem q1433 : (Jvm.Cond.instanceMethod ({ cls := "ColourDuel$Reader", name := "lay", desc := "(LColourDuel$Board;)V" } : Jvm.MethodName)) ∈ lw_all := lw_g (lw_at lw_m6 139 rfl) rfl
theorem q1434 : (Jvm.Cond.code ({ cls := "ColourDuel$Reader", name := "lay", desc := "(LColourDuel$Board;)V" } : Jvm.MethodName) prog_11_method_11_code (4 : Nat) (Option.none : Option Jvm.ClassFile.FieldType)) ∈ lw_all := lw_g (lw_at lw_m6 140 rfl) rfl
theorem q1435 : (Jvm.Cond.methodLink "ColourDuel$Reader" (131 : Nat) ({ cls := "java/lang/Integer", name := "numberOfTrailingZeros", desc := "(I)I" } : Jvm.MethodName)) ∈ lw_all := lw_g (lw_at lw_m6 141 rfl) rfl
theorem q1436 : (Jvm.Cond.fieldLinkNest "ColourDuel$Reader" (136 : Nat) "ColourDuel$Board" "RULE" "LColourDuel$FullRule;" "ColourDuel") ∈ lw_tbl := lw_at lw_m6 142 rfl
theorem q1437 : (Jvm.Cond.methodLink "ColourDuel$Reader" (142 : Nat) ({ cls := "ColourDuel$FullRule", name := "reason", desc := "(LColourDuel$Board;II)I" } : Jvm.MethodName)) ∈ lw_all := lw_g (lw_at lw_m6 143 rfl) rfl
theorem q1438 : (Jvm.Cond.methodLink "ColourDuel$Reader" (148 : Nat) ({ cls := "ColourDuel$Board", name := "lay", desc := "(II)V" } : Jvm.MethodName)) ∈ lw_all := lw_g (lw_at lw_m6 144 rfl) rfl
theorem q1439 : (Jvm.Cond.stringRef "ColourDuel$Reader" (181 : Nat) "pass") ∈ lw_tbl := lw_at lw_m6 145 rfl
theorem q1440 : (Jvm.Cond.methodLink "ColourDuel$Reader" (182 : Nat) ({ cls := "ColourDuel$Reader", name := "pass", desc := "(LColourDuel$Board;I)V" } : Jvm.MethodName)) ∈ lw_all := lw_g (lw_at lw_m6 146 rfl) rfl
theorem q1441 : (Jvm.Cond.privateMethod ({ cls := "ColourDuel$Reader", name := "pass", desc := "(LColourDuel$Board;I)V" } : Jvm.MethodName)) ∈ lw_tbl := lw_at lw_m6 147 rfl
theorem q1442 : (Jvm.Cond.instanceMethod ({ cls := "ColourDuel$Reader", name := "pass", desc := "(LColourDuel$Board;I)V" } : Jvm.MethodName)) ∈ lw_all := lw_g (lw_at lw_m6 148 rfl) rfl
theorem q1443 : (Jvm.Cond.code ({ cls := "ColourDuel$Reader", name := "pass", desc := "(LColourDuel$Board;I)V" } : Jvm.MethodName) prog_11_method_12_code (3 : Nat) (Option.none : Option Jvm.ClassFile.FieldType)) ∈ lw_all := lw_g (lw_at lw_m6 149 rfl) rfl
theorem q1444 : (Jvm.Cond.methodLink "ColourDuel$Reader" (154 : Nat) ({ cls := "ColourDuel$Board", name := "pass", desc := "()V" } : Jvm.MethodName)) ∈ lw_all := lw_g (lw_at lw_m6 150 rfl) rfl
theorem q2263 : (Jvm.Cond.castable "ColourDuel$Reader" "java/lang/Object") ∈ lw_tbl := lw_at lw_m10 9 rfl
theorem in_X7 : ∀ w ∈ wsX70, w ∈ lw_all := lw_in wsX70 [1295, 1297, 1299, 1301, 1303] (by decide +kernel) (by decide +kernel)
/-! ColourDuel$TextError -/
set_option maxRecDepth 100000
def RX8 : String := "ColourDuel$TextError"
def TX8 : u_T := fun k => match k with
  | 0 => ("java/lang/Throwable", "cause", "Ljava/lang/Throwable;", false)
  | 1 => ("java/lang/Throwable", "stackTrace", "[Ljava/lang/StackTraceElement;", false)
  | 2 => ("java/lang/Throwable", "suppressedExceptions", "Ljava/util/List;", false)
  | 3 => ("java/lang/Throwable", "detailMessage", "Ljava/lang/String;", false)
  | 4 => ("java/lang/Throwable", "backtrace", "Ljava/lang/Object;", false)
  | 5 => ("java/lang/Throwable", "depth", "I", false)
  | 6 => ("ColourDuel$TextError", "code", "I", true)
  | _ => ("ColourDuel$TextError", "position", "I", true)
def tyX8 : Nat → FieldType := fun k => match k with
  | 0 => .object "java/lang/Throwable"
  | 1 => .array (.object "java/lang/StackTraceElement")
  | 2 => .object "java/util/List"
  | 3 => .object "java/lang/String"
  | 4 => .object "java/lang/Object"
  | 5 => .int
  | 6 => .int
  | _ => .int
abbrev wsX80 : List Cond := u_ws RX8 TX8 8
theorem nmX8 : ∀ a, a < 8 → ∀ b, b < 8 → a ≠ b → (TX8 a).2.1 ≠ (TX8 b).2.1 := by decide +kernel
theorem tyX8_ok : ∀ k, k < 8 → parseFieldDescriptor (TX8 k).2.2.1 = some (tyX8 k) := by decide +kernel
abbrev cX8_init : ByteArray := prog_14_method_1_code
def yX8_init : MethodName := ⟨RX8, "<init>", "(II)V"⟩
def dkwX8_init_0 : List UInt8 := [42, 1, 1, 3, 3, 183, 0, 1, 42, 27, 181, 0, 7, 42, 28, 181, 0, 13, 177]
abbrev dktX8_init_0 : List UInt8 := dkwX8_init_0 ++ []
theorem dksX8_init_0 : cX8_init.data.toList.drop 0 = dktX8_init_0 := by decide +kernel
theorem dX8_init_0 : decode cX8_init 0 = .ok (.aload_n 0, 1) := dk_42 (dk_at dksX8_init_0 0 rfl rfl)
theorem dX8_init_1 : decode cX8_init 1 = .ok (.aconst_null, 1) := dk_1 (dk_at dksX8_init_0 1 rfl rfl)
theorem dX8_init_2 : decode cX8_init 2 = .ok (.aconst_null, 1) := dk_1 (dk_at dksX8_init_0 2 rfl rfl)
theorem dX8_init_3 : decode cX8_init 3 = .ok (.iconst 0, 1) := dk_3 (dk_at dksX8_init_0 3 rfl rfl)
theorem dX8_init_4 : decode cX8_init 4 = .ok (.iconst 0, 1) := dk_3 (dk_at dksX8_init_0 4 rfl rfl)
theorem dX8_init_5 : decode cX8_init 5 = .ok (.invokespecial 1, 3) := dk_183 0 1 (dk_at dksX8_init_0 5 rfl rfl)
theorem dX8_init_8 : decode cX8_init 8 = .ok (.aload_n 0, 1) := dk_42 (dk_at dksX8_init_0 8 rfl rfl)
theorem dX8_init_9 : decode cX8_init 9 = .ok (.iload_n 1, 1) := dk_27 (dk_at dksX8_init_0 9 rfl rfl)
theorem dX8_init_10 : decode cX8_init 10 = .ok (.putfield 7, 3) := dk_181 0 7 (dk_at dksX8_init_0 10 rfl rfl)
theorem dX8_init_13 : decode cX8_init 13 = .ok (.aload_n 0, 1) := dk_42 (dk_at dksX8_init_0 13 rfl rfl)
theorem dX8_init_14 : decode cX8_init 14 = .ok (.iload_n 2, 1) := dk_28 (dk_at dksX8_init_0 14 rfl rfl)
theorem dX8_init_15 : decode cX8_init 15 = .ok (.putfield 13, 3) := dk_181 0 13 (dk_at dksX8_init_0 15 rfl rfl)
theorem dX8_init_18 : decode cX8_init 18 = .ok (.return_, 1) := dk_177 (dk_at dksX8_init_0 18 rfl rfl)
theorem q123 : (Jvm.Cond.initialized "ColourDuel$TextError") ∈ lw_all := lw_g (lw_at lw_m1 29 rfl) rfl
theorem q312 : (Jvm.Cond.selects "ColourDuel$TextError" ({ cls := "java/lang/Throwable", name := "fillInStackTrace", desc := "()Ljava/lang/Throwable;" } : Jvm.MethodName) ({ cls := "java/lang/Throwable", name := "fillInStackTrace", desc := "()Ljava/lang/Throwable;" } : Jvm.MethodName)) ∈ lw_all := lw_g (lw_at lw_m1 218 rfl) rfl
theorem q954 : (Jvm.Cond.selects "ColourDuel$TextError" ({ cls := "java/lang/Object", name := "getClass", desc := "()Ljava/lang/Class;" } : Jvm.MethodName) ({ cls := "java/lang/Object", name := "getClass", desc := "()Ljava/lang/Class;" } : Jvm.MethodName)) ∈ lw_all := lw_g (lw_at lw_m4 140 rfl) rfl
theorem q1344 : (Jvm.Cond.instantiable "ColourDuel$TextError" (8 : Nat)) ∈ lw_all := lw_g (lw_at lw_m6 50 rfl) rfl
theorem q1345 : (Jvm.Cond.castable "ColourDuel$TextError" "ColourDuel$TextError") ∈ lw_tbl := lw_at lw_m6 51 rfl
theorem q1346 : (Jvm.Cond.selects "ColourDuel$TextError" ({ cls := "java/lang/Throwable", name := "fillInStackTrace", desc := "(I)Ljava/lang/Throwable;" } : Jvm.MethodName) ({ cls := "java/lang/Throwable", name := "fillInStackTrace", desc := "(I)Ljava/lang/Throwable;" } : Jvm.MethodName)) ∈ lw_all := lw_g (lw_at lw_m6 52 rfl) rfl
theorem q1347 : (Jvm.Cond.lays "ColourDuel$TextError" "java/lang/Throwable" "cause" "Ljava/lang/Throwable;") ∈ lw_all := lw_g (lw_at lw_m6 53 rfl) rfl
theorem q1348 : (Jvm.Cond.lays "ColourDuel$TextError" "java/lang/Throwable" "stackTrace" "[Ljava/lang/StackTraceElement;") ∈ lw_all := lw_g (lw_at lw_m6 54 rfl) rfl
theorem q1349 : (Jvm.Cond.lays "ColourDuel$TextError" "java/lang/Throwable" "suppressedExceptions" "Ljava/util/List;") ∈ lw_all := lw_g (lw_at lw_m6 55 rfl) rfl
theorem q1350 : (Jvm.Cond.lays "ColourDuel$TextError" "java/lang/Throwable" "detailMessage" "Ljava/lang/String;") ∈ lw_all := lw_g (lw_at lw_m6 56 rfl) rfl
theorem q1351 : (Jvm.Cond.lays "ColourDuel$TextError" "java/lang/Throwable" "backtrace" "Ljava/lang/Object;") ∈ lw_all := lw_g (lw_at lw_m6 57 rfl) rfl
theorem q1353 : (Jvm.Cond.instanceMethod ({ cls := "ColourDuel$TextError", name := "<init>", desc := "(II)V" } : Jvm.MethodName)) ∈ lw_all := lw_g (lw_at lw_m6 59 rfl) rfl
theorem q1354 : (Jvm.Cond.code ({ cls := "ColourDuel$TextError", name := "<init>", desc := "(II)V" } : Jvm.MethodName) prog_14_method_1_code (3 : Nat) (Option.none : Option Jvm.ClassFile.FieldType)) ∈ lw_all := lw_g (lw_at lw_m6 60 rfl) rfl
theorem q1355 : (Jvm.Cond.methodLink "ColourDuel$TextError" (1 : Nat) ({ cls := "java/lang/Exception", name := "<init>", desc := "(Ljava/lang/String;Ljava/lang/Throwable;ZZ)V" } : Jvm.MethodName)) ∈ lw_all := lw_g (lw_at lw_m6 61 rfl) rfl
theorem q1361 : (Jvm.Cond.fieldLink "ColourDuel$TextError" (7 : Nat) "ColourDuel$TextError" "code" "I") ∈ lw_all := lw_g (lw_at lw_m6 67 rfl) rfl
theorem q1363 : (Jvm.Cond.fieldLink "ColourDuel$TextError" (13 : Nat) "ColourDuel$TextError" "position" "I") ∈ lw_all := lw_g (lw_at lw_m6 69 rfl) rfl
theorem q1365 : (Jvm.Cond.laysFinal "ColourDuel$TextError" "ColourDuel$TextError" "code" "I") ∈ lw_all := lw_g (lw_at lw_m6 71 rfl) rfl
theorem q1366 : (Jvm.Cond.soleField "ColourDuel$TextError" "code") ∈ lw_all := lw_g (lw_at lw_m6 72 rfl) rfl
theorem q1367 : (Jvm.Cond.laysFinal "ColourDuel$TextError" "ColourDuel$TextError" "position" "I") ∈ lw_all := lw_g (lw_at lw_m6 73 rfl) rfl
theorem q1368 : (Jvm.Cond.soleField "ColourDuel$TextError" "position") ∈ lw_all := lw_g (lw_at lw_m6 74 rfl) rfl
theorem q1369 : (Jvm.Cond.lays "ColourDuel$TextError" "java/lang/Throwable" "depth" "I") ∈ lw_all := lw_g (lw_at lw_m6 75 rfl) rfl
theorem q1370 : (Jvm.Cond.superclass "ColourDuel$TextError" "java/lang/Exception") ∈ lw_all := lw_g (lw_at lw_m6 76 rfl) rfl
theorem q2264 : (Jvm.Cond.castable "ColourDuel$TextError" "java/lang/Object") ∈ lw_tbl := lw_at lw_m10 10 rfl
theorem in_X8 : ∀ w ∈ wsX80, w ∈ lw_all := lw_in wsX80 [1347, 1348, 1349, 1350, 1351, 1369, 1365, 1367] (by decide +kernel) (by decide +kernel)
/-! ColourDuel$Move -/
set_option maxRecDepth 100000
def RX9 : String := "ColourDuel$Move"
def TX9 : u_T := fun k => match k with
  | 0 => ("ColourDuel$Move", "player", "I", true)
  | 1 => ("ColourDuel$Move", "vertex", "I", true)
  | 2 => ("ColourDuel$Move", "colour", "I", true)
  | _ => ("ColourDuel$Move", "parts", "I", true)
def tyX9 : Nat → FieldType := fun k => match k with
  | 0 => .int
  | 1 => .int
  | 2 => .int
  | _ => .int
abbrev wsX90 : List Cond := u_ws RX9 TX9 4
theorem nmX9 : ∀ a, a < 4 → ∀ b, b < 4 → a ≠ b → (TX9 a).2.1 ≠ (TX9 b).2.1 := by decide +kernel
theorem tyX9_ok : ∀ k, k < 4 → parseFieldDescriptor (TX9 k).2.2.1 = some (tyX9 k) := by decide +kernel
abbrev cX9_init : ByteArray := prog_8_method_1_code
def yX9_init : MethodName := ⟨RX9, "<init>", "(IIII)V"⟩
def dkwX9_init_1 : List UInt8 := [181, 0, 19, 177]
abbrev dktX9_init_1 : List UInt8 := dkwX9_init_1 ++ []
def dkwX9_init_0 : List UInt8 := [42, 183, 0, 1, 42, 27, 181, 0, 7, 42, 28, 181, 0, 13, 42, 29, 181, 0, 16, 42, 21, 4]
abbrev dktX9_init_0 : List UInt8 := dkwX9_init_0 ++ dktX9_init_1
theorem dksX9_init_0 : cX9_init.data.toList.drop 0 = dktX9_init_0 := by decide +kernel
theorem dksX9_init_1 : cX9_init.data.toList.drop 22 = dktX9_init_1 := dk_seg dksX9_init_0 22 rfl rfl
theorem dX9_init_0 : decode cX9_init 0 = .ok (.aload_n 0, 1) := dk_42 (dk_at dksX9_init_0 0 rfl rfl)
theorem dX9_init_1 : decode cX9_init 1 = .ok (.invokespecial 1, 3) := dk_183 0 1 (dk_at dksX9_init_0 1 rfl rfl)
theorem dX9_init_4 : decode cX9_init 4 = .ok (.aload_n 0, 1) := dk_42 (dk_at dksX9_init_0 4 rfl rfl)
theorem dX9_init_5 : decode cX9_init 5 = .ok (.iload_n 1, 1) := dk_27 (dk_at dksX9_init_0 5 rfl rfl)
theorem dX9_init_6 : decode cX9_init 6 = .ok (.putfield 7, 3) := dk_181 0 7 (dk_at dksX9_init_0 6 rfl rfl)
theorem dX9_init_9 : decode cX9_init 9 = .ok (.aload_n 0, 1) := dk_42 (dk_at dksX9_init_0 9 rfl rfl)
theorem dX9_init_10 : decode cX9_init 10 = .ok (.iload_n 2, 1) := dk_28 (dk_at dksX9_init_0 10 rfl rfl)
theorem dX9_init_11 : decode cX9_init 11 = .ok (.putfield 13, 3) := dk_181 0 13 (dk_at dksX9_init_0 11 rfl rfl)
theorem dX9_init_14 : decode cX9_init 14 = .ok (.aload_n 0, 1) := dk_42 (dk_at dksX9_init_0 14 rfl rfl)
theorem dX9_init_15 : decode cX9_init 15 = .ok (.iload_n 3, 1) := dk_29 (dk_at dksX9_init_0 15 rfl rfl)
theorem dX9_init_16 : decode cX9_init 16 = .ok (.putfield 16, 3) := dk_181 0 16 (dk_at dksX9_init_0 16 rfl rfl)
theorem dX9_init_19 : decode cX9_init 19 = .ok (.aload_n 0, 1) := dk_42 (dk_at dksX9_init_0 19 rfl rfl)
theorem dX9_init_20 : decode cX9_init 20 = .ok (.iload 4, 2) := dk_21 4 (dk_at dksX9_init_0 20 rfl rfl)
theorem dX9_init_22 : decode cX9_init 22 = .ok (.putfield 19, 3) := dk_181 0 19 (dk_at dksX9_init_1 0 rfl rfl)
theorem dX9_init_25 : decode cX9_init 25 = .ok (.return_, 1) := dk_177 (dk_at dksX9_init_1 3 rfl rfl)
abbrev cX9_get : ByteArray := prog_8_method_2_code
def yX9_get : MethodName := ⟨RX9, "get", "(I)I"⟩
def dkwX9_get_1 : List UInt8 := [5, 160, 0, 10, 42, 180, 0, 16, 167, 0, 7, 42, 180, 0, 19, 172]
abbrev dktX9_get_1 : List UInt8 := dkwX9_get_1 ++ []
def dkwX9_get_0 : List UInt8 := [27, 154, 0, 10, 42, 180, 0, 7, 167, 0, 31, 27, 4, 160, 0, 10, 42, 180, 0, 13, 167, 0, 19, 27]
abbrev dktX9_get_0 : List UInt8 := dkwX9_get_0 ++ dktX9_get_1
theorem dksX9_get_0 : cX9_get.data.toList.drop 0 = dktX9_get_0 := by decide +kernel
theorem dksX9_get_1 : cX9_get.data.toList.drop 24 = dktX9_get_1 := dk_seg dksX9_get_0 24 rfl rfl
theorem dX9_get_0 : decode cX9_get 0 = .ok (.iload_n 1, 1) := dk_27 (dk_at dksX9_get_0 0 rfl rfl)
theorem dX9_get_1 : decode cX9_get 1 = .ok (.ifCond .ne 10, 3) := dk_154 0 10 (dk_at dksX9_get_0 1 rfl rfl)
theorem dX9_get_4 : decode cX9_get 4 = .ok (.aload_n 0, 1) := dk_42 (dk_at dksX9_get_0 4 rfl rfl)
theorem dX9_get_5 : decode cX9_get 5 = .ok (.getfield 7, 3) := dk_180 0 7 (dk_at dksX9_get_0 5 rfl rfl)
theorem dX9_get_8 : decode cX9_get 8 = .ok (.goto 31, 3) := dk_167 0 31 (dk_at dksX9_get_0 8 rfl rfl)
theorem dX9_get_11 : decode cX9_get 11 = .ok (.iload_n 1, 1) := dk_27 (dk_at dksX9_get_0 11 rfl rfl)
theorem dX9_get_12 : decode cX9_get 12 = .ok (.iconst 1, 1) := dk_4 (dk_at dksX9_get_0 12 rfl rfl)
theorem dX9_get_13 : decode cX9_get 13 = .ok (.if_icmp .ne 10, 3) := dk_160 0 10 (dk_at dksX9_get_0 13 rfl rfl)
theorem dX9_get_16 : decode cX9_get 16 = .ok (.aload_n 0, 1) := dk_42 (dk_at dksX9_get_0 16 rfl rfl)
theorem dX9_get_17 : decode cX9_get 17 = .ok (.getfield 13, 3) := dk_180 0 13 (dk_at dksX9_get_0 17 rfl rfl)
theorem dX9_get_20 : decode cX9_get 20 = .ok (.goto 19, 3) := dk_167 0 19 (dk_at dksX9_get_0 20 rfl rfl)
theorem dX9_get_23 : decode cX9_get 23 = .ok (.iload_n 1, 1) := dk_27 (dk_at dksX9_get_0 23 rfl rfl)
theorem dX9_get_24 : decode cX9_get 24 = .ok (.iconst 2, 1) := dk_5 (dk_at dksX9_get_1 0 rfl rfl)
theorem dX9_get_25 : decode cX9_get 25 = .ok (.if_icmp .ne 10, 3) := dk_160 0 10 (dk_at dksX9_get_1 1 rfl rfl)
theorem dX9_get_28 : decode cX9_get 28 = .ok (.aload_n 0, 1) := dk_42 (dk_at dksX9_get_1 4 rfl rfl)
theorem dX9_get_29 : decode cX9_get 29 = .ok (.getfield 16, 3) := dk_180 0 16 (dk_at dksX9_get_1 5 rfl rfl)
theorem dX9_get_32 : decode cX9_get 32 = .ok (.goto 7, 3) := dk_167 0 7 (dk_at dksX9_get_1 8 rfl rfl)
theorem dX9_get_35 : decode cX9_get 35 = .ok (.aload_n 0, 1) := dk_42 (dk_at dksX9_get_1 11 rfl rfl)
theorem dX9_get_36 : decode cX9_get 36 = .ok (.getfield 19, 3) := dk_180 0 19 (dk_at dksX9_get_1 12 rfl rfl)
theorem dX9_get_39 : decode cX9_get 39 = .ok (.ireturn, 1) := dk_172 (dk_at dksX9_get_1 15 rfl rfl)
theorem q125 : (Jvm.Cond.initialized "ColourDuel$Move") ∈ lw_all := lw_g (lw_at lw_m1 31 rfl) rfl
theorem q950 : (Jvm.Cond.selects "ColourDuel$Move" ({ cls := "java/lang/Object", name := "getClass", desc := "()Ljava/lang/Class;" } : Jvm.MethodName) ({ cls := "java/lang/Object", name := "getClass", desc := "()Ljava/lang/Class;" } : Jvm.MethodName)) ∈ lw_all := lw_g (lw_at lw_m4 136 rfl) rfl
theorem q993 : (Jvm.Cond.instantiable "ColourDuel$Move" (4 : Nat)) ∈ lw_all := lw_g (lw_at lw_m4 179 rfl) rfl
theorem q1000 : (Jvm.Cond.instanceMethod ({ cls := "ColourDuel$Move", name := "<init>", desc := "(IIII)V" } : Jvm.MethodName)) ∈ lw_all := lw_g (lw_at lw_m4 186 rfl) rfl
theorem q1001 : (Jvm.Cond.code ({ cls := "ColourDuel$Move", name := "<init>", desc := "(IIII)V" } : Jvm.MethodName) prog_8_method_1_code (5 : Nat) (Option.none : Option Jvm.ClassFile.FieldType)) ∈ lw_all := lw_g (lw_at lw_m4 187 rfl) rfl
theorem q1002 : (Jvm.Cond.methodLink "ColourDuel$Move" (1 : Nat) ({ cls := "java/lang/Record", name := "<init>", desc := "()V" } : Jvm.MethodName)) ∈ lw_all := lw_g (lw_at lw_m4 188 rfl) rfl
theorem q1006 : (Jvm.Cond.fieldLink "ColourDuel$Move" (7 : Nat) "ColourDuel$Move" "player" "I") ∈ lw_all := lw_g (lw_at lw_m4 192 rfl) rfl
theorem q1007 : (Jvm.Cond.fieldLink "ColourDuel$Move" (13 : Nat) "ColourDuel$Move" "vertex" "I") ∈ lw_all := lw_g (lw_at lw_m4 193 rfl) rfl
theorem q1008 : (Jvm.Cond.fieldLink "ColourDuel$Move" (16 : Nat) "ColourDuel$Move" "colour" "I") ∈ lw_all := lw_g (lw_at lw_m4 194 rfl) rfl
theorem q1009 : (Jvm.Cond.fieldLink "ColourDuel$Move" (19 : Nat) "ColourDuel$Move" "parts" "I") ∈ lw_all := lw_g (lw_at lw_m4 195 rfl) rfl
theorem q1010 : (Jvm.Cond.laysFinal "ColourDuel$Move" "ColourDuel$Move" "player" "I") ∈ lw_all := lw_g (lw_at lw_m4 196 rfl) rfl
theorem q1011 : (Jvm.Cond.soleField "ColourDuel$Move" "player") ∈ lw_all := lw_g (lw_at lw_m4 197 rfl) rfl
theorem q1012 : (Jvm.Cond.laysFinal "ColourDuel$Move" "ColourDuel$Move" "vertex" "I") ∈ lw_all := lw_g (lw_at lw_m4 198 rfl) rfl
theorem q1013 : (Jvm.Cond.soleField "ColourDuel$Move" "vertex") ∈ lw_all := lw_g (lw_at lw_m4 199 rfl) rfl
theorem q1014 : (Jvm.Cond.laysFinal "ColourDuel$Move" "ColourDuel$Move" "colour" "I") ∈ lw_all := lw_g (lw_at lw_m4 200 rfl) rfl
theorem q1015 : (Jvm.Cond.soleField "ColourDuel$Move" "colour") ∈ lw_all := lw_g (lw_at lw_m4 201 rfl) rfl
theorem q1016 : (Jvm.Cond.laysFinal "ColourDuel$Move" "ColourDuel$Move" "parts" "I") ∈ lw_all := lw_g (lw_at lw_m4 202 rfl) rfl
theorem q1017 : (Jvm.Cond.soleField "ColourDuel$Move" "parts") ∈ lw_all := lw_g (lw_at lw_m4 203 rfl) rfl
theorem q1018 : (Jvm.Cond.superclass "ColourDuel$Move" "java/lang/Record") ∈ lw_all := lw_g (lw_at lw_m4 204 rfl) rfl
theorem q1741 : (Jvm.Cond.instanceMethod ({ cls := "ColourDuel$Move", name := "get", desc := "(I)I" } : Jvm.MethodName)) ∈ lw_all := lw_g (lw_at lw_m7 207 rfl) rfl
theorem q1742 : (Jvm.Cond.selects "ColourDuel$Move" ({ cls := "ColourDuel$Move", name := "get", desc := "(I)I" } : Jvm.MethodName) ({ cls := "ColourDuel$Move", name := "get", desc := "(I)I" } : Jvm.MethodName)) ∈ lw_all := lw_g (lw_at lw_m7 208 rfl) rfl
theorem q1743 : (Jvm.Cond.code ({ cls := "ColourDuel$Move", name := "get", desc := "(I)I" } : Jvm.MethodName) prog_8_method_2_code (2 : Nat) (Option.some Jvm.ClassFile.FieldType.int)) ∈ lw_all := lw_g (lw_at lw_m7 209 rfl) rfl
theorem q2266 : (Jvm.Cond.castable "ColourDuel$Move" "java/lang/Object") ∈ lw_tbl := lw_at lw_m10 12 rfl
theorem in_X9 : ∀ w ∈ wsX90, w ∈ lw_all := lw_in wsX90 [1010, 1012, 1014, 1016] (by decide +kernel) (by decide +kernel)
/-! ColourDuel$Part -/
set_option maxRecDepth 100000
def RX10 : String := "ColourDuel$Part"
def TX10 : u_T := fun k => match k with
  | 0 => ("ColourDuel$Part", "set", "I", true)
  | _ => ("ColourDuel$Part", "ban", "I", true)
def tyX10 : Nat → FieldType := fun k => match k with
  | 0 => .int
  | _ => .int
abbrev wsX100 : List Cond := u_ws RX10 TX10 2
theorem nmX10 : ∀ a, a < 2 → ∀ b, b < 2 → a ≠ b → (TX10 a).2.1 ≠ (TX10 b).2.1 := by decide +kernel
theorem tyX10_ok : ∀ k, k < 2 → parseFieldDescriptor (TX10 k).2.2.1 = some (tyX10 k) := by decide +kernel
abbrev cX10_init : ByteArray := prog_9_method_1_code
def yX10_init : MethodName := ⟨RX10, "<init>", "(II)V"⟩
def dkwX10_init_0 : List UInt8 := [42, 183, 0, 1, 42, 27, 181, 0, 7, 42, 28, 181, 0, 13, 177]
abbrev dktX10_init_0 : List UInt8 := dkwX10_init_0 ++ []
theorem dksX10_init_0 : cX10_init.data.toList.drop 0 = dktX10_init_0 := by decide +kernel
theorem dX10_init_0 : decode cX10_init 0 = .ok (.aload_n 0, 1) := dk_42 (dk_at dksX10_init_0 0 rfl rfl)
theorem dX10_init_1 : decode cX10_init 1 = .ok (.invokespecial 1, 3) := dk_183 0 1 (dk_at dksX10_init_0 1 rfl rfl)
theorem dX10_init_4 : decode cX10_init 4 = .ok (.aload_n 0, 1) := dk_42 (dk_at dksX10_init_0 4 rfl rfl)
theorem dX10_init_5 : decode cX10_init 5 = .ok (.iload_n 1, 1) := dk_27 (dk_at dksX10_init_0 5 rfl rfl)
theorem dX10_init_6 : decode cX10_init 6 = .ok (.putfield 7, 3) := dk_181 0 7 (dk_at dksX10_init_0 6 rfl rfl)
theorem dX10_init_9 : decode cX10_init 9 = .ok (.aload_n 0, 1) := dk_42 (dk_at dksX10_init_0 9 rfl rfl)
theorem dX10_init_10 : decode cX10_init 10 = .ok (.iload_n 2, 1) := dk_28 (dk_at dksX10_init_0 10 rfl rfl)
theorem dX10_init_11 : decode cX10_init 11 = .ok (.putfield 13, 3) := dk_181 0 13 (dk_at dksX10_init_0 11 rfl rfl)
theorem dX10_init_14 : decode cX10_init 14 = .ok (.return_, 1) := dk_177 (dk_at dksX10_init_0 14 rfl rfl)
abbrev cX10_set : ByteArray := prog_9_method_7_code
def yX10_set : MethodName := ⟨RX10, "set", "()I"⟩
theorem dX10_set_0 : decode cX10_set 0 = .ok (.aload_n 0, 1) := by decide +kernel
theorem dX10_set_1 : decode cX10_set 1 = .ok (.getfield 7, 3) := by decide +kernel
theorem dX10_set_4 : decode cX10_set 4 = .ok (.ireturn, 1) := by decide +kernel
abbrev cX10_ban : ByteArray := prog_9_method_8_code
def yX10_ban : MethodName := ⟨RX10, "ban", "()I"⟩
theorem dX10_ban_0 : decode cX10_ban 0 = .ok (.aload_n 0, 1) := by decide +kernel
theorem dX10_ban_1 : decode cX10_ban 1 = .ok (.getfield 13, 3) := by decide +kernel
theorem dX10_ban_4 : decode cX10_ban 4 = .ok (.ireturn, 1) := by decide +kernel
abbrev cX10_size : ByteArray := prog_9_method_2_code
def yX10_size : MethodName := ⟨RX10, "size", "()I"⟩
def dkwX10_size_0 : List UInt8 := [42, 180, 0, 7, 184, 0, 16, 172]
abbrev dktX10_size_0 : List UInt8 := dkwX10_size_0 ++ []
theorem dksX10_size_0 : cX10_size.data.toList.drop 0 = dktX10_size_0 := by decide +kernel
theorem dX10_size_0 : decode cX10_size 0 = .ok (.aload_n 0, 1) := dk_42 (dk_at dksX10_size_0 0 rfl rfl)
theorem dX10_size_1 : decode cX10_size 1 = .ok (.getfield 7, 3) := dk_180 0 7 (dk_at dksX10_size_0 1 rfl rfl)
theorem dX10_size_4 : decode cX10_size 4 = .ok (.invokestatic 16, 3) := dk_184 0 16 (dk_at dksX10_size_0 4 rfl rfl)
theorem dX10_size_7 : decode cX10_size 7 = .ok (.ireturn, 1) := dk_172 (dk_at dksX10_size_0 7 rfl rfl)
abbrev cX10_least : ByteArray := prog_9_method_3_code
def yX10_least : MethodName := ⟨RX10, "least", "()I"⟩
def dkwX10_least_0 : List UInt8 := [42, 180, 0, 7, 184, 0, 22, 172]
abbrev dktX10_least_0 : List UInt8 := dkwX10_least_0 ++ []
theorem dksX10_least_0 : cX10_least.data.toList.drop 0 = dktX10_least_0 := by decide +kernel
theorem dX10_least_0 : decode cX10_least 0 = .ok (.aload_n 0, 1) := dk_42 (dk_at dksX10_least_0 0 rfl rfl)
theorem dX10_least_1 : decode cX10_least 1 = .ok (.getfield 7, 3) := dk_180 0 7 (dk_at dksX10_least_0 1 rfl rfl)
theorem dX10_least_4 : decode cX10_least 4 = .ok (.invokestatic 22, 3) := dk_184 0 22 (dk_at dksX10_least_0 4 rfl rfl)
theorem dX10_least_7 : decode cX10_least 7 = .ok (.ireturn, 1) := dk_172 (dk_at dksX10_least_0 7 rfl rfl)
theorem q129 : (Jvm.Cond.initialized "ColourDuel$Part") ∈ lw_all := lw_g (lw_at lw_m1 35 rfl) rfl
theorem q951 : (Jvm.Cond.selects "ColourDuel$Part" ({ cls := "java/lang/Object", name := "getClass", desc := "()Ljava/lang/Class;" } : Jvm.MethodName) ({ cls := "java/lang/Object", name := "getClass", desc := "()Ljava/lang/Class;" } : Jvm.MethodName)) ∈ lw_all := lw_g (lw_at lw_m4 137 rfl) rfl
theorem q1064 : (Jvm.Cond.instantiable "ColourDuel$Part" (2 : Nat)) ∈ lw_all := lw_g (lw_at lw_m5 10 rfl) rfl
theorem q1068 : (Jvm.Cond.instanceMethod ({ cls := "ColourDuel$Part", name := "<init>", desc := "(II)V" } : Jvm.MethodName)) ∈ lw_all := lw_g (lw_at lw_m5 14 rfl) rfl
theorem q1069 : (Jvm.Cond.code ({ cls := "ColourDuel$Part", name := "<init>", desc := "(II)V" } : Jvm.MethodName) prog_9_method_1_code (3 : Nat) (Option.none : Option Jvm.ClassFile.FieldType)) ∈ lw_all := lw_g (lw_at lw_m5 15 rfl) rfl
theorem q1070 : (Jvm.Cond.methodLink "ColourDuel$Part" (1 : Nat) ({ cls := "java/lang/Record", name := "<init>", desc := "()V" } : Jvm.MethodName)) ∈ lw_all := lw_g (lw_at lw_m5 16 rfl) rfl
theorem q1071 : (Jvm.Cond.fieldLink "ColourDuel$Part" (7 : Nat) "ColourDuel$Part" "set" "I") ∈ lw_all := lw_g (lw_at lw_m5 17 rfl) rfl
theorem q1072 : (Jvm.Cond.fieldLink "ColourDuel$Part" (13 : Nat) "ColourDuel$Part" "ban" "I") ∈ lw_all := lw_g (lw_at lw_m5 18 rfl) rfl
theorem q1073 : (Jvm.Cond.laysFinal "ColourDuel$Part" "ColourDuel$Part" "set" "I") ∈ lw_all := lw_g (lw_at lw_m5 19 rfl) rfl
theorem q1074 : (Jvm.Cond.soleField "ColourDuel$Part" "set") ∈ lw_all := lw_g (lw_at lw_m5 20 rfl) rfl
theorem q1075 : (Jvm.Cond.laysFinal "ColourDuel$Part" "ColourDuel$Part" "ban" "I") ∈ lw_all := lw_g (lw_at lw_m5 21 rfl) rfl
theorem q1076 : (Jvm.Cond.soleField "ColourDuel$Part" "ban") ∈ lw_all := lw_g (lw_at lw_m5 22 rfl) rfl
theorem q1077 : (Jvm.Cond.superclass "ColourDuel$Part" "java/lang/Record") ∈ lw_all := lw_g (lw_at lw_m5 23 rfl) rfl
theorem q1079 : (Jvm.Cond.instanceMethod ({ cls := "ColourDuel$Part", name := "set", desc := "()I" } : Jvm.MethodName)) ∈ lw_all := lw_g (lw_at lw_m5 25 rfl) rfl
theorem q1080 : (Jvm.Cond.selects "ColourDuel$Part" ({ cls := "ColourDuel$Part", name := "set", desc := "()I" } : Jvm.MethodName) ({ cls := "ColourDuel$Part", name := "set", desc := "()I" } : Jvm.MethodName)) ∈ lw_all := lw_g (lw_at lw_m5 26 rfl) rfl
theorem q1081 : (Jvm.Cond.code ({ cls := "ColourDuel$Part", name := "set", desc := "()I" } : Jvm.MethodName) prog_9_method_7_code (1 : Nat) (Option.some Jvm.ClassFile.FieldType.int)) ∈ lw_all := lw_g (lw_at lw_m5 27 rfl) rfl
theorem q1117 : (Jvm.Cond.instanceMethod ({ cls := "ColourDuel$Part", name := "ban", desc := "()I" } : Jvm.MethodName)) ∈ lw_all := lw_g (lw_at lw_m5 63 rfl) rfl
theorem q1118 : (Jvm.Cond.selects "ColourDuel$Part" ({ cls := "ColourDuel$Part", name := "ban", desc := "()I" } : Jvm.MethodName) ({ cls := "ColourDuel$Part", name := "ban", desc := "()I" } : Jvm.MethodName)) ∈ lw_all := lw_g (lw_at lw_m5 64 rfl) rfl
theorem q1119 : (Jvm.Cond.code ({ cls := "ColourDuel$Part", name := "ban", desc := "()I" } : Jvm.MethodName) prog_9_method_8_code (1 : Nat) (Option.some Jvm.ClassFile.FieldType.int)) ∈ lw_all := lw_g (lw_at lw_m5 65 rfl) rfl
theorem q1597 : (Jvm.Cond.instanceMethod ({ cls := "ColourDuel$Part", name := "size", desc := "()I" } : Jvm.MethodName)) ∈ lw_all := lw_g (lw_at lw_m7 63 rfl) rfl
theorem q1598 : (Jvm.Cond.selects "ColourDuel$Part" ({ cls := "ColourDuel$Part", name := "size", desc := "()I" } : Jvm.MethodName) ({ cls := "ColourDuel$Part", name := "size", desc := "()I" } : Jvm.MethodName)) ∈ lw_all := lw_g (lw_at lw_m7 64 rfl) rfl
theorem q1599 : (Jvm.Cond.code ({ cls := "ColourDuel$Part", name := "size", desc := "()I" } : Jvm.MethodName) prog_9_method_2_code (1 : Nat) (Option.some Jvm.ClassFile.FieldType.int)) ∈ lw_all := lw_g (lw_at lw_m7 65 rfl) rfl
theorem q1600 : (Jvm.Cond.methodLink "ColourDuel$Part" (16 : Nat) ({ cls := "java/lang/Integer", name := "bitCount", desc := "(I)I" } : Jvm.MethodName)) ∈ lw_all := lw_g (lw_at lw_m7 66 rfl) rfl
theorem q1602 : (Jvm.Cond.instanceMethod ({ cls := "ColourDuel$Part", name := "least", desc := "()I" } : Jvm.MethodName)) ∈ lw_all := lw_g (lw_at lw_m7 68 rfl) rfl
theorem q1603 : (Jvm.Cond.selects "ColourDuel$Part" ({ cls := "ColourDuel$Part", name := "least", desc := "()I" } : Jvm.MethodName) ({ cls := "ColourDuel$Part", name := "least", desc := "()I" } : Jvm.MethodName)) ∈ lw_all := lw_g (lw_at lw_m7 69 rfl) rfl
theorem q1604 : (Jvm.Cond.code ({ cls := "ColourDuel$Part", name := "least", desc := "()I" } : Jvm.MethodName) prog_9_method_3_code (1 : Nat) (Option.some Jvm.ClassFile.FieldType.int)) ∈ lw_all := lw_g (lw_at lw_m7 70 rfl) rfl
theorem q1605 : (Jvm.Cond.methodLink "ColourDuel$Part" (22 : Nat) ({ cls := "java/lang/Integer", name := "numberOfTrailingZeros", desc := "(I)I" } : Jvm.MethodName)) ∈ lw_all := lw_g (lw_at lw_m7 71 rfl) rfl
theorem q2270 : (Jvm.Cond.castable "ColourDuel$Part" "java/lang/Object") ∈ lw_tbl := lw_at lw_m10 16 rfl
theorem in_X10 : ∀ w ∈ wsX100, w ∈ lw_all := lw_in wsX100 [1073, 1075] (by decide +kernel) (by decide +kernel)
/-! ColourDuel$Board$Moves -/
set_option maxRecDepth 100000
def RX11 : String := "ColourDuel$Board$Moves"
def TX11 : u_T := fun k => match k with
  | 0 => ("ColourDuel$Board$Moves", "at", "I", false)
  | _ => ("ColourDuel$Board$Moves", "this$0", "LColourDuel$Board;", true)
def tyX11 : Nat → FieldType := fun k => match k with
  | 0 => .int
  | _ => .object "ColourDuel$Board"
abbrev wsX110 : List Cond := u_ws RX11 TX11 2
theorem nmX11 : ∀ a, a < 2 → ∀ b, b < 2 → a ≠ b → (TX11 a).2.1 ≠ (TX11 b).2.1 := by decide +kernel
theorem tyX11_ok : ∀ k, k < 2 → parseFieldDescriptor (TX11 k).2.2.1 = some (tyX11 k) := by decide +kernel
abbrev cX11_init : ByteArray := prog_5_method_1_code
def yX11_init : MethodName := ⟨RX11, "<init>", "(LColourDuel$Board;)V"⟩
def dkwX11_init_0 : List UInt8 := [42, 43, 181, 0, 3, 42, 183, 0, 9, 42, 2, 181, 0, 15, 42, 182, 0, 19, 177]
abbrev dktX11_init_0 : List UInt8 := dkwX11_init_0 ++ []
theorem dksX11_init_0 : cX11_init.data.toList.drop 0 = dktX11_init_0 := by decide +kernel
theorem dX11_init_0 : decode cX11_init 0 = .ok (.aload_n 0, 1) := dk_42 (dk_at dksX11_init_0 0 rfl rfl)
theorem dX11_init_1 : decode cX11_init 1 = .ok (.aload_n 1, 1) := dk_43 (dk_at dksX11_init_0 1 rfl rfl)
theorem dX11_init_2 : decode cX11_init 2 = .ok (.putfield 3, 3) := dk_181 0 3 (dk_at dksX11_init_0 2 rfl rfl)
theorem dX11_init_5 : decode cX11_init 5 = .ok (.aload_n 0, 1) := dk_42 (dk_at dksX11_init_0 5 rfl rfl)
theorem dX11_init_6 : decode cX11_init 6 = .ok (.invokespecial 9, 3) := dk_183 0 9 (dk_at dksX11_init_0 6 rfl rfl)
theorem dX11_init_9 : decode cX11_init 9 = .ok (.aload_n 0, 1) := dk_42 (dk_at dksX11_init_0 9 rfl rfl)
theorem dX11_init_10 : decode cX11_init 10 = .ok (.iconst (-1), 1) := dk_2 (dk_at dksX11_init_0 10 rfl rfl)
theorem dX11_init_11 : decode cX11_init 11 = .ok (.putfield 15, 3) := dk_181 0 15 (dk_at dksX11_init_0 11 rfl rfl)
theorem dX11_init_14 : decode cX11_init 14 = .ok (.aload_n 0, 1) := dk_42 (dk_at dksX11_init_0 14 rfl rfl)
theorem dX11_init_15 : decode cX11_init 15 = .ok (.invokevirtual 19, 3) := dk_182 0 19 (dk_at dksX11_init_0 15 rfl rfl)
theorem dX11_init_18 : decode cX11_init 18 = .ok (.return_, 1) := dk_177 (dk_at dksX11_init_0 18 rfl rfl)
abbrev cX11_settles : ByteArray := prog_5_method_3_code
def yX11_settles : MethodName := ⟨RX11, "settles", "()V"⟩
def dkwX11_settles_3 : List UInt8 := [180, 0, 3, 180, 0, 50, 158, 0, 8, 16, 100, 167, 0, 5, 16, 101, 181, 0, 15, 177]
abbrev dktX11_settles_3 : List UInt8 := dkwX11_settles_3 ++ []
def dkwX11_settles_2 : List UInt8 := [167, 255, 220, 42, 180, 0, 15, 7, 42, 180, 0, 3, 180, 0, 22, 180, 0, 43, 104, 160, 0, 24, 42, 42]
abbrev dktX11_settles_2 : List UInt8 := dkwX11_settles_2 ++ dktX11_settles_3
def dkwX11_settles_1 : List UInt8 := [180, 0, 43, 104, 162, 0, 23, 42, 182, 0, 46, 154, 0, 16, 42, 89, 180, 0, 15, 4, 96, 181, 0, 15]
abbrev dktX11_settles_1 : List UInt8 := dkwX11_settles_1 ++ dktX11_settles_2
def dkwX11_settles_0 : List UInt8 := [42, 89, 180, 0, 15, 4, 96, 181, 0, 15, 42, 180, 0, 15, 7, 42, 180, 0, 3, 180, 0, 22]
abbrev dktX11_settles_0 : List UInt8 := dkwX11_settles_0 ++ dktX11_settles_1
theorem dksX11_settles_0 : cX11_settles.data.toList.drop 0 = dktX11_settles_0 := by decide +kernel
theorem dksX11_settles_1 : cX11_settles.data.toList.drop 22 = dktX11_settles_1 := dk_seg dksX11_settles_0 22 rfl rfl
theorem dksX11_settles_2 : cX11_settles.data.toList.drop 46 = dktX11_settles_2 := dk_seg dksX11_settles_1 24 rfl rfl
theorem dksX11_settles_3 : cX11_settles.data.toList.drop 70 = dktX11_settles_3 := dk_seg dksX11_settles_2 24 rfl rfl
theorem dX11_settles_0 : decode cX11_settles 0 = .ok (.aload_n 0, 1) := dk_42 (dk_at dksX11_settles_0 0 rfl rfl)
theorem dX11_settles_1 : decode cX11_settles 1 = .ok (.dup, 1) := dk_89 (dk_at dksX11_settles_0 1 rfl rfl)
theorem dX11_settles_2 : decode cX11_settles 2 = .ok (.getfield 15, 3) := dk_180 0 15 (dk_at dksX11_settles_0 2 rfl rfl)
theorem dX11_settles_5 : decode cX11_settles 5 = .ok (.iconst 1, 1) := dk_4 (dk_at dksX11_settles_0 5 rfl rfl)
theorem dX11_settles_6 : decode cX11_settles 6 = .ok (.iadd, 1) := dk_96 (dk_at dksX11_settles_0 6 rfl rfl)
theorem dX11_settles_7 : decode cX11_settles 7 = .ok (.putfield 15, 3) := dk_181 0 15 (dk_at dksX11_settles_0 7 rfl rfl)
theorem dX11_settles_10 : decode cX11_settles 10 = .ok (.aload_n 0, 1) := dk_42 (dk_at dksX11_settles_0 10 rfl rfl)
theorem dX11_settles_11 : decode cX11_settles 11 = .ok (.getfield 15, 3) := dk_180 0 15 (dk_at dksX11_settles_0 11 rfl rfl)
theorem dX11_settles_14 : decode cX11_settles 14 = .ok (.iconst 4, 1) := dk_7 (dk_at dksX11_settles_0 14 rfl rfl)
theorem dX11_settles_15 : decode cX11_settles 15 = .ok (.aload_n 0, 1) := dk_42 (dk_at dksX11_settles_0 15 rfl rfl)
theorem dX11_settles_16 : decode cX11_settles 16 = .ok (.getfield 3, 3) := dk_180 0 3 (dk_at dksX11_settles_0 16 rfl rfl)
theorem dX11_settles_19 : decode cX11_settles 19 = .ok (.getfield 22, 3) := dk_180 0 22 (dk_at dksX11_settles_0 19 rfl rfl)
theorem dX11_settles_22 : decode cX11_settles 22 = .ok (.getfield 43, 3) := dk_180 0 43 (dk_at dksX11_settles_1 0 rfl rfl)
theorem dX11_settles_25 : decode cX11_settles 25 = .ok (.imul, 1) := dk_104 (dk_at dksX11_settles_1 3 rfl rfl)
theorem dX11_settles_26 : decode cX11_settles 26 = .ok (.if_icmp .ge 23, 3) := dk_162 0 23 (dk_at dksX11_settles_1 4 rfl rfl)
theorem dX11_settles_29 : decode cX11_settles 29 = .ok (.aload_n 0, 1) := dk_42 (dk_at dksX11_settles_1 7 rfl rfl)
theorem dX11_settles_30 : decode cX11_settles 30 = .ok (.invokevirtual 46, 3) := dk_182 0 46 (dk_at dksX11_settles_1 8 rfl rfl)
theorem dX11_settles_33 : decode cX11_settles 33 = .ok (.ifCond .ne 16, 3) := dk_154 0 16 (dk_at dksX11_settles_1 11 rfl rfl)
theorem dX11_settles_36 : decode cX11_settles 36 = .ok (.aload_n 0, 1) := dk_42 (dk_at dksX11_settles_1 14 rfl rfl)
theorem dX11_settles_37 : decode cX11_settles 37 = .ok (.dup, 1) := dk_89 (dk_at dksX11_settles_1 15 rfl rfl)
theorem dX11_settles_38 : decode cX11_settles 38 = .ok (.getfield 15, 3) := dk_180 0 15 (dk_at dksX11_settles_1 16 rfl rfl)
theorem dX11_settles_41 : decode cX11_settles 41 = .ok (.iconst 1, 1) := dk_4 (dk_at dksX11_settles_1 19 rfl rfl)
theorem dX11_settles_42 : decode cX11_settles 42 = .ok (.iadd, 1) := dk_96 (dk_at dksX11_settles_1 20 rfl rfl)
theorem dX11_settles_43 : decode cX11_settles 43 = .ok (.putfield 15, 3) := dk_181 0 15 (dk_at dksX11_settles_1 21 rfl rfl)
theorem dX11_settles_46 : decode cX11_settles 46 = .ok (.goto (-36), 3) := dk_167 255 220 (dk_at dksX11_settles_2 0 rfl rfl)
theorem dX11_settles_49 : decode cX11_settles 49 = .ok (.aload_n 0, 1) := dk_42 (dk_at dksX11_settles_2 3 rfl rfl)
theorem dX11_settles_50 : decode cX11_settles 50 = .ok (.getfield 15, 3) := dk_180 0 15 (dk_at dksX11_settles_2 4 rfl rfl)
theorem dX11_settles_53 : decode cX11_settles 53 = .ok (.iconst 4, 1) := dk_7 (dk_at dksX11_settles_2 7 rfl rfl)
theorem dX11_settles_54 : decode cX11_settles 54 = .ok (.aload_n 0, 1) := dk_42 (dk_at dksX11_settles_2 8 rfl rfl)
theorem dX11_settles_55 : decode cX11_settles 55 = .ok (.getfield 3, 3) := dk_180 0 3 (dk_at dksX11_settles_2 9 rfl rfl)
theorem dX11_settles_58 : decode cX11_settles 58 = .ok (.getfield 22, 3) := dk_180 0 22 (dk_at dksX11_settles_2 12 rfl rfl)
theorem dX11_settles_61 : decode cX11_settles 61 = .ok (.getfield 43, 3) := dk_180 0 43 (dk_at dksX11_settles_2 15 rfl rfl)
theorem dX11_settles_64 : decode cX11_settles 64 = .ok (.imul, 1) := dk_104 (dk_at dksX11_settles_2 18 rfl rfl)
theorem dX11_settles_65 : decode cX11_settles 65 = .ok (.if_icmp .ne 24, 3) := dk_160 0 24 (dk_at dksX11_settles_2 19 rfl rfl)
theorem dX11_settles_68 : decode cX11_settles 68 = .ok (.aload_n 0, 1) := dk_42 (dk_at dksX11_settles_2 22 rfl rfl)
theorem dX11_settles_69 : decode cX11_settles 69 = .ok (.aload_n 0, 1) := dk_42 (dk_at dksX11_settles_2 23 rfl rfl)
theorem dX11_settles_70 : decode cX11_settles 70 = .ok (.getfield 3, 3) := dk_180 0 3 (dk_at dksX11_settles_3 0 rfl rfl)
theorem dX11_settles_73 : decode cX11_settles 73 = .ok (.getfield 50, 3) := dk_180 0 50 (dk_at dksX11_settles_3 3 rfl rfl)
theorem dX11_settles_76 : decode cX11_settles 76 = .ok (.ifCond .le 8, 3) := dk_158 0 8 (dk_at dksX11_settles_3 6 rfl rfl)
theorem dX11_settles_79 : decode cX11_settles 79 = .ok (.bipush 100, 2) := dk_16 100 (dk_at dksX11_settles_3 9 rfl rfl)
theorem dX11_settles_81 : decode cX11_settles 81 = .ok (.goto 5, 3) := dk_167 0 5 (dk_at dksX11_settles_3 11 rfl rfl)
theorem dX11_settles_84 : decode cX11_settles 84 = .ok (.bipush 101, 2) := dk_16 101 (dk_at dksX11_settles_3 14 rfl rfl)
theorem dX11_settles_86 : decode cX11_settles 86 = .ok (.putfield 15, 3) := dk_181 0 15 (dk_at dksX11_settles_3 16 rfl rfl)
theorem dX11_settles_89 : decode cX11_settles 89 = .ok (.return_, 1) := dk_177 (dk_at dksX11_settles_3 19 rfl rfl)
abbrev cX11_canBe : ByteArray := prog_5_method_2_code
def yX11_canBe : MethodName := ⟨RX11, "canBe", "()Z"⟩
def dkwX11_canBe_2 : List UInt8 := [167, 0, 4, 3, 172]
abbrev dktX11_canBe_2 : List UInt8 := dkwX11_canBe_2 ++ []
def dkwX11_canBe_1 : List UInt8 := [180, 0, 28, 162, 0, 22, 178, 0, 33, 42, 180, 0, 3, 27, 28, 182, 0, 37, 154, 0, 7, 4]
abbrev dktX11_canBe_1 : List UInt8 := dkwX11_canBe_1 ++ dktX11_canBe_2
def dkwX11_canBe_0 : List UInt8 := [42, 180, 0, 15, 7, 108, 60, 42, 180, 0, 15, 7, 112, 61, 28, 42, 180, 0, 3, 180, 0, 22]
abbrev dktX11_canBe_0 : List UInt8 := dkwX11_canBe_0 ++ dktX11_canBe_1
theorem dksX11_canBe_0 : cX11_canBe.data.toList.drop 0 = dktX11_canBe_0 := by decide +kernel
theorem dksX11_canBe_1 : cX11_canBe.data.toList.drop 22 = dktX11_canBe_1 := dk_seg dksX11_canBe_0 22 rfl rfl
theorem dksX11_canBe_2 : cX11_canBe.data.toList.drop 44 = dktX11_canBe_2 := dk_seg dksX11_canBe_1 22 rfl rfl
theorem dX11_canBe_0 : decode cX11_canBe 0 = .ok (.aload_n 0, 1) := dk_42 (dk_at dksX11_canBe_0 0 rfl rfl)
theorem dX11_canBe_1 : decode cX11_canBe 1 = .ok (.getfield 15, 3) := dk_180 0 15 (dk_at dksX11_canBe_0 1 rfl rfl)
theorem dX11_canBe_4 : decode cX11_canBe 4 = .ok (.iconst 4, 1) := dk_7 (dk_at dksX11_canBe_0 4 rfl rfl)
theorem dX11_canBe_5 : decode cX11_canBe 5 = .ok (.idiv, 1) := dk_108 (dk_at dksX11_canBe_0 5 rfl rfl)
theorem dX11_canBe_6 : decode cX11_canBe 6 = .ok (.istore_n 1, 1) := dk_60 (dk_at dksX11_canBe_0 6 rfl rfl)
theorem dX11_canBe_7 : decode cX11_canBe 7 = .ok (.aload_n 0, 1) := dk_42 (dk_at dksX11_canBe_0 7 rfl rfl)
theorem dX11_canBe_8 : decode cX11_canBe 8 = .ok (.getfield 15, 3) := dk_180 0 15 (dk_at dksX11_canBe_0 8 rfl rfl)
theorem dX11_canBe_11 : decode cX11_canBe 11 = .ok (.iconst 4, 1) := dk_7 (dk_at dksX11_canBe_0 11 rfl rfl)
theorem dX11_canBe_12 : decode cX11_canBe 12 = .ok (.irem, 1) := dk_112 (dk_at dksX11_canBe_0 12 rfl rfl)
theorem dX11_canBe_13 : decode cX11_canBe 13 = .ok (.istore_n 2, 1) := dk_61 (dk_at dksX11_canBe_0 13 rfl rfl)
theorem dX11_canBe_14 : decode cX11_canBe 14 = .ok (.iload_n 2, 1) := dk_28 (dk_at dksX11_canBe_0 14 rfl rfl)
theorem dX11_canBe_15 : decode cX11_canBe 15 = .ok (.aload_n 0, 1) := dk_42 (dk_at dksX11_canBe_0 15 rfl rfl)
theorem dX11_canBe_16 : decode cX11_canBe 16 = .ok (.getfield 3, 3) := dk_180 0 3 (dk_at dksX11_canBe_0 16 rfl rfl)
theorem dX11_canBe_19 : decode cX11_canBe 19 = .ok (.getfield 22, 3) := dk_180 0 22 (dk_at dksX11_canBe_0 19 rfl rfl)
theorem dX11_canBe_22 : decode cX11_canBe 22 = .ok (.getfield 28, 3) := dk_180 0 28 (dk_at dksX11_canBe_1 0 rfl rfl)
theorem dX11_canBe_25 : decode cX11_canBe 25 = .ok (.if_icmp .ge 22, 3) := dk_162 0 22 (dk_at dksX11_canBe_1 3 rfl rfl)
theorem dX11_canBe_28 : decode cX11_canBe 28 = .ok (.getstatic 33, 3) := dk_178 0 33 (dk_at dksX11_canBe_1 6 rfl rfl)
theorem dX11_canBe_31 : decode cX11_canBe 31 = .ok (.aload_n 0, 1) := dk_42 (dk_at dksX11_canBe_1 9 rfl rfl)
theorem dX11_canBe_32 : decode cX11_canBe 32 = .ok (.getfield 3, 3) := dk_180 0 3 (dk_at dksX11_canBe_1 10 rfl rfl)
theorem dX11_canBe_35 : decode cX11_canBe 35 = .ok (.iload_n 1, 1) := dk_27 (dk_at dksX11_canBe_1 13 rfl rfl)
theorem dX11_canBe_36 : decode cX11_canBe 36 = .ok (.iload_n 2, 1) := dk_28 (dk_at dksX11_canBe_1 14 rfl rfl)
theorem dX11_canBe_37 : decode cX11_canBe 37 = .ok (.invokevirtual 37, 3) := dk_182 0 37 (dk_at dksX11_canBe_1 15 rfl rfl)
theorem dX11_canBe_40 : decode cX11_canBe 40 = .ok (.ifCond .ne 7, 3) := dk_154 0 7 (dk_at dksX11_canBe_1 18 rfl rfl)
theorem dX11_canBe_43 : decode cX11_canBe 43 = .ok (.iconst 1, 1) := dk_4 (dk_at dksX11_canBe_1 21 rfl rfl)
theorem dX11_canBe_44 : decode cX11_canBe 44 = .ok (.goto 4, 3) := dk_167 0 4 (dk_at dksX11_canBe_2 0 rfl rfl)
theorem dX11_canBe_47 : decode cX11_canBe 47 = .ok (.iconst 0, 1) := dk_3 (dk_at dksX11_canBe_2 3 rfl rfl)
theorem dX11_canBe_48 : decode cX11_canBe 48 = .ok (.ireturn, 1) := dk_172 (dk_at dksX11_canBe_2 4 rfl rfl)
abbrev cX11_hasNext : ByteArray := prog_5_method_4_code
def yX11_hasNext : MethodName := ⟨RX11, "hasNext", "()Z"⟩
def dkwX11_hasNext_0 : List UInt8 := [42, 180, 0, 15, 16, 100, 163, 0, 7, 4, 167, 0, 4, 3, 172]
abbrev dktX11_hasNext_0 : List UInt8 := dkwX11_hasNext_0 ++ []
theorem dksX11_hasNext_0 : cX11_hasNext.data.toList.drop 0 = dktX11_hasNext_0 := by decide +kernel
theorem dX11_hasNext_0 : decode cX11_hasNext 0 = .ok (.aload_n 0, 1) := dk_42 (dk_at dksX11_hasNext_0 0 rfl rfl)
theorem dX11_hasNext_1 : decode cX11_hasNext 1 = .ok (.getfield 15, 3) := dk_180 0 15 (dk_at dksX11_hasNext_0 1 rfl rfl)
theorem dX11_hasNext_4 : decode cX11_hasNext 4 = .ok (.bipush 100, 2) := dk_16 100 (dk_at dksX11_hasNext_0 4 rfl rfl)
theorem dX11_hasNext_6 : decode cX11_hasNext 6 = .ok (.if_icmp .gt 7, 3) := dk_163 0 7 (dk_at dksX11_hasNext_0 6 rfl rfl)
theorem dX11_hasNext_9 : decode cX11_hasNext 9 = .ok (.iconst 1, 1) := dk_4 (dk_at dksX11_hasNext_0 9 rfl rfl)
theorem dX11_hasNext_10 : decode cX11_hasNext 10 = .ok (.goto 4, 3) := dk_167 0 4 (dk_at dksX11_hasNext_0 10 rfl rfl)
theorem dX11_hasNext_13 : decode cX11_hasNext 13 = .ok (.iconst 0, 1) := dk_3 (dk_at dksX11_hasNext_0 13 rfl rfl)
theorem dX11_hasNext_14 : decode cX11_hasNext 14 = .ok (.ireturn, 1) := dk_172 (dk_at dksX11_hasNext_0 14 rfl rfl)
abbrev cX11_next : ByteArray := prog_5_method_5_code
def yX11_next : MethodName := ⟨RX11, "next", "()Ljava/lang/Integer;"⟩
def dkwX11_next_0 : List UInt8 := [42, 180, 0, 15, 60, 42, 182, 0, 19, 27, 184, 0, 53, 176]
abbrev dktX11_next_0 : List UInt8 := dkwX11_next_0 ++ []
theorem dksX11_next_0 : cX11_next.data.toList.drop 0 = dktX11_next_0 := by decide +kernel
theorem dX11_next_0 : decode cX11_next 0 = .ok (.aload_n 0, 1) := dk_42 (dk_at dksX11_next_0 0 rfl rfl)
theorem dX11_next_1 : decode cX11_next 1 = .ok (.getfield 15, 3) := dk_180 0 15 (dk_at dksX11_next_0 1 rfl rfl)
theorem dX11_next_4 : decode cX11_next 4 = .ok (.istore_n 1, 1) := dk_60 (dk_at dksX11_next_0 4 rfl rfl)
theorem dX11_next_5 : decode cX11_next 5 = .ok (.aload_n 0, 1) := dk_42 (dk_at dksX11_next_0 5 rfl rfl)
theorem dX11_next_6 : decode cX11_next 6 = .ok (.invokevirtual 19, 3) := dk_182 0 19 (dk_at dksX11_next_0 6 rfl rfl)
theorem dX11_next_9 : decode cX11_next 9 = .ok (.iload_n 1, 1) := dk_27 (dk_at dksX11_next_0 9 rfl rfl)
theorem dX11_next_10 : decode cX11_next 10 = .ok (.invokestatic 53, 3) := dk_184 0 53 (dk_at dksX11_next_0 10 rfl rfl)
theorem dX11_next_13 : decode cX11_next 13 = .ok (.areturn, 1) := dk_176 (dk_at dksX11_next_0 13 rfl rfl)
theorem q131 : (Jvm.Cond.initialized "ColourDuel$Board$Moves") ∈ lw_all := lw_g (lw_at lw_m1 37 rfl) rfl
theorem q198 : (Jvm.Cond.fieldLinkNest "ColourDuel$Board$Moves" (28 : Nat) "ColourDuel$Graph" "colours" "I" "ColourDuel") ∈ lw_tbl := lw_at lw_m1 104 rfl
theorem q214 : (Jvm.Cond.fieldLinkNest "ColourDuel$Board$Moves" (43 : Nat) "ColourDuel$Graph" "size" "I" "ColourDuel") ∈ lw_tbl := lw_at lw_m1 120 rfl
theorem q610 : (Jvm.Cond.fieldLinkNest "ColourDuel$Board$Moves" (22 : Nat) "ColourDuel$Board" "graph" "LColourDuel$Graph;" "ColourDuel") ∈ lw_tbl := lw_at lw_m3 36 rfl
theorem q624 : (Jvm.Cond.fieldLinkNest "ColourDuel$Board$Moves" (50 : Nat) "ColourDuel$Board" "passes" "I" "ColourDuel") ∈ lw_tbl := lw_at lw_m3 50 rfl
theorem q806 : (Jvm.Cond.instantiable "ColourDuel$Board$Moves" (2 : Nat)) ∈ lw_all := lw_g (lw_at lw_m3 232 rfl) rfl
theorem q808 : (Jvm.Cond.instanceMethod ({ cls := "ColourDuel$Board$Moves", name := "<init>", desc := "(LColourDuel$Board;)V" } : Jvm.MethodName)) ∈ lw_all := lw_g (lw_at lw_m3 234 rfl) rfl
theorem q809 : (Jvm.Cond.code ({ cls := "ColourDuel$Board$Moves", name := "<init>", desc := "(LColourDuel$Board;)V" } : Jvm.MethodName) prog_5_method_1_code (2 : Nat) (Option.none : Option Jvm.ClassFile.FieldType)) ∈ lw_all := lw_g (lw_at lw_m3 235 rfl) rfl
theorem q810 : (Jvm.Cond.methodLink "ColourDuel$Board$Moves" (9 : Nat) ({ cls := "java/lang/Object", name := "<init>", desc := "()V" } : Jvm.MethodName)) ∈ lw_all := lw_g (lw_at lw_m3 236 rfl) rfl
theorem q811 : (Jvm.Cond.methodLink "ColourDuel$Board$Moves" (19 : Nat) ({ cls := "ColourDuel$Board$Moves", name := "settles", desc := "()V" } : Jvm.MethodName)) ∈ lw_all := lw_g (lw_at lw_m3 237 rfl) rfl
theorem q812 : (Jvm.Cond.privateMethod ({ cls := "ColourDuel$Board$Moves", name := "settles", desc := "()V" } : Jvm.MethodName)) ∈ lw_tbl := lw_at lw_m3 238 rfl
theorem q813 : (Jvm.Cond.instanceMethod ({ cls := "ColourDuel$Board$Moves", name := "settles", desc := "()V" } : Jvm.MethodName)) ∈ lw_all := lw_g (lw_at lw_m3 239 rfl) rfl
theorem q814 : (Jvm.Cond.code ({ cls := "ColourDuel$Board$Moves", name := "settles", desc := "()V" } : Jvm.MethodName) prog_5_method_3_code (1 : Nat) (Option.none : Option Jvm.ClassFile.FieldType)) ∈ lw_all := lw_g (lw_at lw_m4 0 rfl) rfl
theorem q815 : (Jvm.Cond.methodLink "ColourDuel$Board$Moves" (46 : Nat) ({ cls := "ColourDuel$Board$Moves", name := "canBe", desc := "()Z" } : Jvm.MethodName)) ∈ lw_all := lw_g (lw_at lw_m4 1 rfl) rfl
theorem q816 : (Jvm.Cond.privateMethod ({ cls := "ColourDuel$Board$Moves", name := "canBe", desc := "()Z" } : Jvm.MethodName)) ∈ lw_tbl := lw_at lw_m4 2 rfl
theorem q817 : (Jvm.Cond.instanceMethod ({ cls := "ColourDuel$Board$Moves", name := "canBe", desc := "()Z" } : Jvm.MethodName)) ∈ lw_all := lw_g (lw_at lw_m4 3 rfl) rfl
theorem q818 : (Jvm.Cond.code ({ cls := "ColourDuel$Board$Moves", name := "canBe", desc := "()Z" } : Jvm.MethodName) prog_5_method_2_code (3 : Nat) (Option.some Jvm.ClassFile.FieldType.boolean)) ∈ lw_all := lw_g (lw_at lw_m4 4 rfl) rfl
theorem q819 : (Jvm.Cond.fieldLinkNest "ColourDuel$Board$Moves" (33 : Nat) "ColourDuel$Board" "RULE" "LColourDuel$FullRule;" "ColourDuel") ∈ lw_tbl := lw_at lw_m4 5 rfl
theorem q821 : (Jvm.Cond.methodLink "ColourDuel$Board$Moves" (37 : Nat) ({ cls := "ColourDuel$FullRule", name := "reason", desc := "(LColourDuel$Board;II)I" } : Jvm.MethodName)) ∈ lw_all := lw_g (lw_at lw_m4 7 rfl) rfl
theorem q840 : (Jvm.Cond.fieldLink "ColourDuel$Board$Moves" (15 : Nat) "ColourDuel$Board$Moves" "at" "I") ∈ lw_all := lw_g (lw_at lw_m4 26 rfl) rfl
theorem q841 : (Jvm.Cond.fieldLink "ColourDuel$Board$Moves" (3 : Nat) "ColourDuel$Board$Moves" "this$0" "LColourDuel$Board;") ∈ lw_all := lw_g (lw_at lw_m4 27 rfl) rfl
theorem q842 : (Jvm.Cond.lays "ColourDuel$Board$Moves" "ColourDuel$Board$Moves" "at" "I") ∈ lw_all := lw_g (lw_at lw_m4 28 rfl) rfl
theorem q843 : (Jvm.Cond.soleField "ColourDuel$Board$Moves" "at") ∈ lw_all := lw_g (lw_at lw_m4 29 rfl) rfl
theorem q844 : (Jvm.Cond.laysFinal "ColourDuel$Board$Moves" "ColourDuel$Board$Moves" "this$0" "LColourDuel$Board;") ∈ lw_all := lw_g (lw_at lw_m4 30 rfl) rfl
theorem q845 : (Jvm.Cond.soleField "ColourDuel$Board$Moves" "this$0") ∈ lw_all := lw_g (lw_at lw_m4 31 rfl) rfl
theorem q846 : (Jvm.Cond.superclass "ColourDuel$Board$Moves" "java/lang/Object") ∈ lw_all := lw_g (lw_at lw_m4 32 rfl) rfl
theorem q848 : (Jvm.Cond.instanceMethod ({ cls := "ColourDuel$Board$Moves", name := "hasNext", desc := "()Z" } : Jvm.MethodName)) ∈ lw_all := lw_g (lw_at lw_m4 34 rfl) rfl
theorem q849 : (Jvm.Cond.selects "ColourDuel$Board$Moves" ({ cls := "ColourDuel$Board$Moves", name := "hasNext", desc := "()Z" } : Jvm.MethodName) ({ cls := "ColourDuel$Board$Moves", name := "hasNext", desc := "()Z" } : Jvm.MethodName)) ∈ lw_all := lw_g (lw_at lw_m4 35 rfl) rfl
theorem q850 : (Jvm.Cond.code ({ cls := "ColourDuel$Board$Moves", name := "hasNext", desc := "()Z" } : Jvm.MethodName) prog_5_method_4_code (1 : Nat) (Option.some Jvm.ClassFile.FieldType.boolean)) ∈ lw_all := lw_g (lw_at lw_m4 36 rfl) rfl
theorem q852 : (Jvm.Cond.instanceMethod ({ cls := "ColourDuel$Board$Moves", name := "next", desc := "()Ljava/lang/Integer;" } : Jvm.MethodName)) ∈ lw_all := lw_g (lw_at lw_m4 38 rfl) rfl
theorem q853 : (Jvm.Cond.selects "ColourDuel$Board$Moves" ({ cls := "ColourDuel$Board$Moves", name := "next", desc := "()Ljava/lang/Integer;" } : Jvm.MethodName) ({ cls := "ColourDuel$Board$Moves", name := "next", desc := "()Ljava/lang/Integer;" } : Jvm.MethodName)) ∈ lw_all := lw_g (lw_at lw_m4 39 rfl) rfl
theorem q854 : (Jvm.Cond.code ({ cls := "ColourDuel$Board$Moves", name := "next", desc := "()Ljava/lang/Integer;" } : Jvm.MethodName) prog_5_method_5_code (2 : Nat) (Option.some (Jvm.ClassFile.FieldType.object "java/lang/Integer"))) ∈ lw_all := lw_g (lw_at lw_m4 40 rfl) rfl
theorem q855 : (Jvm.Cond.methodLink "ColourDuel$Board$Moves" (53 : Nat) ({ cls := "java/lang/Integer", name := "valueOf", desc := "(I)Ljava/lang/Integer;" } : Jvm.MethodName)) ∈ lw_all := lw_g (lw_at lw_m4 41 rfl) rfl
theorem q947 : (Jvm.Cond.selects "ColourDuel$Board$Moves" ({ cls := "java/lang/Object", name := "getClass", desc := "()Ljava/lang/Class;" } : Jvm.MethodName) ({ cls := "java/lang/Object", name := "getClass", desc := "()Ljava/lang/Class;" } : Jvm.MethodName)) ∈ lw_all := lw_g (lw_at lw_m4 133 rfl) rfl
theorem q2271 : (Jvm.Cond.castable "ColourDuel$Board$Moves" "java/lang/Object") ∈ lw_tbl := lw_at lw_m10 17 rfl
theorem in_X11 : ∀ w ∈ wsX110, w ∈ lw_all := lw_in wsX110 [842, 844] (by decide +kernel) (by decide +kernel)
/-! ColourDuel$Rating -/
set_option maxRecDepth 100000
def RX12 : String := "ColourDuel$Rating"
abbrev cX12_init : ByteArray := prog_10_method_1_code
def yX12_init : MethodName := ⟨RX12, "<init>", "()V"⟩
def dkwX12_init_0 : List UInt8 := [42, 183, 0, 3, 42, 2, 181, 0, 9, 42, 2, 181, 0, 15, 177]
abbrev dktX12_init_0 : List UInt8 := dkwX12_init_0 ++ []
theorem dksX12_init_0 : cX12_init.data.toList.drop 0 = dktX12_init_0 := by decide +kernel
theorem dX12_init_0 : decode cX12_init 0 = .ok (.aload_n 0, 1) := dk_42 (dk_at dksX12_init_0 0 rfl rfl)
theorem dX12_init_1 : decode cX12_init 1 = .ok (.invokespecial 3, 3) := dk_183 0 3 (dk_at dksX12_init_0 1 rfl rfl)
theorem dX12_init_4 : decode cX12_init 4 = .ok (.aload_n 0, 1) := dk_42 (dk_at dksX12_init_0 4 rfl rfl)
theorem dX12_init_5 : decode cX12_init 5 = .ok (.iconst (-1), 1) := dk_2 (dk_at dksX12_init_0 5 rfl rfl)
theorem dX12_init_6 : decode cX12_init 6 = .ok (.putfield 9, 3) := dk_181 0 9 (dk_at dksX12_init_0 6 rfl rfl)
theorem dX12_init_9 : decode cX12_init 9 = .ok (.aload_n 0, 1) := dk_42 (dk_at dksX12_init_0 9 rfl rfl)
theorem dX12_init_10 : decode cX12_init 10 = .ok (.iconst (-1), 1) := dk_2 (dk_at dksX12_init_0 10 rfl rfl)
theorem dX12_init_11 : decode cX12_init 11 = .ok (.putfield 15, 3) := dk_181 0 15 (dk_at dksX12_init_0 11 rfl rfl)
theorem dX12_init_14 : decode cX12_init 14 = .ok (.return_, 1) := dk_177 (dk_at dksX12_init_0 14 rfl rfl)
abbrev cX12_offer : ByteArray := prog_10_method_3_code
def yX12_offer : MethodName := ⟨RX12, "offer", "(I)V"⟩
def dkwX12_offer_1 : List UInt8 := [181, 0, 9, 177]
abbrev dktX12_offer_1 : List UInt8 := dkwX12_offer_1 ++ []
def dkwX12_offer_0 : List UInt8 := [42, 27, 182, 0, 18, 61, 28, 42, 180, 0, 15, 163, 0, 4, 177, 42, 28, 181, 0, 15, 42, 27]
abbrev dktX12_offer_0 : List UInt8 := dkwX12_offer_0 ++ dktX12_offer_1
theorem dksX12_offer_0 : cX12_offer.data.toList.drop 0 = dktX12_offer_0 := by decide +kernel
theorem dksX12_offer_1 : cX12_offer.data.toList.drop 22 = dktX12_offer_1 := dk_seg dksX12_offer_0 22 rfl rfl
theorem dX12_offer_0 : decode cX12_offer 0 = .ok (.aload_n 0, 1) := dk_42 (dk_at dksX12_offer_0 0 rfl rfl)
theorem dX12_offer_1 : decode cX12_offer 1 = .ok (.iload_n 1, 1) := dk_27 (dk_at dksX12_offer_0 1 rfl rfl)
theorem dX12_offer_2 : decode cX12_offer 2 = .ok (.invokevirtual 18, 3) := dk_182 0 18 (dk_at dksX12_offer_0 2 rfl rfl)
theorem dX12_offer_5 : decode cX12_offer 5 = .ok (.istore_n 2, 1) := dk_61 (dk_at dksX12_offer_0 5 rfl rfl)
theorem dX12_offer_6 : decode cX12_offer 6 = .ok (.iload_n 2, 1) := dk_28 (dk_at dksX12_offer_0 6 rfl rfl)
theorem dX12_offer_7 : decode cX12_offer 7 = .ok (.aload_n 0, 1) := dk_42 (dk_at dksX12_offer_0 7 rfl rfl)
theorem dX12_offer_8 : decode cX12_offer 8 = .ok (.getfield 15, 3) := dk_180 0 15 (dk_at dksX12_offer_0 8 rfl rfl)
theorem dX12_offer_11 : decode cX12_offer 11 = .ok (.if_icmp .gt 4, 3) := dk_163 0 4 (dk_at dksX12_offer_0 11 rfl rfl)
theorem dX12_offer_14 : decode cX12_offer 14 = .ok (.return_, 1) := dk_177 (dk_at dksX12_offer_0 14 rfl rfl)
theorem dX12_offer_15 : decode cX12_offer 15 = .ok (.aload_n 0, 1) := dk_42 (dk_at dksX12_offer_0 15 rfl rfl)
theorem dX12_offer_16 : decode cX12_offer 16 = .ok (.iload_n 2, 1) := dk_28 (dk_at dksX12_offer_0 16 rfl rfl)
theorem dX12_offer_17 : decode cX12_offer 17 = .ok (.putfield 15, 3) := dk_181 0 15 (dk_at dksX12_offer_0 17 rfl rfl)
theorem dX12_offer_20 : decode cX12_offer 20 = .ok (.aload_n 0, 1) := dk_42 (dk_at dksX12_offer_0 20 rfl rfl)
theorem dX12_offer_21 : decode cX12_offer 21 = .ok (.iload_n 1, 1) := dk_27 (dk_at dksX12_offer_0 21 rfl rfl)
theorem dX12_offer_22 : decode cX12_offer 22 = .ok (.putfield 9, 3) := dk_181 0 9 (dk_at dksX12_offer_1 0 rfl rfl)
theorem dX12_offer_25 : decode cX12_offer 25 = .ok (.return_, 1) := dk_177 (dk_at dksX12_offer_1 3 rfl rfl)
theorem q133 : (Jvm.Cond.initialized "ColourDuel$Rating") ∈ lw_all := lw_g (lw_at lw_m1 39 rfl) rfl
theorem q1641 : (Jvm.Cond.instanceMethod ({ cls := "ColourDuel$Rating", name := "<init>", desc := "()V" } : Jvm.MethodName)) ∈ lw_all := lw_g (lw_at lw_m7 107 rfl) rfl
theorem q1642 : (Jvm.Cond.code ({ cls := "ColourDuel$Rating", name := "<init>", desc := "()V" } : Jvm.MethodName) prog_10_method_1_code (1 : Nat) (Option.none : Option Jvm.ClassFile.FieldType)) ∈ lw_all := lw_g (lw_at lw_m7 108 rfl) rfl
theorem q1643 : (Jvm.Cond.methodLink "ColourDuel$Rating" (3 : Nat) ({ cls := "java/lang/Object", name := "<init>", desc := "()V" } : Jvm.MethodName)) ∈ lw_all := lw_g (lw_at lw_m7 109 rfl) rfl
theorem q1646 : (Jvm.Cond.fieldLink "ColourDuel$Rating" (9 : Nat) "ColourDuel$Rating" "best" "I") ∈ lw_all := lw_g (lw_at lw_m7 112 rfl) rfl
theorem q1648 : (Jvm.Cond.fieldLink "ColourDuel$Rating" (15 : Nat) "ColourDuel$Rating" "most" "I") ∈ lw_all := lw_g (lw_at lw_m7 114 rfl) rfl
theorem q1654 : (Jvm.Cond.soleField "ColourDuel$Rating" "best") ∈ lw_all := lw_g (lw_at lw_m7 120 rfl) rfl
theorem q1656 : (Jvm.Cond.soleField "ColourDuel$Rating" "most") ∈ lw_all := lw_g (lw_at lw_m7 122 rfl) rfl
theorem q1659 : (Jvm.Cond.instanceMethod ({ cls := "ColourDuel$Rating", name := "offer", desc := "(I)V" } : Jvm.MethodName)) ∈ lw_all := lw_g (lw_at lw_m7 125 rfl) rfl
theorem q1660 : (Jvm.Cond.sameMethod "ColourDuel$Rating" "ColourDuel$Rating" "offer" "(I)V") ∈ lw_all := lw_g (lw_at lw_m7 126 rfl) rfl
theorem q1662 : (Jvm.Cond.code ({ cls := "ColourDuel$Rating", name := "offer", desc := "(I)V" } : Jvm.MethodName) prog_10_method_3_code (3 : Nat) (Option.none : Option Jvm.ClassFile.FieldType)) ∈ lw_all := lw_g (lw_at lw_m7 128 rfl) rfl
theorem q1663 : (Jvm.Cond.methodLink "ColourDuel$Rating" (18 : Nat) ({ cls := "ColourDuel$Rating", name := "of", desc := "(I)I" } : Jvm.MethodName)) ∈ lw_all := lw_g (lw_at lw_m7 129 rfl) rfl
theorem q1664 : (Jvm.Cond.declares ({ cls := "ColourDuel$Rating", name := "of", desc := "(I)I" } : Jvm.MethodName)) ∈ lw_tbl := lw_at lw_m7 130 rfl
theorem q1665 : (Jvm.Cond.sameMethod "ColourDuel$Rating" "ColourDuel$Rating" "of" "(I)I") ∈ lw_all := lw_g (lw_at lw_m7 131 rfl) rfl
/-! ColourDuel$1 -/
set_option maxRecDepth 100000
def RX13 : String := "ColourDuel$1"
def TX13 : u_T := fun k => match k with
  | 0 => ("ColourDuel$Rating", "best", "I", false)
  | 1 => ("ColourDuel$Rating", "most", "I", false)
  | 2 => ("ColourDuel$1", "val$its", "LColourDuel$Board;", true)
  | _ => ("ColourDuel$1", "this$0", "LColourDuel;", true)
def tyX13 : Nat → FieldType := fun k => match k with
  | 0 => .int
  | 1 => .int
  | 2 => .object "ColourDuel$Board"
  | _ => .object "ColourDuel"
abbrev wsX130 : List Cond := u_ws RX13 TX13 4
theorem nmX13 : ∀ a, a < 4 → ∀ b, b < 4 → a ≠ b → (TX13 a).2.1 ≠ (TX13 b).2.1 := by decide +kernel
theorem tyX13_ok : ∀ k, k < 4 → parseFieldDescriptor (TX13 k).2.2.1 = some (tyX13 k) := by decide +kernel
abbrev cX13_init : ByteArray := prog_2_method_1_code
def yX13_init : MethodName := ⟨RX13, "<init>", "(LColourDuel;LColourDuel$Board;)V"⟩
def dkwX13_init_0 : List UInt8 := [42, 43, 181, 0, 3, 42, 44, 181, 0, 9, 42, 183, 0, 13, 177]
abbrev dktX13_init_0 : List UInt8 := dkwX13_init_0 ++ []
theorem dksX13_init_0 : cX13_init.data.toList.drop 0 = dktX13_init_0 := by decide +kernel
theorem dX13_init_0 : decode cX13_init 0 = .ok (.aload_n 0, 1) := dk_42 (dk_at dksX13_init_0 0 rfl rfl)
theorem dX13_init_1 : decode cX13_init 1 = .ok (.aload_n 1, 1) := dk_43 (dk_at dksX13_init_0 1 rfl rfl)
theorem dX13_init_2 : decode cX13_init 2 = .ok (.putfield 3, 3) := dk_181 0 3 (dk_at dksX13_init_0 2 rfl rfl)
theorem dX13_init_5 : decode cX13_init 5 = .ok (.aload_n 0, 1) := dk_42 (dk_at dksX13_init_0 5 rfl rfl)
theorem dX13_init_6 : decode cX13_init 6 = .ok (.aload_n 2, 1) := dk_44 (dk_at dksX13_init_0 6 rfl rfl)
theorem dX13_init_7 : decode cX13_init 7 = .ok (.putfield 9, 3) := dk_181 0 9 (dk_at dksX13_init_0 7 rfl rfl)
theorem dX13_init_10 : decode cX13_init 10 = .ok (.aload_n 0, 1) := dk_42 (dk_at dksX13_init_0 10 rfl rfl)
theorem dX13_init_11 : decode cX13_init 11 = .ok (.invokespecial 13, 3) := dk_183 0 13 (dk_at dksX13_init_0 11 rfl rfl)
theorem dX13_init_14 : decode cX13_init 14 = .ok (.return_, 1) := dk_177 (dk_at dksX13_init_0 14 rfl rfl)
abbrev cX13_of : ByteArray := prog_2_method_2_code
def yX13_of : MethodName := ⟨RX13, "of", "(I)I"⟩
def dkwX13_of_1 : List UInt8 := [16, 100, 167, 0, 11, 42, 180, 0, 3, 44, 182, 0, 33, 172]
abbrev dktX13_of_1 : List UInt8 := dkwX13_of_1 ++ []
def dkwX13_of_0 : List UInt8 := [42, 180, 0, 9, 182, 0, 19, 77, 44, 27, 182, 0, 25, 42, 180, 0, 3, 44, 182, 0, 29, 154, 0, 8]
abbrev dktX13_of_0 : List UInt8 := dkwX13_of_0 ++ dktX13_of_1
theorem dksX13_of_0 : cX13_of.data.toList.drop 0 = dktX13_of_0 := by decide +kernel
theorem dksX13_of_1 : cX13_of.data.toList.drop 24 = dktX13_of_1 := dk_seg dksX13_of_0 24 rfl rfl
theorem dX13_of_0 : decode cX13_of 0 = .ok (.aload_n 0, 1) := dk_42 (dk_at dksX13_of_0 0 rfl rfl)
theorem dX13_of_1 : decode cX13_of 1 = .ok (.getfield 9, 3) := dk_180 0 9 (dk_at dksX13_of_0 1 rfl rfl)
theorem dX13_of_4 : decode cX13_of 4 = .ok (.invokevirtual 19, 3) := dk_182 0 19 (dk_at dksX13_of_0 4 rfl rfl)
theorem dX13_of_7 : decode cX13_of 7 = .ok (.astore_n 2, 1) := dk_77 (dk_at dksX13_of_0 7 rfl rfl)
theorem dX13_of_8 : decode cX13_of 8 = .ok (.aload_n 2, 1) := dk_44 (dk_at dksX13_of_0 8 rfl rfl)
theorem dX13_of_9 : decode cX13_of 9 = .ok (.iload_n 1, 1) := dk_27 (dk_at dksX13_of_0 9 rfl rfl)
theorem dX13_of_10 : decode cX13_of 10 = .ok (.invokevirtual 25, 3) := dk_182 0 25 (dk_at dksX13_of_0 10 rfl rfl)
theorem dX13_of_13 : decode cX13_of 13 = .ok (.aload_n 0, 1) := dk_42 (dk_at dksX13_of_0 13 rfl rfl)
theorem dX13_of_14 : decode cX13_of 14 = .ok (.getfield 3, 3) := dk_180 0 3 (dk_at dksX13_of_0 14 rfl rfl)
theorem dX13_of_17 : decode cX13_of 17 = .ok (.aload_n 2, 1) := dk_44 (dk_at dksX13_of_0 17 rfl rfl)
theorem dX13_of_18 : decode cX13_of 18 = .ok (.invokevirtual 29, 3) := dk_182 0 29 (dk_at dksX13_of_0 18 rfl rfl)
theorem dX13_of_21 : decode cX13_of 21 = .ok (.ifCond .ne 8, 3) := dk_154 0 8 (dk_at dksX13_of_0 21 rfl rfl)
theorem dX13_of_24 : decode cX13_of 24 = .ok (.bipush 100, 2) := dk_16 100 (dk_at dksX13_of_1 0 rfl rfl)
theorem dX13_of_26 : decode cX13_of 26 = .ok (.goto 11, 3) := dk_167 0 11 (dk_at dksX13_of_1 2 rfl rfl)
theorem dX13_of_29 : decode cX13_of 29 = .ok (.aload_n 0, 1) := dk_42 (dk_at dksX13_of_1 5 rfl rfl)
theorem dX13_of_30 : decode cX13_of 30 = .ok (.getfield 3, 3) := dk_180 0 3 (dk_at dksX13_of_1 6 rfl rfl)
theorem dX13_of_33 : decode cX13_of 33 = .ok (.aload_n 2, 1) := dk_44 (dk_at dksX13_of_1 9 rfl rfl)
theorem dX13_of_34 : decode cX13_of 34 = .ok (.invokevirtual 33, 3) := dk_182 0 33 (dk_at dksX13_of_1 10 rfl rfl)
theorem dX13_of_37 : decode cX13_of 37 = .ok (.ireturn, 1) := dk_172 (dk_at dksX13_of_1 13 rfl rfl)
theorem q134 : (Jvm.Cond.initialized "ColourDuel$1") ∈ lw_all := lw_g (lw_at lw_m1 40 rfl) rfl
theorem q944 : (Jvm.Cond.selects "ColourDuel$1" ({ cls := "java/lang/Object", name := "getClass", desc := "()Ljava/lang/Class;" } : Jvm.MethodName) ({ cls := "java/lang/Object", name := "getClass", desc := "()Ljava/lang/Class;" } : Jvm.MethodName)) ∈ lw_all := lw_g (lw_at lw_m4 130 rfl) rfl
theorem q1636 : (Jvm.Cond.instantiable "ColourDuel$1" (4 : Nat)) ∈ lw_all := lw_g (lw_at lw_m7 102 rfl) rfl
theorem q1638 : (Jvm.Cond.instanceMethod ({ cls := "ColourDuel$1", name := "<init>", desc := "(LColourDuel;LColourDuel$Board;)V" } : Jvm.MethodName)) ∈ lw_all := lw_g (lw_at lw_m7 104 rfl) rfl
theorem q1639 : (Jvm.Cond.code ({ cls := "ColourDuel$1", name := "<init>", desc := "(LColourDuel;LColourDuel$Board;)V" } : Jvm.MethodName) prog_2_method_1_code (3 : Nat) (Option.none : Option Jvm.ClassFile.FieldType)) ∈ lw_all := lw_g (lw_at lw_m7 105 rfl) rfl
theorem q1640 : (Jvm.Cond.methodLinkNest "ColourDuel$1" (13 : Nat) ({ cls := "ColourDuel$Rating", name := "<init>", desc := "()V" } : Jvm.MethodName) "ColourDuel") ∈ lw_tbl := lw_at lw_m7 106 rfl
theorem q1644 : (Jvm.Cond.fieldLink "ColourDuel$1" (9 : Nat) "ColourDuel$1" "val$its" "LColourDuel$Board;") ∈ lw_all := lw_g (lw_at lw_m7 110 rfl) rfl
theorem q1645 : (Jvm.Cond.fieldLink "ColourDuel$1" (3 : Nat) "ColourDuel$1" "this$0" "LColourDuel;") ∈ lw_all := lw_g (lw_at lw_m7 111 rfl) rfl
theorem q1649 : (Jvm.Cond.laysFinal "ColourDuel$1" "ColourDuel$1" "val$its" "LColourDuel$Board;") ∈ lw_all := lw_g (lw_at lw_m7 115 rfl) rfl
theorem q1650 : (Jvm.Cond.soleField "ColourDuel$1" "val$its") ∈ lw_all := lw_g (lw_at lw_m7 116 rfl) rfl
theorem q1651 : (Jvm.Cond.laysFinal "ColourDuel$1" "ColourDuel$1" "this$0" "LColourDuel;") ∈ lw_all := lw_g (lw_at lw_m7 117 rfl) rfl
theorem q1652 : (Jvm.Cond.soleField "ColourDuel$1" "this$0") ∈ lw_all := lw_g (lw_at lw_m7 118 rfl) rfl
theorem q1653 : (Jvm.Cond.lays "ColourDuel$1" "ColourDuel$Rating" "best" "I") ∈ lw_all := lw_g (lw_at lw_m7 119 rfl) rfl
theorem q1655 : (Jvm.Cond.lays "ColourDuel$1" "ColourDuel$Rating" "most" "I") ∈ lw_all := lw_g (lw_at lw_m7 121 rfl) rfl
theorem q1657 : (Jvm.Cond.superclass "ColourDuel$1" "ColourDuel$Rating") ∈ lw_all := lw_g (lw_at lw_m7 123 rfl) rfl
theorem q1661 : (Jvm.Cond.selects "ColourDuel$1" ({ cls := "ColourDuel$Rating", name := "offer", desc := "(I)V" } : Jvm.MethodName) ({ cls := "ColourDuel$Rating", name := "offer", desc := "(I)V" } : Jvm.MethodName)) ∈ lw_all := lw_g (lw_at lw_m7 127 rfl) rfl
theorem q1666 : (Jvm.Cond.selects "ColourDuel$1" ({ cls := "ColourDuel$Rating", name := "of", desc := "(I)I" } : Jvm.MethodName) ({ cls := "ColourDuel$1", name := "of", desc := "(I)I" } : Jvm.MethodName)) ∈ lw_all := lw_g (lw_at lw_m7 132 rfl) rfl
theorem q1667 : (Jvm.Cond.instanceMethod ({ cls := "ColourDuel$1", name := "of", desc := "(I)I" } : Jvm.MethodName)) ∈ lw_all := lw_g (lw_at lw_m7 133 rfl) rfl
theorem q1668 : (Jvm.Cond.code ({ cls := "ColourDuel$1", name := "of", desc := "(I)I" } : Jvm.MethodName) prog_2_method_2_code (3 : Nat) (Option.some Jvm.ClassFile.FieldType.int)) ∈ lw_all := lw_g (lw_at lw_m7 134 rfl) rfl
theorem q1669 : (Jvm.Cond.methodLink "ColourDuel$1" (19 : Nat) ({ cls := "ColourDuel$Board", name := "copy", desc := "()LColourDuel$Board;" } : Jvm.MethodName)) ∈ lw_all := lw_g (lw_at lw_m7 135 rfl) rfl
theorem q1670 : (Jvm.Cond.methodLink "ColourDuel$1" (25 : Nat) ({ cls := "ColourDuel$Board", name := "makes", desc := "(I)V" } : Jvm.MethodName)) ∈ lw_all := lw_g (lw_at lw_m7 136 rfl) rfl
theorem q1671 : (Jvm.Cond.methodLinkNest "ColourDuel$1" (29 : Nat) ({ cls := "ColourDuel", name := "valueOf", desc := "(LColourDuel$Board;)I" } : Jvm.MethodName) "ColourDuel") ∈ lw_tbl := lw_at lw_m7 137 rfl
theorem q1672 : (Jvm.Cond.methodLinkNest "ColourDuel$1" (33 : Nat) ({ cls := "ColourDuel", name := "longestOf", desc := "(LColourDuel$Board;)I" } : Jvm.MethodName) "ColourDuel") ∈ lw_tbl := lw_at lw_m7 138 rfl
theorem q2273 : (Jvm.Cond.castable "ColourDuel$1" "java/lang/Object") ∈ lw_tbl := lw_at lw_m10 19 rfl
theorem in_X13 : ∀ w ∈ wsX130, w ∈ lw_all := lw_in wsX130 [1653, 1655, 1649, 1651] (by decide +kernel) (by decide +kernel)
/-! ColourDuel$Rule -/
set_option maxRecDepth 100000
def RX14 : String := "ColourDuel$Rule"
abbrev cX14_reason : ByteArray := prog_12_method_1_code
def yX14_reason : MethodName := ⟨RX14, "reason", "(LColourDuel$Board;II)I"⟩
def dkwX14_reason_2 : List UInt8 := [3, 172]
abbrev dktX14_reason_2 : List UInt8 := dkwX14_reason_2 ++ []
def dkwX14_reason_1 : List UInt8 := [184, 0, 18, 154, 0, 5, 5, 172, 43, 28, 182, 0, 22, 29, 184, 0, 18, 153, 0, 7, 6, 167, 0, 4]
abbrev dktX14_reason_1 : List UInt8 := dkwX14_reason_1 ++ dktX14_reason_2
def dkwX14_reason_0 : List UInt8 := [43, 180, 0, 3, 28, 46, 2, 159, 0, 5, 4, 172, 43, 180, 0, 9, 180, 0, 13, 28, 46, 29]
abbrev dktX14_reason_0 : List UInt8 := dkwX14_reason_0 ++ dktX14_reason_1
theorem dksX14_reason_0 : cX14_reason.data.toList.drop 0 = dktX14_reason_0 := by decide +kernel
theorem dksX14_reason_1 : cX14_reason.data.toList.drop 22 = dktX14_reason_1 := dk_seg dksX14_reason_0 22 rfl rfl
theorem dksX14_reason_2 : cX14_reason.data.toList.drop 46 = dktX14_reason_2 := dk_seg dksX14_reason_1 24 rfl rfl
theorem dX14_reason_0 : decode cX14_reason 0 = .ok (.aload_n 1, 1) := dk_43 (dk_at dksX14_reason_0 0 rfl rfl)
theorem dX14_reason_1 : decode cX14_reason 1 = .ok (.getfield 3, 3) := dk_180 0 3 (dk_at dksX14_reason_0 1 rfl rfl)
theorem dX14_reason_4 : decode cX14_reason 4 = .ok (.iload_n 2, 1) := dk_28 (dk_at dksX14_reason_0 4 rfl rfl)
theorem dX14_reason_5 : decode cX14_reason 5 = .ok (.iaload, 1) := dk_46 (dk_at dksX14_reason_0 5 rfl rfl)
theorem dX14_reason_6 : decode cX14_reason 6 = .ok (.iconst (-1), 1) := dk_2 (dk_at dksX14_reason_0 6 rfl rfl)
theorem dX14_reason_7 : decode cX14_reason 7 = .ok (.if_icmp .eq 5, 3) := dk_159 0 5 (dk_at dksX14_reason_0 7 rfl rfl)
theorem dX14_reason_10 : decode cX14_reason 10 = .ok (.iconst 1, 1) := dk_4 (dk_at dksX14_reason_0 10 rfl rfl)
theorem dX14_reason_11 : decode cX14_reason 11 = .ok (.ireturn, 1) := dk_172 (dk_at dksX14_reason_0 11 rfl rfl)
theorem dX14_reason_12 : decode cX14_reason 12 = .ok (.aload_n 1, 1) := dk_43 (dk_at dksX14_reason_0 12 rfl rfl)
theorem dX14_reason_13 : decode cX14_reason 13 = .ok (.getfield 9, 3) := dk_180 0 9 (dk_at dksX14_reason_0 13 rfl rfl)
theorem dX14_reason_16 : decode cX14_reason 16 = .ok (.getfield 13, 3) := dk_180 0 13 (dk_at dksX14_reason_0 16 rfl rfl)
theorem dX14_reason_19 : decode cX14_reason 19 = .ok (.iload_n 2, 1) := dk_28 (dk_at dksX14_reason_0 19 rfl rfl)
theorem dX14_reason_20 : decode cX14_reason 20 = .ok (.iaload, 1) := dk_46 (dk_at dksX14_reason_0 20 rfl rfl)
theorem dX14_reason_21 : decode cX14_reason 21 = .ok (.iload_n 3, 1) := dk_29 (dk_at dksX14_reason_0 21 rfl rfl)
theorem dX14_reason_22 : decode cX14_reason 22 = .ok (.invokestatic 18, 3) := dk_184 0 18 (dk_at dksX14_reason_1 0 rfl rfl)
theorem dX14_reason_25 : decode cX14_reason 25 = .ok (.ifCond .ne 5, 3) := dk_154 0 5 (dk_at dksX14_reason_1 3 rfl rfl)
theorem dX14_reason_28 : decode cX14_reason 28 = .ok (.iconst 2, 1) := dk_5 (dk_at dksX14_reason_1 6 rfl rfl)
theorem dX14_reason_29 : decode cX14_reason 29 = .ok (.ireturn, 1) := dk_172 (dk_at dksX14_reason_1 7 rfl rfl)
theorem dX14_reason_30 : decode cX14_reason 30 = .ok (.aload_n 1, 1) := dk_43 (dk_at dksX14_reason_1 8 rfl rfl)
theorem dX14_reason_31 : decode cX14_reason 31 = .ok (.iload_n 2, 1) := dk_28 (dk_at dksX14_reason_1 9 rfl rfl)
theorem dX14_reason_32 : decode cX14_reason 32 = .ok (.invokevirtual 22, 3) := dk_182 0 22 (dk_at dksX14_reason_1 10 rfl rfl)
theorem dX14_reason_35 : decode cX14_reason 35 = .ok (.iload_n 3, 1) := dk_29 (dk_at dksX14_reason_1 13 rfl rfl)
theorem dX14_reason_36 : decode cX14_reason 36 = .ok (.invokestatic 18, 3) := dk_184 0 18 (dk_at dksX14_reason_1 14 rfl rfl)
theorem dX14_reason_39 : decode cX14_reason 39 = .ok (.ifCond .eq 7, 3) := dk_153 0 7 (dk_at dksX14_reason_1 17 rfl rfl)
theorem dX14_reason_42 : decode cX14_reason 42 = .ok (.iconst 3, 1) := dk_6 (dk_at dksX14_reason_1 20 rfl rfl)
theorem dX14_reason_43 : decode cX14_reason 43 = .ok (.goto 4, 3) := dk_167 0 4 (dk_at dksX14_reason_1 21 rfl rfl)
theorem dX14_reason_46 : decode cX14_reason 46 = .ok (.iconst 0, 1) := dk_3 (dk_at dksX14_reason_2 0 rfl rfl)
theorem dX14_reason_47 : decode cX14_reason 47 = .ok (.ireturn, 1) := dk_172 (dk_at dksX14_reason_2 1 rfl rfl)
theorem q203 : (Jvm.Cond.fieldLinkNest "ColourDuel$Rule" (13 : Nat) "ColourDuel$Graph" "lists" "[I" "ColourDuel") ∈ lw_tbl := lw_at lw_m1 109 rfl
theorem q608 : (Jvm.Cond.fieldLinkNest "ColourDuel$Rule" (9 : Nat) "ColourDuel$Board" "graph" "LColourDuel$Graph;" "ColourDuel") ∈ lw_tbl := lw_at lw_m3 34 rfl
theorem q613 : (Jvm.Cond.fieldLinkNest "ColourDuel$Rule" (3 : Nat) "ColourDuel$Board" "colourOf" "[I" "ColourDuel") ∈ lw_tbl := lw_at lw_m3 39 rfl
theorem q826 : (Jvm.Cond.interfaceMethod "ColourDuel$Rule" "ColourDuel$Rule" "reason" "(LColourDuel$Board;II)I") ∈ lw_tbl := lw_at lw_m4 12 rfl
theorem q828 : (Jvm.Cond.declares ({ cls := "ColourDuel$Rule", name := "reason", desc := "(LColourDuel$Board;II)I" } : Jvm.MethodName)) ∈ lw_tbl := lw_at lw_m4 14 rfl
theorem q829 : (Jvm.Cond.instanceMethod ({ cls := "ColourDuel$Rule", name := "reason", desc := "(LColourDuel$Board;II)I" } : Jvm.MethodName)) ∈ lw_all := lw_g (lw_at lw_m4 15 rfl) rfl
theorem q830 : (Jvm.Cond.code ({ cls := "ColourDuel$Rule", name := "reason", desc := "(LColourDuel$Board;II)I" } : Jvm.MethodName) prog_12_method_1_code (4 : Nat) (Option.some Jvm.ClassFile.FieldType.int)) ∈ lw_all := lw_g (lw_at lw_m4 16 rfl) rfl
theorem q831 : (Jvm.Cond.methodLinkNest "ColourDuel$Rule" (18 : Nat) ({ cls := "ColourDuel", name := "has", desc := "(II)Z" } : Jvm.MethodName) "ColourDuel") ∈ lw_tbl := lw_at lw_m4 17 rfl
theorem q832 : (Jvm.Cond.methodLink "ColourDuel$Rule" (22 : Nat) ({ cls := "ColourDuel$Board", name := "coloursNear", desc := "(I)I" } : Jvm.MethodName)) ∈ lw_all := lw_g (lw_at lw_m4 18 rfl) rfl
/-! ColourDuel$FullRule -/
set_option maxRecDepth 100000
def RX15 : String := "ColourDuel$FullRule"
abbrev cX15_reason : ByteArray := prog_6_method_2_code
def yX15_reason : MethodName := ⟨RX15, "reason", "(LColourDuel$Board;II)I"⟩
def dkwX15_reason_1 : List UInt8 := [46, 184, 0, 25, 29, 160, 0, 7, 7, 167, 0, 5, 21, 4, 172]
abbrev dktX15_reason_1 : List UInt8 := dkwX15_reason_1 ++ []
def dkwX15_reason_0 : List UInt8 := [42, 43, 28, 29, 183, 0, 9, 54, 4, 21, 4, 154, 0, 25, 43, 28, 182, 0, 15, 43, 180, 0, 21, 28]
abbrev dktX15_reason_0 : List UInt8 := dkwX15_reason_0 ++ dktX15_reason_1
theorem dksX15_reason_0 : cX15_reason.data.toList.drop 0 = dktX15_reason_0 := by decide +kernel
theorem dksX15_reason_1 : cX15_reason.data.toList.drop 24 = dktX15_reason_1 := dk_seg dksX15_reason_0 24 rfl rfl
theorem dX15_reason_0 : decode cX15_reason 0 = .ok (.aload_n 0, 1) := dk_42 (dk_at dksX15_reason_0 0 rfl rfl)
theorem dX15_reason_1 : decode cX15_reason 1 = .ok (.aload_n 1, 1) := dk_43 (dk_at dksX15_reason_0 1 rfl rfl)
theorem dX15_reason_2 : decode cX15_reason 2 = .ok (.iload_n 2, 1) := dk_28 (dk_at dksX15_reason_0 2 rfl rfl)
theorem dX15_reason_3 : decode cX15_reason 3 = .ok (.iload_n 3, 1) := dk_29 (dk_at dksX15_reason_0 3 rfl rfl)
theorem dX15_reason_4 : decode cX15_reason 4 = .ok (.invokespecial 9, 3) := dk_183 0 9 (dk_at dksX15_reason_0 4 rfl rfl)
theorem dX15_reason_7 : decode cX15_reason 7 = .ok (.istore 4, 2) := dk_54 4 (dk_at dksX15_reason_0 7 rfl rfl)
theorem dX15_reason_9 : decode cX15_reason 9 = .ok (.iload 4, 2) := dk_21 4 (dk_at dksX15_reason_0 9 rfl rfl)
theorem dX15_reason_11 : decode cX15_reason 11 = .ok (.ifCond .ne 25, 3) := dk_154 0 25 (dk_at dksX15_reason_0 11 rfl rfl)
theorem dX15_reason_14 : decode cX15_reason 14 = .ok (.aload_n 1, 1) := dk_43 (dk_at dksX15_reason_0 14 rfl rfl)
theorem dX15_reason_15 : decode cX15_reason 15 = .ok (.iload_n 2, 1) := dk_28 (dk_at dksX15_reason_0 15 rfl rfl)
theorem dX15_reason_16 : decode cX15_reason 16 = .ok (.invokevirtual 15, 3) := dk_182 0 15 (dk_at dksX15_reason_0 16 rfl rfl)
theorem dX15_reason_19 : decode cX15_reason 19 = .ok (.aload_n 1, 1) := dk_43 (dk_at dksX15_reason_0 19 rfl rfl)
theorem dX15_reason_20 : decode cX15_reason 20 = .ok (.getfield 21, 3) := dk_180 0 21 (dk_at dksX15_reason_0 20 rfl rfl)
theorem dX15_reason_23 : decode cX15_reason 23 = .ok (.iload_n 2, 1) := dk_28 (dk_at dksX15_reason_0 23 rfl rfl)
theorem dX15_reason_24 : decode cX15_reason 24 = .ok (.iaload, 1) := dk_46 (dk_at dksX15_reason_1 0 rfl rfl)
theorem dX15_reason_25 : decode cX15_reason 25 = .ok (.invokestatic 25, 3) := dk_184 0 25 (dk_at dksX15_reason_1 1 rfl rfl)
theorem dX15_reason_28 : decode cX15_reason 28 = .ok (.iload_n 3, 1) := dk_29 (dk_at dksX15_reason_1 4 rfl rfl)
theorem dX15_reason_29 : decode cX15_reason 29 = .ok (.if_icmp .ne 7, 3) := dk_160 0 7 (dk_at dksX15_reason_1 5 rfl rfl)
theorem dX15_reason_32 : decode cX15_reason 32 = .ok (.iconst 4, 1) := dk_7 (dk_at dksX15_reason_1 8 rfl rfl)
theorem dX15_reason_33 : decode cX15_reason 33 = .ok (.goto 5, 3) := dk_167 0 5 (dk_at dksX15_reason_1 9 rfl rfl)
theorem dX15_reason_36 : decode cX15_reason 36 = .ok (.iload 4, 2) := dk_21 4 (dk_at dksX15_reason_1 12 rfl rfl)
theorem dX15_reason_38 : decode cX15_reason 38 = .ok (.ireturn, 1) := dk_172 (dk_at dksX15_reason_1 14 rfl rfl)
theorem q617 : (Jvm.Cond.fieldLinkNest "ColourDuel$FullRule" (21 : Nat) "ColourDuel$Board" "bans" "[I" "ColourDuel") ∈ lw_tbl := lw_at lw_m3 43 rfl
theorem q822 : (Jvm.Cond.instanceMethod ({ cls := "ColourDuel$FullRule", name := "reason", desc := "(LColourDuel$Board;II)I" } : Jvm.MethodName)) ∈ lw_all := lw_g (lw_at lw_m4 8 rfl) rfl
theorem q823 : (Jvm.Cond.selects "ColourDuel$FullRule" ({ cls := "ColourDuel$FullRule", name := "reason", desc := "(LColourDuel$Board;II)I" } : Jvm.MethodName) ({ cls := "ColourDuel$FullRule", name := "reason", desc := "(LColourDuel$Board;II)I" } : Jvm.MethodName)) ∈ lw_all := lw_g (lw_at lw_m4 9 rfl) rfl
theorem q824 : (Jvm.Cond.code ({ cls := "ColourDuel$FullRule", name := "reason", desc := "(LColourDuel$Board;II)I" } : Jvm.MethodName) prog_6_method_2_code (5 : Nat) (Option.some Jvm.ClassFile.FieldType.int)) ∈ lw_all := lw_g (lw_at lw_m4 10 rfl) rfl
theorem q825 : (Jvm.Cond.methodLink "ColourDuel$FullRule" (9 : Nat) ({ cls := "ColourDuel$Rule", name := "reason", desc := "(LColourDuel$Board;II)I" } : Jvm.MethodName)) ∈ lw_all := lw_g (lw_at lw_m4 11 rfl) rfl
theorem q827 : (Jvm.Cond.superclass "ColourDuel$FullRule" "java/lang/Object") ∈ lw_all := lw_g (lw_at lw_m4 13 rfl) rfl
theorem q833 : (Jvm.Cond.methodLink "ColourDuel$FullRule" (15 : Nat) ({ cls := "ColourDuel$Board", name := "partSet", desc := "(I)I" } : Jvm.MethodName)) ∈ lw_all := lw_g (lw_at lw_m4 19 rfl) rfl
theorem q839 : (Jvm.Cond.methodLinkNest "ColourDuel$FullRule" (25 : Nat) ({ cls := "ColourDuel", name := "counting", desc := "(II)I" } : Jvm.MethodName) "ColourDuel") ∈ lw_tbl := lw_at lw_m4 25 rfl
theorem q948 : (Jvm.Cond.selects "ColourDuel$FullRule" ({ cls := "java/lang/Object", name := "getClass", desc := "()Ljava/lang/Class;" } : Jvm.MethodName) ({ cls := "java/lang/Object", name := "getClass", desc := "()Ljava/lang/Class;" } : Jvm.MethodName)) ∈ lw_all := lw_g (lw_at lw_m4 134 rfl) rfl
theorem q2248 : (Jvm.Cond.initialized "ColourDuel$FullRule") ∈ lw_all := lw_g (lw_at lw_m9 234 rfl) rfl
theorem q2265 : (Jvm.Cond.castable "ColourDuel$FullRule" "java/lang/Object") ∈ lw_tbl := lw_at lw_m10 11 rfl
