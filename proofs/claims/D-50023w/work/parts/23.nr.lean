/-! rows on numbers (nI) -/
section NR
variable {γ : Gm} {l : Launch} {x : WX} {y : MethodName} {cc : ByteArray} {nL : Nat} {ret : Option FieldType} {rm : Room} {et : List ExceptionTableEntry} {Q : State → Prop} {h : AH} {sz k n pc : Nat} {L : LV} {st : List Value} {a b : Nat}
theorem aw_iaddN (C : Cx γ l x y cc nL ret rm et)  (d : decode cc pc = .ok (.iadd, 1)) (kk : AW γ l x Q nL h sz k n (pc + 1) L (.int (nI (a + b)) :: st)) : AW γ l x Q nL h sz k n pc L (.int (nI b) :: .int (nI a) :: st) := aw_iadd C d (aw_top (nI_add a b) kk)
theorem aw_isubN (C : Cx γ l x y cc nL ret rm et) (hab : b ≤ a) (d : decode cc pc = .ok (.isub, 1)) (kk : AW γ l x Q nL h sz k n (pc + 1) L (.int (nI (a - b)) :: st)) : AW γ l x Q nL h sz k n pc L (.int (nI b) :: .int (nI a) :: st) := aw_isub C d (aw_top (pk_sub hab) kk)
theorem aw_imulN (C : Cx γ l x y cc nL ret rm et)  (d : decode cc pc = .ok (.imul, 1)) (kk : AW γ l x Q nL h sz k n (pc + 1) L (.int (nI (a * b)) :: st)) : AW γ l x Q nL h sz k n pc L (.int (nI b) :: .int (nI a) :: st) := aw_imul C d (aw_top (pk_mul a b) kk)
theorem aw_idivN (C : Cx γ l x y cc nL ret rm et) (ha : a < 2 ^ 31) (h0 : 0 < b) (hb : b < 2 ^ 31) (d : decode cc pc = .ok (.idiv, 1)) (kk : AW γ l x Q nL h sz k n (pc + 1) L (.int (nI (a / b)) :: st)) : AW γ l x Q nL h sz k n pc L (.int (nI b) :: .int (nI a) :: st) := aw_idiv C (nI_ne0 h0 hb) d (aw_top (pk_div ha h0 hb) kk)
theorem aw_iremN (C : Cx γ l x y cc nL ret rm et) (ha : a < 2 ^ 31) (h0 : 0 < b) (hb : b < 2 ^ 31) (d : decode cc pc = .ok (.irem, 1)) (kk : AW γ l x Q nL h sz k n (pc + 1) L (.int (nI (a % b)) :: st)) : AW γ l x Q nL h sz k n pc L (.int (nI b) :: .int (nI a) :: st) := aw_irem C (nI_ne0 h0 hb) d (aw_top (pk_rem ha h0 hb) kk)
theorem aw_iandN (C : Cx γ l x y cc nL ret rm et)  (d : decode cc pc = .ok (.iand, 1)) (kk : AW γ l x Q nL h sz k n (pc + 1) L (.int (nI (a &&& b)) :: st)) : AW γ l x Q nL h sz k n pc L (.int (nI b) :: .int (nI a) :: st) := aw_iand C d (aw_top (nb_and a b) kk)
theorem aw_iorN (C : Cx γ l x y cc nL ret rm et)  (d : decode cc pc = .ok (.ior, 1)) (kk : AW γ l x Q nL h sz k n (pc + 1) L (.int (nI (a ||| b)) :: st)) : AW γ l x Q nL h sz k n pc L (.int (nI b) :: .int (nI a) :: st) := aw_ior C d (aw_top (nb_or a b) kk)
theorem aw_ixorN (C : Cx γ l x y cc nL ret rm et)  (d : decode cc pc = .ok (.ixor, 1)) (kk : AW γ l x Q nL h sz k n (pc + 1) L (.int (nI (a ^^^ b)) :: st)) : AW γ l x Q nL h sz k n pc L (.int (nI b) :: .int (nI a) :: st) := aw_ixor C d (aw_top (nb_xor a b) kk)
theorem aw_ishlN (C : Cx γ l x y cc nL ret rm et) (hb : b < 32) (d : decode cc pc = .ok (.ishl, 1)) (kk : AW γ l x Q nL h sz k n (pc + 1) L (.int (nI (a <<< b)) :: st)) : AW γ l x Q nL h sz k n pc L (.int (nI b) :: .int (nI a) :: st) := aw_ishl C d (aw_top (nb_shl a hb) kk)
theorem aw_ishrN (C : Cx γ l x y cc nL ret rm et) (ha : a < 2 ^ 31) (hb : b < 32) (d : decode cc pc = .ok (.ishr, 1)) (kk : AW γ l x Q nL h sz k n (pc + 1) L (.int (nI (a >>> b)) :: st)) : AW γ l x Q nL h sz k n pc L (.int (nI b) :: .int (nI a) :: st) := aw_ishr C d (aw_top (nb_shr ha hb) kk)
theorem aw_iandNot (C : Cx γ l x y cc nL ret rm et)  (d : decode cc pc = .ok (.iand, 1)) (kk : AW γ l x Q nL h sz k n (pc + 1) L (.int (nI (nd a b)) :: st)) : AW γ l x Q nL h sz k n pc L (.int (nI b ^^^ (-1)) :: .int (nI a) :: st) := aw_iand C d (aw_top (nb_nd a b) kk)
/-- the bit b of a: what stands behind '>> b & 1' -/
theorem aw_iandBit (C : Cx γ l x y cc nL ret rm et) (d : decode cc pc = .ok (.iand, 1)) (kk : AW γ l x Q nL h sz k n (pc + 1) L (.int (nI (if a.testBit b then 1 else 0)) :: st)) : AW γ l x Q nL h sz k n pc L (.int (nI 1) :: .int (nI (a >>> b)) :: st) := aw_iand C d (aw_top (by
  rw [nb_and, Nat.and_one_is_mod]
  congr 1
  rw [Nat.testBit_eq_decide_div_mod_eq, Nat.shiftRight_eq_div_pow]
  by_cases h : a / 2 ^ b % 2 = 1
  · simp [h]
  · simp [h]
    omega) kk)
/-- a bit against 0, against 1 -/
theorem aw_bit_ne0 (C : Cx γ l x y cc nL ret rm et) {p : Bool} {off : Int} {tgt : Nat} (d : decode cc pc = .ok (.ifCond .ne off, 3)) (ht : (pc : Int) + off = (tgt : Int)) (kt : p = true → AW γ l x Q nL h sz k n tgt L st) (kf : p = false → AW γ l x Q nL h sz k n (pc + 3) L st) : AW γ l x Q nL h sz k n pc L (.int (nI (if p then 1 else 0)) :: st) := by
  refine aw_if_ne C d ht (fun z => kt ?_) (fun z => kf ?_)
  · cases p
    · exact absurd rfl z
    · rfl
  · cases p
    · rfl
    · exact absurd z (by decide)
theorem aw_bit_eq0 (C : Cx γ l x y cc nL ret rm et) {p : Bool} {off : Int} {tgt : Nat} (d : decode cc pc = .ok (.ifCond .eq off, 3)) (ht : (pc : Int) + off = (tgt : Int)) (kt : p = false → AW γ l x Q nL h sz k n tgt L st) (kf : p = true → AW γ l x Q nL h sz k n (pc + 3) L st) : AW γ l x Q nL h sz k n pc L (.int (nI (if p then 1 else 0)) :: st) := by
  refine aw_if_eq C d ht (fun z => kt ?_) (fun z => kf ?_)
  · cases p
    · rfl
    · exact absurd z (by decide)
  · cases p
    · exact absurd rfl z
    · rfl
theorem aw_bit_ne1 (C : Cx γ l x y cc nL ret rm et) {p : Bool} {off : Int} {tgt : Nat} (d : decode cc pc = .ok (.if_icmp .ne off, 3)) (ht : (pc : Int) + off = (tgt : Int)) (kt : p = false → AW γ l x Q nL h sz k n tgt L st) (kf : p = true → AW γ l x Q nL h sz k n (pc + 3) L st) : AW γ l x Q nL h sz k n pc L (.int (nI 1) :: .int (nI (if p then 1 else 0)) :: st) := by
  refine aw_icmp_ne C d ht (fun z => kt ?_) (fun z => kf ?_)
  · cases p
    · rfl
    · exact absurd rfl z
  · cases p
    · exact absurd z (by decide)
    · rfl
theorem aw_bit_eq1 (C : Cx γ l x y cc nL ret rm et) {p : Bool} {off : Int} {tgt : Nat} (d : decode cc pc = .ok (.if_icmp .eq off, 3)) (ht : (pc : Int) + off = (tgt : Int)) (kt : p = true → AW γ l x Q nL h sz k n tgt L st) (kf : p = false → AW γ l x Q nL h sz k n (pc + 3) L st) : AW γ l x Q nL h sz k n pc L (.int (nI 1) :: .int (nI (if p then 1 else 0)) :: st) := by
  refine aw_icmp_eq C d ht (fun z => kt ?_) (fun z => kf ?_)
  · cases p
    · exact absurd z (by decide)
    · rfl
  · cases p
    · rfl
    · exact absurd rfl z
/-- a number that isn't one, -1 among them: raw -/
theorem aw_nI_eqM1 {a : Nat} (h : a < 2 ^ 31) : ¬ nI a = -1 := by
  intro e
  have := nI_pos' h
  rw [e] at this
  exact absurd this (by decide)
end NR
