/-! numbers as sets of bits: the ints' operations on nI -/
theorem nb_and (a b : Nat) : nI a &&& nI b = nI (a &&& b) := by
  apply Int32.toBitVec_inj.1
  show BitVec.ofNat 32 a &&& BitVec.ofNat 32 b = BitVec.ofNat 32 (a &&& b)
  apply BitVec.eq_of_getLsbD_eq
  intro i hi
  simp [hi]
theorem nb_or (a b : Nat) : nI a ||| nI b = nI (a ||| b) := by
  apply Int32.toBitVec_inj.1
  show BitVec.ofNat 32 a ||| BitVec.ofNat 32 b = BitVec.ofNat 32 (a ||| b)
  apply BitVec.eq_of_getLsbD_eq
  intro i hi
  simp [hi]
theorem nb_xor (a b : Nat) : nI a ^^^ nI b = nI (a ^^^ b) := by
  apply Int32.toBitVec_inj.1
  show BitVec.ofNat 32 a ^^^ BitVec.ofNat 32 b = BitVec.ofNat 32 (a ^^^ b)
  apply BitVec.eq_of_getLsbD_eq
  intro i hi
  simp [hi]
theorem nb_sl : ∀ m, m < 32 → ((nI m &&& 31).toBitVec.smod 32).toNat = m := by decide +kernel
theorem nb_shl (a : Nat) {m : Nat} (hm : m < 32) : nI a <<< (nI m &&& 31) = nI (a <<< m) := by
  apply Int32.toBitVec_inj.1
  rw [Int32.toBitVec_shiftLeft]
  show BitVec.ofNat 32 a <<< ((nI m &&& 31).toBitVec.smod 32).toNat = BitVec.ofNat 32 (a <<< m)
  rw [nb_sl m hm]
  apply BitVec.eq_of_getLsbD_eq
  intro i hi
  rw [BitVec.getLsbD_shiftLeft, BitVec.getLsbD_ofNat, BitVec.getLsbD_ofNat, Nat.testBit_shiftLeft]
  have h2 : i - m < 32 := by omega
  by_cases h : i < m
  · simp [h, Nat.not_le.mpr h]
  · simp [h, hi, h2, Nat.not_lt.mp h]
theorem nb_shr {a m : Nat} (ha : a < 2 ^ 31) (hm : m < 32) : nI a >>> (nI m &&& 31) = nI (a >>> m) := by
  have h1 := pk_shrN (n := a) ha (nI m &&& 31) m (nb_sl m hm)
  rw [h1, Nat.shiftRight_eq_div_pow]
theorem nb_1 : (1 : Int32) = nI 1 := rfl
theorem nb_m1 : (-1 : Int32) = nI 4294967295 := by decide
/-- a without b's bits -/
def nd (a b : Nat) : Nat := a ^^^ (a &&& b)
theorem nd_bit (a b i : Nat) : (nd a b).testBit i = (a.testBit i && !b.testBit i) := by
  unfold nd
  rw [Nat.testBit_xor, Nat.testBit_and]
  cases a.testBit i <;> cases b.testBit i <;> rfl
theorem nb_nd (a b : Nat) : nI a &&& (nI b ^^^ (-1)) = nI (nd a b) := by
  apply Int32.toBitVec_inj.1
  show BitVec.ofNat 32 a &&& (BitVec.ofNat 32 b ^^^ BitVec.allOnes 32) = BitVec.ofNat 32 (nd a b)
  apply BitVec.eq_of_getLsbD_eq
  intro i hi
  simp only [BitVec.getLsbD_and, BitVec.getLsbD_xor, BitVec.getLsbD_ofNat, hi, decide_true, Bool.true_and, BitVec.getLsbD_allOnes, nd_bit]
  cases b.testBit i <;> rfl
theorem nb_bit {a m : Nat} (ha : a < 2 ^ 31) (hm : m < 32) : (nI a >>> (nI m &&& 31)) &&& nI 1 = nI (if a.testBit m then 1 else 0) := by
  rw [nb_shr ha hm, nb_and, Nat.and_one_is_mod]
  congr 1
  rw [Nat.testBit_eq_decide_div_mod_eq, Nat.shiftRight_eq_div_pow]
  by_cases h : a / 2 ^ m % 2 = 1
  · simp [h]
  · simp [h]
    omega
theorem nb_lt_or {a b m : Nat} (ha : a < 2 ^ m) (hb : b < 2 ^ m) : a ||| b < 2 ^ m := Nat.or_lt_two_pow ha hb
theorem nb_nd_le (a b : Nat) : nd a b ≤ a := by
  apply Nat.le_of_testBit
  intro i h
  rw [nd_bit] at h
  simp at h
  exact h.1
theorem nb_and_le (a b : Nat) : a &&& b ≤ a := Nat.and_le_left
theorem nb_ofI {x : Int32} : ∃ a, a < 4294967296 ∧ x = nI a := ⟨x.toBitVec.toNat, x.toBitVec.isLt, Int32.toBitVec_inj.1 (by show x.toBitVec = BitVec.ofNat 32 _; simp)⟩
theorem nb_1ne : ∀ p : Bool, (nI (if p then 1 else 0) = 1) ↔ p = true := by
  intro p
  cases p
  · simp; decide
  · simp; decide
