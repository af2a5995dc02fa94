/-! pure functions: bits of ints, ranges, three numbers in one -/
def us (a b : Int32) : Int32 := (a.toUInt32 >>> (b.toUInt32 &&& Int32.toUInt32 31)).toInt32
def jbc (x : Int32) : Int32 :=
  let a := x - (us x 1 &&& 1431655765)
  let b := (a &&& 858993459) + (us a 2 &&& 858993459)
  let c := (b + us b 4) &&& 252645135
  let d := c + us c 8
  (d + us d 16) &&& 63
def jt5 (i n : Int32) : Int32 := n + us i 1
def jt4 (i n : Int32) : Int32 := if 4 < i then jt5 (us i 2) (n + 2) else jt5 i n
def jt3 (i n : Int32) : Int32 := if 16 < i then jt4 (us i 4) (n + 4) else jt4 i n
def jt2 (i n : Int32) : Int32 := if 256 < i then jt3 (us i 8) (n + 8) else jt3 i n
def jt1 (i n : Int32) : Int32 := if 65536 < i then jt2 (us i 16) (n + 16) else jt2 i n
def jt0 (i : Int32) : Int32 := if i ≤ 0 then i &&& 32 else jt1 i 1
def jtz (x : Int32) : Int32 := jt0 ((x ^^^ (-1)) &&& (x - 1))
theorem jbc_n : ∀ S, S < 512 → jbc (nI S) = nI (pop S) := by decide +kernel
theorem jtz_n : ∀ S, S < 512 → 0 < S → jtz (nI S) = nI (low S) := by decide +kernel
theorem jt0_n : ∀ k, k < 32 → jt0 (nI (2 ^ k - 1)) = nI k := by decide +kernel
theorem low1_n : ∀ S, S < 512 → 0 < S → nI S &&& (-nI S) = nI (1 <<< low S) := by decide +kernel
theorem low1_0 : nI 0 &&& (-nI 0) = nI 0 := by decide
theorem mex_mask {S k : Nat} (h1 : ∀ j, j < k → S.testBit j = true) (h2 : S.testBit k = false) (hS : S < 2 ^ 32) (hk : k < 32) : S &&& (2 ^ 32 - (S + 1 + 1)) = 2 ^ k - 1 := by
  have hm : S % 2 ^ (k + 1) = 2 ^ k - 1 := by
    apply Nat.eq_of_testBit_eq
    intro i
    rw [Nat.testBit_mod_two_pow, Nat.testBit_two_pow_sub_one]
    by_cases a : i < k
    · have : i < k + 1 := by omega
      simp [a, this, h1 i a]
    · by_cases c : i = k
      · subst c
        simp [h2]
      · have : ¬ i < k + 1 := by omega
        simp [a, this]
  have hp : 0 < 2 ^ k := Nat.two_pow_pos k
  have e2 : 2 ^ (k + 1) = 2 * 2 ^ k := by rw [Nat.pow_succ]; omega
  have hd := Nat.div_add_mod S (2 ^ (k + 1))
  rw [hm] at hd
  have hS1 : S + 1 = 2 ^ (k + 1) * (S / 2 ^ (k + 1)) + 2 ^ k := by omega
  have hS2 : S + 1 < 2 ^ 32 := by
    rcases Nat.lt_or_ge (S + 1) (2 ^ 32) with h | h
    · exact h
    · have e : S = 2 ^ 32 - 1 := by omega
      rw [e, Nat.testBit_two_pow_sub_one] at h2
      simp at h2
      omega
  apply Nat.eq_of_testBit_eq
  intro i
  rw [Nat.testBit_and, Nat.testBit_two_pow_sub_succ hS2, Nat.testBit_two_pow_sub_one]
  have t1 : ∀ j, S.testBit j = if j < k + 1 then (2 ^ k - 1).testBit j else (S / 2 ^ (k + 1)).testBit (j - (k + 1)) := fun j => by
    conv => lhs; rw [← hd]
    exact Nat.testBit_two_pow_mul_add _ (by omega) j
  have t2 : ∀ j, (S + 1).testBit j = if j < k + 1 then (2 ^ k).testBit j else (S / 2 ^ (k + 1)).testBit (j - (k + 1)) := fun j => by
    rw [hS1]
    exact Nat.testBit_two_pow_mul_add _ (by omega) j
  rw [t1, t2]
  by_cases a : i < k + 1
  · rw [if_pos a, if_pos a, Nat.testBit_two_pow_sub_one, Nat.testBit_two_pow]
    by_cases c : i < k
    · have q1 : ¬ k = i := by omega
      have q2 : i < 32 := by omega
      simp [c, q1, q2]
    · simp [c]
  · rw [if_neg a, if_neg a]
    have q1 : ¬ i < k := by omega
    cases (S / 2 ^ (k + 1)).testBit (i - (k + 1)) <;> simp [q1]
theorem nI_not {S : Nat} (hS : S < 2 ^ 32) : nI S ^^^ (-1) = nI (2 ^ 32 - (S + 1)) := by
  apply Int32.toBitVec_inj.1
  show BitVec.ofNat 32 S ^^^ BitVec.allOnes 32 = BitVec.ofNat 32 (2 ^ 32 - (S + 1))
  apply BitVec.eq_of_getLsbD_eq
  intro i hi
  simp only [BitVec.getLsbD_xor, BitVec.getLsbD_ofNat, hi, decide_true, Bool.true_and, BitVec.getLsbD_allOnes, Nat.testBit_two_pow_sub_succ hS]
  cases S.testBit i <;> rfl
theorem jtz_mex {S : Nat} (hS : S < 2 ^ 32) (h : mex S < 32) : jtz (nI S ^^^ (-1)) = nI (mex S) := by
  obtain ⟨h1, h2⟩ := mex_bits S
  have hS2 : S + 1 < 2 ^ 32 := by
    rcases Nat.lt_or_ge (S + 1) (2 ^ 32) with q | q
    · exact q
    · have e : S = 2 ^ 32 - 1 := by omega
      have h3 := h2 h
      generalize mex S = k at h3 h
      rw [e, Nat.testBit_two_pow_sub_one] at h3
      simp at h3
      omega
  unfold jtz
  have e1 : (nI S ^^^ (-1)) ^^^ (-1) = nI S := by
    apply Int32.toBitVec_inj.1
    show (BitVec.ofNat 32 S ^^^ BitVec.allOnes 32) ^^^ BitVec.allOnes 32 = BitVec.ofNat 32 S
    rw [BitVec.xor_assoc, BitVec.xor_self, BitVec.xor_zero]
  have e2 : (nI S ^^^ (-1)) - 1 = nI (2 ^ 32 - (S + 1 + 1)) := by
    rw [nI_not hS, nb_1, pk_sub (by omega)]
    congr 1
  rw [e1, e2, nb_and, mex_mask h1 (h2 h) hS h]
  exact jt0_n _ h
theorem toL_le (a b : Int32) : a.toInt64 ≤ b.toInt64 ↔ a ≤ b := by
  rw [Int64.le_iff_toInt_le, Int32.le_iff_toInt_le, Int32.toInt_toInt64, Int32.toInt_toInt64]
theorem toL_lt (a b : Int32) : a.toInt64 < b.toInt64 ↔ a < b := by
  rw [Int64.lt_iff_toInt_lt, Int32.lt_iff_toInt_lt, Int32.toInt_toInt64, Int32.toInt_toInt64]
theorem cnt_n (S m : Nat) (hS : S < 512) : (if pop S = 1 then (-1 : Int32) else nI m - nI 1) = nI (cnt S m) - nI 1 := by
  unfold cnt
  by_cases h : pop S = 1
  · rw [if_pos h, if_pos h]; decide
  · rw [if_neg h, if_neg h]
theorem inrA {v lo hi : Int32} (g : lg_cmp v.toInt64 lo.toInt64 < 0) : (0 : Nat) = if isI v lo hi = true then 1 else 0 := by
  have q := (lg_cmp_lt _ _).mp g
  rw [toL_lt] at q
  have : isI v lo hi = false := decide_eq_false (fun z => Int32.not_le.mpr q z.1)
  rw [this]
  rfl
theorem inrB {v lo hi : Int32} (g : 0 < lg_cmp v.toInt64 hi.toInt64) : (0 : Nat) = if isI v lo hi = true then 1 else 0 := by
  have q := (lg_cmp_gt _ _).mp g
  rw [toL_lt] at q
  have : isI v lo hi = false := decide_eq_false (fun z => Int32.not_le.mpr q z.2)
  rw [this]
  rfl
theorem inrC {v lo hi : Int32} (g : ¬ lg_cmp v.toInt64 lo.toInt64 < 0) (g2 : ¬ 0 < lg_cmp v.toInt64 hi.toInt64) : (1 : Nat) = if isI v lo hi = true then 1 else 0 := by
  have q := mt (lg_cmp_lt _ _).mpr g
  have q2 := mt (lg_cmp_gt _ _).mpr g2
  rw [toL_lt] at q q2
  have : isI v lo hi = true := decide_eq_true ⟨Int32.not_lt.mp q, Int32.not_lt.mp q2⟩
  rw [this]
  rfl
set_option maxRecDepth 100000 in
theorem cp_has {γ : Gm} (hG : GF γ) (l : Launch) {h : AH} {sz : Nat} {a m : Nat} (ha : a < 2 ^ 31) (hm : m < 32) : MX γ l yX1_has cX1_has 2 (some .boolean) 0 0 0 0 [.int (nI a), .int (nI m)] h sz (RI h sz (nI (if a.testBit m = true then 1 else 0))) NX := by
  refine mx_start hG (by decide) (Nat.le_of_ble_eq_true rfl) (fun x C => ?_)
  refine aw_iload_n C rfl rfl dX1_has_0 ?_
  refine aw_iload_n C rfl rfl dX1_has_1 ?_
  refine aw_ishrN C (by omega) (by omega) dX1_has_2 ?_
  refine aw_iconst C (v := nI 1) (by decide) dX1_has_3 ?_
  refine aw_iandBit C dX1_has_4 ?_
  refine aw_iconst C (v := nI 1) (by decide) dX1_has_5 ?_
  refine aw_bit_ne1 C (tgt := 13) dX1_has_6 (by decide) (fun g1 => ?_) (fun g1 => ?_)
  · refine aw_iconst C (v := nI 0) (by decide) dX1_has_13 ?_
    exact aw_zret C rfl (by decide) dX1_has_14 (Nat.le_refl _) (Nat.le_refl _) ⟨by simp [g1], rfl, rfl⟩
  · refine aw_iconst C (v := nI 1) (by decide) dX1_has_9 ?_
    refine aw_goto C (tgt := 14) dX1_has_10 (by decide) ?_
    exact aw_zret C rfl (by decide) dX1_has_14 (Nat.le_refl _) (Nat.le_refl _) ⟨by simp [g1], rfl, rfl⟩
set_option maxRecDepth 100000 in
theorem cp_inRange {γ : Gm} (hG : GF γ) (l : Launch) {h : AH} {sz : Nat} (v lo hi : Int32) : MX γ l yX1_inRange cX1_inRange 6 (some .boolean) 0 0 0 0 [.long v.toInt64, .long lo.toInt64, .long hi.toInt64] h sz (RI h sz (nI (if isI v lo hi = true then 1 else 0))) NX := by
  refine mx_start hG (by decide) (Nat.le_of_ble_eq_true rfl) (fun x C => ?_)
  refine aw_lload_n C rfl rfl dX1_inRange_0 ?_
  refine aw_lload_n C rfl rfl dX1_inRange_1 ?_
  refine aw_lcmp C dX1_inRange_2 ?_
  refine aw_if_lt C (tgt := 17) dX1_inRange_3 (by decide) (fun g1 => ?_) (fun g1 => ?_)
  · refine aw_iconst C (v := nI 0) (by decide) dX1_inRange_17 ?_
    refine aw_zret C rfl (by decide) dX1_inRange_18 (Nat.le_refl _) (Nat.le_refl _) ?_
    refine ⟨congrArg (fun z => some (Value.int (nI z))) ?_, rfl, rfl⟩
    first | exact inrC g1 g2 | exact inrB g2 | exact inrA g1
  · refine aw_lload_n C rfl rfl dX1_inRange_6 ?_
    refine aw_lload C rfl dX1_inRange_7 ?_
    refine aw_lcmp C dX1_inRange_9 ?_
    refine aw_if_gt C (tgt := 17) dX1_inRange_10 (by decide) (fun g2 => ?_) (fun g2 => ?_)
    · refine aw_iconst C (v := nI 0) (by decide) dX1_inRange_17 ?_
      refine aw_zret C rfl (by decide) dX1_inRange_18 (Nat.le_refl _) (Nat.le_refl _) ?_
      refine ⟨congrArg (fun z => some (Value.int (nI z))) ?_, rfl, rfl⟩
      first | exact inrC g1 g2 | exact inrB g2 | exact inrA g1
    · refine aw_iconst C (v := nI 1) (by decide) dX1_inRange_13 ?_
      refine aw_goto C (tgt := 18) dX1_inRange_14 (by decide) ?_
      refine aw_zret C rfl (by decide) dX1_inRange_18 (Nat.le_refl _) (Nat.le_refl _) ?_
      refine ⟨congrArg (fun z => some (Value.int (nI z))) ?_, rfl, rfl⟩
      first | exact inrC g1 g2 | exact inrB g2 | exact inrA g1
set_option maxRecDepth 100000 in
theorem cp_bitCountR {γ : Gm} (hG : GF γ) (l : Launch) {h : AH} {sz : Nat} (x0 : Int32) : MX γ l yJ17_bitCount cJ17_bitCount 1 (some .int) 0 0 0 0 [.int x0] h sz (RI h sz (jbc x0)) NX := by
  refine mx_start hG (by decide) (Nat.le_of_ble_eq_true rfl) (fun x C => ?_)
  refine aw_iload_n C rfl rfl dJ17_bitCount_0 ?_
  refine aw_iload_n C rfl rfl dJ17_bitCount_1 ?_
  refine aw_iconst C (v := nI 1) (by decide) dJ17_bitCount_2 ?_
  refine aw_iushr C (hv := rfl) dJ17_bitCount_3 ?_
  refine aw_ldcw C q752 dJ17_bitCount_4 ?_
  refine aw_iand C dJ17_bitCount_7 ?_
  refine aw_isub C dJ17_bitCount_8 ?_
  refine aw_istore_n C rfl (by decide) rfl dJ17_bitCount_9 ?_
  refine aw_iload_n C rfl rfl dJ17_bitCount_10 ?_
  refine aw_ldcw C q753 dJ17_bitCount_11 ?_
  refine aw_iand C dJ17_bitCount_14 ?_
  refine aw_iload_n C rfl rfl dJ17_bitCount_15 ?_
  refine aw_iconst C (v := nI 2) (by decide) dJ17_bitCount_16 ?_
  refine aw_iushr C (hv := rfl) dJ17_bitCount_17 ?_
  refine aw_ldcw C q753 dJ17_bitCount_18 ?_
  refine aw_iand C dJ17_bitCount_21 ?_
  refine aw_iadd C dJ17_bitCount_22 ?_
  refine aw_istore_n C rfl (by decide) rfl dJ17_bitCount_23 ?_
  refine aw_iload_n C rfl rfl dJ17_bitCount_24 ?_
  refine aw_iload_n C rfl rfl dJ17_bitCount_25 ?_
  refine aw_iconst C (v := nI 4) (by decide) dJ17_bitCount_26 ?_
  refine aw_iushr C (hv := rfl) dJ17_bitCount_27 ?_
  refine aw_iadd C dJ17_bitCount_28 ?_
  refine aw_ldcw C q754 dJ17_bitCount_29 ?_
  refine aw_iand C dJ17_bitCount_32 ?_
  refine aw_istore_n C rfl (by decide) rfl dJ17_bitCount_33 ?_
  refine aw_iload_n C rfl rfl dJ17_bitCount_34 ?_
  refine aw_iload_n C rfl rfl dJ17_bitCount_35 ?_
  refine aw_bipush C (v := nI 8) (by decide) dJ17_bitCount_36 ?_
  refine aw_iushr C (hv := rfl) dJ17_bitCount_38 ?_
  refine aw_iadd C dJ17_bitCount_39 ?_
  refine aw_istore_n C rfl (by decide) rfl dJ17_bitCount_40 ?_
  refine aw_iload_n C rfl rfl dJ17_bitCount_41 ?_
  refine aw_iload_n C rfl rfl dJ17_bitCount_42 ?_
  refine aw_bipush C (v := nI 16) (by decide) dJ17_bitCount_43 ?_
  refine aw_iushr C (hv := rfl) dJ17_bitCount_45 ?_
  refine aw_iadd C dJ17_bitCount_46 ?_
  refine aw_istore_n C rfl (by decide) rfl dJ17_bitCount_47 ?_
  refine aw_iload_n C rfl rfl dJ17_bitCount_48 ?_
  refine aw_bipush C (v := nI 63) (by decide) dJ17_bitCount_49 ?_
  refine aw_iand C dJ17_bitCount_51 ?_
  exact aw_iret C rfl dJ17_bitCount_52 (Nat.le_refl _) (Nat.le_refl _) ⟨rfl, rfl, rfl⟩
set_option maxRecDepth 100000 in
theorem cp_bitCount {γ : Gm} (hG : GF γ) (l : Launch) {h : AH} {sz : Nat} {S : Nat} (hS : S < 512) : MX γ l yJ17_bitCount cJ17_bitCount 1 (some .int) 0 0 0 0 [.int (nI S)] h sz (RI h sz (nI (pop S))) NX := by
  rw [← jbc_n S hS]
  exact cp_bitCountR hG l _
set_option maxRecDepth 100000 in
theorem cp_low1R {γ : Gm} (hG : GF γ) (l : Launch) {h : AH} {sz : Nat} (x0 : Int32) : MX γ l yJ17_lowestOneBit cJ17_lowestOneBit 1 (some .int) 0 0 0 0 [.int x0] h sz (RI h sz (x0 &&& (-x0))) NX := by
  refine mx_start hG (by decide) (Nat.le_of_ble_eq_true rfl) (fun x C => ?_)
  refine aw_iload_n C rfl rfl dJ17_lowestOneBit_0 ?_
  refine aw_iload_n C rfl rfl dJ17_lowestOneBit_1 ?_
  refine aw_ineg C dJ17_lowestOneBit_2 ?_
  refine aw_iand C dJ17_lowestOneBit_3 ?_
  exact aw_iret C rfl dJ17_lowestOneBit_4 (Nat.le_refl _) (Nat.le_refl _) ⟨rfl, rfl, rfl⟩
set_option maxRecDepth 100000 in
theorem cp_low1 {γ : Gm} (hG : GF γ) (l : Launch) {h : AH} {sz : Nat} {S : Nat} (hS : S < 512) (h0 : 0 < S) : MX γ l yJ17_lowestOneBit cJ17_lowestOneBit 1 (some .int) 0 0 0 0 [.int (nI S)] h sz (RI h sz (nI (1 <<< low S))) NX := by
  rw [← low1_n S hS h0]
  exact cp_low1R hG l _
set_option maxRecDepth 100000 in
theorem cp_ntzR {γ : Gm} (hG : GF γ) (l : Launch) {h : AH} {sz : Nat} (x0 : Int32) : MX γ l yJ17_numberOfTrailingZeros cJ17_numberOfTrailingZeros 2 (some .int) 0 0 0 0 [.int x0] h sz (RI h sz (jtz x0)) NX := by
  refine mx_start hG (by decide) (Nat.le_of_ble_eq_true rfl) (fun x C => ?_)
  obtain ⟨r, hr⟩ : ∃ r, r = jtz x0 := ⟨_, rfl⟩
  rw [← hr]
  have k74 : ∀ i n : Int32, r = jt5 i n → AW γ l x (QX γ x 0 0 (RI h sz r) NX) 2 h sz 0 0 74 [(0, .int i), (1, .int n)] [] := by
    intro i n hi
    refine aw_iload_n C rfl rfl dJ17_numberOfTrailingZeros_74 ?_
    refine aw_iload_n C rfl rfl dJ17_numberOfTrailingZeros_75 ?_
    refine aw_iconst C (v := nI 1) (by decide) dJ17_numberOfTrailingZeros_76 ?_
    refine aw_iushr C (hv := rfl) dJ17_numberOfTrailingZeros_77 ?_
    refine aw_iadd C dJ17_numberOfTrailingZeros_78 ?_
    exact aw_iret C rfl dJ17_numberOfTrailingZeros_79 (Nat.le_refl _) (Nat.le_refl _) ⟨congrArg (fun z => some (Value.int z)) hi.symm, rfl, rfl⟩
  have k62 : ∀ i n : Int32, r = jt4 i n → AW γ l x (QX γ x 0 0 (RI h sz r) NX) 2 h sz 0 0 62 [(0, .int i), (1, .int n)] [] := by
    intro i n hi
    refine aw_iload_n C rfl rfl dJ17_numberOfTrailingZeros_62 ?_
    refine aw_iconst C (v := nI 4) (by decide) dJ17_numberOfTrailingZeros_63 ?_
    refine aw_icmp_le C (tgt := 74) dJ17_numberOfTrailingZeros_64 (by decide) (fun g62 => ?_) (fun g62 => ?_)
    · refine aw_loc (M := [(0, _), (1, _)]) ⟨rfl, rfl, trivial⟩ ?_
      refine k74 _ _ ?_
      rw [hi]
      unfold jt4
      first | exact if_pos (show (4 : Int32) < i from Int32.not_le.mp g62) | exact if_neg (show ¬ (4 : Int32) < i from Int32.not_lt.mpr g62)
    · refine aw_iinc C rfl rfl (by decide) rfl dJ17_numberOfTrailingZeros_67 ?_
      refine aw_iload_n C rfl rfl dJ17_numberOfTrailingZeros_70 ?_
      refine aw_iconst C (v := nI 2) (by decide) dJ17_numberOfTrailingZeros_71 ?_
      refine aw_iushr C (hv := rfl) dJ17_numberOfTrailingZeros_72 ?_
      refine aw_istore_n C rfl (by decide) rfl dJ17_numberOfTrailingZeros_73 ?_
      refine aw_loc (M := [(0, _), (1, _)]) ⟨rfl, rfl, trivial⟩ ?_
      refine k74 _ _ ?_
      rw [hi]
      unfold jt4
      first | exact if_pos (show (4 : Int32) < i from Int32.not_le.mp g62) | exact if_neg (show ¬ (4 : Int32) < i from Int32.not_lt.mpr g62)
  have k49 : ∀ i n : Int32, r = jt3 i n → AW γ l x (QX γ x 0 0 (RI h sz r) NX) 2 h sz 0 0 49 [(0, .int i), (1, .int n)] [] := by
    intro i n hi
    refine aw_iload_n C rfl rfl dJ17_numberOfTrailingZeros_49 ?_
    refine aw_bipush C (v := nI 16) (by decide) dJ17_numberOfTrailingZeros_50 ?_
    refine aw_icmp_le C (tgt := 62) dJ17_numberOfTrailingZeros_52 (by decide) (fun g49 => ?_) (fun g49 => ?_)
    · refine aw_loc (M := [(0, _), (1, _)]) ⟨rfl, rfl, trivial⟩ ?_
      refine k62 _ _ ?_
      rw [hi]
      unfold jt3
      first | exact if_pos (show (16 : Int32) < i from Int32.not_le.mp g49) | exact if_neg (show ¬ (16 : Int32) < i from Int32.not_lt.mpr g49)
    · refine aw_iinc C rfl rfl (by decide) rfl dJ17_numberOfTrailingZeros_55 ?_
      refine aw_iload_n C rfl rfl dJ17_numberOfTrailingZeros_58 ?_
      refine aw_iconst C (v := nI 4) (by decide) dJ17_numberOfTrailingZeros_59 ?_
      refine aw_iushr C (hv := rfl) dJ17_numberOfTrailingZeros_60 ?_
      refine aw_istore_n C rfl (by decide) rfl dJ17_numberOfTrailingZeros_61 ?_
      refine aw_loc (M := [(0, _), (1, _)]) ⟨rfl, rfl, trivial⟩ ?_
      refine k62 _ _ ?_
      rw [hi]
      unfold jt3
      first | exact if_pos (show (16 : Int32) < i from Int32.not_le.mp g49) | exact if_neg (show ¬ (16 : Int32) < i from Int32.not_lt.mpr g49)
  have k34 : ∀ i n : Int32, r = jt2 i n → AW γ l x (QX γ x 0 0 (RI h sz r) NX) 2 h sz 0 0 34 [(0, .int i), (1, .int n)] [] := by
    intro i n hi
    refine aw_iload_n C rfl rfl dJ17_numberOfTrailingZeros_34 ?_
    refine aw_sipush C (v := nI 256) (by decide) dJ17_numberOfTrailingZeros_35 ?_
    refine aw_icmp_le C (tgt := 49) dJ17_numberOfTrailingZeros_38 (by decide) (fun g34 => ?_) (fun g34 => ?_)
    · refine aw_loc (M := [(0, _), (1, _)]) ⟨rfl, rfl, trivial⟩ ?_
      refine k49 _ _ ?_
      rw [hi]
      unfold jt2
      first | exact if_pos (show (256 : Int32) < i from Int32.not_le.mp g34) | exact if_neg (show ¬ (256 : Int32) < i from Int32.not_lt.mpr g34)
    · refine aw_iinc C rfl rfl (by decide) rfl dJ17_numberOfTrailingZeros_41 ?_
      refine aw_iload_n C rfl rfl dJ17_numberOfTrailingZeros_44 ?_
      refine aw_bipush C (v := nI 8) (by decide) dJ17_numberOfTrailingZeros_45 ?_
      refine aw_iushr C (hv := rfl) dJ17_numberOfTrailingZeros_47 ?_
      refine aw_istore_n C rfl (by decide) rfl dJ17_numberOfTrailingZeros_48 ?_
      refine aw_loc (M := [(0, _), (1, _)]) ⟨rfl, rfl, trivial⟩ ?_
      refine k49 _ _ ?_
      rw [hi]
      unfold jt2
      first | exact if_pos (show (256 : Int32) < i from Int32.not_le.mp g34) | exact if_neg (show ¬ (256 : Int32) < i from Int32.not_lt.mpr g34)
  have k19 : ∀ i n : Int32, r = jt1 i n → AW γ l x (QX γ x 0 0 (RI h sz r) NX) 2 h sz 0 0 19 [(0, .int i), (1, .int n)] [] := by
    intro i n hi
    refine aw_iload_n C rfl rfl dJ17_numberOfTrailingZeros_19 ?_
    refine aw_ldcw C q728 dJ17_numberOfTrailingZeros_20 ?_
    refine aw_icmp_le C (tgt := 34) dJ17_numberOfTrailingZeros_23 (by decide) (fun g19 => ?_) (fun g19 => ?_)
    · refine aw_loc (M := [(0, _), (1, _)]) ⟨rfl, rfl, trivial⟩ ?_
      refine k34 _ _ ?_
      rw [hi]
      unfold jt1
      first | exact if_pos (show (65536 : Int32) < i from Int32.not_le.mp g19) | exact if_neg (show ¬ (65536 : Int32) < i from Int32.not_lt.mpr g19)
    · refine aw_iinc C rfl rfl (by decide) rfl dJ17_numberOfTrailingZeros_26 ?_
      refine aw_iload_n C rfl rfl dJ17_numberOfTrailingZeros_29 ?_
      refine aw_bipush C (v := nI 16) (by decide) dJ17_numberOfTrailingZeros_30 ?_
      refine aw_iushr C (hv := rfl) dJ17_numberOfTrailingZeros_32 ?_
      refine aw_istore_n C rfl (by decide) rfl dJ17_numberOfTrailingZeros_33 ?_
      refine aw_loc (M := [(0, _), (1, _)]) ⟨rfl, rfl, trivial⟩ ?_
      refine k34 _ _ ?_
      rw [hi]
      unfold jt1
      first | exact if_pos (show (65536 : Int32) < i from Int32.not_le.mp g19) | exact if_neg (show ¬ (65536 : Int32) < i from Int32.not_lt.mpr g19)
  refine aw_iload_n C rfl rfl dJ17_numberOfTrailingZeros_0 ?_
  refine aw_iconst C (v := -1) (by decide) dJ17_numberOfTrailingZeros_1 ?_
  refine aw_ixor C dJ17_numberOfTrailingZeros_2 ?_
  refine aw_iload_n C rfl rfl dJ17_numberOfTrailingZeros_3 ?_
  refine aw_iconst C (v := nI 1) (by decide) dJ17_numberOfTrailingZeros_4 ?_
  refine aw_isub C dJ17_numberOfTrailingZeros_5 ?_
  refine aw_iand C dJ17_numberOfTrailingZeros_6 ?_
  refine aw_istore_n C rfl (by decide) rfl dJ17_numberOfTrailingZeros_7 ?_
  refine aw_iload_n C rfl rfl dJ17_numberOfTrailingZeros_8 ?_
  refine aw_if_gt C (tgt := 17) dJ17_numberOfTrailingZeros_9 (by decide) (fun g0 => ?_) (fun g0 => ?_)
  · refine aw_iconst C (v := nI 1) (by decide) dJ17_numberOfTrailingZeros_17 ?_
    refine aw_istore_n C rfl (by decide) rfl dJ17_numberOfTrailingZeros_18 ?_
    refine aw_loc (M := [(0, _), (1, _)]) ⟨rfl, rfl, trivial⟩ ?_
    refine k19 _ _ ?_
    rw [hr]
    unfold jtz jt0
    exact if_neg (Int32.not_le.mpr g0)
  · refine aw_iload_n C rfl rfl dJ17_numberOfTrailingZeros_12 ?_
    refine aw_bipush C (v := nI 32) (by decide) dJ17_numberOfTrailingZeros_13 ?_
    refine aw_iand C dJ17_numberOfTrailingZeros_15 ?_
    refine aw_iret C rfl dJ17_numberOfTrailingZeros_16 (Nat.le_refl _) (Nat.le_refl _) ?_
    refine ⟨congrArg (fun z => some (Value.int z)) ?_, rfl, rfl⟩
    rw [hr]
    unfold jtz jt0
    exact (if_pos (Int32.not_lt.mp g0)).symm
set_option maxRecDepth 100000 in
theorem cp_ntz {γ : Gm} (hG : GF γ) (l : Launch) {h : AH} {sz : Nat} {S : Nat} (hS : S < 512) (h0 : 0 < S) : MX γ l yJ17_numberOfTrailingZeros cJ17_numberOfTrailingZeros 2 (some .int) 0 0 0 0 [.int (nI S)] h sz (RI h sz (nI (low S))) NX := by
  rw [← jtz_n S hS h0]
  exact cp_ntzR hG l _
set_option maxRecDepth 100000 in
theorem cp_ntzM {γ : Gm} (hG : GF γ) (l : Launch) {h : AH} {sz : Nat} {S : Nat} (hS : S < 2 ^ 32) (h0 : mex S < 32) : MX γ l yJ17_numberOfTrailingZeros cJ17_numberOfTrailingZeros 2 (some .int) 0 0 0 0 [.int (nI S ^^^ (-1))] h sz (RI h sz (nI (mex S))) NX := by
  rw [← jtz_mex hS h0]
  exact cp_ntzR hG l _
section MM
variable {γ : Gm} {l : Launch} {x : WX} {y : MethodName} {cc : ByteArray} {nL : Nat} {ret : Option FieldType} {rm : Room} {et : List ExceptionTableEntry} {Q : State → Prop} {h : AH} {sz k n pc : Nat} {L : LV} {st : List Value}
theorem aw_mmax (C : Cx γ l x y cc nL ret rm et) {index a b : Nat} (ha : a < 2 ^ 31) (hb : b < 2 ^ 31) (q1 : Cond.methodLink y.cls index Lib.Math.max.name ∈ lw_all) (q2 : Cond.static Lib.Math.max.name ∈ lw_all) (q3 : Cond.initialized "java/lang/Math" ∈ lw_all) (q4 : Cond.code Lib.Math.max.name Lib.Math.max.code 2 (some .int) ∈ lw_all) (hf : 1 ≤ rm.frames) (hl : (st.map fun v => v.category).sum + 13 ≤ rm.locals) (hc : k ≤ rm.cells) (hs : n ≤ rm.slots) (d : decode cc pc = .ok (.invokestatic index, 3)) (kk : AW γ l x Q nL h sz k n (pc + 3) L (.int (nI (if a < b then b else a)) :: st)) : AW γ l x Q nL h sz k n pc L (.int (nI b) :: .int (nI a) :: st) := fun H locs ls h1 h2 h3 h4 =>
  va_mmax C.hx C.hb (by rw [C.hml]; exact h4.1.symm) C.hown (C.hts _ q1) (C.hts _ q2) (C.hts _ q3) (C.hts _ q4) (by rw [C.hR]; exact hf) (by rw [C.hR]; exact hl) (by rw [C.hR]; exact hc) (by rw [C.hR]; exact hs) d (by
    have e : (if nI a < nI b then nI b else nI a) = nI (if a < b then b else a) := by
      by_cases q : a < b
      · rw [if_pos q, if_pos ((nI_ltI ha hb).mpr q)]
      · rw [if_neg q, if_neg (fun z => q ((nI_ltI ha hb).mp z))]
    rw [e]
    exact kk H locs ls h1 h2 h3 h4)
theorem aw_mmin (C : Cx γ l x y cc nL ret rm et) {index a b : Nat} (ha : a < 2 ^ 31) (hb : b < 2 ^ 31) (q1 : Cond.methodLink y.cls index Lib.Math.min.name ∈ lw_all) (q2 : Cond.static Lib.Math.min.name ∈ lw_all) (q3 : Cond.initialized "java/lang/Math" ∈ lw_all) (q4 : Cond.code Lib.Math.min.name Lib.Math.min.code 2 (some .int) ∈ lw_all) (hf : 1 ≤ rm.frames) (hl : (st.map fun v => v.category).sum + 13 ≤ rm.locals) (hc : k ≤ rm.cells) (hs : n ≤ rm.slots) (d : decode cc pc = .ok (.invokestatic index, 3)) (kk : AW γ l x Q nL h sz k n (pc + 3) L (.int (nI (if b < a then b else a)) :: st)) : AW γ l x Q nL h sz k n pc L (.int (nI b) :: .int (nI a) :: st) := fun H locs ls h1 h2 h3 h4 =>
  va_mmin C.hx C.hb (by rw [C.hml]; exact h4.1.symm) C.hown (C.hts _ q1) (C.hts _ q2) (C.hts _ q3) (C.hts _ q4) (by rw [C.hR]; exact hf) (by rw [C.hR]; exact hl) (by rw [C.hR]; exact hc) (by rw [C.hR]; exact hs) d (by
    have e : (if nI b < nI a then nI b else nI a) = nI (if b < a then b else a) := by
      by_cases q : b < a
      · rw [if_pos q, if_pos ((nI_ltI hb ha).mpr q)]
      · rw [if_neg q, if_neg (fun z => q ((nI_ltI hb ha).mp z))]
    rw [e]
    exact kk H locs ls h1 h2 h3 h4)
theorem qmax1 : Cond.static Lib.Math.max.name ∈ lw_all := q381
theorem qmax2 : Cond.code Lib.Math.max.name Lib.Math.max.code 2 (some .int) ∈ lw_all := q382
theorem qmin1 : Cond.static Lib.Math.min.name ∈ lw_all := q399
theorem qmin2 : Cond.code Lib.Math.min.name Lib.Math.min.code 2 (some .int) ∈ lw_all := q400
end MM
set_option maxRecDepth 100000 in
theorem cp_countingR {γ : Gm} (hG : GF γ) (l : Launch) {h : AH} {sz : Nat} {S : Nat} (hS : S < 512) (bn : Int32) : MX γ l yX1_counting cX1_counting 2 (some .int) 1 20 0 0 [.int (nI S), .int bn] h sz (RI h sz (if pop S = 1 then (-1 : Int32) else bn)) NX := by
  refine mx_start hG (by decide) (Nat.le_of_ble_eq_true rfl) (fun x C => ?_)
  have hp9 := pop_le S hS
  refine aw_iload_n C rfl rfl dX1_counting_0 ?_
  refine aw_callSRR C (cp_bitCount hG l hS) q749 q750 q118 q751 (n9 := 1) (by decide +kernel) rfl (Nat.le_of_ble_eq_true rfl) (Nat.le_of_ble_eq_true rfl) (Nat.zero_le _) (Nat.zero_le _) rfl (Nat.le_of_ble_eq_true rfl) dX1_counting_1 ?_
  refine aw_iconst C (v := nI 1) (by decide) dX1_counting_4 ?_
  refine aw_icmpN_ne C (tgt := 12) (by omega) (by omega) dX1_counting_5 (by decide) (fun g1 => ?_) (fun g1 => ?_)
  · refine aw_iload_n C rfl rfl dX1_counting_12 ?_
    exact aw_iret C rfl dX1_counting_13 (Nat.le_refl _) (Nat.le_refl _) ⟨by first | rw [if_pos g1] | rw [if_neg g1], rfl, rfl⟩
  · refine aw_iconst C (v := -1) (by decide) dX1_counting_8 ?_
    refine aw_goto C (tgt := 13) dX1_counting_9 (by decide) ?_
    exact aw_iret C rfl dX1_counting_13 (Nat.le_refl _) (Nat.le_refl _) ⟨by first | rw [if_pos g1] | rw [if_neg g1], rfl, rfl⟩
set_option maxRecDepth 100000 in
theorem cp_counting {γ : Gm} (hG : GF γ) (l : Launch) {h : AH} {sz : Nat} {S m : Nat} (hS : S < 512) : MX γ l yX1_counting cX1_counting 2 (some .int) 1 20 0 0 [.int (nI S), .int (nI m - nI 1)] h sz (RI h sz (nI (cnt S m) - nI 1)) NX := by
  rw [← cnt_n S m hS]
  exact cp_countingR hG l hS _
set_option maxRecDepth 100000 in
theorem cp_packed {γ : Gm} (hG : GF γ) (l : Launch) {h : AH} {sz : Nat} {i : G3} : MX γ l yX1_packed cX1_packed 3 (some .int) 0 0 0 0 [.int (nI i.1), .int (nI i.2.1), .int (nI i.2.2)] h sz (RI h sz (nI (pq i))) NX := by
  refine mx_start hG (by decide) (Nat.le_of_ble_eq_true rfl) (fun x C => ?_)
  refine aw_iload_n C rfl rfl dX1_packed_0 ?_
  refine aw_bipush C (v := nI 8) (by decide) dX1_packed_1 ?_
  refine aw_ishlN C (by omega) dX1_packed_3 ?_
  refine aw_iload_n C rfl rfl dX1_packed_4 ?_
  refine aw_iconst C (v := nI 4) (by decide) dX1_packed_5 ?_
  refine aw_ishlN C (by omega) dX1_packed_6 ?_
  refine aw_iorN C dX1_packed_7 ?_
  refine aw_iload_n C rfl rfl dX1_packed_8 ?_
  refine aw_iorN C dX1_packed_9 ?_
  exact aw_iret C rfl dX1_packed_10 (Nat.le_refl _) (Nat.le_refl _) ⟨rfl, rfl, rfl⟩
set_option maxRecDepth 100000 in
theorem cp_value {γ : Gm} (hG : GF γ) (l : Launch) {h : AH} {sz : Nat} {p : Nat} (hp : p < 2 ^ 31) : MX γ l yX1_value_2 cX1_value_2 1 (some .int) 0 0 0 0 [.int (nI p)] h sz (RI h sz (nI (p >>> 8))) NX := by
  refine mx_start hG (by decide) (Nat.le_of_ble_eq_true rfl) (fun x C => ?_)
  refine aw_iload_n C rfl rfl dX1_value_2_0 ?_
  refine aw_bipush C (v := nI 8) (by decide) dX1_value_2_1 ?_
  refine aw_ishrN C (by omega) (by omega) dX1_value_2_3 ?_
  exact aw_iret C rfl dX1_value_2_4 (Nat.le_refl _) (Nat.le_refl _) ⟨rfl, rfl, rfl⟩
set_option maxRecDepth 100000 in
theorem cp_longest {γ : Gm} (hG : GF γ) (l : Launch) {h : AH} {sz : Nat} {p : Nat} (hp : p < 2 ^ 31) : MX γ l yX1_longest cX1_longest 1 (some .int) 0 0 0 0 [.int (nI p)] h sz (RI h sz (nI ((p >>> 4) &&& 15))) NX := by
  refine mx_start hG (by decide) (Nat.le_of_ble_eq_true rfl) (fun x C => ?_)
  refine aw_iload_n C rfl rfl dX1_longest_0 ?_
  refine aw_iconst C (v := nI 4) (by decide) dX1_longest_1 ?_
  refine aw_ishrN C (by omega) (by omega) dX1_longest_2 ?_
  refine aw_bipush C (v := nI 15) (by decide) dX1_longest_3 ?_
  refine aw_iandN C dX1_longest_5 ?_
  exact aw_iret C rfl dX1_longest_6 (Nat.le_refl _) (Nat.le_refl _) ⟨rfl, rfl, rfl⟩
set_option maxRecDepth 100000 in
theorem cp_shortest {γ : Gm} (hG : GF γ) (l : Launch) {h : AH} {sz : Nat} {p : Nat} : MX γ l yX1_shortest cX1_shortest 1 (some .int) 0 0 0 0 [.int (nI p)] h sz (RI h sz (nI (p &&& 15))) NX := by
  refine mx_start hG (by decide) (Nat.le_of_ble_eq_true rfl) (fun x C => ?_)
  refine aw_iload_n C rfl rfl dX1_shortest_0 ?_
  refine aw_bipush C (v := nI 15) (by decide) dX1_shortest_1 ?_
  refine aw_iandN C dX1_shortest_3 ?_
  exact aw_iret C rfl dX1_shortest_4 (Nat.le_refl _) (Nat.le_refl _) ⟨rfl, rfl, rfl⟩
