/-! what each call answers -/
def isI (v lo hi : Int32) : Bool := decide (lo ≤ v ∧ v ≤ hi)
def isV (b : BT) (v : Int32) : Bool := decide (nI 0 ≤ v ∧ v ≤ nI (b 0 - 1))
def isC (b : BT) (c : Int32) : Bool := decide (nI 0 ≤ c ∧ c ≤ nI (b 1 - 1))
def nt (v : Int32) : Nat := v.toInt.toNat
theorem nI_int {k : Nat} (h : k < 2 ^ 31) : (nI k).toInt = k := by
  show (BitVec.ofNat 32 k).toInt = k
  rw [BitVec.toInt_eq_toNat_of_lt]
  · rw [BitVec.toNat_ofNat, Nat.mod_eq_of_lt (by omega)]
  · rw [BitVec.toNat_ofNat, Nat.mod_eq_of_lt (by omega)]
    omega
theorem nt_n {k : Nat} (h : k < 2 ^ 31) : nt (nI k) = k := by
  unfold nt
  rw [nI_int h]
  rfl
theorem isI_ex {v : Int32} {lo hi : Nat} (hh : hi < 2 ^ 31) (hl : lo ≤ hi) (h : isI v (nI lo) (nI hi) = true) : ∃ k, v = nI k ∧ lo ≤ k ∧ k ≤ hi := by
  obtain ⟨h1, h2⟩ := of_decide_eq_true h
  rw [Int32.le_iff_toInt_le] at h1 h2
  rw [nI_int (by omega)] at h1
  rw [nI_int hh] at h2
  refine ⟨v.toInt.toNat, ?_, by omega, by omega⟩
  apply Int32.toInt_inj.1
  rw [nI_int (by omega)]
  omega
theorem isI_n {k lo hi : Nat} (hh : hi < 2 ^ 31) (h1 : lo ≤ k) (h2 : k ≤ hi) : isI (nI k) (nI lo) (nI hi) = true := by
  refine decide_eq_true ⟨?_, ?_⟩
  · rw [Int32.le_iff_toInt_le, nI_int (by omega), nI_int (by omega)]; omega
  · rw [Int32.le_iff_toInt_le, nI_int (by omega), nI_int (by omega)]; omega
theorem isV_ex {b : BT} (h9 : b 0 ≤ 9) (h1 : 1 ≤ b 0) {v : Int32} (h : isV b v = true) : ∃ k, v = nI k ∧ k < b 0 := by
  obtain ⟨k, e, _, hk⟩ := isI_ex (lo := 0) (hi := b 0 - 1) (by omega) (by omega) h
  exact ⟨k, e, by omega⟩
theorem isC_ex {b : BT} (h9 : b 1 ≤ 3) (h1 : 1 ≤ b 1) {v : Int32} (h : isC b v = true) : ∃ k, v = nI k ∧ k < b 1 := by
  obtain ⟨k, e, _, hk⟩ := isI_ex (lo := 0) (hi := b 1 - 1) (by omega) (by omega) h
  exact ⟨k, e, by omega⟩
theorem isV_n {b : BT} (h9 : b 0 ≤ 9) {k : Nat} (h : k < b 0) : isV b (nI k) = true := isI_n (by omega) (Nat.zero_le _) (by omega)
theorem isC_n {b : BT} (h9 : b 1 ≤ 3) {k : Nat} (h : k < b 1) : isC b (nI k) = true := isI_n (by omega) (Nat.zero_le _) (by omega)
/-- what was thrown, the answer -/
abbrev AN : Type := Nat × Int32
abbrev AS : Type := AN × SS
def PS (o sz : Nat) (x : AS) : Option Value → AH → Nat → Prop := RUi o sz (fun z u' => u'.1 7 = nI x.1.1 ∧ z = x.1.2 ∧ TS u' x.2)
def spUndo (s : SS) : AS := if s.2.1.length = 0 then ((1, nI 0), s) else ((0, nI (s.2.1.length - 1)), (s.2.1.getD (s.2.1.length - 1) kzero, s.2.1.take (s.2.1.length - 1), s.2.2))
def spLay (s : SS) (v c : Int32) : AS := if (isV s.1 v && isC s.1 c) = false then ((1, nI 0), s) else if 0 < why s.1 (nt v) (nt c) then ((2, nI 0), s) else
  ((0, nI (npts (layM s.1 (nt v) (nt c)) (freeS (layM s.1 (nt v) (nt c))))), (layM s.1 (nt v) (nt c), keepS s.1 s.2.1, s.2.2))
def spPass (s : SS) : AS := if s.1 2 = 0 then ((1, nI 0), s) else ((0, nI (s.1 2 - 1)), (passM s.1, keepS s.1 s.2.1, s.2.2))
def spSet (s : SS) (p : Int32) : AS := if isI p (nI 0) (nI 9) = false then ((1, nI 0), s) else ((0, nI (s.1 2)), (updN s.1 2 (nt p), keepS s.1 s.2.1, s.2.2))
def spPlay (s : SS) (p : Int32) : AS := if isI p (nI 1) (nI 20) = false then ((1, nI 0), s) else ((0, nI (plG (nt p) s.1 0).2), ((plG (nt p) s.1 0).1, keepS s.1 s.2.1, s.2.2))
def slU (sl : Nat → Option BT) (i : Nat) (b : BT) : Nat → Option BT := fun j => if j = i then some b else sl j
def spSave (s : SS) (p : Int32) : AS := if isI p (nI 0) (nI 1) = false then ((1, nI 0), s) else ((0, nI (s.1 3)), (s.1, s.2.1, slU s.2.2.1 (nt p) s.1, s.2.2.2))
def spRest (s : SS) (p : Int32) : AS := if isI p (nI 0) (nI 1) = false then ((1, nI 0), s) else if (s.2.2.1 (nt p)).isSome = false then ((2, nI 0), s) else
  ((0, nI ((s.2.2.1 (nt p)).getD kzero 3)), ((s.2.2.1 (nt p)).getD kzero, keepS s.1 s.2.1, s.2.2))
