/-! reading a text: signs bf, n of them; the state: the place a of the sign group that is next, the board, the fault (0: none), its place -/
def run (P : Nat → Bool) : Nat → Nat → Nat
  | 0, p => p
  | f + 1, p => if P p = true then run P f (p + 1) else p
def rn (P : Nat → Bool) (n p : Nat) : Nat := run P (n + 1 - p) p
theorem rn_t {P : Nat → Bool} {n p : Nat} (h : P p = true) (hn : p < n) : rn P n p = rn P n (p + 1) := by
  unfold rn
  obtain ⟨d, hd⟩ : ∃ d, n + 1 - p = d + 1 := ⟨n - p, by omega⟩
  rw [hd, show n + 1 - (p + 1) = d by omega, run, if_pos h]
theorem rn_f {P : Nat → Bool} {n p : Nat} (h : P p = false) : rn P n p = p := by
  unfold rn
  cases e : n + 1 - p with
  | zero => rfl
  | succ d => rw [run, if_neg (by rw [h]; decide)]
theorem run_le {P : Nat → Bool} {n : Nat} (hP : ∀ p, P p = true → p < n) : ∀ f p, p ≤ n → p ≤ run P f p ∧ run P f p ≤ n := by
  intro f
  induction f with
  | zero => intro p h; exact ⟨Nat.le_refl _, h⟩
  | succ f ih =>
    intro p h
    rw [run]
    by_cases e : P p = true
    · rw [if_pos e]
      have := ih (p + 1) (hP p e)
      omega
    · rw [if_neg e]
      exact ⟨Nat.le_refl _, h⟩
theorem rn_le {P : Nat → Bool} {n : Nat} (hP : ∀ p, P p = true → p < n) {p : Nat} (h : p ≤ n) : p ≤ rn P n p ∧ rn P n p ≤ n := run_le hP _ p h
section RD
variable (bf : List Nat) (n : Nat)
def isSp (k : Nat) : Bool := decide (k < n ∧ bf.getD k 0 = 32)
def isLt (k : Nat) : Bool := decide (k < n ∧ 97 ≤ bf.getD k 0 ∧ bf.getD k 0 ≤ 122)
def isDg (k : Nat) : Bool := decide (k < n ∧ 48 ≤ bf.getD k 0 ∧ bf.getD k 0 ≤ 57)
def nmF : Nat → Nat → Nat → Nat
  | 0, _, acc => acc
  | f + 1, p, acc => if isDg bf n p = true then nmF f (p + 1) (if acc < 10000 then 10 * acc + (bf.getD p 0 - 48) else acc) else acc
def nm (p acc : Nat) : Nat := nmF bf n (n + 1 - p) p acc
/-- the kind of what stands at a: 0 a word, 1 a number, 2 a sign, 3 the end -/
def kd (a : Nat) : Nat := if n ≤ a then 3 else if isLt bf n a = true then 0 else if isDg bf n a = true then 1 else 2
/-- where it ends -/
def en (a : Nat) : Nat := if n ≤ a then a else if isLt bf n a = true then rn (isLt bf n) n a else if isDg bf n a = true then rn (isDg bf n) n a else a + 1
def nx (a : Nat) : Nat := rn (isSp bf n) n (en bf n a)
end RD
theorem isSp_lt {bf : List Nat} {n p : Nat} (h : isSp bf n p = true) : p < n := (of_decide_eq_true h).1
theorem isLt_lt {bf : List Nat} {n p : Nat} (h : isLt bf n p = true) : p < n := (of_decide_eq_true h).1
theorem isDg_lt {bf : List Nat} {n p : Nat} (h : isDg bf n p = true) : p < n := (of_decide_eq_true h).1
theorem nm_t {bf : List Nat} {n p acc : Nat} (h : isDg bf n p = true) : nm bf n p acc = nm bf n (p + 1) (if acc < 10000 then 10 * acc + (bf.getD p 0 - 48) else acc) := by
  have := isDg_lt h
  unfold nm
  obtain ⟨d, hd⟩ : ∃ d, n + 1 - p = d + 1 := ⟨n - p, by omega⟩
  rw [hd, show n + 1 - (p + 1) = d by omega, nmF, if_pos h]
theorem nm_f {bf : List Nat} {n p acc : Nat} (h : isDg bf n p = false) : nm bf n p acc = acc := by
  unfold nm
  cases e : n + 1 - p with
  | zero => rfl
  | succ d => rw [nmF, if_neg (by rw [h]; decide)]
theorem nmF_lt {bf : List Nat} {n : Nat} : ∀ f p acc, acc < 100000 → nmF bf n f p acc < 100000 := by
  intro f
  induction f with
  | zero => intro p acc h; exact h
  | succ f ih =>
    intro p acc h
    rw [nmF]
    split
    · rename_i hd
      have := (of_decide_eq_true hd).2
      exact ih _ _ (by split <;> omega)
    · exact h
theorem nm_lt (bf : List Nat) (n p : Nat) : nm bf n p 0 < 100000 := nmF_lt _ _ _ (by decide)
theorem en_le {bf : List Nat} {n a : Nat} (h : a ≤ n) : a ≤ en bf n a ∧ en bf n a ≤ n := by
  unfold en
  split
  · exact ⟨Nat.le_refl _, h⟩
  · split
    · exact rn_le (fun _ => isLt_lt) h
    · split
      · exact rn_le (fun _ => isDg_lt) h
      · omega
theorem nx_le {bf : List Nat} {n a : Nat} (h : a ≤ n) : a ≤ nx bf n a ∧ nx bf n a ≤ n := by
  have h1 := en_le (bf := bf) h
  have h2 := rn_le (P := isSp bf n) (fun _ => isSp_lt) h1.2
  unfold nx
  omega
theorem kd_lt {bf : List Nat} {n a : Nat} : kd bf n a < 4 := by
  unfold kd
  (repeat' split) <;> decide
/-! the state and its steps -/
abbrev RS : Type := Nat × BT × Int32 × Nat
section RT
variable (bf : List Nat) (n : Nat)
def fS (code : Int32) (s : RS) : RS := if s.2.2.1 = 0 then (s.1, s.2.1, code, s.1) else s
def nS (s : RS) : RS := if s.2.2.1 = 0 then (nx bf n s.1, s.2) else s
def muS (r : Bool) (s : RS) : RS := nS bf n (if r = true then s else fS (-2) s)
def tk1 (lo hi : Int32) (s : RS) : RS := if s.2.2.1 = 0 ∧ ¬ kd bf n s.1 = 1 then fS (-2) s else if s.2.2.1 = 0 ∧ isI (nI (nm bf n s.1 0)) lo hi = false then fS (-3) s else s
def tkV (lo hi : Int32) (s : RS) : Nat := if (tk1 bf n lo hi s).2.2.1 = 0 then nm bf n s.1 0 else 0
def tkS (lo hi : Int32) (s : RS) : RS := nS bf n (tk1 bf n lo hi s)
def semi (a : Nat) : Bool := decide (kd bf n a = 2 ∧ bf.getD a 0 = 59)
def meS (s : RS) : RS := muS bf n (semi bf n s.1) s
def isW (w : List Nat) (s : RS) : Bool := decide (s.2.2.1 = 0 ∧ kd bf n s.1 = 0 ∧ en bf n s.1 - s.1 = w.length ∧ ∀ k, k < w.length → bf.getD (s.1 + k) 0 = w.getD k 0)
def ltF (b1 e : Nat) : Nat → Nat → Nat → Nat
  | 0, _, set => set
  | f + 1, k, set => if e ≤ k then set else if b1 ≤ bf.getD k 0 - 97 ∨ set.testBit (bf.getD k 0 - 97) = true then 0 else ltF b1 e f (k + 1) (set ||| 1 <<< (bf.getD k 0 - 97))
def letS (b1 a : Nat) : Nat := ltF bf b1 (en bf n a) 501 a 0
def setB (s : RS) (b : BT) : RS := (s.1, b, s.2.2)
/-- a vertex -/
def vS1 (s : RS) : RS := if s.2.1 0 = 9 ∨ 20000 < (s.2.1 1 + 1) ^ (s.2.1 0 + 1) then fS (-6) s else s
def vSl (s : RS) : Nat := if s.2.2.1 = 0 ∧ kd bf n s.1 = 0 then letS bf n (s.2.1 1) s.1 else (1 <<< s.2.1 1) - 1
def vS2 (s : RS) : RS := if s.2.2.1 = 0 ∧ kd bf n s.1 = 0 then nS bf n (if letS bf n (s.2.1 1) s.1 = 0 then fS (-3) s else s) else s
def vS4 (m : Nat) (s : RS) : RS := if s.2.2.1 = 0 then setB s (updN (updN s.2.1 (4 + s.2.1 0) m) 0 (s.2.1 0 + 1)) else s
def vS (s : RS) : RS := vS4 (vSl bf n (muS bf n true (vS1 s))) (meS bf n (vS2 bf n (muS bf n true (vS1 s))))
/-- an edge -/
def eS3 (one : Nat) (s : RS) : RS := if s.2.2.1 = 0 ∧ kd bf n s.1 = 1 ∧ nm bf n s.1 0 = one then fS (-3) s else s
def eS4 (one : Nat) (s : RS) : RS := if s.2.2.1 = 0 ∧ kd bf n s.1 = 1 ∧ nm bf n s.1 0 < s.2.1 0 ∧ (s.2.1 (13 + one)).testBit (nm bf n s.1 0) = true then fS (-4) s else s
def linkB (b : BT) (one other : Nat) : BT := updN (updN b (13 + one) (b (13 + one) ||| 1 <<< other)) (13 + other) (updN b (13 + one) (b (13 + one) ||| 1 <<< other) (13 + other) ||| 1 <<< one)
def eS6 (one other : Nat) (s : RS) : RS := if s.2.2.1 = 0 then setB s (linkB s.2.1 one other) else s
def eA (s : RS) : RS := muS bf n true s
def eB (s : RS) : RS := tkS bf n (nI 0) (nI (s.2.1 0) - nI 1) (eA bf n s)
def e1 (s : RS) : Nat := tkV bf n (nI 0) (nI (s.2.1 0) - nI 1) (eA bf n s)
def eC (s : RS) : RS := eS4 bf n (e1 bf n s) (eS3 bf n (e1 bf n s) (eB bf n s))
def eS (s : RS) : RS := eS6 (e1 bf n s) (tkV bf n (nI 0) (nI (s.2.1 0) - nI 1) (eC bf n s)) (meS bf n (tkS bf n (nI 0) (nI (s.2.1 0) - nI 1) (eC bf n s)))
/-- a lay -/
def lS3 (s : RS) : RS := if s.2.2.1 = 0 ∧ ¬ kd bf n s.1 = 0 then fS (-2) s else s
def lSs (s : RS) : Nat := if s.2.2.1 = 0 then letS bf n (s.2.1 1) s.1 else 0
def lSc (S : Nat) : Nat := if S = 1 then 1 else if S = 2 then 2 else if S = 4 then 3 else 0
def lS4 (c : Nat) (s : RS) : RS := if c = 0 then fS (-3) s else s
def lS5 (v c : Nat) (s : RS) : RS := if s.2.2.1 = 0 ∧ 0 < why s.2.1 v (c - 1) then fS (-5) s else s
def lS6 (v c : Nat) (s : RS) : RS := if s.2.2.1 = 0 then setB s (layM s.2.1 v (c - 1)) else s
def lC (s : RS) : RS := lS3 bf n (eB bf n s)
def lD (s : RS) : Nat := lSc (lSs bf n (lC bf n s))
def lS (s : RS) : RS := meS bf n (muS bf n true (lS6 (e1 bf n s) (lD bf n s) (lS5 (e1 bf n s) (lD bf n s) (lS4 (lD bf n s) (lC bf n s)))))
/-- a pass -/
def pS1 (s : RS) : RS := if s.2.1 2 = 0 then fS (-5) s else s
def pS2 (s : RS) : RS := if s.2.2.1 = 0 then setB s (passM s.2.1) else s
def pS (s : RS) : RS := meS bf n (muS bf n true (pS2 (pS1 s)))
end RT
