/-! sums, parts -/
def sumF (f : Nat → Nat) : Nat → Nat
  | 0 => 0
  | n + 1 => sumF f n + f n
theorem sumF_le {f : Nat → Nat} {m : Nat} (h : ∀ v, f v ≤ m) : ∀ n, sumF f n ≤ n * m := by
  intro n
  induction n with
  | zero => exact Nat.zero_le _
  | succ n ih =>
    rw [sumF, Nat.succ_mul]
    have := h n
    omega
theorem sumF_leN {f : Nat → Nat} {m N : Nat} (h : ∀ v, v < N → f v ≤ m) : ∀ n, n ≤ N → sumF f n ≤ n * m := by
  intro n
  induction n with
  | zero => intro _; exact Nat.zero_le _
  | succ n ih =>
    intro hn
    rw [sumF, Nat.succ_mul]
    have := h n (by omega)
    have := ih (by omega)
    omega
theorem sumF_congr {f g : Nat → Nat} : ∀ n, (∀ v, v < n → f v = g v) → sumF f n = sumF g n := by
  intro n
  induction n with
  | zero => intro _; rfl
  | succ n ih =>
    intro h
    rw [sumF, sumF, ih (fun v hv => h v (by omega)), h n (by omega)]
def pairsB (b : Nat → Nat) : Nat := sumF (fun v => pop (cols b v)) (b 0)
def stuckB (b : Nat → Nat) : Nat := sumF (fun v => if fr b v = true ∧ cols b v = 0 then 1 else 0) (b 0)
def edgeB (b : Nat → Nat) (S : Nat) : Nat := sumF (fun v => if S.testBit v = true then pop (b (13 + v) &&& S) else 0) (b 0)
def pairsI (b : Nat → Nat) (S : Nat) : Nat := sumF (fun v => if S.testBit v = true then pop (cols b v) else 0) (b 0)
theorem itn_ge {f : Nat → Nat} (h : ∀ X i, X.testBit i = true → (f X).testBit i = true) : ∀ n X i, X.testBit i = true → (itn f n X).testBit i = true := by
  intro n
  induction n with
  | zero => intro X i hi; exact hi
  | succ n ih => intro X i hi; exact ih _ i (h X i hi)
theorem rchF_ge (b : Nat → Nat) (X0 set i : Nat) (h : X0.testBit i = true) : (rchF b X0 set).testBit i = true :=
  itn_ge (fun X i hi => by rw [gstep, grow_bit, hi, Bool.true_or]) 512 X0 i h
theorem rch_self (b : Nat → Nat) (v set : Nat) : (rch b v set).testBit v = true := rchF_ge b _ set v (by rw [sh1_bit]; simp)
theorem nd_lt_of {a c i : Nat} (h1 : a.testBit i = true) (h2 : c.testBit i = true) : nd a c < a := by
  refine Nat.lt_of_le_of_ne (nb_nd_le a c) (fun e => ?_)
  have := nd_bit a c i
  rw [e, h1, h2] at this
  cases this
/-- the parts of a set, from the lowest vertex that is left on, each within the set -/
def ptsF (b : Nat → Nat) (set : Nat) : Nat → Nat → List Nat
  | 0, _ => []
  | f + 1, left => if left = 0 then [] else rch b (low left) set :: ptsF b set f (nd left (rch b (low left) set))
def pts (b : Nat → Nat) (set left : Nat) : List Nat := ptsF b set left left
theorem ptsF_eq (b : Nat → Nat) (set : Nat) : ∀ f g left, left ≤ f → left ≤ g → left < 512 → ptsF b set f left = ptsF b set g left := by
  intro f
  induction f with
  | zero =>
    intro g left h1 h2 h3
    have : left = 0 := by omega
    subst this
    cases g with
    | zero => rfl
    | succ g => rfl
  | succ f ih =>
    intro g left h1 h2 h3
    by_cases h0 : left = 0
    · subst h0
      cases g with
      | zero => rfl
      | succ g => rfl
    · cases g with
      | zero => omega
      | succ g =>
        rw [ptsF, ptsF, if_neg h0, if_neg h0]
        have hl := (low_bit left h3 (by omega)).1
        have hd := nd_lt_of hl (rch_self b (low left) set)
        rw [ih g _ (by omega) (by omega) (by omega)]
theorem pts_0 (b : Nat → Nat) (set : Nat) : pts b set 0 = [] := rfl
theorem pts_s (b : Nat → Nat) (set : Nat) {left : Nat} (h0 : 0 < left) (h : left < 512) : pts b set left = rch b (low left) set :: pts b set (nd left (rch b (low left) set)) := by
  have hl := (low_bit left h h0).1
  have hd := nd_lt_of hl (rch_self b (low left) set)
  obtain ⟨f, hf⟩ : ∃ f, left = f + 1 := ⟨left - 1, by omega⟩
  show ptsF b set left left = _ :: ptsF b set _ _
  rw [show ptsF b set left left = ptsF b set (f + 1) left by rw [← hf], ptsF, if_neg (by omega)]
  rw [ptsF_eq b set f _ _ (by omega) (Nat.le_refl _) (by omega)]
def npts (b : Nat → Nat) (set : Nat) : Nat := (pts b set set).length
theorem pts_len (b : Nat → Nat) (set : Nat) : ∀ left, left < 512 → (pts b set left).length ≤ left := by
  intro left
  induction left using Nat.strongRecOn with
  | ind left ih =>
    intro h
    by_cases h0 : left = 0
    · subst h0
      exact Nat.le_refl _
    · rw [pts_s b set (by omega) h]
      have hl := (low_bit left h (by omega)).1
      have hd := nd_lt_of hl (rch_self b (low left) set)
      have := ih _ hd (by omega)
      simp only [List.length_cons]
      omega
/-- the part number k of the free vertices; none: 0 -/
def partS (b : Nat → Nat) (k : Nat) : Nat := (pts b (freeS b) (freeS b)).getD k 0
/-- the number of the first part that has v -/
def partN (b : Nat → Nat) (v : Nat) : Nat := (pts b (freeS b) (freeS b)).findIdx (fun p => p.testBit v)
theorem ban_m1 : ∀ m, m < 4 → ((nI m - nI 1 = -1) ↔ m = 0) := by decide +kernel
theorem clay_a {b : Nat → Nat} {v part m : Nat} (h : m = 0 ∨ pop part = 1) : clay b v part m = nd (b (4 + v)) (arn b v) := if_pos h
theorem clay_b {b : Nat → Nat} {v part m : Nat} (h1 : ¬ m = 0) (h2 : ¬ pop part = 1) : clay b v part m = nd (nd (b (4 + v)) (arn b v)) (1 <<< (m - 1)) := if_neg (fun h => h.elim h1 h2)
