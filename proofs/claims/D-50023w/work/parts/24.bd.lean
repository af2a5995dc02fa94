/-! THE BOARD, as numbers: b 0 vertices, b 1 colours, b 2 passes left, b 3 moves made; from 4 lists, from 13 neighbours, from 22 colours laid (one more), from 31 bans (one more), from 40 moves -/
/-- the set of the j < n with p -/
def bset (p : Nat → Bool) : Nat → Nat
  | 0 => 0
  | n + 1 => bset p n ||| (if p n then 1 <<< n else 0)
theorem sh1_bit (n i : Nat) : (1 <<< n).testBit i = decide (i = n) := by
  rw [Nat.testBit_shiftLeft]
  by_cases h : n ≤ i
  · by_cases e : i = n
    · subst e
      simp
    · have : i - n ≠ 0 := by omega
      simp [h, e]
      cases hh : i - n with
      | zero => omega
      | succ m => rw [Nat.testBit_succ]; simp
  · have : ¬ i = n := by omega
    simp [h, this]
theorem sh1_lt {n m : Nat} (h : n < m) : 1 <<< n < 2 ^ m := by
  rw [Nat.shiftLeft_eq, Nat.one_mul]
  exact Nat.pow_lt_pow_right (by omega) h
theorem bset_bit (p : Nat → Bool) (n i : Nat) : (bset p n).testBit i = (decide (i < n) && p i) := by
  induction n with
  | zero => simp [bset]
  | succ n ih =>
    rw [bset, Nat.testBit_or, ih]
    by_cases hp : p n = true
    · rw [if_pos hp, sh1_bit]
      by_cases e : i = n
      · subst e
        simp [hp]
      · have : (i < n + 1) ↔ (i < n) := by omega
        simp [e, this]
    · rw [if_neg hp]
      by_cases e : i = n
      · subst e
        simp [hp]
      · have : (i < n + 1) ↔ (i < n) := by omega
        simp [this]
theorem bset_lt (p : Nat → Bool) {n m : Nat} (h : n ≤ m) : bset p n < 2 ^ m := by
  apply Nat.lt_pow_two_of_testBit
  intro i hi
  rw [bset_bit]
  have : ¬ i < n := by omega
  simp [this]
/-- how many bits of the first n -/
def popn (S : Nat) : Nat → Nat
  | 0 => 0
  | n + 1 => popn S n + (if S.testBit n then 1 else 0)
def pop (S : Nat) : Nat := popn S 9
theorem pop_step : ∀ S, S < 512 → 0 < S → pop (S &&& (S - 1)) + 1 = pop S := by decide +kernel
theorem pop_zero : pop 0 = 0 := by decide
theorem pop_le : ∀ S, S < 512 → pop S ≤ 9 := by decide +kernel
/-- the first bit from v on, of f at most -/
def lowF (S : Nat) : Nat → Nat → Nat
  | 0, v => v
  | f + 1, v => if S.testBit v then v else lowF S f (v + 1)
def low (S : Nat) : Nat := lowF S 9 0
theorem low_bit : ∀ S, S < 512 → 0 < S → S.testBit (low S) = true ∧ low S < 9 ∧ ∀ j, j < low S → S.testBit j = false := by decide +kernel
/-- what is reached of X in one step within set -/
def grow (b : Nat → Nat) (set X : Nat) : Nat → Nat
  | 0 => X
  | k + 1 => grow b set X k ||| (if X.testBit k then b (13 + k) &&& set else 0)
def gstep (b : Nat → Nat) (set X : Nat) : Nat := grow b set X (b 0)
def itn (f : Nat → Nat) : Nat → Nat → Nat
  | 0, x => x
  | n + 1, x => itn f n (f x)
theorem itn_fix {f : Nat → Nat} {x : Nat} (h : f x = x) : ∀ n, itn f n x = x := by
  intro n
  induction n with
  | zero => rfl
  | succ n ih => rw [itn, h, ih]
/-- all of set that can be reached from the set X0 within set -/
def rchF (b : Nat → Nat) (X0 set : Nat) : Nat := itn (gstep b set) 512 X0
def rch (b : Nat → Nat) (v set : Nat) : Nat := rchF b (1 <<< v) set
theorem grow_bit (b : Nat → Nat) (set X n i : Nat) : (grow b set X n).testBit i = (X.testBit i || (set.testBit i && (List.range n).any (fun k => X.testBit k && (b (13 + k)).testBit i))) := by
  induction n with
  | zero => simp [grow]
  | succ n ih =>
    rw [grow, Nat.testBit_or, ih, List.range_succ, List.any_append]
    by_cases h : X.testBit n = true
    · rw [if_pos h, Nat.testBit_and]
      simp only [List.any_cons, List.any_nil, Bool.or_false, h, Bool.true_and]
      cases X.testBit i <;> cases set.testBit i <;> cases (b (13 + n)).testBit i <;> simp
    · rw [if_neg h]
      have h' : X.testBit n = false := by simpa using h
      simp [h']
theorem grow_ge (b : Nat → Nat) (set X n : Nat) : X ≤ grow b set X n := by
  apply Nat.le_of_testBit
  intro i h
  rw [grow_bit, h, Bool.true_or]
theorem grow_lt {b : Nat → Nat} {set X : Nat} (n : Nat) {m : Nat} (hX : X < 2 ^ m) (hs : set < 2 ^ m) : grow b set X n < 2 ^ m := by
  induction n with
  | zero => exact hX
  | succ n ih =>
    rw [grow]
    refine Nat.or_lt_two_pow ih ?_
    split
    · exact Nat.lt_of_le_of_lt Nat.and_le_right hs
    · exact Nat.two_pow_pos m
theorem gstep_ge (b : Nat → Nat) (set X : Nat) : X ≤ gstep b set X := grow_ge b set X (b 0)
theorem gstep_lt {b : Nat → Nat} {set X : Nat} (hX : X < 512) (hs : set < 512) : gstep b set X < 512 := grow_lt (m := 9) (b 0) hX hs
/-- k steps from X0 on give X: what stays -/
def rinv (b : Nat → Nat) (X0 set k X : Nat) : Prop := rchF b X0 set = itn (gstep b set) (512 - k) X ∧ k < X ∧ X < 512
theorem rinv_0 {b : Nat → Nat} {X0 set : Nat} (h0 : 0 < X0) (h : X0 < 512) : rinv b X0 set 0 X0 := ⟨rfl, h0, h⟩
theorem rinv_fix {b : Nat → Nat} {X0 set k X : Nat} (h : rinv b X0 set k X) (e : gstep b set X = X) : rchF b X0 set = X := h.1.trans (itn_fix e _)
theorem rinv_s {b : Nat → Nat} {X0 set k X : Nat} (h : rinv b X0 set k X) (hs : set < 512) (e : ¬ gstep b set X = X) : rinv b X0 set (k + 1) (gstep b set X) := by
  obtain ⟨h1, h2, h3⟩ := h
  have h4 := gstep_ge b set X
  refine ⟨?_, by omega, gstep_lt h3 hs⟩
  rw [h1]
  obtain ⟨d, hd⟩ : ∃ d, 512 - k = d + 1 := ⟨511 - k, by omega⟩
  rw [hd, itn, show 512 - (k + 1) = d by omega]
theorem rchF_lt {b : Nat → Nat} {X0 set : Nat} (h : X0 < 512) (hs : set < 512) : rchF b X0 set < 512 := by
  unfold rchF
  have key : ∀ n X, X < 512 → itn (gstep b set) n X < 512 := by
    intro n
    induction n with
    | zero => intro X hX; exact hX
    | succ n ih => intro X hX; exact ih _ (gstep_lt hX hs)
  exact key 512 X0 h
theorem rchF_fix {b : Nat → Nat} {X0 set : Nat} (h0 : 0 < X0) (h : X0 < 512) (hs : set < 512) : gstep b set (rchF b X0 set) = rchF b X0 set := by
  have key : ∀ j k X, 512 ≤ X + j → rinv b X0 set k X → gstep b set (rchF b X0 set) = rchF b X0 set := by
    intro j
    induction j with
    | zero => intro k X hj hi; have := hi.2.2; omega
    | succ j ih =>
      intro k X hj hi
      by_cases e : gstep b set X = X
      · rw [rinv_fix hi e, e]
      · have := gstep_ge b set X
        exact ih (k + 1) _ (by omega) (rinv_s hi hs e)
  exact key 512 0 X0 (by omega) (rinv_0 h0 h)
def freeS (b : Nat → Nat) : Nat := bset (fun v => decide (b (22 + v) = 0)) (b 0)
theorem freeS_lt {b : Nat → Nat} (h : b 0 ≤ 9) : freeS b < 512 := bset_lt (m := 9) _ h
/-- the twin's int array holds b -/
def BD (u : TU) (b : Nat → Nat) : Prop := ∀ j, u.2 0 j = nI (b j)
/-! colours around, colours that can be laid, why not -/
def fr (b : Nat → Nat) (v : Nat) : Bool := decide (b (22 + v) = 0)
theorem fr_t {b : Nat → Nat} {v : Nat} : fr b v = true ↔ b (22 + v) = 0 := by unfold fr; simp
theorem fr_f {b : Nat → Nat} {v : Nat} : fr b v = false ↔ ¬ b (22 + v) = 0 := by unfold fr; simp
def arnF (b : Nat → Nat) (v : Nat) : Nat → Nat
  | 0 => 0
  | k + 1 => arnF b v k ||| (if ((b (13 + v)).testBit k && !fr b k) = true then 1 <<< (b (22 + k) - 1) else 0)
def arn (b : Nat → Nat) (v : Nat) : Nat := arnF b v (b 0)
/-- the colours that can be laid on v in a part with the ban m (0: none) -/
def clay (b : Nat → Nat) (v part m : Nat) : Nat := if m = 0 ∨ pop part = 1 then nd (b (4 + v)) (arn b v) else nd (nd (b (4 + v)) (arn b v)) (1 <<< (m - 1))
def cols (b : Nat → Nat) (v : Nat) : Nat := if fr b v = true then clay b v (rch b v (freeS b)) (b (31 + v)) else 0
def why (b : Nat → Nat) (v c : Nat) : Nat := if fr b v = false then 1 else if (b (4 + v)).testBit c = false then 2 else if (arn b v).testBit c = true then 3 else if (cols b v).testBit c = true then 0 else 4
/-- the bounds of a board's numbers -/
def WB (b : Nat → Nat) : Prop := 1 ≤ b 0 ∧ b 0 ≤ 9 ∧ 1 ≤ b 1 ∧ b 1 ≤ 3 ∧ (∀ v, v < 9 → b (4 + v) < 2 ^ b 1) ∧ (∀ v, v < 9 → b (13 + v) < 2 ^ b 0) ∧ (∀ v, v < 9 → b (22 + v) ≤ b 1) ∧ (∀ v, v < 9 → b (31 + v) ≤ b 1)
theorem WB.l8 {b : Nat → Nat} (h : WB b) {v : Nat} (hv : v < 9) : b (4 + v) < 8 := Nat.lt_of_lt_of_le (h.2.2.2.2.1 v hv) (Nat.pow_le_pow_right (by omega) h.2.2.2.1)
theorem WB.n9 {b : Nat → Nat} (h : WB b) {v : Nat} (hv : v < 9) : b (13 + v) < 512 := Nat.lt_of_lt_of_le (h.2.2.2.2.2.1 v hv) (Nat.pow_le_pow_right (by omega) h.2.1)
theorem WB.o3 {b : Nat → Nat} (h : WB b) {v : Nat} (hv : v < 9) : b (22 + v) ≤ 3 := Nat.le_trans (h.2.2.2.2.2.2.1 v hv) h.2.2.2.1
theorem WB.b3 {b : Nat → Nat} (h : WB b) {v : Nat} (hv : v < 9) : b (31 + v) ≤ 3 := Nat.le_trans (h.2.2.2.2.2.2.2 v hv) h.2.2.2.1
theorem arnF_lt {b : Nat → Nat} (h : WB b) (v : Nat) : ∀ k, k ≤ 9 → arnF b v k < 8 := by
  intro k
  induction k with
  | zero => intro _; exact Nat.zero_lt_succ _
  | succ k ih =>
    intro hk
    rw [arnF]
    have h1 := ih (by omega)
    refine nb_lt_or (m := 3) h1 ?_
    split
    · exact sh1_lt (by have := h.o3 (v := k) (by omega); omega)
    · exact Nat.zero_lt_succ _
theorem arn_lt {b : Nat → Nat} (h : WB b) (v : Nat) : arn b v < 8 := arnF_lt h v _ h.2.1
theorem nd_lt {a c m : Nat} (h : a < m) : nd a c < m := Nat.lt_of_le_of_lt (nb_nd_le a c) h
theorem clay_lt {b : Nat → Nat} (h : WB b) {v : Nat} (hv : v < 9) (part m : Nat) : clay b v part m < 8 := by
  unfold clay
  split
  · exact nd_lt (h.l8 hv)
  · exact nd_lt (nd_lt (h.l8 hv))
theorem cols_lt {b : Nat → Nat} (h : WB b) {v : Nat} (hv : v < 9) : cols b v < 8 := by
  unfold cols
  split
  · exact clay_lt h hv _ _
  · exact Nat.zero_lt_succ _
theorem rch_lt {b : Nat → Nat} {v set : Nat} (hv : v < 9) (hs : set < 512) : rch b v set < 512 := rchF_lt (sh1_lt (m := 9) hv) hs
