/-! values and games of parts -/
abbrev G3 : Type := Nat × Nat × Nat
def gadd (a i : G3) : G3 := (a.1 ^^^ i.1, a.2.1 + i.2.1, a.2.2 + i.2.2)
def tgA (g : Nat → G3) (a : G3) (l : List Nat) : G3 := l.foldl (fun a p => gadd a (g p)) a
def tgF (g : Nat → G3) (l : List Nat) : G3 := tgA g (0, 0, 0) l
/-- v's colour is c -/
def layO (b : Nat → Nat) (v c : Nat) : Nat → Nat := fun j => if j = 22 + v then c + 1 else b j
/-- one lay more: the values reached, the longest, the shortest (one more; 0: none) -/
def gopt (a i : G3) : G3 := (a.1 ||| 1 <<< i.1, (if a.2.1 < 1 + i.2.1 then 1 + i.2.1 else a.2.1), if a.2.2 = 0 ∨ 1 + i.2.2 < a.2.2 - 1 then 1 + i.2.2 + 1 else a.2.2)
def mexF (S : Nat) : Nat → Nat → Nat
  | 0, v => v
  | f + 1, v => if S.testBit v = true then mexF S f (v + 1) else v
def mex (S : Nat) : Nat := mexF S 32 0
def scC (t : (Nat → Nat) → Nat → Nat → G3) (b : Nat → Nat) (part v set : Nat) (a : G3) : Nat → G3
  | 0 => a
  | c + 1 => if set.testBit c = true then gopt (scC t b part v set a c) (t (layO b v c) (nd part (1 <<< v)) (c + 1)) else scC t b part v set a c
def scS (b : Nat → Nat) (part m v : Nat) : Nat := if part.testBit v = true then clay b v part m else 0
def scV (t : (Nat → Nat) → Nat → Nat → G3) (b : Nat → Nat) (part m : Nat) : Nat → G3
  | 0 => (0, 0, 0)
  | v + 1 => scC t b part v (scS b part m v) (scV t b part m v) (b 1)
def gfin (a : G3) : G3 := (mex a.1, a.2.1, a.2.2 - 1)
def gv : Nat → (Nat → Nat) → Nat → Nat → G3
  | 0 => fun _ _ _ => (0, 0, 0)
  | f + 1 => fun b part m => gfin (scV (fun b' S m' => tgF (fun p => gv f b' p m') (pts b' S S)) b part m (b 0))
def tog (f : Nat) (b : Nat → Nat) (S m : Nat) : G3 := tgF (fun p => gv f b p m) (pts b S S)
theorem gv_s (f : Nat) (b : Nat → Nat) (part m : Nat) : gv (f + 1) b part m = gfin (scV (tog f) b part m (b 0)) := rfl
/-- the neighbours are mutual -/
def SY (b : Nat → Nat) : Prop := ∀ v w, v < b 0 → w < b 0 → (b (13 + v)).testBit w = (b (13 + w)).testBit v
theorem bit_lt {S n i : Nat} (h : S < 2 ^ n) (hi : S.testBit i = true) : i < n := by
  rcases Nat.lt_or_ge i n with h1 | h1
  · exact h1
  · have := Nat.testBit_lt_two_pow (Nat.lt_of_lt_of_le h (Nat.pow_le_pow_right (by omega) h1))
    rw [this] at hi
    cases hi
theorem itn_sub {b : Nat → Nat} {set Y : Nat} (hY : ∀ u w, u < b 0 → Y.testBit u = true → set.testBit w = true → (b (13 + u)).testBit w = true → Y.testBit w = true) : ∀ n X, (∀ i, X.testBit i = true → Y.testBit i = true) → ∀ i, (itn (gstep b set) n X).testBit i = true → Y.testBit i = true := by
  intro n
  induction n with
  | zero => intro X hX i hi; exact hX i hi
  | succ n ih =>
    intro X hX i hi
    refine ih (gstep b set X) (fun j hj => ?_) i hi
    rw [gstep, grow_bit] at hj
    simp only [Bool.or_eq_true, Bool.and_eq_true, List.any_eq_true, List.mem_range] at hj
    rcases hj with h | ⟨h1, k, h2, h3, h4⟩
    · exact hX j h
    · exact hY k j h2 (hX k h3) h1 h4
/-- the least set: what is reached lies in any closed set that has the start -/
theorem rch_min {b : Nat → Nat} {v set Y : Nat} (hv : Y.testBit v = true) (hY : ∀ u w, u < b 0 → Y.testBit u = true → set.testBit w = true → (b (13 + u)).testBit w = true → Y.testBit w = true) {i : Nat} (hi : (rch b v set).testBit i = true) : Y.testBit i = true :=
  itn_sub hY 512 (1 <<< v) (fun j hj => by rw [sh1_bit] at hj; simp at hj; rw [hj]; exact hv) i hi
theorem rch_closed {b : Nat → Nat} {v set : Nat} (hv : v < 9) (hs : set < 512) {u w : Nat} (hu : u < b 0) (h1 : (rch b v set).testBit u = true) (h2 : set.testBit w = true) (h3 : (b (13 + u)).testBit w = true) : (rch b v set).testBit w = true := by
  have h0 : 0 < 1 <<< v := by rw [Nat.shiftLeft_eq, Nat.one_mul]; exact Nat.two_pow_pos v
  have hf := rchF_fix (b := b) h0 (sh1_lt (m := 9) hv) hs
  have : (gstep b set (rch b v set)).testBit w = true := by
    rw [gstep, grow_bit]
    simp only [Bool.or_eq_true, Bool.and_eq_true, List.any_eq_true, List.mem_range]
    exact Or.inr ⟨h2, u, hu, h1, h3⟩
  rw [show gstep b set (rch b v set) = rch b v set from hf] at this
  exact this
theorem rch_sub {b : Nat → Nat} {v set i : Nat} (hv : set.testBit v = true) (hi : (rch b v set).testBit i = true) : set.testBit i = true :=
  rch_min hv (fun _ _ _ _ h _ => h) hi
/-- left is a union of parts of set -/
def Rcl (b : Nat → Nat) (set left : Nat) : Prop := (∀ i, left.testBit i = true → set.testBit i = true) ∧ ∀ u w, u < b 0 → left.testBit u = true → set.testBit w = true → (b (13 + u)).testBit w = true → left.testBit w = true
theorem rcl_self (b : Nat → Nat) (set : Nat) : Rcl b set set := ⟨fun _ h => h, fun _ _ _ _ h _ => h⟩
theorem rcl_rch {b : Nat → Nat} {set left v : Nat} (h : Rcl b set left) (hv : left.testBit v = true) {i : Nat} (hi : (rch b v set).testBit i = true) : left.testBit i = true := rch_min hv h.2 hi
theorem rcl_nd {b : Nat → Nat} {set left v : Nat} (h : Rcl b set left) (hS : SY b) (hs : set < 2 ^ b 0) (h9 : b 0 ≤ 9) (hv : left.testBit v = true) : Rcl b set (nd left (rch b v set)) := by
  have hs9 : set < 512 := Nat.lt_of_lt_of_le hs (Nat.pow_le_pow_right (by omega) h9)
  have hvN : v < b 0 := bit_lt hs (h.1 v hv)
  refine ⟨fun i hi => ?_, fun u w hu h1 h2 h3 => ?_⟩
  · rw [nd_bit] at hi
    simp at hi
    exact h.1 i hi.1
  · rw [nd_bit] at h1 ⊢
    simp only [Bool.and_eq_true, Bool.not_eq_true'] at h1 ⊢
    refine ⟨h.2 u w hu h1.1 h2 h3, ?_⟩
    cases hw : (rch b v set).testBit w with
    | false => rfl
    | true =>
      have hwN : w < b 0 := bit_lt hs h2
      have := rch_closed (by omega) hs9 hwN hw (h.1 u h1.1) (by rw [hS w u hwN hu]; exact h3)
      rw [this] at h1
      exact absurd h1.2 (by decide)
theorem popn_nd {S p : Nat} (h : ∀ i, p.testBit i = true → S.testBit i = true) : ∀ n, popn p n + popn (nd S p) n = popn S n := by
  intro n
  induction n with
  | zero => rfl
  | succ n ih =>
    rw [popn, popn, popn, nd_bit]
    have := h n
    cases hp : p.testBit n <;> cases hS : S.testBit n
    · simp; omega
    · simp; omega
    · rw [hp, hS] at this; exact absurd (this rfl) (by decide)
    · simp; omega
theorem pop_nd {S p : Nat} (h : ∀ i, p.testBit i = true → S.testBit i = true) : pop p + pop (nd S p) = pop S := popn_nd h 9
theorem pop_mono {S p : Nat} (h : ∀ i, p.testBit i = true → S.testBit i = true) : pop p ≤ pop S := by have := pop_nd h; omega
theorem pop_sh1 : ∀ v, v < 9 → pop (1 <<< v) = 1 := by decide +kernel
theorem pop_less {S v : Nat} (hv : v < 9) (h : S.testBit v = true) : pop (nd S (1 <<< v)) + 1 = pop S := by
  have := pop_nd (S := S) (p := 1 <<< v) (fun i hi => by rw [sh1_bit] at hi; simp at hi; rw [hi]; exact h)
  rw [pop_sh1 v hv] at this
  omega
theorem pop_0 : ∀ S, S < 512 → pop S = 0 → S = 0 := by decide +kernel
theorem pop_pos : ∀ S, S < 512 → 0 < S → 0 < pop S := by decide +kernel
theorem lt_of_sub {S T n : Nat} (hT : T < 2 ^ n) (h : ∀ i, S.testBit i = true → T.testBit i = true) : S < 2 ^ n := by
  apply Nat.lt_pow_two_of_testBit
  intro i hi
  cases hS : S.testBit i with
  | false => rfl
  | true => exact absurd (bit_lt hT (h i hS)) (by omega)
theorem pts_mem {b : Nat → Nat} {set : Nat} (hs : set < 512) : ∀ left, left < 512 → (∀ i, left.testBit i = true → set.testBit i = true) → ∀ p ∈ pts b set left, (∀ i, p.testBit i = true → set.testBit i = true) ∧ p < 512 ∧ 0 < p := by
  intro left
  induction left using Nat.strongRecOn with
  | ind left ih =>
    intro h hsub p hp
    by_cases h0 : left = 0
    · subst h0
      cases hp
    · rw [pts_s b set (by omega) h] at hp
      have hl := (low_bit left h (by omega)).1
      have hd := nd_lt_of hl (rch_self b (low left) set)
      rcases List.mem_cons.mp hp with e | hp
      · rw [e]
        have hsb : ∀ i, (rch b (low left) set).testBit i = true → set.testBit i = true := fun i hi => rch_sub (hsub _ hl) hi
        refine ⟨hsb, lt_of_sub (n := 9) hs hsb, ?_⟩
        rcases Nat.eq_zero_or_pos (rch b (low left) set) with e | e
        · have := rch_self b (low left) set
          rw [e] at this
          simp at this
        · exact e
      · exact ih _ hd (by omega) (fun i hi => by rw [nd_bit] at hi; simp at hi; exact hsub i hi.1) p hp
theorem tgA_congr {g g' : Nat → G3} : ∀ (l : List Nat) (a : G3), (∀ p ∈ l, g p = g' p) → tgA g a l = tgA g' a l := by
  intro l
  induction l with
  | nil => intro a _; rfl
  | cons p l ih =>
    intro a h
    show tgA g (gadd a (g p)) l = tgA g' (gadd a (g' p)) l
    rw [h p List.mem_cons_self]
    exact ih _ (fun q hq => h q (List.mem_cons_of_mem _ hq))
theorem scC_congr {t t' : (Nat → Nat) → Nat → Nat → G3} {b : Nat → Nat} {part v set : Nat} {a : G3} (h : ∀ c, set.testBit c = true → t (layO b v c) (nd part (1 <<< v)) (c + 1) = t' (layO b v c) (nd part (1 <<< v)) (c + 1)) : ∀ n, scC t b part v set a n = scC t' b part v set a n := by
  intro n
  induction n with
  | zero => rfl
  | succ n ih =>
    rw [scC, scC, ih]
    by_cases hc : set.testBit n = true
    · rw [if_pos hc, if_pos hc, h n hc]
    · rw [if_neg hc, if_neg hc]
theorem scS_bit {b : Nat → Nat} {part m v c : Nat} (h : (scS b part m v).testBit c = true) : part.testBit v = true := by
  unfold scS at h
  by_cases hp : part.testBit v = true
  · exact hp
  · rw [if_neg hp] at h
    simp at h
theorem scV_congr {t t' : (Nat → Nat) → Nat → Nat → G3} {b : Nat → Nat} {part m : Nat} : ∀ n, (∀ v c, v < n → (scS b part m v).testBit c = true → t (layO b v c) (nd part (1 <<< v)) (c + 1) = t' (layO b v c) (nd part (1 <<< v)) (c + 1)) → scV t b part m n = scV t' b part m n := by
  intro n
  induction n with
  | zero => intro _; rfl
  | succ n ih =>
    intro h
    rw [scV, scV, ih (fun v c hv hc => h v c (by omega) hc)]
    exact scC_congr (fun c hc => h n c (by omega) hc) _
theorem scC_zero (t : (Nat → Nat) → Nat → Nat → G3) (b : Nat → Nat) (part v : Nat) (a : G3) : ∀ n, scC t b part v 0 a n = a := by
  intro n
  induction n with
  | zero => rfl
  | succ n ih => rw [scC, if_neg (by simp), ih]
theorem scV_zero (t : (Nat → Nat) → Nat → Nat → G3) (b : Nat → Nat) (m : Nat) : ∀ n, scV t b 0 m n = (0, 0, 0) := by
  intro n
  induction n with
  | zero => rfl
  | succ n ih =>
    rw [scV, ih, show scS b 0 m n = 0 by unfold scS; simp, scC_zero]
theorem gv_zero (f : Nat) (b : Nat → Nat) (m : Nat) : gv f b 0 m = (0, 0, 0) := by
  cases f with
  | zero => rfl
  | succ f => rw [gv_s, scV_zero]; decide
theorem gv_eq : ∀ f g b part m, b 0 ≤ 9 → part < 512 → pop part ≤ f → pop part ≤ g → gv f b part m = gv g b part m := by
  intro f
  induction f with
  | zero =>
    intro g b part m h9 hp h1 h2
    rw [pop_0 part hp (by omega), gv_zero, gv_zero]
  | succ f ih =>
    intro g b part m h9 hp h1 h2
    cases g with
    | zero => rw [pop_0 part hp (by omega), gv_zero, gv_zero]
    | succ g =>
      rw [gv_s, gv_s]
      congr 1
      refine scV_congr _ (fun v c hv hc => ?_)
      have hb := scS_bit hc
      have h3 := pop_less (S := part) (by omega) hb
      have hS : nd part (1 <<< v) < 512 := nd_lt hp
      refine tgA_congr _ _ (fun p hpm => ?_)
      obtain ⟨q1, q2, q3⟩ := pts_mem (b := layO b v c) hS _ hS (fun _ h => h) p hpm
      have q4 := pop_mono q1
      exact ih g (layO b v c) p (c + 1) (by show (if 0 = 22 + v then c + 1 else b 0) ≤ 9; rw [if_neg (by omega)]; exact h9) q2 (by omega) (by omega)
/-! bounds -/
theorem popn_or1 (S i : Nat) : ∀ n, popn (S ||| 1 <<< i) n ≤ popn S n + (if i < n then 1 else 0) := by
  intro n
  induction n with
  | zero => simp [popn]
  | succ n ih =>
    rw [popn, popn, Nat.testBit_or, sh1_bit]
    by_cases e : n = i
    · subst e
      rw [if_neg (Nat.lt_irrefl n)] at ih
      rw [if_pos (Nat.lt_succ_self n)]
      cases S.testBit n <;> simp <;> omega
    · have h1 : (i < n + 1) ↔ (i < n) := by omega
      simp only [h1]
      cases S.testBit n <;> simp [e] <;> omega
theorem popn_ge {S w : Nat} (h : ∀ j, j < w → S.testBit j = true) : ∀ n, w ≤ n → w ≤ popn S n := by
  induction w with
  | zero => intro n _; exact Nat.zero_le _
  | succ w ih =>
    intro n
    induction n with
    | zero => intro hn; omega
    | succ n ihn =>
      intro hn
      rw [popn]
      by_cases e : w = n
      · subst e
        have := ih (fun j hj => h j (by omega)) w (Nat.le_refl _)
        rw [h w (by omega)]
        simp
        exact this
      · have := ihn (by omega)
        omega
theorem mexF_le {S : Nat} : ∀ f v, (∀ j, j < v → S.testBit j = true) → v + f = 32 → mexF S f v ≤ popn S 32 := by
  intro f
  induction f with
  | zero => intro v h e; exact popn_ge h 32 (by omega)
  | succ f ih =>
    intro v h e
    rw [mexF]
    by_cases hb : S.testBit v = true
    · rw [if_pos hb]
      refine ih (v + 1) (fun j hj => ?_) (by omega)
      by_cases e : j = v
      · rw [e]; exact hb
      · exact h j (by omega)
    · rw [if_neg hb]
      exact popn_ge h 32 (by omega)
theorem mex_le (S : Nat) : mex S ≤ popn S 32 := mexF_le 32 0 (fun j hj => absurd hj (Nat.not_lt_zero j)) rfl
theorem mexF_bits {S : Nat} : ∀ f v, (∀ j, j < v → S.testBit j = true) → (∀ j, j < mexF S f v → S.testBit j = true) ∧ (mexF S f v < v + f → S.testBit (mexF S f v) = false) := by
  intro f
  induction f with
  | zero => intro v h; exact ⟨h, fun z => absurd z (by rw [mexF]; omega)⟩
  | succ f ih =>
    intro v h
    rw [mexF]
    by_cases hb : S.testBit v = true
    · rw [if_pos hb]
      obtain ⟨g1, g2⟩ := ih (v + 1) (fun j hj => by
        by_cases e : j = v
        · rw [e]; exact hb
        · exact h j (by omega))
      exact ⟨g1, fun z => g2 (by omega)⟩
    · rw [if_neg hb]
      exact ⟨h, fun _ => by simpa using hb⟩
theorem mex_bits (S : Nat) : (∀ j, j < mex S → S.testBit j = true) ∧ (mex S < 32 → S.testBit (mex S) = false) := by
  obtain ⟨h1, h2⟩ := mexF_bits (S := S) 32 0 (fun j hj => absurd hj (Nat.not_lt_zero j))
  exact ⟨h1, fun z => h2 (show mexF S 32 0 < 0 + 32 from z)⟩
/-- bounds of a triple: value below 32, games of k at most -/
def GB (k : Nat) (i : G3) : Prop := i.1 < 32 ∧ i.2.1 ≤ k ∧ i.2.2 ≤ k
/-- bounds of the gathering: c lays at most, below 2^32, games of k at most -/
def AB (c k : Nat) (a : G3) : Prop := popn a.1 32 ≤ c ∧ a.1 < 2 ^ 32 ∧ a.2.1 ≤ k ∧ a.2.2 ≤ k + 1
theorem gopt_ab {c k : Nat} {a i : G3} (h : AB c (k + 1) a) (hi : GB k i) : AB (c + 1) (k + 1) (gopt a i) := by
  obtain ⟨h1, h2, h3, h4⟩ := h
  obtain ⟨g1, g2, g3⟩ := hi
  refine ⟨?_, nb_lt_or h2 (sh1_lt g1), ?_, ?_⟩
  · have := popn_or1 a.1 i.1 32
    show popn (a.1 ||| 1 <<< i.1) 32 ≤ c + 1
    split at this <;> omega
  · show (if a.2.1 < 1 + i.2.1 then 1 + i.2.1 else a.2.1) ≤ k + 1
    split <;> omega
  · show (if a.2.2 = 0 ∨ 1 + i.2.2 < a.2.2 - 1 then 1 + i.2.2 + 1 else a.2.2) ≤ k + 1 + 1
    split <;> omega
theorem scC_ab {t : (Nat → Nat) → Nat → Nat → G3} {b : Nat → Nat} {part v set c0 k : Nat} {a : G3} (h : AB c0 (k + 1) a) (ht : ∀ c, set.testBit c = true → GB k (t (layO b v c) (nd part (1 <<< v)) (c + 1))) : ∀ n, AB (c0 + n) (k + 1) (scC t b part v set a n) := by
  intro n
  induction n with
  | zero => exact h
  | succ n ih =>
    rw [scC]
    by_cases hc : set.testBit n = true
    · rw [if_pos hc]
      exact gopt_ab ih (ht n hc)
    · rw [if_neg hc]
      obtain ⟨h1, h2⟩ := ih
      exact ⟨by omega, h2⟩
theorem scV_ab {t : (Nat → Nat) → Nat → Nat → G3} {b : Nat → Nat} {part m k : Nat} : ∀ n, (∀ v c, v < n → (scS b part m v).testBit c = true → GB k (t (layO b v c) (nd part (1 <<< v)) (c + 1))) → AB (n * b 1) (k + 1) (scV t b part m n) := by
  intro n
  induction n with
  | zero =>
    intro _
    show AB (0 * b 1) (k + 1) (0, 0, 0)
    refine ⟨?_, (by decide : (0 : Nat) < 2 ^ 32), Nat.zero_le _, Nat.zero_le _⟩
    rw [Nat.zero_mul]
    exact (by decide : popn 0 32 ≤ 0)
  | succ n ih =>
    intro h
    rw [scV, Nat.succ_mul]
    exact scC_ab (ih (fun v c hv hc => h v c (by omega) hc)) (fun c hc => h n c (by omega) hc) _
theorem gfin_gb {c k : Nat} {a : G3} (h : AB c k a) (hc : c < 32) : GB k (gfin a) := by
  obtain ⟨h1, h2, h3, h4⟩ := h
  have := mex_le a.1
  exact ⟨by show mex a.1 < 32; omega, h3, by show a.2.2 - 1 ≤ k; omega⟩
theorem gadd_gb {j k : Nat} {a i : G3} (h : GB j a) (hi : GB k i) : GB (j + k) (gadd a i) :=
  ⟨Nat.xor_lt_two_pow (n := 5) h.1 hi.1, Nat.add_le_add h.2.1 hi.2.1, Nat.add_le_add h.2.2 hi.2.2⟩
theorem layO_n (b : Nat → Nat) (v c : Nat) {k : Nat} (h : k < 22) : layO b v c k = b k := by
  unfold layO
  rw [if_neg (by omega)]
theorem grow_congr {b b' : Nat → Nat} (set X : Nat) : ∀ n, (∀ k, k < n → b (13 + k) = b' (13 + k)) → grow b set X n = grow b' set X n := by
  intro n
  induction n with
  | zero => intro _; rfl
  | succ n ih =>
    intro h
    rw [grow, grow, ih (fun k hk => h k (by omega)), h n (by omega)]
/-- the same vertices and neighbours -/
def SG (b b' : Nat → Nat) : Prop := b' 0 = b 0 ∧ ∀ k, k < b 0 → b' (13 + k) = b (13 + k)
theorem gstep_congr {b b' : Nat → Nat} (h : SG b b') (set X : Nat) : gstep b' set X = gstep b set X := by
  unfold gstep
  rw [h.1]
  exact grow_congr set X _ h.2
theorem itn_congr {f g : Nat → Nat} (h : ∀ x, f x = g x) : ∀ n x, itn f n x = itn g n x := by
  intro n
  induction n with
  | zero => intro x; rfl
  | succ n ih => intro x; rw [itn, itn, h x, ih]
theorem rch_congr {b b' : Nat → Nat} (h : SG b b') (v set : Nat) : rch b' v set = rch b v set := by
  unfold rch rchF
  exact itn_congr (gstep_congr h set) _ _
theorem ptsF_congr {b b' : Nat → Nat} (h : SG b b') (set : Nat) : ∀ f left, ptsF b' set f left = ptsF b set f left := by
  intro f
  induction f with
  | zero => intro left; rfl
  | succ f ih =>
    intro left
    rw [ptsF, ptsF, rch_congr h, ih]
theorem pts_congr {b b' : Nat → Nat} (h : SG b b') (set left : Nat) : pts b' set left = pts b set left := ptsF_congr h set left left
theorem sg_lay {b : Nat → Nat} (h9 : b 0 ≤ 9) (v c : Nat) : SG b (layO b v c) := ⟨layO_n b v c (by omega), fun k hk => layO_n b v c (by omega)⟩
theorem sy_congr {b b' : Nat → Nat} (h : SG b b') (hS : SY b) : SY b' := by
  intro v w hv hw
  rw [h.1] at hv hw
  rw [h.2 v hv, h.2 w hw]
  exact hS v w hv hw
theorem tgA_gb {b : Nat → Nat} {g : Nat → G3} {set : Nat} (hS : SY b) (hs : set < 2 ^ b 0) (h9 : b 0 ≤ 9) (hg : ∀ p, (∀ i, p.testBit i = true → set.testBit i = true) → p < 512 → GB (pop p) (g p)) : ∀ left, left < 512 → Rcl b set left → ∀ j a, GB j a → GB (j + pop left) (tgA g a (pts b set left)) := by
  have hs9 : set < 512 := Nat.lt_of_lt_of_le hs (Nat.pow_le_pow_right (by omega) h9)
  intro left
  induction left using Nat.strongRecOn with
  | ind left ih =>
    intro h hR j a ha
    by_cases h0 : left = 0
    · subst h0
      exact ha
    · rw [pts_s b set (by omega) h]
      have hl := (low_bit left h (by omega)).1
      have hd := nd_lt_of hl (rch_self b (low left) set)
      have hsub : ∀ i, (rch b (low left) set).testBit i = true → left.testBit i = true := fun i hi => rcl_rch hR hl hi
      have hp := pop_nd hsub
      have hp9 : rch b (low left) set < 512 := lt_of_sub (n := 9) h hsub
      have h2 := ih _ hd (by omega) (rcl_nd hR hS hs h9 hl) (j + pop (rch b (low left) set)) (gadd a (g (rch b (low left) set))) (gadd_gb ha (hg _ (fun i hi => hR.1 i (hsub i hi)) hp9))
      rw [show j + pop left = j + pop (rch b (low left) set) + pop (nd left (rch b (low left) set)) by omega]
      exact h2
theorem gv_gb : ∀ f b part m, SY b → b 0 ≤ 9 → b 1 ≤ 3 → part < 2 ^ b 0 → GB (pop part) (gv f b part m) := by
  intro f
  induction f with
  | zero =>
    intro b part m _ _ _ _
    show GB (pop part) (0, 0, 0)
    exact ⟨(by decide : (0 : Nat) < 32), Nat.zero_le _, Nat.zero_le _⟩
  | succ f ih =>
    intro b part m hS h9 h3 hp
    have hp9 : part < 512 := Nat.lt_of_lt_of_le hp (Nat.pow_le_pow_right (by omega) h9)
    rw [gv_s]
    rcases Nat.eq_zero_or_pos (pop part) with e | e
    · rw [pop_0 part hp9 e, scV_zero]
      exact ⟨(by decide : mex 0 < 32), Nat.zero_le _, Nat.zero_le _⟩
    · have hk : pop part = (pop part - 1) + 1 := by omega
      rw [hk]
      refine gfin_gb (c := b 0 * b 1) (scV_ab (b 0) (fun v c hv hc => ?_)) ?_
      · have hb := scS_bit hc
        have h4 := pop_less (S := part) (by omega) hb
        have hSS : nd part (1 <<< v) < 2 ^ b 0 := nd_lt hp
        have hSG := sg_lay h9 v c
        show GB (pop part - 1) (tgA _ (0, 0, 0) (pts (layO b v c) (nd part (1 <<< v)) (nd part (1 <<< v))))
        have h5 := tgA_gb (b := layO b v c) (g := fun p => gv f (layO b v c) p (c + 1)) (set := nd part (1 <<< v)) (sy_congr hSG hS) (by rw [hSG.1]; exact hSS) (by rw [hSG.1]; exact h9)
          (fun p hp1 hp2 => ih (layO b v c) p (c + 1) (sy_congr hSG hS) (by rw [hSG.1]; exact h9) (by rw [layO_n b v c (by omega)]; exact h3) (by rw [hSG.1]; exact lt_of_sub hSS hp1))
          (nd part (1 <<< v)) (nd_lt hp9) (rcl_self _ _) 0 (0, 0, 0) ⟨(by decide : (0 : Nat) < 32), Nat.zero_le _, Nat.zero_le _⟩
        rw [show 0 + pop (nd part (1 <<< v)) = pop part - 1 by omega] at h5
        exact h5
      · have := Nat.mul_le_mul h9 h3
        omega
