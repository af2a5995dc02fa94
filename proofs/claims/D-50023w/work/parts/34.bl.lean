/-! the board's value, boards behind lays -/
def TJ (u u' : TU) : Prop := u'.1 = u.1 ∧ ∀ i, i ≠ 0 → i ≠ 18 → i ≠ 19 → u'.2 i = u.2 i
theorem TJ.rf (u : TU) : TJ u u := ⟨rfl, fun _ _ _ _ => rfl⟩
theorem TJ.tr {u u1 u2 : TU} (h : TJ u u1) (g : TJ u1 u2) : TJ u u2 := ⟨g.1.trans h.1, fun i a b c => (g.2 i a b c).trans (h.2 i a b c)⟩
theorem tj_up {u : TU} {i : Nat} (f : Nat → Int32) (h : i = 0 ∨ i = 18 ∨ i = 19) : TJ u (tsa u i f) := ⟨rfl, fun j a b c => by show (if j = i then f else u.2 j) = u.2 j; rw [if_neg (by omega)]⟩
theorem TK.tj {u u' : TU} (h : TK u u') : TJ u u' := by obtain ⟨g, rfl⟩ := h; exact tj_up g (by omega)
theorem TK.a19 {u u' : TU} (h : TK u u') : u'.2 19 = u.2 19 := by obtain ⟨g, rfl⟩ := h; rfl
def updN (b : Nat → Nat) (i x : Nat) : Nat → Nat := fun j => if j = i then x else b j
theorem bd_upd {u : TU} {b : Nat → Nat} (hu : BD u b) (i x : Nat) : BD (tsa u 0 (upd (u.2 0) i (nI x))) (updN b i x) := by
  intro j
  show upd (u.2 0) i (nI x) j = nI (if j = i then x else b j)
  by_cases e : j = i
  · rw [e, pk_us, if_pos rfl]
  · rw [pk_un e, if_neg e]; exact hu j
theorem bd_of {u u' : TU} {b : Nat → Nat} (hu : BD u b) (h : u'.2 0 = u.2 0) : BD u' b := fun j => by rw [h]; exact hu j
theorem bd_eq {u : TU} {b b' : Nat → Nat} (hu : BD u b) (h : ∀ j, b j = b' j) : BD u b' := fun j => by rw [← h]; exact hu j

/-- a move's number: of a lay the colour is there -/
def mvW (x : Nat) : Prop := x < 2 ^ 20 ∧ (¬ x >>> 1 &&& 15 = 0 → ¬ x >>> 5 &&& 3 = 0)
def WA (b : Nat → Nat) : Prop := WB b ∧ WP b ∧ SY b ∧ b 2 ≤ 9 ∧ b 3 ≤ 4096 ∧ (∀ k, k < 4096 → mvW (b (40 + k))) ∧ ∀ j, 4136 ≤ j → b j = 0
theorem WA.w {b : Nat → Nat} (h : WA b) : WB b := h.1
theorem WA.p {b : Nat → Nat} (h : WA b) : WP b := h.2.1
theorem WA.s {b : Nat → Nat} (h : WA b) : SY b := h.2.2.1
theorem WA.l {b : Nat → Nat} (h : WA b) : b 2 ≤ 9 := h.2.2.2.1
theorem WA.m {b : Nat → Nat} (h : WA b) : b 3 ≤ 4096 := h.2.2.2.2.1
theorem WA.f {b : Nat → Nat} (h : WA b) {k : Nat} (hk : k < 4096) : b (40 + k) < 2 ^ 20 := (h.2.2.2.2.2.1 k hk).1
theorem WA.g {b : Nat → Nat} (h : WA b) {k : Nat} (hk : k < 4096) : mvW (b (40 + k)) := h.2.2.2.2.2.1 k hk
theorem WA.z {b : Nat → Nat} (h : WA b) {j : Nat} (hj : 4136 ≤ j) : b j = 0 := h.2.2.2.2.2.2 j hj
def WJ (u : TU) (b : Nat → Nat) (u' : TU) : Prop := TJ u u' ∧ BD u' b ∧ KT u' b
def BB (b : Nat → Nat) : G3 := tgF (fun p => G b p (b (31 + low p))) (pts b (freeS b) (freeS b))
theorem freeS_lt2 (b : Nat → Nat) : freeS b < 2 ^ b 0 := bset_lt (m := b 0) _ (Nat.le_refl _)
theorem bb_gb {b : Nat → Nat} (hS : SY b) (hW : WB b) : GB 9 (BB b) := by
  have h9 := hW.2.1
  have hp9 := freeS_lt h9
  have h := tgA_gb (g := fun p => G b p (b (31 + low p))) hS (freeS_lt2 b) h9 (fun p q1 q2 => gv_gb 9 b p _ hS h9 hW.2.2.2.1 (lt_of_sub (freeS_lt2 b) q1)) (freeS b) hp9 (rcl_self b _) 0 (0, 0, 0) ⟨(by decide : (0 : Nat) < 32), Nat.zero_le _, Nat.zero_le _⟩
  have h4 := pop_le _ hp9
  obtain ⟨a1, a2, a3⟩ := h
  refine ⟨a1, ?_, ?_⟩
  · show (tgA _ _ _).2.1 ≤ 9; omega
  · show (tgA _ _ _).2.2 ≤ 9; omega
def banB (b : Nat → Nat) (P x n : Nat) : Nat → Nat := fun j => if 31 ≤ j ∧ j < 31 + n ∧ P.testBit (j - 31) = true then x else b j
theorem banB_0 (b : Nat → Nat) (P x : Nat) : banB b P x 0 = b := by
  funext j
  unfold banB
  rw [if_neg (by omega)]
theorem banB_t {b : Nat → Nat} {P x n : Nat} (h : P.testBit n = true) : updN (banB b P x n) (31 + n) x = banB b P x (n + 1) := by
  funext j
  unfold updN banB
  by_cases e : j = 31 + n
  · subst e
    rw [if_pos rfl, if_pos ⟨by omega, by omega, by rw [Nat.add_sub_cancel_left]; exact h⟩]
  · rw [if_neg e]
    by_cases q : 31 ≤ j ∧ j < 31 + n ∧ P.testBit (j - 31) = true
    · rw [if_pos q, if_pos ⟨q.1, by omega, q.2.2⟩]
    · rw [if_neg q, if_neg (fun z => q ⟨z.1, by omega, z.2.2⟩)]
theorem banB_f {b : Nat → Nat} {P x n : Nat} (h : P.testBit n = false) : banB b P x n = banB b P x (n + 1) := by
  funext j
  unfold banB
  by_cases q : 31 ≤ j ∧ j < 31 + n ∧ P.testBit (j - 31) = true
  · rw [if_pos q, if_pos ⟨q.1, by omega, q.2.2⟩]
  · rw [if_neg q, if_neg (fun z => by
      by_cases e : j = 31 + n
      · subst e
        rw [Nat.add_sub_cancel_left] at z
        rw [h] at z
        exact absurd z.2.2 (by decide)
      · exact q ⟨z.1, by omega, z.2.2⟩)]
theorem banB_n (b : Nat → Nat) (P x n : Nat) {k : Nat} (h : k < 31 ∨ 31 + n ≤ k) : banB b P x n k = b k := by
  unfold banB
  rw [if_neg (by omega)]
/-- the board behind a lay, before it is noted -/
def layB (b : Nat → Nat) (v c : Nat) : Nat → Nat := layO (banB b (rch b v (freeS b)) (c + 1) (b 0)) v c
def resB (b b1 : Nat → Nat) (n : Nat) : Nat → Nat := fun j => if 31 ≤ j ∧ j < 31 + n then b j else b1 j
theorem resB_s (b b1 : Nat → Nat) (n : Nat) : updN (resB b b1 n) (31 + n) (b (31 + n)) = resB b b1 (n + 1) := by
  funext j
  unfold updN resB
  by_cases e : j = 31 + n
  · subst e
    rw [if_pos rfl, if_pos ⟨by omega, by omega⟩]
  · rw [if_neg e]
    by_cases q : 31 ≤ j ∧ j < 31 + n
    · rw [if_pos q, if_pos ⟨q.1, by omega⟩]
    · rw [if_neg q, if_neg (by omega)]
theorem resB_0 (b b1 : Nat → Nat) : resB b b1 0 = b1 := by
  funext j
  unfold resB
  rw [if_neg (by omega)]
theorem resB_9 {b : Nat → Nat} {v c : Nat} (h9 : b 0 ≤ 9) (hf : b (22 + v) = 0) : resB b (updN (layB b v c) (22 + v) 0) 9 = b := by
  funext j
  unfold resB
  by_cases q : 31 ≤ j ∧ j < 31 + 9
  · rw [if_pos q]
  · rw [if_neg q]
    unfold updN
    by_cases e : j = 22 + v
    · rw [if_pos e, e, hf]
    · rw [if_neg e]
      unfold layB layO
      rw [if_neg e]
      exact banB_n _ _ _ _ (by omega)
theorem layB_n (b : Nat → Nat) (v c : Nat) {k : Nat} (h : k < 22) : layB b v c k = b k := by
  unfold layB
  rw [layO_n _ _ _ h, banB_n _ _ _ _ (by omega)]
theorem layB_far {b : Nat → Nat} (h9 : b 0 ≤ 9) (v c : Nat) (hv : v < 9) {k : Nat} (h : 40 ≤ k) : layB b v c k = b k := by
  unfold layB layO
  rw [if_neg (by omega), banB_n _ _ _ _ (by omega)]
theorem st_layB (b : Nat → Nat) (v c : Nat) : ST b (layB b v c) := ⟨layB_n b v c (by omega), layB_n b v c (by omega), fun k hk => layB_n b v c (by omega), fun k hk => layB_n b v c (by omega)⟩
theorem wb_ban {b : Nat → Nat} (h : WB b) {P x n : Nat} (hn : n ≤ 9) (hx : x ≤ b 1) : WB (banB b P x n) := by
  obtain ⟨h1, h2, h3, h4, h5, h6, h7, h8⟩ := h
  refine ⟨?_, ?_, ?_, ?_, fun k hk => ?_, fun k hk => ?_, fun k hk => ?_, fun k hk => ?_⟩
  · rw [banB_n _ _ _ _ (by omega)]; exact h1
  · rw [banB_n _ _ _ _ (by omega)]; exact h2
  · rw [banB_n _ _ _ _ (by omega)]; exact h3
  · rw [banB_n _ _ _ _ (by omega)]; exact h4
  · rw [banB_n _ _ _ _ (by omega), banB_n _ _ _ _ (by omega)]; exact h5 k hk
  · rw [banB_n _ _ _ _ (by omega), banB_n _ _ _ _ (by omega)]; exact h6 k hk
  · rw [banB_n _ _ _ _ (by omega), banB_n _ _ _ _ (by omega)]; exact h7 k hk
  · rw [banB_n (k := 1) _ _ _ _ (by omega)]
    unfold banB
    split
    · exact hx
    · exact h8 k hk
theorem wa_st {b b' : Nat → Nat} (h : WA b) (hT : ST b b') (hW : WB b') (h2 : b' 2 ≤ 9) (h3 : b' 3 ≤ 4096) (hf : ∀ k, k < 4096 → mvW (b' (40 + k))) (hz : ∀ j, 4136 ≤ j → b' j = 0) : WA b' := by
  refine ⟨hW, ?_, sy_congr (hT.sg h.1.2.1) h.s, h2, h3, hf, hz⟩
  unfold WP
  rw [hT.1, hT.2.1]
  exact h.p
theorem wb_layB {b : Nat → Nat} (h : WB b) {v c : Nat} (hc : c < b 1) : WB (layB b v c) := wb_lay (wb_ban h h.2.1 (by omega)) (by rw [banB_n _ _ _ _ (by omega)]; exact hc)
theorem wa_layB {b : Nat → Nat} (h : WA b) {v c : Nat} (hv : v < 9) (hc : c < b 1) : WA (layB b v c) :=
  wa_st h (st_layB b v c) (wb_layB h.1 hc) (by rw [layB_n _ _ _ (by omega)]; exact h.l) (by rw [layB_n _ _ _ (by omega)]; exact h.m) (fun k hk => by rw [layB_far h.1.2.1 v c hv (by omega)]; exact h.g hk) (fun j hj => by rw [layB_far h.1.2.1 v c hv (by omega)]; exact h.z hj)
theorem xor_lt32 {a c : Nat} (h : a < 32) (g : c < 32) : a ^^^ c < 32 := Nat.xor_lt_two_pow (n := 5) h g
theorem enc_v5 {i : G3} {k : Nat} (h : GB k i) (hk : k < 32) : enc i &&& 31 = i.1 := enc_v h.1 (by have := h.2.1; omega)
/-- colours that win -/
def wins (b : Nat → Nat) (v c : Nat) : Bool := (cols b v).testBit c && decide ((BB (layB b v c)).1 ^^^ b 2 % 2 = 0)
def winS (b : Nat → Nat) (v : Nat) : Nat := bset (wins b v) (b 1)
def passW (b : Nat → Nat) : Bool := decide (0 < b 2 ∧ (BB b).1 ^^^ (b 2 - 1) % 2 = 0)
theorem winS_lt {b : Nat → Nat} (h : b 1 ≤ 3) (v : Nat) : winS b v < 8 := bset_lt (m := 3) _ h
theorem bsetF_lt {p : Nat → Bool} {n : Nat} (h : n ≤ 3) : bset p n < 8 := bset_lt (m := 3) _ h
theorem cols_free {b : Nat → Nat} {v c : Nat} (h : (cols b v).testBit c = true) : fr b v = true := by
  unfold cols at h
  cases e : fr b v
  · rw [e] at h; simp at h
  · rfl
theorem rch_pos {b : Nat → Nat} {v S : Nat} : 0 < rch b v S := by
  rcases Nat.eq_zero_or_pos (rch b v S) with e | e
  · have := rch_self b v S
    rw [e] at this
    simp at this
  · exact e
