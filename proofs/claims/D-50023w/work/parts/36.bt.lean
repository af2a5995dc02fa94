/-! the move, moves, whole games -/
theorem pts_lenP {b : Nat → Nat} {set : Nat} : ∀ n left, pop left ≤ n → left < 512 → (pts b set left).length ≤ n := by
  intro n
  induction n with
  | zero =>
    intro left h h9
    rw [pop_0 left h9 (by omega)]
    exact Nat.le_refl _
  | succ n ih =>
    intro left h h9
    rcases Nat.eq_zero_or_pos left with e | e
    · rw [e]
      exact Nat.zero_le _
    · rw [pts_s b set e h9, List.length_cons]
      obtain ⟨hl1, hl2, hl3⟩ := low_bit left h9 e
      have h1 := pop_less (S := left) hl2 hl1
      have h2 : pop (nd left (rch b (low left) set)) ≤ pop (nd left (1 <<< low left)) := by
        refine pop_mono (fun i hi => ?_)
        rw [nd_bit] at hi ⊢
        rw [sh1_bit]
        by_cases q : i = low left
        · subst q
          rw [rch_self] at hi
          simp at hi
        · simp at hi
          simp [hi.1, q]
      exact Nat.succ_le_succ (ih _ (by omega) (nd_lt h9))
theorem npts_le {b : Nat → Nat} {S : Nat} (h : S < 512) : npts b S ≤ 9 := pts_lenP 9 S (pop_le S h) h
def mvE (t vx cx ps pc : Nat) : Nat := (((t ||| vx <<< 1) ||| cx <<< 5) ||| ps <<< 7) ||| pc <<< 11
theorem mvE_n {t vx cx ps pc : Nat} (ht : t < 2) (hv : vx < 16) (hc : cx < 4) (hp : ps < 16) : mvE t vx cx ps pc = t + vx * 2 + cx * 32 + ps * 128 + pc * 2048 := by
  unfold mvE
  rw [or_shl (a := t) (n := 1) ht, or_shl (n := 5) (by omega), or_shl (n := 7) (by omega), or_shl (n := 11) (by omega)]
theorem mvE_lt {t vx cx ps pc : Nat} (ht : t < 2) (hv : vx < 16) (hc : cx < 4) (hp : ps < 16) (hq : pc < 16) : mvE t vx cx ps pc < 2 ^ 20 := by
  rw [mvE_n ht hv hc hp]
  omega
theorem mvE_w {t vx cx ps pc : Nat} (ht : t < 2) (hv : vx < 16) (hc : cx < 4) (hp : ps < 16) (hq : pc < 16) (hvc : ¬ vx = 0 → ¬ cx = 0) : mvW (mvE t vx cx ps pc) := by
  refine ⟨mvE_lt ht hv hc hp hq, ?_⟩
  rw [mvE_n ht hv hc hp, Nat.shiftRight_eq_div_pow, Nat.shiftRight_eq_div_pow, show (15 : Nat) = 2 ^ 4 - 1 from rfl, show (3 : Nat) = 2 ^ 2 - 1 from rfl, Nat.and_two_pow_sub_one_eq_mod, Nat.and_two_pow_sub_one_eq_mod]
  intro h
  by_cases e : vx = 0
  · omega
  · have := hvc e
    omega
def noteB (b : Nat → Nat) (vx cx pc : Nat) : Nat → Nat := updN (updN b (40 + b 3) (mvE (b 3 % 2) vx cx (npts b (freeS b)) pc)) 3 (b 3 + 1)
theorem noteB_n (b : Nat → Nat) (vx cx pc : Nat) {k : Nat} (h : ¬ k = 3) (h2 : k < 40) : noteB b vx cx pc k = b k := by
  unfold noteB updN
  rw [if_neg h, if_neg (by omega)]
theorem noteB_3 (b : Nat → Nat) (vx cx pc : Nat) : noteB b vx cx pc 3 = b 3 + 1 := by
  unfold noteB
  show (if (3 : Nat) = 3 then b 3 + 1 else _) = _
  rw [if_pos rfl]
theorem st_note (b : Nat → Nat) (vx cx pc : Nat) : ST b (noteB b vx cx pc) := ⟨noteB_n b _ _ _ (by omega) (by omega), noteB_n b _ _ _ (by omega) (by omega), fun k hk => noteB_n b _ _ _ (by omega) (by omega), fun k hk => noteB_n b _ _ _ (by omega) (by omega)⟩
theorem wb_low {b b' : Nat → Nat} (h : WB b) (hb : ∀ k, ¬ k = 2 → ¬ k = 3 → k < 40 → b' k = b k) : WB b' := by
  obtain ⟨h1, h2, h3, h4, h5, h6, h7, h8⟩ := h
  have e0 := hb 0 (by omega) (by omega) (by omega)
  have e1 := hb 1 (by omega) (by omega) (by omega)
  refine ⟨by omega, by omega, by omega, by omega, fun k hk => ?_, fun k hk => ?_, fun k hk => ?_, fun k hk => ?_⟩
  · rw [hb _ (by omega) (by omega) (by omega), e1]; exact h5 k hk
  · rw [hb _ (by omega) (by omega) (by omega), e0]; exact h6 k hk
  · rw [hb _ (by omega) (by omega) (by omega), e1]; exact h7 k hk
  · rw [hb _ (by omega) (by omega) (by omega), e1]; exact h8 k hk
theorem wa_note {b : Nat → Nat} (h : WA b) {vx cx pc : Nat} (hm : b 3 < 4096) (hv : vx < 16) (hc : cx < 4) (hp : pc < 16) (hvc : ¬ vx = 0 → ¬ cx = 0) : WA (noteB b vx cx pc) := by
  refine wa_st h (st_note b vx cx pc) (wb_low h.w (fun k _ h3 h4 => noteB_n b _ _ _ h3 h4)) (by rw [noteB_n b _ _ _ (by omega) (by omega)]; exact h.l) (by rw [noteB_3]; omega) (fun k hk => ?_) (fun j hj => ?_)
  · unfold noteB updN
    rw [if_neg (by omega)]
    by_cases e : 40 + k = 40 + b 3
    · rw [if_pos e]
      exact mvE_w (by omega) hv hc (by have := npts_le (b := b) (freeS_lt h.1.2.1); omega) hp hvc
    · rw [if_neg e]
      exact h.g hk
  · unfold noteB updN
    rw [if_neg (by omega), if_neg (by omega)]
    exact h.z hj
theorem wa_up2 {b : Nat → Nat} (h : WA b) {x : Nat} (hx : x ≤ 9) : WA (updN b 2 x) := by
  have hn : ∀ k, ¬ k = 2 → updN b 2 x k = b k := fun k hk => if_neg hk
  refine wa_st h ⟨hn _ (by omega), hn _ (by omega), fun k hk => hn _ (by omega), fun k hk => hn _ (by omega)⟩ (wb_low h.w (fun k h2 _ _ => hn k h2)) hx ?_ (fun k hk => ?_) (fun j hj => ?_)
  · rw [hn _ (by omega)]; exact h.m
  · rw [hn _ (by omega)]; exact h.g hk
  · rw [hn _ (by omega)]; exact h.z hj
theorem st_up2 (b : Nat → Nat) (x : Nat) : ST b (updN b 2 x) := by
  have hn : ∀ k, ¬ k = 2 → updN b 2 x k = b k := fun k hk => if_neg hk
  exact ⟨hn _ (by omega), hn _ (by omega), fun k hk => hn _ (by omega), fun k hk => hn _ (by omega)⟩
def layM (b : Nat → Nat) (v c : Nat) : Nat → Nat := noteB (layB b v c) (v + 1) (c + 1) (npts (layB b v c) (nd (rch b v (freeS b)) (1 <<< v)))
def passM (b : Nat → Nat) : Nat → Nat := noteB (updN b 2 (b 2 - 1)) 0 0 0
theorem wa_layM {b : Nat → Nat} (h : WA b) {v c : Nat} (hm : b 3 < 4096) (hv : v < b 0) (hc : c < b 1) : WA (layM b v c) := by
  have h9 := h.1.2.1
  have h3 := h.1.2.2.2.1
  refine wa_note (wa_layB h (by omega) hc) (by rw [layB_n _ _ _ (by omega)]; exact hm) (by omega) (by omega) ?_ (fun _ => by omega)
  have := npts_le (b := layB b v c) (nd_lt (c := 1 <<< v) (rch_lt (b := b) (v := v) (by omega) (freeS_lt h9)))
  omega
theorem wa_passM {b : Nat → Nat} (h : WA b) (hm : b 3 < 4096) : WA (passM b) := wa_note (wa_up2 h (by have := h.l; omega)) (by show (if (3 : Nat) = 2 then _ else b 3) < 4096; rw [if_neg (by decide)]; exact hm) (by omega) (by omega) (by omega) (fun h => absurd rfl h)
theorem st_layM (b : Nat → Nat) (v c : Nat) : ST b (layM b v c) := (st_layB b v c).tr (st_note _ _ _ _)
theorem st_passM (b : Nat → Nat) : ST b (passM b) := (st_up2 b _).tr (st_note _ _ _ _)
theorem layM_3 (b : Nat → Nat) (v c : Nat) : layM b v c 3 = b 3 + 1 := by
  unfold layM
  rw [noteB_3, layB_n _ _ _ (by omega)]
theorem passM_3 (b : Nat → Nat) : passM b 3 = b 3 + 1 := by
  unfold passM
  rw [noteB_3]
  show (if (3 : Nat) = 2 then _ else b 3) + 1 = _
  rw [if_neg (by decide)]
/-- the move that is best: one more; a pass: 101 -/
def bwG (b : Nat → Nat) : Nat → Nat
  | 0 => 0
  | k + 1 => if 0 < winS b (b 0 - (k + 1)) then 4 * (b 0 - (k + 1)) + low (winS b (b 0 - (k + 1))) + 1 else bwG b k
def stC (b : Nat → Nat) (v : Nat) (p : Nat × Nat) (c : Nat) : Nat × Nat := if (cols b v).testBit c = true ∧ (p.1 = 0 ∨ p.2 < (BB (layB b v c)).2.1 + b 2) then (4 * v + c + 1, (BB (layB b v c)).2.1 + b 2) else p
def scnC (b : Nat → Nat) (v : Nat) (p : Nat × Nat) : Nat → Nat × Nat
  | 0 => p
  | c + 1 => stC b v (scnC b v p c) c
def scnV (b : Nat → Nat) : Nat → Nat × Nat
  | 0 => (0, 0)
  | v + 1 => scnC b v (scnV b v) (b 1)
def lastN (b : Nat → Nat) (p : Nat × Nat) : Nat := if 0 < b 2 ∧ (p.1 = 0 ∨ p.2 < (BB b).2.1 + b 2 - 1) then 101 else p.1
def bestN (b : Nat → Nat) : Nat := if 0 < bwG b (b 0) then bwG b (b 0) else if passW b = true then 101 else lastN b (scnV b (b 0))
def over (b : Nat → Nat) : Bool := decide (pairsB b = 0 ∧ b 2 = 0)
def stepM (b : Nat → Nat) : Nat → Nat := if bestN b = 101 then passM b else layM b ((bestN b - 1) / 4) ((bestN b - 1) % 4)
def plG : Nat → (Nat → Nat) → Nat → (Nat → Nat) × Nat
  | 0, b, n => (b, n)
  | f + 1, b, n => if over b = true then (b, n) else plG f (stepM b) (n + 1)
/-- a move that can be made -/
def mvOk (b : Nat → Nat) (x : Nat) : Prop := (x = 101 ∧ 0 < b 2) ∨ ∃ v c, v < b 0 ∧ c < b 1 ∧ (cols b v).testBit c = true ∧ x = 4 * v + c + 1
theorem cols_b1 {b : Nat → Nat} (hW : WB b) {v c : Nat} (hv : v < 9) (h : (cols b v).testBit c = true) : c < b 1 := by
  refine bit_lt (S := b (4 + v)) (hW.2.2.2.2.1 v hv) ?_
  unfold cols clay at h
  split at h
  · split at h
    · rw [nd_bit] at h
      simp at h
      exact h.1
    · rw [nd_bit, nd_bit] at h
      simp at h
      exact h.1.1
  · simp at h
theorem bwG_ok {b : Nat → Nat} (hW : WB b) : ∀ k, k ≤ b 0 → 0 < bwG b k → mvOk b (bwG b k) := by
  intro k
  induction k with
  | zero => intro _ h; exact absurd h (Nat.lt_irrefl _)
  | succ k ih =>
    intro hk h
    rw [bwG] at h ⊢
    by_cases e : 0 < winS b (b 0 - (k + 1))
    · rw [if_pos e]
      have hl := winS_lt (b := b) hW.2.2.2.1 (b 0 - (k + 1))
      obtain ⟨h1, h2, h3⟩ := low_bit _ (by omega) e
      have h4 : (winS b (b 0 - (k + 1))).testBit (low (winS b (b 0 - (k + 1)))) = (decide (low (winS b (b 0 - (k + 1))) < b 1) && wins b (b 0 - (k + 1)) (low (winS b (b 0 - (k + 1))))) := bset_bit _ _ _
      rw [h1] at h4
      have h5 := h4.symm
      simp [wins] at h5
      exact Or.inr ⟨_, _, by omega, h5.1, h5.2.1, rfl⟩
    · rw [if_neg e] at h ⊢
      exact ih (by omega) h
theorem scnC_ok {b : Nat → Nat} (hW : WB b) {v : Nat} (hv : v < b 0) {p : Nat × Nat} (hp : 0 < p.1 → mvOk b p.1) : ∀ n, 0 < (scnC b v p n).1 → mvOk b (scnC b v p n).1 := by
  intro n
  induction n with
  | zero => exact hp
  | succ n ih =>
    rw [scnC, stC]
    split
    · rename_i h
      intro _
      exact Or.inr ⟨v, n, hv, cols_b1 hW (by have := hW.2.1; omega) h.1, h.1, rfl⟩
    · exact ih
theorem scnV_ok {b : Nat → Nat} (hW : WB b) : ∀ n, n ≤ b 0 → 0 < (scnV b n).1 → mvOk b (scnV b n).1 := by
  intro n
  induction n with
  | zero => intro _ h; exact absurd h (Nat.lt_irrefl _)
  | succ n ih =>
    intro hn
    exact scnC_ok hW (by omega) (ih (by omega)) _
theorem scnC_0 {b : Nat → Nat} {v : Nat} {p : Nat × Nat} : ∀ n, (scnC b v p n).1 = 0 → p.1 = 0 ∧ ∀ c, c < n → (cols b v).testBit c = false := by
  intro n
  induction n with
  | zero => intro h; exact ⟨h, fun c hc => absurd hc (Nat.not_lt_zero c)⟩
  | succ n ih =>
    rw [scnC, stC]
    split
    · intro h
      exact absurd h (Nat.succ_ne_zero _)
    · intro h
      obtain ⟨h1, h2⟩ := ih h
      refine ⟨h1, fun c hc => ?_⟩
      by_cases e : c = n
      · subst e
        rename_i q
        cases z : (cols b v).testBit c
        · rfl
        · exact absurd ⟨z, Or.inl h⟩ q
      · exact h2 c (by omega)
theorem scnV_0 {b : Nat → Nat} : ∀ n, (scnV b n).1 = 0 → ∀ v c, v < n → c < b 1 → (cols b v).testBit c = false := by
  intro n
  induction n with
  | zero => intro _ v c hv; exact absurd hv (Nat.not_lt_zero v)
  | succ n ih =>
    intro h v c hv hc
    obtain ⟨h1, h2⟩ := scnC_0 _ h
    by_cases e : v = n
    · rw [e]; exact h2 c hc
    · exact ih h1 v c (by omega) hc
theorem bestN_ok {b : Nat → Nat} (hA : WA b) (h : ¬ over b = true) : mvOk b (bestN b) := by
  unfold bestN
  split
  · exact bwG_ok hA.w _ (Nat.le_refl _) ‹_›
  · split
    · rename_i q
      unfold passW at q
      exact Or.inl ⟨rfl, (of_decide_eq_true q).1⟩
    · unfold lastN
      split
      · rename_i q
        exact Or.inl ⟨rfl, q.1⟩
      · rename_i q
        refine scnV_ok hA.w _ (Nat.le_refl _) (Nat.pos_of_ne_zero (fun e => ?_))
        have h2 : b 2 = 0 := Nat.eq_zero_of_not_pos (fun z => q ⟨z, Or.inl e⟩)
        have h0 := scnV_0 _ e
        refine h (decide_eq_true ⟨?_, h2⟩)
        have h9 := hA.w.2.1
        have key : ∀ n, n ≤ b 0 → sumF (fun v => pop (cols b v)) n = 0 := by
          intro n
          induction n with
          | zero => intro _; rfl
          | succ n ih =>
            intro hn
            rw [sumF, ih (by omega)]
            have : cols b n = 0 := by
              apply Nat.eq_of_testBit_eq
              intro i
              rw [Nat.zero_testBit]
              cases z : (cols b n).testBit i
              · rfl
              · rw [← z]; exact h0 n i (by omega) (cols_b1 hA.w (by omega) z)
            show 0 + pop (cols b n) = 0
            rw [this]
            rfl
        exact key _ (Nat.le_refl _)
theorem mvOk_lt {b : Nat → Nat} (hA : WA b) {x : Nat} (h : mvOk b x) : 0 < x ∧ x ≤ 101 := by
  have := hA.w.2.1
  have := hA.w.2.2.2.1
  rcases h with ⟨rfl, _⟩ | ⟨v, c, h1, h2, h3, rfl⟩
  · omega
  · omega
theorem stepM_ok {b : Nat → Nat} (hA : WA b) (hm : b 3 < 4096) (h : ¬ over b = true) : WA (stepM b) ∧ ST b (stepM b) ∧ stepM b 3 = b 3 + 1 := by
  have h9 := hA.w.2.1
  have h3 := hA.w.2.2.2.1
  unfold stepM
  rcases bestN_ok hA h with ⟨e, h2⟩ | ⟨v, c, q1, q2, q3, e⟩
  · rw [if_pos e]
    exact ⟨wa_passM hA hm, st_passM b, passM_3 b⟩
  · rw [if_neg (by omega), e, show (4 * v + c + 1 - 1) / 4 = v by omega, show (4 * v + c + 1 - 1) % 4 = c by omega]
    exact ⟨wa_layM hA hm q1 q2, st_layM b v c, layM_3 b v c⟩
