/-! moves and accounts: plain -/
theorem mvE_d {t vx cx ps pc : Nat} (ht : t < 2) (hv : vx < 16) (hc : cx < 4) (hp : ps < 16) : mvE t vx cx ps pc &&& 1 = t ∧ mvE t vx cx ps pc >>> 1 &&& 15 = vx ∧ mvE t vx cx ps pc >>> 5 &&& 3 = cx ∧ mvE t vx cx ps pc >>> 7 &&& 15 = ps ∧ mvE t vx cx ps pc >>> 11 = pc := by
  rw [mvE_n ht hv hc hp, Nat.shiftRight_eq_div_pow, Nat.shiftRight_eq_div_pow, Nat.shiftRight_eq_div_pow, Nat.shiftRight_eq_div_pow, show (15 : Nat) = 2 ^ 4 - 1 from rfl, show (3 : Nat) = 2 ^ 2 - 1 from rfl, Nat.and_one_is_mod, Nat.and_two_pow_sub_one_eq_mod, Nat.and_two_pow_sub_one_eq_mod, Nat.and_two_pow_sub_one_eq_mod]
  refine ⟨?_, ?_, ?_, ?_, ?_⟩ <;> omega
theorem moF_E {t vx cx ps pc : Nat} (ht : t < 2) (hv : vx < 16) (hc : cx < 4) (hp : ps < 16) : moF (mvE t vx cx ps pc) = [.int (nI t), .int (nI vx - nI 1), .int (nI cx - nI 1), .int (nI ps)] := by
  obtain ⟨d0, d1, d2, d3, -⟩ := mvE_d (pc := pc) ht hv hc hp
  unfold moF mvd
  rw [d0, d1, d2, d3]
  rfl
theorem accS_same {b b' : BT} {pl w : Nat} : ∀ n, (∀ k, k < n → b' (40 + k) = b (40 + k)) → accS b' pl w n = accS b pl w n := fun n h => sumF_congr n (fun k hk => by rw [h k hk])
theorem accC_same {b b' : BT} {pl : Nat} : ∀ n, (∀ k, k < n → b' (40 + k) = b (40 + k)) → accC b' pl n = accC b pl n := by
  intro n
  induction n with
  | zero => intro _; rfl
  | succ n ih =>
    intro h
    rw [accC, accC, ih (fun k hk => h k (by omega)), h n (by omega)]
theorem noteB_m (b : BT) (vx cx pc : Nat) : noteB b vx cx pc (40 + b 3) = mvE (b 3 % 2) vx cx (npts b (freeS b)) pc := by
  unfold noteB updN
  rw [if_neg (by omega), if_pos rfl]
theorem noteB_o (b : BT) (vx cx pc : Nat) {k : Nat} (hk : k < b 3) : noteB b vx cx pc (40 + k) = b (40 + k) := by
  unfold noteB updN
  rw [if_neg (by omega), if_neg (by omega)]
/-- accounts behind a note -/
theorem acS_note {b : BT} {vx cx pc pl w : Nat} (hv : vx < 16) (hc : cx < 4) (hN : b 0 ≤ 9) : accS (noteB b vx cx pc) pl w (b 3 + 1) = accS b pl w (b 3) + if b 3 % 2 = pl ∧ (if w = 1 then decide (vx = 0) else !decide (vx = 0) && (decide (w = 0) || (decide (w = 2) && decide (1 < pc)) || (decide (w = 3) && decide (pc = 0)))) = true then 1 else 0 := by
  have hp : npts b (freeS b) < 16 := by have := npts_le (b := b) (freeS_lt hN); omega
  obtain ⟨d0, d1, d2, d3, d4⟩ := mvE_d (t := b 3 % 2) (pc := pc) (by omega) hv hc hp
  show sumF _ (b 3) + (if noteB b vx cx pc (40 + b 3) &&& 1 = pl ∧ cts (noteB b vx cx pc (40 + b 3)) w = true then 1 else 0) = _
  rw [noteB_m]
  unfold cts
  rw [d0, d1, d4]
  congr 1
  exact accS_same (b 3) (fun k hk => noteB_o b vx cx pc hk)
theorem acC_note {b : BT} {vx cx pc pl : Nat} (hv : vx < 16) (hc : cx < 4) (hN : b 0 ≤ 9) : accC (noteB b vx cx pc) pl (b 3 + 1) = accC b pl (b 3) ||| (if b 3 % 2 = pl ∧ ¬ vx = 0 then 1 <<< (cx - 1) else 0) := by
  have hp : npts b (freeS b) < 16 := by have := npts_le (b := b) (freeS_lt hN); omega
  obtain ⟨d0, d1, d2, d3, d4⟩ := mvE_d (t := b 3 % 2) (pc := pc) (by omega) hv hc hp
  rw [accC, noteB_m, d0, d1, d2, accC_same (b 3) (fun k hk => noteB_o b vx cx pc hk)]
/-- the same moves, the same accounts -/
theorem acF_same {b b' : BT} {pl : Nat} (h3 : b' 3 = b 3) (h : ∀ k, k < b 3 → b' (40 + k) = b (40 + k)) : acF b' pl = acF b pl := by
  unfold acF
  rw [h3, accS_same (b 3) h, accS_same (b 3) h, accS_same (b 3) h, accS_same (b 3) h, accC_same (b 3) h]
theorem acF_lay {b : BT} {v c pl : Nat} (hN : b 0 ≤ 9) (hv : v < 9) (hc : c < 3) : acF (layM b v c) pl = if b 3 % 2 = pl then [.int (nI (accS b pl 0 (b 3) + 1)), .int (nI (accS b pl 1 (b 3))), .int (nI (accS b pl 2 (b 3) + if 1 < npts b (nd (rch b v (freeS b)) (1 <<< v)) then 1 else 0)), .int (nI (accS b pl 3 (b 3) + if nd (rch b v (freeS b)) (1 <<< v) = 0 then 1 else 0)), .int (nI (accC b pl (b 3) ||| 1 <<< c))] else acF b pl := by
  have hb3 : layB b v c 3 = b 3 := layB_n _ _ _ (by omega)
  have hb0 : layB b v c 0 = b 0 := layB_n _ _ _ (by omega)
  have hm : ∀ k, k < b 3 → layB b v c (40 + k) = b (40 + k) := fun k _ => by
    unfold layB layO banB
    rw [if_neg (by omega), if_neg (by omega)]
  have hpt : npts (layB b v c) (nd (rch b v (freeS b)) (1 <<< v)) = npts b (nd (rch b v (freeS b)) (1 <<< v)) := by
    unfold npts
    rw [pts_congr ((st_layB b v c).sg hN)]
  have hR := rch_lt (b := b) hv (freeS_lt hN)
  have hz : npts b (nd (rch b v (freeS b)) (1 <<< v)) = 0 ↔ nd (rch b v (freeS b)) (1 <<< v) = 0 := by
    constructor
    · intro h
      rcases Nat.eq_zero_or_pos (nd (rch b v (freeS b)) (1 <<< v)) with e | e
      · exact e
      · unfold npts at h
        rw [pts_s b _ e (nd_lt hR)] at h
        cases h
    · intro h
      rw [h]
      rfl
  have e3 : layM b v c 3 = b 3 + 1 := layM_3 b v c
  have eS : ∀ w, accS (layM b v c) pl w (b 3 + 1) = accS b pl w (b 3) + if b 3 % 2 = pl ∧ (if w = 1 then decide (v + 1 = 0) else !decide (v + 1 = 0) && (decide (w = 0) || (decide (w = 2) && decide (1 < npts b (nd (rch b v (freeS b)) (1 <<< v)))) || (decide (w = 3) && decide (npts b (nd (rch b v (freeS b)) (1 <<< v)) = 0)))) = true then 1 else 0 := fun w => by
    have := acS_note (b := layB b v c) (vx := v + 1) (cx := c + 1) (pc := npts (layB b v c) (nd (rch b v (freeS b)) (1 <<< v))) (pl := pl) (w := w) (by omega) (by omega) (by omega)
    rw [hb3, hpt, accS_same (b 3) hm] at this
    unfold layM
    rw [hpt]
    exact this
  have eC : accC (layM b v c) pl (b 3 + 1) = accC b pl (b 3) ||| (if b 3 % 2 = pl ∧ ¬ v + 1 = 0 then 1 <<< (c + 1 - 1) else 0) := by
    have := acC_note (b := layB b v c) (vx := v + 1) (cx := c + 1) (pc := npts (layB b v c) (nd (rch b v (freeS b)) (1 <<< v))) (pl := pl) (by omega) (by omega) (by omega)
    rw [hb3, hpt, accC_same (b 3) hm] at this
    unfold layM
    rw [hpt]
    exact this
  unfold acF
  rw [e3, eS, eS, eS, eS, eC]
  by_cases h : b 3 % 2 = pl
  · simp only [h, hz]
    simp
  · simp [h]
theorem acF_pass {b : BT} {pl : Nat} (hN : b 0 ≤ 9) : acF (passM b) pl = if b 3 % 2 = pl then [.int (nI (accS b pl 0 (b 3))), .int (nI (accS b pl 1 (b 3) + 1)), .int (nI (accS b pl 2 (b 3))), .int (nI (accS b pl 3 (b 3))), .int (nI (accC b pl (b 3)))] else acF b pl := by
  have hb3 : updN b 2 (b 2 - 1) 3 = b 3 := if_neg (by decide)
  have hb0 : updN b 2 (b 2 - 1) 0 = b 0 := if_neg (by decide)
  have hm : ∀ k, k < b 3 → updN b 2 (b 2 - 1) (40 + k) = b (40 + k) := fun k _ => if_neg (by omega)
  have e3 : passM b 3 = b 3 + 1 := passM_3 b
  have eS : ∀ w, accS (passM b) pl w (b 3 + 1) = accS b pl w (b 3) + if b 3 % 2 = pl ∧ (if w = 1 then decide (0 = 0) else !decide (0 = 0) && (decide (w = 0) || (decide (w = 2) && decide (1 < 0)) || (decide (w = 3) && decide (0 = 0)))) = true then 1 else 0 := fun w => by
    have := acS_note (b := updN b 2 (b 2 - 1)) (vx := 0) (cx := 0) (pc := 0) (pl := pl) (w := w) (by omega) (by omega) (by omega)
    rw [hb3, accS_same (b 3) hm] at this
    exact this
  have eC : accC (passM b) pl (b 3 + 1) = accC b pl (b 3) ||| (if b 3 % 2 = pl ∧ ¬ 0 = 0 then 1 <<< (0 - 1) else 0) := by
    have := acC_note (b := updN b 2 (b 2 - 1)) (vx := 0) (cx := 0) (pc := 0) (pl := pl) (by omega) (by omega) (by omega)
    rw [hb3, accC_same (b 3) hm] at this
    exact this
  unfold acF
  rw [e3, eS, eS, eS, eS, eC]
  by_cases h : b 3 % 2 = pl
  · simp [h]
  · simp [h]
theorem acc_lt {b : BT} {pl w : Nat} : ∀ n, accS b pl w n ≤ n := by
  intro n
  induction n with
  | zero => exact Nat.le_refl _
  | succ n ih =>
    unfold accS at ih ⊢
    rw [sumF]
    split <;> omega
