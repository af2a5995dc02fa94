/-! the order of moves, how good they are: plain -/
theorem bset_same {f g : Nat → Bool} : ∀ n, (∀ k, k < n → f k = g k) → bset f n = bset g n := by
  intro n h
  apply Nat.eq_of_testBit_eq
  intro i
  rw [bset_bit, bset_bit]
  by_cases hi : i < n
  · rw [h i hi]
  · simp [hi]
theorem bb_same {b b' : BT} (hT : ST b b') (h9 : b 0 ≤ 9) (h2 : ∀ v, v < 9 → b' (22 + v) = b (22 + v)) (h3 : ∀ v, v < 9 → b' (31 + v) = b (31 + v)) : BB b' = BB b := by
  have hfr : ∀ v, v < 9 → fr b' v = fr b v := fun v hv => by
    unfold fr
    rw [h2 v hv]
  have hS : freeS b' = freeS b := by
    unfold freeS
    rw [hT.1]
    exact bset_same _ (fun v hv => hfr v (by omega))
  unfold BB tgF
  rw [hS, pts_congr (hT.sg h9)]
  refine tgA_congr _ _ (fun p hp => ?_)
  have hF := freeS_lt (b := b) h9
  obtain ⟨p1, p2, p3⟩ := pts_mem hF _ hF (fun _ h => h) p hp
  have hl := (low_bit p p2 p3).2.1
  rw [h3 _ hl]
  have hps : p < 2 ^ b 0 := lt_of_sub (freeS_lt2 b) p1
  exact (gv_cg 9 b b' p _ hT (fun u w _ hw _ => ⟨(hfr w (by omega)).symm, fun _ => (h2 w (by omega)).symm⟩) h9 hps).symm
theorem bb_pass {b : BT} (h9 : b 0 ≤ 9) : BB (passM b) = BB b := by
  refine bb_same (st_passM b) h9 (fun v hv => ?_) (fun v hv => ?_)
  · unfold passM
    rw [noteB_n _ _ _ _ (by omega) (by omega)]
    exact if_neg (by omega)
  · unfold passM
    rw [noteB_n _ _ _ _ (by omega) (by omega)]
    exact if_neg (by omega)
theorem bb_layM {b : BT} {v c : Nat} (h9 : b 0 ≤ 9) : BB (layM b v c) = BB (layB b v c) := by
  unfold layM
  exact bb_same (st_note _ _ _ _) (by rw [layB_n _ _ _ (by omega)]; exact h9) (fun w hw => noteB_n _ _ _ _ (by omega) (by omega)) (fun w hw => noteB_n _ _ _ _ (by omega) (by omega))
theorem passM_2 (b : BT) : passM b 2 = b 2 - 1 := by
  unfold passM
  rw [noteB_n _ _ _ _ (by omega) (by omega)]
  exact if_pos rfl
theorem layM_2 (b : BT) (v c : Nat) : layM b v c 2 = b 2 := by
  unfold layM
  rw [noteB_n _ _ _ _ (by omega) (by omega), layB_n _ _ _ (by omega)]
/-- what can be, by colours -/
theorem cb_cols {b : BT} (hW : WB b) {j : Nat} (hj : j < 4 * b 0) : cb b j = (cols b (j / 4)).testBit (j % 4) := by
  have hN := hW.2.1
  have h1 := why_0 (c := j % 4) hW (v := j / 4) (by omega)
  unfold cb
  cases q : (cols b (j / 4)).testBit (j % 4) with
  | true => exact decide_eq_true ⟨cols_b1 hW (by omega) q, h1.mpr q⟩
  | false => exact decide_eq_false (fun z => by have := h1.mp z.2; rw [q] at this; cases this)
theorem stF_spec {b : BT} : ∀ f i, i ≤ 4 * b 0 → 4 * b 0 ≤ i + f → i ≤ stF b f i ∧ stF b f i ≤ 4 * b 0 ∧ (∀ j, i ≤ j → j < stF b f i → cb b j = false) ∧ (stF b f i < 4 * b 0 → cb b (stF b f i) = true) := by
  intro f
  induction f with
  | zero =>
    intro i h1 h2
    exact ⟨Nat.le_refl _, h1, fun j a b => absurd b (by rw [stF]; omega), fun z => absurd z (by rw [stF]; omega)⟩
  | succ f ih =>
    intro i h1 h2
    rw [stF]
    by_cases q : i < 4 * b 0 ∧ cb b i = false
    · rw [if_pos q]
      obtain ⟨g0, g1, g2, g3⟩ := ih (i + 1) (by omega) (by omega)
      refine ⟨by omega, g1, fun j a c => ?_, g3⟩
      by_cases e : j = i
      · rw [e]; exact q.2
      · exact g2 j (by omega) c
    · rw [if_neg q]
      refine ⟨Nat.le_refl _, h1, fun j a c => by omega, fun z => ?_⟩
      cases e : cb b i with
      | true => rfl
      | false => exact absurd ⟨z, e⟩ q
theorem stl_spec {b : BT} (hN : b 0 ≤ 9) {i : Nat} (hi : i ≤ 4 * b 0) : (i ≤ stl b i ∧ stl b i < 4 * b 0 ∧ cb b (stl b i) = true ∧ ∀ j, i ≤ j → j < stl b i → cb b j = false) ∨ ((∀ j, i ≤ j → j < 4 * b 0 → cb b j = false) ∧ stl b i = if 0 < b 2 then 100 else 101) := by
  obtain ⟨g0, g1, g2, g3⟩ := stF_spec (b := b) 40 i hi (by omega)
  unfold stl
  by_cases e : stF b 40 i = 4 * b 0
  · rw [if_pos e]
    exact Or.inr ⟨fun j a c => g2 j a (by omega), rfl⟩
  · rw [if_neg e]
    exact Or.inl ⟨g0, by omega, g3 (by omega), g2⟩
theorem stl_101 {b : BT} (hN : b 0 ≤ 9) : stl b 101 = 101 := by
  have e : stF b 40 101 = 101 := stF_fix (fun z => by omega) 40
  unfold stl
  rw [e, if_neg (by omega)]
/-- the board behind a place's move -/
def nxB (b : BT) (i : Nat) : BT := if i = 100 then passM b else layM b (i / 4) (i % 4)
/-- how good it is -/
def rt (b : BT) (i : Nat) : Nat := if (BB (nxB b i)).1 ^^^ nxB b i 2 % 2 = 0 then 100 else (BB (nxB b i)).2.1 + nxB b i 2
/-- a place that holds a move -/
def PO (b : BT) (i : Nat) : Prop := (i < 4 * b 0 ∧ cb b i = true) ∨ (i = 100 ∧ 0 < b 2)
theorem nxB_lay {b : BT} {i : Nat} (hN : b 0 ≤ 9) (hi : i < 4 * b 0) : nxB b i = layM b (i / 4) (i % 4) := if_neg (by omega)
theorem PO.mk {b : BT} {i : Nat} (hW : WB b) (h : PO b i) : i = 100 ∧ 0 < b 2 ∧ nxB b i = passM b ∨ ∃ v c, i = 4 * v + c ∧ v < 9 ∧ c < b 1 ∧ (freeS b).testBit v = true ∧ nxB b i = layM b v c := by
  have hN := hW.2.1
  rcases h with ⟨h1, h2⟩ | ⟨h1, h2⟩
  · rw [cb_cols hW h1] at h2
    refine Or.inr ⟨i / 4, i % 4, by omega, by omega, cols_b1 hW (by omega) h2, ?_, nxB_lay hN h1⟩
    rw [freeS_bit, cols_free h2]
    simp
    omega
  · exact Or.inl ⟨h1, h2, if_pos h1⟩
theorem PO.wa {b : BT} {i : Nat} (hA : WA b) (hm : b 3 < 4096) (h : PO b i) : WA (nxB b i) := by
  have hN := hA.1.2.1
  rcases h.mk hA.1 with ⟨-, -, e⟩ | ⟨v, c, e1, e2, e3, e4, e⟩
  · rw [e]; exact wa_passM hA hm
  · rw [e]
    rw [freeS_bit] at e4
    simp at e4
    exact wa_layM hA hm e4.1 e3
theorem nxB_st {b : BT} (i : Nat) : ST b (nxB b i) := by
  unfold nxB
  split
  · exact st_passM b
  · exact st_layM b _ _
theorem nxB_3 {b : BT} (i : Nat) : nxB b i 3 = b 3 + 1 := by
  unfold nxB
  split
  · exact passM_3 b
  · exact layM_3 b _ _
theorem rt_lay {b : BT} {i : Nat} (hN : b 0 ≤ 9) (hi : i < 4 * b 0) : rt b i = if (BB (layB b (i / 4) (i % 4))).1 ^^^ b 2 % 2 = 0 then 100 else (BB (layB b (i / 4) (i % 4))).2.1 + b 2 := by
  unfold rt
  rw [nxB_lay hN hi, bb_layM hN, layM_2]
theorem rt_pass {b : BT} (hN : b 0 ≤ 9) : rt b 100 = if (BB b).1 ^^^ (b 2 - 1) % 2 = 0 then 100 else (BB b).2.1 + (b 2 - 1) := by
  unfold rt
  rw [show nxB b 100 = passM b from if_pos rfl, bb_pass hN, passM_2]
/-- the best so far, and one more than how good it is -/
def ofr (b : BT) (p : Nat × Nat) (i : Nat) : Nat × Nat := if p.2 ≤ rt b i then (i + 1, rt b i + 1) else p
def bfF (b : BT) : Nat → Nat × Nat
  | 0 => (0, 0)
  | j + 1 => if cb b j = true then ofr b (bfF b j) j else bfF b j
def bfP (b : BT) : Nat × Nat := if 0 < b 2 then ofr b (bfF b (4 * b 0)) 100 else bfF b (4 * b 0)
def sc9 (b : BT) : Nat → Nat × Nat
  | 0 => (0, 0)
  | j + 1 => stC b (j / 4) (sc9 b j) (j % 4)
theorem scnC_hi {b : BT} (hW : WB b) {v : Nat} (hv : v < 9) {p : Nat × Nat} : ∀ n, b 1 ≤ n → scnC b v p n = scnC b v p (b 1) := by
  intro n
  induction n with
  | zero => intro h; rw [show b 1 = 0 by omega]
  | succ n ih =>
    intro h
    by_cases e : b 1 = n + 1
    · rw [e]
    · rw [scnC, ih (by omega), stC, if_neg]
      intro z
      have := cols_b1 hW hv z.1
      omega
theorem sc9_v {b : BT} (hW : WB b) : ∀ v, v ≤ b 0 → sc9 b (4 * v) = scnV b v := by
  have hN := hW.2.1
  have hC := hW.2.2.2.1
  intro v
  induction v with
  | zero => intro _; rfl
  | succ v ih =>
    intro hv
    have h0 := ih (by omega)
    have hk : ∀ k, k ≤ 4 → sc9 b (4 * v + k) = scnC b v (scnV b v) k := by
      intro k
      induction k with
      | zero => intro _; exact h0
      | succ k ihk =>
        intro hk
        rw [show 4 * v + (k + 1) = (4 * v + k) + 1 by omega, sc9, ihk (by omega), scnC, show (4 * v + k) / 4 = v by omega, show (4 * v + k) % 4 = k by omega]
    rw [show 4 * (v + 1) = 4 * v + 4 by omega, hk 4 (Nat.le_refl _), scnV]
    exact scnC_hi hW (by omega) 4 (by omega)
def wn (b : BT) (j : Nat) : Bool := wins b (j / 4) (j % 4)
theorem bb_le {b : BT} (hS : SY b) (hW : WB b) : (BB b).2.1 ≤ 9 := (bb_gb hS hW).2.1
theorem bf_inv {b : BT} (hA : WA b) : ∀ j, j ≤ 4 * b 0 → (∃ w, w < j ∧ wn b w = true ∧ (∀ w', w' < w → wn b w' = false) ∧ bfF b j = (w + 1, 101)) ∨ ((∀ w, w < j → wn b w = false) ∧ bfF b j = ((sc9 b j).1, if (sc9 b j).1 = 0 then 0 else (sc9 b j).2 + 1) ∧ (sc9 b j).2 ≤ 18) := by
  have hW := hA.1
  have hN := hW.2.1
  have hL := hA.2.2.2.1
  have hY := hA.2.2.1
  intro j
  induction j with
  | zero => intro _; exact Or.inr ⟨fun w h => absurd h (Nat.not_lt_zero w), rfl, Nat.zero_le _⟩
  | succ j ih =>
    intro hj
    have hcb := cb_cols hW (show j < 4 * b 0 by omega)
    rw [bfF, sc9]
    have hwn : wn b j = ((cols b (j / 4)).testBit (j % 4) && decide ((BB (layB b (j / 4) (j % 4))).1 ^^^ b 2 % 2 = 0)) := rfl
    by_cases hc : cb b j = true
    · rw [if_pos hc]
      rw [hcb] at hc
      have hc1 := cols_b1 hW (by omega) hc
      have hLB : (BB (layB b (j / 4) (j % 4))).2.1 ≤ 9 := bb_le (sy_congr ((st_layB b _ _).sg hN) hY) (wb_layB hW hc1)
      have hr := rt_lay hN (show j < 4 * b 0 by omega)
      rw [hc, Bool.true_and] at hwn
      rcases ih (by omega) with ⟨w, h1, h2, h3, h4⟩ | ⟨h1, h2, h3⟩
      · refine Or.inl ⟨w, by omega, h2, h3, ?_⟩
        rw [h4, ofr, if_neg]
        rw [hr]
        split <;> omega
      · by_cases hz : (BB (layB b (j / 4) (j % 4))).1 ^^^ b 2 % 2 = 0
        · refine Or.inl ⟨j, by omega, by rw [hwn]; exact decide_eq_true hz, fun w' hw' => h1 w' hw', ?_⟩
          rw [h2, ofr, hr, if_pos hz, if_pos]
          split <;> omega
        · refine Or.inr ⟨fun w hw => ?_, ?_, ?_⟩
          · by_cases e : w = j
            · rw [e, hwn]; exact decide_eq_false hz
            · exact h1 w (by omega)
          · rw [h2, ofr, hr, if_neg hz, stC]
            by_cases q : (sc9 b j).1 = 0 ∨ (sc9 b j).2 < (BB (layB b (j / 4) (j % 4))).2.1 + b 2
            · rw [if_pos (show (cols b (j / 4)).testBit (j % 4) = true ∧ _ from ⟨hc, q⟩), if_pos (by split <;> omega), if_neg (by omega)]
              congr 1
              omega
            · rw [if_neg (show ¬ ((cols b (j / 4)).testBit (j % 4) = true ∧ ((sc9 b j).1 = 0 ∨ (sc9 b j).2 < (BB (layB b (j / 4) (j % 4))).2.1 + b 2)) from fun z => q z.2), if_neg (by split <;> omega)]
          · rw [stC]
            split
            · show _ + _ ≤ 18
              omega
            · exact h3
    · rw [if_neg hc]
      have hc' : (cols b (j / 4)).testBit (j % 4) = false := by
        cases q : (cols b (j / 4)).testBit (j % 4) with
        | false => rfl
        | true => rw [hcb, q] at hc; exact absurd rfl hc
      have hw0 : wn b j = false := by rw [hwn, hc']; rfl
      have hst : stC b (j / 4) (sc9 b j) (j % 4) = sc9 b j := by
        rw [stC, if_neg]
        intro z
        rw [hc'] at z
        cases z.1
      rw [hst]
      rcases ih (by omega) with ⟨w, h1, h2⟩ | ⟨h1, h2⟩
      · exact Or.inl ⟨w, by omega, h2⟩
      · refine Or.inr ⟨fun w hw => ?_, h2⟩
        by_cases e : w = j
        · rw [e]; exact hw0
        · exact h1 w (by omega)
theorem bw_spec {b : BT} (hW : WB b) : ∀ k, k ≤ b 0 → (bwG b k = 0 ∧ ∀ j, 4 * (b 0 - k) ≤ j → j < 4 * b 0 → wn b j = false) ∨ ∃ w, 4 * (b 0 - k) ≤ w ∧ w < 4 * b 0 ∧ wn b w = true ∧ (∀ j, 4 * (b 0 - k) ≤ j → j < w → wn b j = false) ∧ bwG b k = w + 1 := by
  have hN := hW.2.1
  have hC := hW.2.2.2.1
  intro k
  induction k with
  | zero => intro _; exact Or.inl ⟨rfl, fun j h1 h2 => by omega⟩
  | succ k ih =>
    intro hk
    have hbit : ∀ c, c < 4 → wn b (4 * (b 0 - (k + 1)) + c) = (winS b (b 0 - (k + 1))).testBit c := fun c hc => by
      have e1 : (4 * (b 0 - (k + 1)) + c) / 4 = b 0 - (k + 1) := by omega
      have e2 : (4 * (b 0 - (k + 1)) + c) % 4 = c := by omega
      unfold wn winS
      rw [e1, e2, bset_bit]
      by_cases q : c < b 1
      · simp [q]
      · have : (cols b (b 0 - (k + 1))).testBit c = false := by
          cases z : (cols b (b 0 - (k + 1))).testBit c with
          | false => rfl
          | true => exact absurd (cols_b1 hW (by omega) z) q
        unfold wins
        simp [q, this]
    have hlt := winS_lt (b := b) hC (b 0 - (k + 1))
    rw [bwG]
    by_cases e : 0 < winS b (b 0 - (k + 1))
    · rw [if_pos e]
      obtain ⟨h1, h2, h3⟩ := low_bit _ (by omega) e
      have h4 : low (winS b (b 0 - (k + 1))) < 3 := bit_lt (n := 3) hlt h1
      refine Or.inr ⟨4 * (b 0 - (k + 1)) + low (winS b (b 0 - (k + 1))), by omega, by omega, by rw [hbit _ (by omega)]; exact h1, fun j j1 j2 => ?_, rfl⟩
      rw [show j = 4 * (b 0 - (k + 1)) + (j - 4 * (b 0 - (k + 1))) by omega, hbit _ (by omega)]
      exact h3 _ (by omega)
    · rw [if_neg e]
      have h0 : winS b (b 0 - (k + 1)) = 0 := by omega
      have hz : ∀ j, 4 * (b 0 - (k + 1)) ≤ j → j < 4 * (b 0 - k) → wn b j = false := fun j j1 j2 => by
        rw [show j = 4 * (b 0 - (k + 1)) + (j - 4 * (b 0 - (k + 1))) by omega, hbit _ (by omega), h0]
        simp
      rcases ih (by omega) with ⟨h1, h2⟩ | ⟨w, h1, h2, h3, h4, h5⟩
      · refine Or.inl ⟨h1, fun j j1 j2 => ?_⟩
        by_cases q : j < 4 * (b 0 - k)
        · exact hz j j1 q
        · exact h2 j (by omega) j2
      · refine Or.inr ⟨w, by omega, h2, h3, fun j j1 j2 => ?_, h5⟩
        by_cases q : j < 4 * (b 0 - k)
        · exact hz j j1 q
        · exact h4 j (by omega) j2
/-- the best of all is the twin's -/
theorem bf_best {b : BT} (hA : WA b) : (bfP b).1 = bestN b := by
  have hW := hA.1
  have hN := hW.2.1
  have hL := hA.2.2.2.1
  have hB9 := bb_le hA.2.2.1 hW
  have hr := rt_pass hN
  have hs := sc9_v hW (b 0) (Nat.le_refl _)
  unfold bestN bfP
  rcases bw_spec hW (b 0) (Nat.le_refl _) with ⟨g1, g2⟩ | ⟨w, g1, g2, g3, g4, g5⟩
  · rw [g1, if_neg (Nat.lt_irrefl 0)]
    rcases bf_inv hA (4 * b 0) (Nat.le_refl _) with ⟨w, h1, h2, -⟩ | ⟨-, h2, h3⟩
    · rw [g2 w (by omega) h1] at h2
      cases h2
    · rw [hs] at h2 h3
      rw [h2]
      unfold passW lastN ofr
      rw [hr]
      by_cases p0 : 0 < b 2
      · rw [if_pos p0]
        by_cases z : (BB b).1 ^^^ (b 2 - 1) % 2 = 0
        · rw [if_pos (by simp [z]; split <;> omega), if_pos (decide_eq_true ⟨p0, z⟩)]
        · rw [if_neg z, if_neg (show ¬ decide _ = true from fun q => z (of_decide_eq_true q).2)]
          by_cases q : (scnV b (b 0)).1 = 0 ∨ (scnV b (b 0)).2 < (BB b).2.1 + b 2 - 1
          · rw [if_pos (by split <;> omega), if_pos ⟨p0, q⟩]
          · rw [if_neg (show ¬ (0 < b 2 ∧ ((scnV b (b 0)).1 = 0 ∨ (scnV b (b 0)).2 < (BB b).2.1 + b 2 - 1)) from fun y => q y.2), if_neg (show ¬ (if (scnV b (b 0)).1 = 0 then 0 else (scnV b (b 0)).2 + 1) ≤ (BB b).2.1 + (b 2 - 1) from by split <;> omega)]
      · rw [if_neg p0, if_neg (show ¬ decide _ = true from fun q => p0 (of_decide_eq_true q).1), if_neg (show ¬ (0 < b 2 ∧ ((scnV b (b 0)).1 = 0 ∨ (scnV b (b 0)).2 < (BB b).2.1 + b 2 - 1)) from fun y => p0 y.1)]
  · rw [g5, if_pos (Nat.succ_pos w)]
    rcases bf_inv hA (4 * b 0) (Nat.le_refl _) with ⟨w', h1, h2, h3, h4⟩ | ⟨h1, -⟩
    · have e : w' = w := by
        rcases Nat.lt_trichotomy w' w with q | q | q
        · rw [g4 w' (by omega) q] at h2
          cases h2
        · exact q
        · rw [h3 w q] at g3
          cases g3
      rw [h4, e]
      split
      · unfold ofr
        rw [if_neg (by rw [hr]; split <;> omega)]
      · rfl
    · rw [h1 w g2] at g3
      cases g3
