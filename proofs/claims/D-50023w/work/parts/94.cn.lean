/-! places of moves: how many, the best so far: plain -/
def cbS (b : BT) (n : Nat) : Nat := sumF (fun j => if cb b j = true then 1 else 0) n
def cbN (b : BT) (i : Nat) : Nat := cbS b (if i ≤ 4 * b 0 then i else 4 * b 0) + if i = 101 ∧ 0 < b 2 then 1 else 0
def cnM (b : BT) : Nat := cbN b 101
def BS (b : BT) (i : Nat) : Nat × Nat := if i = 101 then bfP b else bfF b (if i ≤ 4 * b 0 then i else 4 * b 0)
/-- how many moves win before a place -/
def wcS (b : BT) (n : Nat) : Nat := sumF (fun j => if wn b j = true then 1 else 0) n
def WC (b : BT) (i : Nat) : Nat := wcS b (if i ≤ 4 * b 0 then i else 4 * b 0) + if i = 101 ∧ passW b = true then 1 else 0
theorem gap {b : BT} {p : Nat} : ∀ d, (∀ j, p ≤ j → j < p + d → cb b j = false) → cbS b (p + d) = cbS b p ∧ bfF b (p + d) = bfF b p := by
  intro d
  induction d with
  | zero => intro _; exact ⟨rfl, rfl⟩
  | succ d ih =>
    intro h
    obtain ⟨h1, h2⟩ := ih (fun j a c => h j a (by omega))
    have hc := h (p + d) (by omega) (by omega)
    refine ⟨?_, ?_⟩
    · show cbS b (p + d) + (if cb b (p + d) = true then 1 else 0) = _
      rw [h1, hc]
      rfl
    · show (if cb b (p + d) = true then ofr b (bfF b (p + d)) (p + d) else bfF b (p + d)) = _
      rw [if_neg (by rw [hc]; decide), h2]
theorem wn_cb {b : BT} (hW : WB b) {j : Nat} (hj : j < 4 * b 0) (h : cb b j = false) : wn b j = false := by
  rw [cb_cols hW hj] at h
  unfold wn wins
  rw [h]
  rfl
theorem gapW {b : BT} (hW : WB b) {p : Nat} : ∀ d, p + d ≤ 4 * b 0 → (∀ j, p ≤ j → j < p + d → cb b j = false) → wcS b (p + d) = wcS b p := by
  intro d
  induction d with
  | zero => intro _ _; rfl
  | succ d ih =>
    intro hd h
    have h1 := ih (by omega) (fun j a c => h j a (by omega))
    have hc := wn_cb hW (by omega) (h (p + d) (by omega) (by omega))
    show wcS b (p + d) + (if wn b (p + d) = true then 1 else 0) = _
    rw [h1, hc]
    rfl
theorem cbS_mono {b : BT} {m n : Nat} (h : m ≤ n) : cbS b m ≤ cbS b n := by
  obtain ⟨d, rfl⟩ : ∃ d, n = m + d := ⟨n - m, by omega⟩
  clear h
  induction d with
  | zero => exact Nat.le_refl _
  | succ d ih =>
    show cbS b m ≤ cbS b (m + d) + _
    omega
/-- the state at a place -/
def PTT (b : BT) (i : Nat) : Prop := PO b i ∨ i = 101
theorem pl_of {b : BT} (hW : WB b) {p : Nat} (hp : p ≤ 4 * b 0) : PTT b (stl b p) ∧ cbN b (stl b p) = cbS b p ∧ BS b (stl b p) = (if 0 < b 2 ∨ stl b p < 100 then bfF b p else bfP b) ∧ WC b (stl b p) = wcS b p ∨ (stl b p = 101 ∧ b 2 = 0 ∧ cbN b 101 = cbS b p ∧ BS b 101 = bfF b p ∧ WC b 101 = wcS b p) := by
  have hN := hW.2.1
  rcases stl_spec hN hp with ⟨h1, h2, h3, h4⟩ | ⟨h1, h2⟩
  · obtain ⟨d, e⟩ : ∃ d, stl b p = p + d := ⟨stl b p - p, by omega⟩
    obtain ⟨g1, g2⟩ := gap (b := b) (p := p) d (fun j a c => h4 j a (by omega))
    have g3 := gapW hW (p := p) d (by omega) (fun j a c => h4 j a (by omega))
    rw [← e] at g1 g2 g3
    refine Or.inl ⟨Or.inl (Or.inl ⟨h2, h3⟩), ?_, ?_, ?_⟩
    · unfold cbN
      rw [if_pos (by omega), if_neg (by omega), g1]
      rfl
    · unfold BS
      rw [if_neg (by omega), if_pos (by omega), if_pos (Or.inr (by omega)), g2]
    · unfold WC
      rw [if_pos (by omega), if_neg (by omega), g3]
      rfl
  · obtain ⟨d, e⟩ : ∃ d, 4 * b 0 = p + d := ⟨4 * b 0 - p, by omega⟩
    obtain ⟨g1, g2⟩ := gap (b := b) (p := p) d (fun j a c => h1 j a (by omega))
    have g3 := gapW hW (p := p) d (by omega) (fun j a c => h1 j a (by omega))
    rw [← e] at g1 g2 g3
    by_cases q : 0 < b 2
    · rw [if_pos q] at h2
      rw [h2]
      refine Or.inl ⟨Or.inl (Or.inr ⟨rfl, q⟩), ?_, ?_, ?_⟩
      · unfold cbN
        rw [if_neg (by omega), if_neg (by omega), g1]
        rfl
      · unfold BS
        rw [if_neg (by omega), if_neg (by omega), if_pos (Or.inl q), g2]
      · unfold WC
        rw [if_neg (by omega), if_neg (by omega), g3]
        rfl
    · rw [if_neg q] at h2
      refine Or.inr ⟨h2, by omega, ?_, ?_, ?_⟩
      · unfold cbN
        rw [if_neg (by omega), if_neg (by omega), g1]
        rfl
      · unfold BS bfP
        rw [if_pos rfl, if_neg q, g2]
      · have hp0 : ¬ (101 = 101 ∧ passW b = true) := fun z => by
          have := of_decide_eq_true z.2
          omega
        unfold WC
        rw [if_neg (by omega), if_neg hp0, g3]
        rfl
theorem stl_le {b : BT} (hN : b 0 ≤ 9) {p : Nat} (hp : p ≤ 4 * b 0) : stl b p ≤ 101 := by
  rcases stl_spec hN hp with ⟨-, h, -⟩ | ⟨-, h⟩
  · omega
  · rw [h]
    split <;> omega
theorem pl_0 {b : BT} (hW : WB b) : PTT b (stl b 0) ∧ cbN b (stl b 0) = 0 ∧ BS b (stl b 0) = (0, 0) ∧ WC b (stl b 0) = 0 := by
  rcases pl_of hW (Nat.zero_le (4 * b 0)) with ⟨h1, h2, h3, h4⟩ | ⟨e, h1, h2, h3, h4⟩
  · refine ⟨h1, h2, ?_, h4⟩
    rw [h3]
    rcases h1 with (⟨q, -⟩ | ⟨q, q2⟩) | q
    · have := hW.2.1
      rw [if_pos (Or.inr (by omega))]
      rfl
    · rw [if_pos (Or.inl q2)]
      rfl
    · by_cases z : 0 < b 2 ∨ stl b 0 < 100
      · rw [if_pos z]
        rfl
      · rcases stl_spec hW.2.1 (Nat.zero_le (4 * b 0)) with ⟨-, y, -⟩ | ⟨-, y⟩
        · have := hW.2.1
          omega
        · rw [q] at y
          by_cases z2 : 0 < b 2
          · exact absurd (Or.inl z2) z
          · unfold BS at h3
            rw [if_pos q] at h3
            rw [if_neg z, bfP, if_neg z2]
            have := (gap (b := b) (p := 0) (4 * b 0) (fun j a c => by
              rcases stl_spec hW.2.1 (Nat.zero_le (4 * b 0)) with ⟨-, y2, -⟩ | ⟨y2, -⟩
              · have := hW.2.1
                omega
              · exact y2 j a (by omega))).2
            rw [Nat.zero_add] at this
            exact this
  · rw [e]
    exact ⟨Or.inr rfl, h2, h3, h4⟩
theorem wn_rt {b : BT} (hA : WA b) {i : Nat} (h : i < 4 * b 0) (hc : cb b i = true) : wn b i = decide ((BB (nxB b i)).1 ^^^ nxB b i 2 % 2 = 0) := by
  have hN := hA.1.2.1
  rw [cb_cols hA.1 h] at hc
  unfold wn wins
  rw [hc, nxB_lay hN h, bb_layM hN, layM_2, Bool.true_and]
/-- one place on -/
theorem pl_s {b : BT} (hA : WA b) {i : Nat} (h : PO b i) : PTT b (stl b (i + 1)) ∧ cbN b (stl b (i + 1)) = cbN b i + 1 ∧ BS b (stl b (i + 1)) = ofr b (BS b i) i ∧ WC b (stl b (i + 1)) = WC b i + (if (BB (nxB b i)).1 ^^^ nxB b i 2 % 2 = 0 then 1 else 0) ∧ cbN b i + 1 ≤ cnM b := by
  have hW := hA.1
  have hN := hW.2.1
  rcases h with ⟨h1, h2⟩ | ⟨h1, h2⟩
  · have e1 : cbN b i = cbS b i := by
      unfold cbN
      rw [if_pos (by omega), if_neg (by omega)]
      rfl
    have e2 : BS b i = bfF b i := by
      unfold BS
      rw [if_neg (by omega), if_pos (by omega)]
    have e3 : WC b i = wcS b i := by
      unfold WC
      rw [if_pos (by omega), if_neg (by omega)]
      rfl
    have s1 : cbS b (i + 1) = cbS b i + 1 := by
      show cbS b i + (if cb b i = true then 1 else 0) = _
      rw [if_pos h2]
    have s2 : bfF b (i + 1) = ofr b (bfF b i) i := by
      show (if cb b i = true then _ else _) = _
      rw [if_pos h2]
    have s3 : wcS b (i + 1) = wcS b i + (if (BB (nxB b i)).1 ^^^ nxB b i 2 % 2 = 0 then 1 else 0) := by
      show wcS b i + (if wn b i = true then 1 else 0) = _
      rw [wn_rt hA h1 h2]
      simp only [decide_eq_true_eq]
    have hle : cbN b i + 1 ≤ cnM b := by
      have := cbS_mono (b := b) (m := i + 1) (n := 4 * b 0) (by omega)
      unfold cnM
      rw [e1]
      unfold cbN
      rw [if_neg (by omega)]
      omega
    rw [e1, e2, e3]
    rw [e1] at hle
    rcases pl_of hW (show i + 1 ≤ 4 * b 0 by omega) with ⟨g1, g2, g3, g4⟩ | ⟨e, g1, g2, g3, g4⟩
    · refine ⟨g1, by rw [g2, s1], ?_, by rw [g4, s3], hle⟩
      rw [g3]
      by_cases z : 0 < b 2 ∨ stl b (i + 1) < 100
      · rw [if_pos z, s2]
      · rcases stl_spec hN (show i + 1 ≤ 4 * b 0 by omega) with ⟨-, y, -⟩ | ⟨y1, y⟩
        · omega
        · have z2 : ¬ 0 < b 2 := fun z2 => z (Or.inl z2)
          rw [if_neg z, bfP, if_neg z2]
          obtain ⟨d, ed⟩ : ∃ d, 4 * b 0 = i + 1 + d := ⟨4 * b 0 - (i + 1), by omega⟩
          rw [ed, (gap (b := b) (p := i + 1) d (fun j a c => y1 j a (by omega))).2, s2]
    · rw [e]
      exact ⟨Or.inr rfl, by rw [g2, s1], by rw [g3, s2], by rw [g4, s3], hle⟩
  · subst h1
    rw [show (100 : Nat) + 1 = 101 from rfl, stl_101 hN]
    have e1 : cbN b 100 = cbS b (4 * b 0) := by
      unfold cbN
      rw [if_neg (by omega), if_neg (by omega)]
      rfl
    have e1' : cbN b 101 = cbS b (4 * b 0) + 1 := by
      unfold cbN
      rw [if_neg (by omega), if_pos ⟨rfl, h2⟩]
    refine ⟨Or.inr rfl, by rw [e1, e1'], ?_, ?_, by rw [e1]; unfold cnM; rw [e1']; exact Nat.le_refl _⟩
    · unfold BS
      rw [if_pos rfl, if_neg (by omega), if_neg (by omega), bfP, if_pos h2]
    · have w1 : WC b 101 = wcS b (4 * b 0) + (if passW b = true then 1 else 0) := by
        unfold WC
        rw [if_neg (show ¬ 101 ≤ 4 * b 0 by omega)]
        simp
      have w0 : WC b 100 = wcS b (4 * b 0) := by
        unfold WC
        rw [if_neg (show ¬ 100 ≤ 4 * b 0 by omega)]
        simp
      rw [w1, w0, show nxB b 100 = passM b from if_pos rfl, bb_pass hN, passM_2]
      unfold passW
      simp only [h2, true_and, decide_eq_true_eq, Nat.add_zero]
theorem pop_c : ∀ S, S < 8 → pop S = (if S.testBit 0 = true then 1 else 0) + (if S.testBit 1 = true then 1 else 0) + (if S.testBit 2 = true then 1 else 0) := by decide +kernel
/-- all that win -/
theorem wcS_v {b : BT} (hW : WB b) : ∀ v, v ≤ b 0 → wcS b (4 * v) = sumF (fun v => pop (winS b v)) v := by
  have hN := hW.2.1
  have hC := hW.2.2.2.1
  intro v
  induction v with
  | zero => intro _; rfl
  | succ v ih =>
    intro hv
    have hlt := winS_lt (b := b) hC v
    have hbit : ∀ c, c < 4 → wn b (4 * v + c) = (winS b v).testBit c := fun c hc => by
      have e1 : (4 * v + c) / 4 = v := by omega
      have e2 : (4 * v + c) % 4 = c := by omega
      unfold wn winS
      rw [e1, e2, bset_bit]
      by_cases q : c < b 1
      · simp [q]
      · have : (cols b v).testBit c = false := by
          cases z : (cols b v).testBit c with
          | false => rfl
          | true => exact absurd (cols_b1 hW (by omega) z) q
        unfold wins
        simp [q, this]
    have h3 : wn b (4 * v + 3) = false := by
      rw [hbit 3 (by omega), Nat.testBit_lt_two_pow (show winS b v < 2 ^ 3 from hlt)]
    rw [show 4 * (v + 1) = 4 * v + 1 + 1 + 1 + 1 by omega]
    show wcS b (4 * v) + (if wn b (4 * v + 0) = true then 1 else 0) + (if wn b (4 * v + 1) = true then 1 else 0) + (if wn b (4 * v + 2) = true then 1 else 0) + (if wn b (4 * v + 3) = true then 1 else 0) = sumF (fun v => pop (winS b v)) v + pop (winS b v)
    rw [ih (by omega), h3, hbit 0 (by omega), hbit 1 (by omega), hbit 2 (by omega), pop_c _ hlt]
    simp only [Bool.false_eq_true, if_false]
    omega
theorem wc_all {b : BT} (hW : WB b) : WC b 101 = (if passW b = true then 1 else 0) + sumF (fun v => pop (winS b v)) (b 0) := by
  have hN := hW.2.1
  unfold WC
  rw [if_neg (by omega), wcS_v hW (b 0) (Nat.le_refl _), Nat.add_comm]
  simp
theorem bs_all {b : BT} (hA : WA b) : (BS b 101).1 = bestN b := by
  unfold BS
  rw [if_pos rfl]
  exact bf_best hA
