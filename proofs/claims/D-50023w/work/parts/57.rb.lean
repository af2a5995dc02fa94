/-! boards while a text is read -/
def VB (b : BT) : Prop := 1 ≤ b 1 ∧ b 1 ≤ 3 ∧ b 0 ≤ 9 ∧ b 2 ≤ 9 ∧ b 3 = 0 ∧ (∀ v, v < 9 → b (4 + v) < 2 ^ b 1) ∧ (∀ j, 13 ≤ j → b j = 0) ∧ (b 1 + 1) ^ b 0 ≤ 20000
theorem wa_vb {b : BT} (h : VB b) (h0 : 1 ≤ b 0) : WA b := by
  obtain ⟨h1, h2, h3, h4, h5, h6, h7, h8⟩ := h
  have z : ∀ j, 13 ≤ j → b j = 0 := h7
  refine ⟨⟨h0, h3, h1, h2, h6, fun v _ => ?_, fun v _ => ?_, fun v _ => ?_⟩, h8, fun v w _ _ => ?_, h4, by omega, fun k _ => ?_, fun j hj => z j (by omega)⟩
  · rw [z _ (by omega)]; exact Nat.two_pow_pos _
  · rw [z _ (by omega)]; omega
  · rw [z _ (by omega)]; omega
  · rw [z _ (by omega), z _ (by omega)]; simp
  · rw [z _ (by omega)]
    exact ⟨by decide, fun q => absurd rfl q⟩
theorem ltF_lt2 {bf : List Nat} {b1 e : Nat} : ∀ f k set, set < 2 ^ b1 → ltF bf b1 e f k set < 2 ^ b1 := by
  intro f
  induction f with
  | zero => intro k set h; exact h
  | succ f ih =>
    intro k set h
    rw [ltF]
    split
    · exact h
    · split
      · exact Nat.two_pow_pos _
      · rename_i q
        exact ih _ _ (nb_lt_or (m := b1) h (sh1_lt (m := b1) (by omega)))
theorem letS_lt2 (bf : List Nat) (n b1 a : Nat) : letS bf n b1 a < 2 ^ b1 := ltF_lt2 _ _ _ (Nat.two_pow_pos _)
theorem vSl_lt (bf : List Nat) (n : Nat) (s : RS) : vSl bf n s < 2 ^ s.2.1 1 := by
  unfold vSl
  split
  · exact letS_lt2 _ _ _ _
  · rw [Nat.shiftLeft_eq, Nat.one_mul]
    have := Nat.two_pow_pos (s.2.1 1)
    omega
theorem setB_b (s : RS) (b : BT) : (setB s b).2.1 = b := rfl
theorem vS_ok {bf : List Nat} {n : Nat} {s : RS} (h : VB s.2.1) (hc : (vS bf n s).2.2.1 = 0) : VB (vS bf n s).2.1 ∧ (vS bf n s).2.1 0 = s.2.1 0 + 1 := by
  have l1 : LE n (vS1 s) (vS bf n s) := (le_muS bf n true _).tr ((le_vS2 bf n _).tr ((le_meS bf n _).tr (le_vS4 n _ _)))
  have c1 := l1.1 hc
  have hv : ¬ (s.2.1 0 = 9 ∨ 20000 < (s.2.1 1 + 1) ^ (s.2.1 0 + 1)) := by
    intro z
    unfold vS1 at c1
    rw [if_pos z] at c1
    by_cases e : s.2.2.1 = 0
    · exact absurd c1 (fS_c e)
    · unfold fS at c1
      rw [if_neg e] at c1
      exact e c1
  have hb : (meS bf n (vS2 bf n (muS bf n true (vS1 s)))).2.1 = s.2.1 := by rw [meS_b, vS2_b, muS_b, vS1_b]
  have hm := vSl_lt bf n (muS bf n true (vS1 s))
  have hb2 : (muS bf n true (vS1 s)).2.1 = s.2.1 := by rw [muS_b, vS1_b]
  rw [hb2] at hm
  unfold vS at hc ⊢
  have c4 := (le_vS4 n (vSl bf n (muS bf n true (vS1 s))) _).1 hc
  unfold vS4
  rw [if_pos c4]
  rw [setB_b, hb]
  obtain ⟨h1, h2, h3, h4, h5, h6, h7, h8⟩ := h
  have hn : ∀ j, ¬ j = 0 → ¬ j = 4 + s.2.1 0 → updN (updN s.2.1 (4 + s.2.1 0) (vSl bf n (muS bf n true (vS1 s)))) 0 (s.2.1 0 + 1) j = s.2.1 j := fun j a c => by rw [updN_n a, updN_n c]
  have hz : updN (updN s.2.1 (4 + s.2.1 0) (vSl bf n (muS bf n true (vS1 s)))) 0 (s.2.1 0 + 1) 0 = s.2.1 0 + 1 := updN_s _ _ _
  have h1' := hn 1 (by omega) (by omega)
  refine ⟨⟨by omega, by omega, by omega, by rw [hn 2 (by omega) (by omega)]; exact h4, by rw [hn 3 (by omega) (by omega)]; exact h5, fun v hv9 => ?_, fun j hj => ?_, by rw [hz, h1']; omega⟩, hz⟩
  · rw [h1', updN_n (by omega)]
    by_cases e : 4 + v = 4 + s.2.1 0
    · rw [e, updN_s]; exact hm
    · rw [updN_n e]; exact h6 v hv9
  · rw [hn j (by omega) (by omega)]; exact h7 j hj
theorem link_n (b : BT) (one other : Nat) {k : Nat} (h1 : ¬ k = 13 + one) (h2 : ¬ k = 13 + other) : linkB b one other k = b k := by
  unfold linkB
  rw [updN_n h2, updN_n h1]
theorem link_bit (b : BT) (one other k w : Nat) : (linkB b one other (13 + k)).testBit w = ((b (13 + k)).testBit w || (decide (k = one) && decide (w = other)) || (decide (k = other) && decide (w = one))) := by
  unfold linkB
  by_cases e2 : k = other
  · subst e2
    rw [updN_s, Nat.testBit_or, sh1_bit]
    by_cases e1 : k = one
    · subst e1
      rw [updN_s, Nat.testBit_or, sh1_bit]
      simp
    · rw [updN_n (by omega)]
      simp [e1]
  · rw [updN_n (by omega)]
    by_cases e1 : k = one
    · subst e1
      rw [updN_s, Nat.testBit_or, sh1_bit]
      simp [e2]
    · rw [updN_n (by omega)]
      simp [e1, e2]
theorem wa_link {b : BT} (h : WA b) {one other : Nat} (h1 : one < b 0) (h2 : other < b 0) : WA (linkB b one other) := by
  have h9 := h.w.2.1
  have hn : ∀ k, k < 13 ∨ 22 ≤ k → linkB b one other k = b k := fun k hk => link_n b one other (by omega) (by omega)
  obtain ⟨g1, g2, g3, g4, g5, g6, g7, g8⟩ := h.w
  refine ⟨⟨?_, ?_, ?_, ?_, fun k hk => ?_, fun k hk => ?_, fun k hk => ?_, fun k hk => ?_⟩, ?_, ?_, ?_, ?_, fun k hk => ?_, fun j hj => ?_⟩
  · rw [hn _ (by omega)]; exact g1
  · rw [hn _ (by omega)]; exact g2
  · rw [hn _ (by omega)]; exact g3
  · rw [hn _ (by omega)]; exact g4
  · rw [hn _ (by omega), hn _ (by omega)]; exact g5 k hk
  · rw [hn 0 (by omega)]
    apply Nat.lt_pow_two_of_testBit
    intro i hi
    rw [link_bit]
    have hb : (b (13 + k)).testBit i = false := Nat.testBit_lt_two_pow (Nat.lt_of_lt_of_le (g6 k hk) (Nat.pow_le_pow_right (by omega) hi))
    have e1 : ¬ i = other := by omega
    have e2 : ¬ i = one := by omega
    simp [hb, e1, e2]
  · rw [hn _ (by omega), hn _ (by omega)]; exact g7 k hk
  · rw [hn _ (by omega), hn _ (by omega)]; exact g8 k hk
  · unfold WP
    rw [hn _ (by omega), hn _ (by omega)]
    exact h.p
  · intro v w hv hw
    rw [hn 0 (by omega)] at hv hw
    rw [link_bit, link_bit, h.s v w hv hw]
    cases (b (13 + w)).testBit v <;> cases decide (v = one) <;> cases decide (w = other) <;> cases decide (v = other) <;> cases decide (w = one) <;> rfl
  · rw [hn _ (by omega)]; exact h.l
  · rw [hn _ (by omega)]; exact h.m
  · rw [hn _ (by omega)]; exact h.g hk
  · rw [hn _ (by omega)]; exact h.z hj
theorem eS_ok {bf : List Nat} {n : Nat} {s : RS} (h : WA s.2.1) (hc : (eS bf n s).2.2.1 = 0) : WA (eS bf n s).2.1 ∧ (eS bf n s).2.1 3 = s.2.1 3 := by
  have h9 := h.w.2.1
  unfold eS at hc ⊢
  have c6 := (le_eS6 n _ _ _).1 hc
  unfold eS6
  rw [if_pos c6]
  have hb : (meS bf n (tkS bf n (nI 0) (nI (s.2.1 0) - nI 1) (eC bf n s))).2.1 = s.2.1 := by rw [meS_b, tkS_b, eC_b]
  rw [setB_b, hb]
  have o1 := e1_lt (bf := bf) (n := n) (s := s) h.w
  have o2 := tkV_lt (bf := bf) (n := n) (s := eC bf n s) h.w.1 h9
  exact ⟨wa_link h o1 o2, link_n _ _ _ (by omega) (by omega)⟩
theorem lS_ok {bf : List Nat} {n : Nat} {s : RS} (h : WA s.2.1) (hm : s.2.1 3 < 4096) (hc : (lS bf n s).2.2.1 = 0) : WA (lS bf n s).2.1 ∧ (lS bf n s).2.1 3 = s.2.1 3 + 1 := by
  unfold lS at hc ⊢
  rw [meS_b, muS_b]
  have c6 := ((le_muS bf n true _).tr (le_meS bf n _)).1 hc
  have c5 := (le_lS6 n _ _ _).1 c6
  obtain ⟨f1, f2⟩ := lS5_c c5
  rw [f1] at c5
  obtain ⟨f3, f4⟩ := lS4_c c5
  have hb : (lC bf n s).2.1 = s.2.1 := lC_b _ _ _
  have o1 := e1_lt (bf := bf) (n := n) (s := s) h.w
  rw [f4, hb] at f2
  obtain ⟨f5, f6⟩ := why_ok h.w o1 f2
  rw [f1, f4]
  rw [f4] at c5
  unfold lS6
  rw [if_pos c5]
  show WA (layM _ _ _) ∧ layM _ _ _ 3 = _
  rw [hb]
  exact ⟨wa_layM h hm o1 f6, layM_3 _ _ _⟩
theorem pS_ok {bf : List Nat} {n : Nat} {s : RS} (h : WA s.2.1) (hm : s.2.1 3 < 4096) (hc : (pS bf n s).2.2.1 = 0) : WA (pS bf n s).2.1 ∧ (pS bf n s).2.1 3 = s.2.1 3 + 1 := by
  unfold pS at hc ⊢
  rw [meS_b, muS_b]
  have c2 := ((le_muS bf n true _).tr (le_meS bf n _)).1 hc
  have c1 := (le_pS2 n _).1 c2
  have hb : (pS1 s).2.1 = s.2.1 := by unfold pS1; split; exact fS_b _ _; rfl
  unfold pS2
  rw [if_pos c1]
  show WA (passM _) ∧ passM _ 3 = _
  rw [hb]
  exact ⟨wa_passM h hm, passM_3 _⟩
