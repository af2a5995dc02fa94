/-! edge, lay, pass: plain laws -/
theorem tk_inv {bf : List Nat} {n : Nat} {lo hi : Int32} {s : RS} (hs : s.2.2.1 = 0) (h : (tkS bf n lo hi s).2.2.1 = 0) : isDg bf n s.1 = true ∧ isI (nI (nm bf n s.1 0)) lo hi = true ∧ tkV bf n lo hi s = nm bf n s.1 0 ∧ tkS bf n lo hi s = (rn (isSp bf n) n (rn (isDg bf n) n s.1), s.2) := by
  cases hd : isDg bf n s.1
  · rw [tk_a hs hd] at h; exact absurd h m2
  · cases hI : isI (nI (nm bf n s.1 0)) lo hi
    · rw [tk_b hs hd hI] at h; exact absurd h m3
    · exact ⟨rfl, rfl, tk_c hs hd hI⟩
section EDG
variable (bf : List Nat) (n P : Nat) (s : RS)
/-- behind the first number, and it -/
def tA1 : RS := tkS bf n (nI 0) (nI (s.2.1 0 - 1)) (P, s.2)
def vA1 : Nat := tkV bf n (nI 0) (nI (s.2.1 0 - 1)) (P, s.2)
def tA2 : RS := tkS bf n (nI 0) (nI (s.2.1 0 - 1)) (tA1 bf n P s)
def vA2 : Nat := tkV bf n (nI 0) (nI (s.2.1 0 - 1)) (tA1 bf n P s)
end EDG
theorem tA1_b (bf : List Nat) (n P : Nat) (s : RS) : (tA1 bf n P s).2.1 = s.2.1 := tkS_b _ _ _ _ _
theorem tA2_b (bf : List Nat) (n P : Nat) (s : RS) : (tA2 bf n P s).2.1 = s.2.1 := (tkS_b _ _ _ _ _).trans (tA1_b bf n P s)
section EDL
variable {bf : List Nat} {n P : Nat} {s : RS}
theorem subN1 (h0 : 1 ≤ s.2.1 0) : nI (s.2.1 0) - nI 1 = nI (s.2.1 0 - 1) := pk_sub h0
theorem eA_P (hs : s.2.2.1 = 0) (hnx : nx bf n s.1 = P) : eA bf n s = (P, s.2) := by
  unfold eA muS
  rw [if_pos rfl, nS_0 hs, hnx]
theorem eB_P (hs : s.2.2.1 = 0) (hnx : nx bf n s.1 = P) (h0 : 1 ≤ s.2.1 0) : eB bf n s = tA1 bf n P s ∧ e1 bf n s = vA1 bf n P s := by
  unfold eB e1 tA1 vA1
  rw [eA_P hs hnx, subN1 h0]
  exact ⟨rfl, rfl⟩
theorem st_e6 {a c : Nat} {t : RS} : (eS6 a c t).2.2 = t.2.2 ∧ (eS6 a c t).1 = t.1 := by
  unfold eS6
  split <;> exact ⟨rfl, rfl⟩
theorem eS_P (hs : s.2.2.1 = 0) (hnx : nx bf n s.1 = P) (h0 : 1 ≤ s.2.1 0) : eS bf n s = eS6 (vA1 bf n P s) (tkV bf n (nI 0) (nI (s.2.1 0 - 1)) (eS4 bf n (vA1 bf n P s) (eS3 bf n (vA1 bf n P s) (tA1 bf n P s)))) (meS bf n (tkS bf n (nI 0) (nI (s.2.1 0 - 1)) (eS4 bf n (vA1 bf n P s) (eS3 bf n (vA1 bf n P s) (tA1 bf n P s))))) := by
  obtain ⟨a1, a2⟩ := eB_P hs hnx h0
  unfold eS eC
  rw [a1, a2, subN1 h0]
theorem e_1 (hs : s.2.2.1 = 0) (hnx : nx bf n s.1 = P) (h0 : 1 ≤ s.2.1 0) (hc : ¬ (tA1 bf n P s).2.2.1 = 0) : (eS bf n s).2.2 = (tA1 bf n P s).2.2 := by
  rw [eS_P hs hnx h0, st_e6.1]
  have x3 : eS3 bf n (vA1 bf n P s) (tA1 bf n P s) = tA1 bf n P s := by unfold eS3; rw [if_neg (fun z => hc z.1)]
  have x4 : eS4 bf n (vA1 bf n P s) (tA1 bf n P s) = tA1 bf n P s := by unfold eS4; rw [if_neg (fun z => hc z.1)]
  rw [x3, x4]
  have x5 := st_tk (bf := bf) (n := n) (lo := nI 0) (hi := nI (s.2.1 0 - 1)) hc
  rw [st_me (by rw [x5]; exact hc), x5]
theorem vA1_lt (hs : s.2.2.1 = 0) (h0 : 1 ≤ s.2.1 0) (h9 : s.2.1 0 ≤ 9) (hc : (tA1 bf n P s).2.2.1 = 0) : vA1 bf n P s ≤ s.2.1 0 - 1 := (tk_ok (Nat.zero_le _) (by omega) hc).2
theorem in_rng {k m : Nat} (hm : m ≤ 9) (h : isI (nI k) (nI 0) (nI m) = false) (hk : k < 2 ^ 31) : m < k := by
  refine Nat.not_le.mp (fun z => ?_)
  rw [isI_n (by omega) (Nat.zero_le _) z] at h
  cases h
theorem e_2 (hs : s.2.2.1 = 0) (hnx : nx bf n s.1 = P) (h0 : 1 ≤ s.2.1 0) (h9 : s.2.1 0 ≤ 9) (hc : (tA1 bf n P s).2.2.1 = 0) (hd : ¬ (tA2 bf n P s).2.2.1 = 0) : (eS bf n s).2.2 = (tA2 bf n P s).2.2 := by
  rw [eS_P hs hnx h0, st_e6.1]
  have hv := vA1_lt (P := P) (bf := bf) (n := n) hs h0 h9 hc
  have hnr : kd bf n (tA1 bf n P s).1 = 1 → s.2.1 0 - 1 < nm bf n (tA1 bf n P s).1 0 := fun z => by
    cases hI : isI (nI (nm bf n (tA1 bf n P s).1 0)) (nI 0) (nI (s.2.1 0 - 1))
    · exact in_rng (by omega) hI (by have := nm_lt bf n (tA1 bf n P s).1; omega)
    · refine absurd ?_ hd
      show (tkS bf n _ _ (tA1 bf n P s)).2.2.1 = 0
      rw [(tk_c hc (kd_1.mp z) hI).2]
      exact hc
  have x3 : eS3 bf n (vA1 bf n P s) (tA1 bf n P s) = tA1 bf n P s := by unfold eS3; rw [if_neg (fun z => by have := hnr z.2.1; omega)]
  have x4 : eS4 bf n (vA1 bf n P s) (tA1 bf n P s) = tA1 bf n P s := by
    unfold eS4
    rw [if_neg (fun z => ?_)]
    have := hnr z.2.1
    have z1 := z.2.2.1
    rw [tA1_b] at z1
    omega
  rw [x3, x4]
  exact st_me hd
theorem e_inv (hc : (tA1 bf n P s).2.2.1 = 0) (hd : (tA2 bf n P s).2.2.1 = 0) : kd bf n (tA1 bf n P s).1 = 1 ∧ nm bf n (tA1 bf n P s).1 0 = vA2 bf n P s := by
  obtain ⟨a1, -, a3, -⟩ := tk_inv hc hd
  exact ⟨kd_1.mpr a1, a3.symm⟩
theorem e_3 (hs : s.2.2.1 = 0) (hnx : nx bf n s.1 = P) (h0 : 1 ≤ s.2.1 0) (hc : (tA1 bf n P s).2.2.1 = 0) (hd : (tA2 bf n P s).2.2.1 = 0) (he : vA1 bf n P s = vA2 bf n P s) : (eS bf n s).2.2 = ((-3 : Int32), (tA1 bf n P s).1) := by
  obtain ⟨k1, k2⟩ := e_inv hc hd
  rw [eS_P hs hnx h0, st_e6.1]
  have x3 : eS3 bf n (vA1 bf n P s) (tA1 bf n P s) = ((tA1 bf n P s).1, (tA1 bf n P s).2.1, -3, (tA1 bf n P s).1) := by unfold eS3; rw [if_pos ⟨hc, k1, k2.trans he.symm⟩, fS_0 hc]
  have x4 : eS4 bf n (vA1 bf n P s) ((tA1 bf n P s).1, (tA1 bf n P s).2.1, -3, (tA1 bf n P s).1) = ((tA1 bf n P s).1, (tA1 bf n P s).2.1, -3, (tA1 bf n P s).1) := by unfold eS4; rw [if_neg (fun z => m3 z.1)]
  rw [x3, x4]
  have x5 := st_tk (bf := bf) (n := n) (lo := nI 0) (hi := nI (s.2.1 0 - 1)) (s := ((tA1 bf n P s).1, (tA1 bf n P s).2.1, -3, (tA1 bf n P s).1)) (by exact m3)
  rw [st_me (by rw [x5]; exact m3), x5]
theorem e_x3 (hc : (tA1 bf n P s).2.2.1 = 0) (hd : (tA2 bf n P s).2.2.1 = 0) (he : ¬ vA1 bf n P s = vA2 bf n P s) : eS3 bf n (vA1 bf n P s) (tA1 bf n P s) = tA1 bf n P s := by
  obtain ⟨k1, k2⟩ := e_inv hc hd
  unfold eS3
  rw [if_neg (fun z => he (z.2.2.symm.trans k2))]
theorem e_4 (hs : s.2.2.1 = 0) (hnx : nx bf n s.1 = P) (h0 : 1 ≤ s.2.1 0) (h9 : s.2.1 0 ≤ 9) (hc : (tA1 bf n P s).2.2.1 = 0) (hd : (tA2 bf n P s).2.2.1 = 0) (he : ¬ vA1 bf n P s = vA2 bf n P s) (hb : (s.2.1 (13 + vA1 bf n P s)).testBit (vA2 bf n P s) = true) : (eS bf n s).2.2 = ((-4 : Int32), (tA1 bf n P s).1) := by
  obtain ⟨k1, k2⟩ := e_inv hc hd
  have m4 : ¬ (-4 : Int32) = 0 := by decide
  have hlt : vA2 bf n P s ≤ s.2.1 0 - 1 := (tk_ok (Nat.zero_le _) (by omega) hd).2
  rw [eS_P hs hnx h0, st_e6.1, e_x3 hc hd he]
  have x4 : eS4 bf n (vA1 bf n P s) (tA1 bf n P s) = ((tA1 bf n P s).1, (tA1 bf n P s).2.1, -4, (tA1 bf n P s).1) := by
    unfold eS4
    rw [if_pos ⟨hc, k1, by rw [k2, tA1_b]; omega, by rw [tA1_b, k2]; exact hb⟩, fS_0 hc]
  rw [x4]
  have x5 := st_tk (bf := bf) (n := n) (lo := nI 0) (hi := nI (s.2.1 0 - 1)) (s := ((tA1 bf n P s).1, (tA1 bf n P s).2.1, -4, (tA1 bf n P s).1)) (by exact m4)
  rw [st_me (by rw [x5]; exact m4), x5]
theorem e_5 (hs : s.2.2.1 = 0) (hnx : nx bf n s.1 = P) (h0 : 1 ≤ s.2.1 0) (hc : (tA1 bf n P s).2.2.1 = 0) (hd : (tA2 bf n P s).2.2.1 = 0) (he : ¬ vA1 bf n P s = vA2 bf n P s) (hb : (s.2.1 (13 + vA1 bf n P s)).testBit (vA2 bf n P s) = false) : eS bf n s = eS6 (vA1 bf n P s) (vA2 bf n P s) (meS bf n (tA2 bf n P s)) := by
  obtain ⟨k1, k2⟩ := e_inv hc hd
  rw [eS_P hs hnx h0, e_x3 hc hd he]
  have x4 : eS4 bf n (vA1 bf n P s) (tA1 bf n P s) = tA1 bf n P s := by
    unfold eS4
    rw [if_neg (fun z => ?_)]
    have := z.2.2.2
    rw [tA1_b, k2, hb] at this
    cases this
  rw [x4]
  rfl
theorem e6_b {a c : Nat} {t : RS} (h : t.2.2.1 = 0) : (eS6 a c t).2.1 = linkB t.2.1 a c := by unfold eS6; rw [if_pos h]; rfl
/-! a lay -/
theorem lS_P (hs : s.2.2.1 = 0) (hnx : nx bf n s.1 = P) (h0 : 1 ≤ s.2.1 0) : lS bf n s = meS bf n (muS bf n true (lS6 (vA1 bf n P s) (lSc (lSs bf n (lS3 bf n (tA1 bf n P s)))) (lS5 (vA1 bf n P s) (lSc (lSs bf n (lS3 bf n (tA1 bf n P s)))) (lS4 (lSc (lSs bf n (lS3 bf n (tA1 bf n P s)))) (lS3 bf n (tA1 bf n P s)))))) := by
  obtain ⟨a1, a2⟩ := eB_P hs hnx h0
  unfold lS lD lC
  rw [a1, a2]
theorem l_st {v c : Nat} {t : RS} (h : ¬ t.2.2.1 = 0) : (meS bf n (muS bf n true (lS6 v c (lS5 v c (lS4 c t))))).2.2 = t.2.2 := by
  have x4 : lS4 c t = t := by
    unfold lS4
    split
    · exact fS_x h
    · rfl
  have x5 : lS5 v c t = t := by unfold lS5; rw [if_neg (fun z => h z.1)]
  have x6 : lS6 v c t = t := by unfold lS6; rw [if_neg h]
  rw [x4, x5, x6]
  have y := st_mu (bf := bf) (n := n) (t := true) h
  rw [st_me (by rw [y]; exact h), y]
theorem l_1 (hs : s.2.2.1 = 0) (hnx : nx bf n s.1 = P) (h0 : 1 ≤ s.2.1 0) (hc : ¬ (tA1 bf n P s).2.2.1 = 0) : (lS bf n s).2.2 = (tA1 bf n P s).2.2 := by
  rw [lS_P hs hnx h0]
  have x3 : lS3 bf n (tA1 bf n P s) = tA1 bf n P s := by unfold lS3; rw [if_neg (fun z => hc z.1)]
  rw [x3]
  exact l_st hc
theorem l_x3 (hc : (tA1 bf n P s).2.2.1 = 0) (hl : isLt bf n (tA1 bf n P s).1 = true) : lS3 bf n (tA1 bf n P s) = tA1 bf n P s ∧ lSs bf n (tA1 bf n P s) = letS bf n (s.2.1 1) (tA1 bf n P s).1 := by
  unfold lS3 lSs
  rw [if_neg (fun z => z.2 (kd_0.mpr hl)), if_pos hc, tA1_b]
  exact ⟨rfl, rfl⟩
theorem l_2 (hs : s.2.2.1 = 0) (hnx : nx bf n s.1 = P) (h0 : 1 ≤ s.2.1 0) (h1 : s.2.1 1 ≤ 3) (hn : n ≤ 500) (hc : (tA1 bf n P s).2.2.1 = 0) (hl : ¬ (ltC bf n (s.2.1 1) 1 (tA1 bf n P s).1).1 = 0) : (lS bf n s).2.2 = ltC bf n (s.2.1 1) 1 (tA1 bf n P s).1 := by
  rw [lS_P hs hnx h0]
  cases e : isLt bf n (tA1 bf n P s).1
  · have x3 : lS3 bf n (tA1 bf n P s) = ((tA1 bf n P s).1, (tA1 bf n P s).2.1, -2, (tA1 bf n P s).1) := by
      unfold lS3
      rw [if_pos ⟨hc, fun z => by rw [kd_0.mp z] at e; cases e⟩, fS_0 hc]
    rw [x3, l_st (by exact m2), ltC_2 (by rw [rn_f e]; omega)]
  · have h0' := isLt_lt e
    have h2 := rn_le (P := isLt bf n) (n := n) (fun _ => isLt_lt) (p := (tA1 bf n P s).1 + 1) (by omega)
    rw [← rn_t e h0'] at h2
    obtain ⟨y1, y2⟩ := l_x3 hc e
    rw [y1, y2]
    have hz : lSc (letS bf n (s.2.1 1) (tA1 bf n P s).1) = 0 ∧ (letS bf n (s.2.1 1) (tA1 bf n P s).1 = 0 ∨ 1 < rn (isLt bf n) n (tA1 bf n P s).1 - (tA1 bf n P s).1) := by
      by_cases e2 : letS bf n (s.2.1 1) (tA1 bf n P s).1 = 0
      · rw [e2]; exact ⟨rfl, Or.inl rfl⟩
      · obtain ⟨g1, g2⟩ := letS_pop h1 hn e e2
        have g3 := (pop_8 _ g2).2.2
        by_cases e3 : 1 < rn (isLt bf n) n (tA1 bf n P s).1 - (tA1 bf n P s).1
        · exact ⟨g3 (by omega), Or.inr e3⟩
        · exfalso
          refine hl ?_
          unfold ltC
          rw [if_neg (by omega), if_neg (fun z => z.elim e2 e3)]
    rw [hz.1]
    have x4 : lS4 0 (tA1 bf n P s) = ((tA1 bf n P s).1, (tA1 bf n P s).2.1, -3, (tA1 bf n P s).1) := by
      unfold lS4
      rw [if_pos rfl, fS_0 hc]
    rw [x4]
    have m := l_st (bf := bf) (n := n) (v := vA1 bf n P s) (c := 1) (t := ((tA1 bf n P s).1, (tA1 bf n P s).2.1, -3, (tA1 bf n P s).1)) (by exact m3)
    have x5 : lS5 (vA1 bf n P s) 0 ((tA1 bf n P s).1, (tA1 bf n P s).2.1, -3, (tA1 bf n P s).1) = ((tA1 bf n P s).1, (tA1 bf n P s).2.1, -3, (tA1 bf n P s).1) := by unfold lS5; rw [if_neg (fun z => m3 z.1)]
    have x6 : lS6 (vA1 bf n P s) 0 ((tA1 bf n P s).1, (tA1 bf n P s).2.1, -3, (tA1 bf n P s).1) = ((tA1 bf n P s).1, (tA1 bf n P s).2.1, -3, (tA1 bf n P s).1) := by unfold lS6; rw [if_neg (by exact m3)]
    rw [x5, x6]
    have y := st_mu (bf := bf) (n := n) (t := true) (s := ((tA1 bf n P s).1, (tA1 bf n P s).2.1, -3, (tA1 bf n P s).1)) (by exact m3)
    rw [st_me (by rw [y]; exact m3), y, ltC_3 (by omega) hz.2]
theorem one_col : ∀ S, S < 8 → pop S = 1 → lSc S = low S + 1 ∧ low S < 3 ∧ 0 < S := by decide +kernel
/-- a lay's colour -/
theorem l_col (h1 : s.2.1 1 ≤ 3) (hn : n ≤ 500) (hl : isLt bf n (tA1 bf n P s).1 = true) (hz : ¬ letS bf n (s.2.1 1) (tA1 bf n P s).1 = 0) (hL : rn (isLt bf n) n (tA1 bf n P s).1 - (tA1 bf n P s).1 ≤ 1) : lSc (letS bf n (s.2.1 1) (tA1 bf n P s).1) = low (letS bf n (s.2.1 1) (tA1 bf n P s).1) + 1 ∧ low (letS bf n (s.2.1 1) (tA1 bf n P s).1) < 3 ∧ 0 < letS bf n (s.2.1 1) (tA1 bf n P s).1 ∧ letS bf n (s.2.1 1) (tA1 bf n P s).1 < 8 := by
  have h0' := isLt_lt hl
  have h2 := rn_le (P := isLt bf n) (n := n) (fun _ => isLt_lt) (p := (tA1 bf n P s).1 + 1) (by omega)
  rw [← rn_t hl h0'] at h2
  obtain ⟨g1, g2⟩ := letS_pop h1 hn hl hz
  obtain ⟨c1, c2, c3⟩ := one_col _ g2 (by omega)
  exact ⟨c1, c2, c3, g2⟩
theorem l_3 (hs : s.2.2.1 = 0) (hnx : nx bf n s.1 = P) (h0 : 1 ≤ s.2.1 0) (hc : (tA1 bf n P s).2.2.1 = 0) (hl : isLt bf n (tA1 bf n P s).1 = true) {c : Nat} (hk : lSc (letS bf n (s.2.1 1) (tA1 bf n P s).1) = c + 1) (hw : 0 < why s.2.1 (vA1 bf n P s) c) : (lS bf n s).2.2 = ((-5 : Int32), (tA1 bf n P s).1) := by
  have m5 : ¬ (-5 : Int32) = 0 := by decide
  obtain ⟨y1, y2⟩ := l_x3 hc hl
  rw [lS_P hs hnx h0, y1, y2, hk]
  have x4 : lS4 (c + 1) (tA1 bf n P s) = tA1 bf n P s := by unfold lS4; rw [if_neg (by omega)]
  have x5 : lS5 (vA1 bf n P s) (c + 1) (tA1 bf n P s) = ((tA1 bf n P s).1, (tA1 bf n P s).2.1, -5, (tA1 bf n P s).1) := by unfold lS5; rw [if_pos ⟨hc, by rw [tA1_b]; exact hw⟩, fS_0 hc]
  have x6 : lS6 (vA1 bf n P s) (c + 1) ((tA1 bf n P s).1, (tA1 bf n P s).2.1, -5, (tA1 bf n P s).1) = ((tA1 bf n P s).1, (tA1 bf n P s).2.1, -5, (tA1 bf n P s).1) := by unfold lS6; rw [if_neg (by exact m5)]
  rw [x4, x5, x6]
  have y := st_mu (bf := bf) (n := n) (t := true) (s := ((tA1 bf n P s).1, (tA1 bf n P s).2.1, -5, (tA1 bf n P s).1)) (by exact m5)
  rw [st_me (by rw [y]; exact m5), y]
theorem l_4 (hs : s.2.2.1 = 0) (hnx : nx bf n s.1 = P) (h0 : 1 ≤ s.2.1 0) (hc : (tA1 bf n P s).2.2.1 = 0) (hl : isLt bf n (tA1 bf n P s).1 = true) {c : Nat} (hk : lSc (letS bf n (s.2.1 1) (tA1 bf n P s).1) = c + 1) (hw : why s.2.1 (vA1 bf n P s) c = 0) : lS bf n s = meS bf n (rn (isSp bf n) n (rn (isLt bf n) n (tA1 bf n P s).1), layM s.2.1 (vA1 bf n P s) c, (tA1 bf n P s).2.2) := by
  obtain ⟨y1, y2⟩ := l_x3 hc hl
  rw [lS_P hs hnx h0, y1, y2, hk]
  have x4 : lS4 (c + 1) (tA1 bf n P s) = tA1 bf n P s := by unfold lS4; rw [if_neg (by omega)]
  have x5 : lS5 (vA1 bf n P s) (c + 1) (tA1 bf n P s) = tA1 bf n P s := by unfold lS5; rw [if_neg (fun z => by have := z.2; rw [tA1_b, Nat.add_sub_cancel, hw] at this; omega)]
  have x6 : lS6 (vA1 bf n P s) (c + 1) (tA1 bf n P s) = setB (tA1 bf n P s) (layM s.2.1 (vA1 bf n P s) c) := by unfold lS6; rw [if_pos hc, Nat.add_sub_cancel, tA1_b]
  rw [x4, x5, x6]
  unfold muS
  rw [if_pos rfl, nS_0 (by exact hc)]
  show meS bf n (nx bf n (tA1 bf n P s).1, _) = _
  unfold nx
  rw [en_lt hl]
  rfl
theorem p_1 (hs : s.2.2.1 = 0) (h2 : s.2.1 2 = 0) : (pS bf n s).2.2 = ((-5 : Int32), s.1) := by
  have m5 : ¬ (-5 : Int32) = 0 := by decide
  unfold pS
  have x1 : pS1 s = (s.1, s.2.1, -5, s.1) := by unfold pS1; rw [if_pos h2, fS_0 hs]
  have x2 : pS2 (s.1, s.2.1, -5, s.1) = (s.1, s.2.1, -5, s.1) := by unfold pS2; rw [if_neg (by exact m5)]
  rw [x1, x2]
  have y := st_mu (bf := bf) (n := n) (t := true) (s := (s.1, s.2.1, -5, s.1)) (by exact m5)
  rw [st_me (by rw [y]; exact m5), y]
theorem p_2 (hs : s.2.2.1 = 0) (hnx : nx bf n s.1 = P) (h2 : 0 < s.2.1 2) : pS bf n s = meS bf n (P, passM s.2.1, s.2.2) := by
  unfold pS
  have x1 : pS1 s = s := by unfold pS1; rw [if_neg (by omega)]
  have x2 : pS2 s = setB s (passM s.2.1) := by unfold pS2; rw [if_pos hs]
  rw [x1, x2]
  unfold muS
  rw [if_pos rfl, nS_0 (by exact hs)]
  show meS bf n (nx bf n s.1, _) = _
  rw [hnx]
  rfl
end EDL
