/-! reading a whole text: plain laws -/
section RDP
variable {bf : List Nat} {n : Nat}
theorem st_rB {s : RS} (h : ¬ s.2.2.1 = 0) : (rB bf n s).2.2 = s.2.2 := by
  unfold rB
  exact st_tk h
theorem st_rC {s : RS} (h : ¬ s.2.2.1 = 0) : (rC bf n s).2.2 = s.2.2 := by
  unfold rC
  rw [isW_no h, if_neg (by decide)]
theorem st_rE {s : RS} (h : ¬ s.2.2.1 = 0) : (rE bf n s).2.2 = s.2.2 := by
  unfold rE
  rw [isW_no h, if_neg (by decide)]
  exact st_fS h
theorem st_rF {s : RS} (h : ¬ s.2.2.1 = 0) : (rF bf n s).2.2 = s.2.2 := by
  unfold rF
  rw [if_neg (fun z => h z.1)]
theorem rS_8 {s t : RS} {f : Nat} (e : rS bf n s = rF bf n (rL bf n f t)) (h : ¬ t.2.2.1 = 0) : (rS bf n s).2.2 = t.2.2 := by
  rw [e, rL_no h]
  exact st_rF h
theorem rS_7 {s t : RS} {f : Nat} (e : rS bf n s = rF bf n (rL bf n 501 (rG bf n f t))) (h : ¬ t.2.2.1 = 0) : (rS bf n s).2.2 = t.2.2 := by
  rw [rG_no h] at e
  exact rS_8 e h
theorem rS_6 {s t : RS} {f : Nat} (e : rS bf n s = rF bf n (rL bf n 501 (rG bf n 501 (rV bf n f t)))) (h : ¬ t.2.2.1 = 0) : (rS bf n s).2.2 = t.2.2 := by
  rw [rV_no h] at e
  exact rS_7 e h
theorem rS_5 {s : RS} (h : ¬ (rE bf n (meS bf n (rC bf n (rB bf n (rA bf n s))))).2.2.1 = 0) : (rS bf n s).2.2 = (rE bf n (meS bf n (rC bf n (rB bf n (rA bf n s))))).2.2 := rS_6 rfl h
theorem rS_4 {s : RS} (h : ¬ (meS bf n (rC bf n (rB bf n (rA bf n s)))).2.2.1 = 0) : (rS bf n s).2.2 = (meS bf n (rC bf n (rB bf n (rA bf n s)))).2.2 := by
  have := st_rE (bf := bf) (n := n) h
  rw [rS_5 (by rw [this]; exact h), this]
theorem rS_3 {s : RS} (h : ¬ (rC bf n (rB bf n (rA bf n s))).2.2.1 = 0) : (rS bf n s).2.2 = (rC bf n (rB bf n (rA bf n s))).2.2 := by
  have := st_me (bf := bf) (n := n) h
  rw [rS_4 (by rw [this]; exact h), this]
theorem rS_2 {s : RS} (h : ¬ (rB bf n (rA bf n s)).2.2.1 = 0) : (rS bf n s).2.2 = (rB bf n (rA bf n s)).2.2 := by
  have := st_rC (bf := bf) (n := n) h
  rw [rS_3 (by rw [this]; exact h), this]
theorem rS_1 {s : RS} (h : ¬ (rA bf n s).2.2.1 = 0) : (rS bf n s).2.2 = (rA bf n s).2.2 := by
  have := st_rB (bf := bf) (n := n) h
  rw [rS_2 (by rw [this]; exact h), this]
theorem rA_no {s : RS} (hs : s.2.2.1 = 0) (h : isW bf n wColours s = false) : (rA bf n s).2.2 = ((-2 : Int32), s.1) := by
  unfold rA muS
  rw [h, if_neg (by decide), fS_0 hs, nS_x (by exact m2)]
theorem rA_yes {s : RS} (hs : s.2.2.1 = 0) (h : isW bf n wColours s = true) : rA bf n s = (rn (isSp bf n) n (s.1 + 7), s.2) := by
  unfold rA muS
  rw [h, if_pos rfl, nS_0 hs, (isW_en h).2]
  rfl
theorem rC_no {s : RS} (h : isW bf n wPasses s = false) : rC bf n s = s := by
  unfold rC
  rw [h, if_neg (by decide)]
theorem rC_yes {s : RS} (hs : s.2.2.1 = 0) (h : isW bf n wPasses s = true) : rC bf n s = setB (tkS bf n (nI 0) (nI 9) (rn (isSp bf n) n (s.1 + 6), s.2)) (updN s.2.1 2 (tkV bf n (nI 0) (nI 9) (rn (isSp bf n) n (s.1 + 6), s.2))) := by
  unfold rC
  rw [h, if_pos rfl, nS_0 hs, (isW_en h).2]
  rfl
theorem rE_no {s : RS} (hs : s.2.2.1 = 0) (h : isW bf n wVertex s = false) : (rE bf n s).2.2 = ((-2 : Int32), s.1) := by
  unfold rE
  rw [h, if_neg (by decide), fS_0 hs]
theorem rE_yes {s : RS} (h : isW bf n wVertex s = true) : rE bf n s = s := by
  unfold rE
  rw [h, if_pos rfl]
theorem vS_2 {s : RS} : (vS bf n s).2.1 2 = s.2.1 2 := by
  have hb : (meS bf n (vS2 bf n (muS bf n true (vS1 s)))).2.1 = s.2.1 := by rw [meS_b, vS2_b, muS_b, vS1_b]
  unfold vS vS4
  split
  · rw [setB_b, hb, updN_n (by decide), updN_n (by omega)]
  · rw [hb]
theorem eS_k {s : RS} (h : WA s.2.1) {j : Nat} (hj : j < 13 ∨ 22 ≤ j) : (eS bf n s).2.1 j = s.2.1 j := by
  have h9 := h.w.2.1
  have hb : (meS bf n (tkS bf n (nI 0) (nI (s.2.1 0) - nI 1) (eC bf n s))).2.1 = s.2.1 := by rw [meS_b, tkS_b, eC_b]
  unfold eS eS6
  split
  · rw [setB_b, hb]
    have o1 := e1_lt (bf := bf) (n := n) (s := s) h.w
    have o2 := tkV_lt (bf := bf) (n := n) (s := eC bf n s) h.w.1 h9
    exact link_n _ _ _ (by omega) (by omega)
  · rw [hb]
theorem v_ok {P : Nat} {s : RS} (hs : s.2.2.1 = 0) (hP : nx bf n s.1 = P) (h1 : s.2.1 1 ≤ 3) (hn : n ≤ 500) (hc : (vS bf n s).2.2.1 = 0) : rn (isLt bf n) n P - P ≤ 3 := by
  by_cases h : rmv s.2.1
  · rw [v_no hs h] at hc
    exact absurd hc (by exact (by decide : ¬ (-6 : Int32) = 0))
  · cases e : isLt bf n P
    · rw [rn_f e]; omega
    · by_cases e2 : letS bf n (s.2.1 1) P = 0
      · have h0 := isLt_lt e
        have h2 := rn_le (P := isLt bf n) (n := n) (fun _ => isLt_lt) (p := P + 1) (by omega)
        rw [← rn_t e h0] at h2
        have := ltC_3 (b1 := s.2.1 1) (most := 3) (by omega : ¬ rn (isLt bf n) n P - P = 0) (Or.inl e2)
        have hsm : semi bf n P = false := by
          cases z : semi bf n P
          · rfl
          · obtain ⟨z1, z2⟩ := semi_i.mp z
            have := of_decide_eq_true e
            omega
        rw [v_lt hs h hP h1 hn hsm (by rw [this]; exact m3), this] at hc
        exact absurd hc m3
      · obtain ⟨g1, g2⟩ := letS_pop h1 hn e e2
        have := (pop_8 _ g2).1
        omega
theorem l_ok {P : Nat} {s : RS} (hs : s.2.2.1 = 0) (hnx : nx bf n s.1 = P) (h0 : 1 ≤ s.2.1 0) (h1 : s.2.1 1 ≤ 3) (hn : n ≤ 500) (hc : (lS bf n s).2.2.1 = 0) : rn (isLt bf n) n (tA1 bf n P s).1 - (tA1 bf n P s).1 ≤ 1 := by
  by_cases h : (tA1 bf n P s).2.2.1 = 0
  · refine Nat.not_lt.mp (fun z => ?_)
    have := ltC_3 (bf := bf) (n := n) (b1 := s.2.1 1) (most := 1) (P := (tA1 bf n P s).1) (by omega) (Or.inr z)
    rw [l_2 hs hnx h0 h1 hn h (by rw [this]; exact m3), this] at hc
    exact m3 hc
  · rw [l_1 hs hnx h0 h] at hc
    exact absurd hc h
theorem end_i {P : Nat} (hb : ∀ i, i < n → bf.getD i 0 < 256) : seeV bf n P = -1 ↔ n ≤ P := by
  unfold seeV
  by_cases h : P < n
  · rw [if_pos h]
    have := hb P h
    have e : ∀ c, c < 256 → ¬ nI c = -1 := by decide +kernel
    exact ⟨fun z => absurd z (e _ this), fun z => by omega⟩
  · rw [if_neg h]
    exact ⟨fun _ => by omega, fun _ => rfl⟩
theorem rF_end {s : RS} (h : n ≤ s.1) : rF bf n s = s := by
  unfold rF
  have : kd bf n s.1 = 3 := by unfold kd; rw [if_pos h]
  rw [if_neg (fun z => z.2 this)]
theorem rF_no {s : RS} (hs : s.2.2.1 = 0) (h : s.1 < n) : (rF bf n s).2.2 = ((-2 : Int32), s.1) := by
  unfold rF
  have : ¬ kd bf n s.1 = 3 := by unfold kd; rw [if_neg (by omega)]; (repeat' split) <;> decide
  rw [if_pos ⟨hs, this⟩, fS_0 hs]
theorem rL_stop {s : RS} (h1 : isW bf n wLay s = false) (h2 : isW bf n wPass s = false) (f : Nat) : rL bf n f s = s := by
  cases f with
  | zero => rfl
  | succ f => rw [rL, h1, if_neg (by decide), h2, if_neg (by decide)]
theorem rG_stop {s : RS} (h1 : isW bf n wEdge s = false) (f : Nat) : rG bf n f s = s := by
  cases f with
  | zero => rfl
  | succ f => rw [rG, h1, if_neg (by decide)]
theorem rV_stop {s : RS} (h1 : isW bf n wVertex s = false) (f : Nat) : rV bf n f s = s := by
  cases f with
  | zero => rfl
  | succ f => rw [rV, h1, if_neg (by decide)]
theorem isW_end {w : List Nat} {s : RS} (h : n ≤ s.1) : isW bf n w s = false := by
  cases e : isW bf n w s
  · rfl
  · have := (isW_k e).2.2
    omega
end RDP
theorem GRW.st {h : AH} {s0 gr : Nat} {b b' : BT} (hT : ST b b') (h9 : b 0 ≤ 9) (g : GRW h s0 gr b) : GRW h s0 gr b' := by
  obtain ⟨gl, gn, fl, fn, g0, e1, e2, e3, g1, g2⟩ := g
  obtain ⟨t0, t1, t2, t3⟩ := id hT
  refine ⟨gl, gn, fl, fn, g0, ?_, e2, e3, fun v hv => ?_, fun v hv => ?_⟩
  · have : edg b' = edg b := by
      unfold edg
      rw [hT.1, edgeB_st hT h9]
    rw [t0, t1, this]
    exact e1
  · rw [t2 v (by omega)]; exact g1 v hv
  · rw [t3 v (by omega)]; exact g2 v hv
/-- a new board -/
theorem BNew.bc {h h' : AH} {a gr s s1 : Nat} {b : BT} (g : BNew h h' a gr s) (hs : s1 ≤ s) (ha : s1 ≤ a) (has : a < s) (h3 : b 3 = 0) (h2 : ∀ v, v < 9 → b (22 + v) = 0) (h1 : ∀ v, v < 9 → b (31 + v) = 0) : BC (hset h' a (.inr (2, [.ref gr, .ref s, .ref (s + 1), .ref (s + 2), .ref (s + 5), .int (nI (b 2)), .int 0]))) s1 a gr b 8 := by
  obtain ⟨g1, g2, ⟨fc, fb, g3, g4, g5, g6⟩, g7, g8, g9, g10, g11⟩ := g
  have ea : ∀ pl, acF b pl = [.int 0, .int 0, .int 0, .int 0, .int 0] := fun pl => by
    unfold acF
    rw [h3]
    rfl
  refine ⟨s, s + 1, s + 2, s + 3, s + 4, s + 5, s + 6, 0, fc, fb, fun _ => none, ⟨ha, hs, by omega, by omega, by omega, by omega, by omega, by omega, by omega, by omega⟩, ?_, (hset_n _ _ (by omega)).trans g3, (hset_n _ _ (by omega)).trans g4, (hset_n _ _ (by omega)).trans g7, ?_, ?_, ?_, (hset_n _ _ (by omega)).trans g11, ⟨fun _ _ => rfl, by omega, by decide, by decide⟩, fun k hk => by omega, fun v hv => ?_, fun v hv _ => ?_⟩
  · rw [hset_s, h3]
    rfl
  · rw [ea]; exact (hset_n _ _ (by omega)).trans g8
  · rw [ea]; exact (hset_n _ _ (by omega)).trans g9
  · rw [h3]; exact (hset_n _ _ (by omega)).trans g10
  · rw [g5 v hv, h2 v hv]; rfl
  · rw [g6 v hv, h1 v hv]; rfl
