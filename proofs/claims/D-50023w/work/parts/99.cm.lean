/-! vertex and edge: plain laws -/
theorem pop_or : ∀ S, S < 512 → ∀ c, c < 9 → S.testBit c = false → pop (S ||| 1 <<< c) = pop S + 1 := by decide +kernel
theorem sumF_two {f g : Nat → Nat} {one other : Nat} (h : ∀ v, g v = f v + ((if v = one then 1 else 0) + if v = other then 1 else 0)) : ∀ n, sumF g n = sumF f n + ((if one < n then 1 else 0) + if other < n then 1 else 0) := by
  intro n
  induction n with
  | zero => rfl
  | succ n ih =>
    rw [sumF, sumF, ih, h n]
    by_cases e1 : n = one <;> by_cases e2 : n = other
    · rw [if_pos e1, if_pos e2, if_neg (by omega), if_neg (by omega), if_pos (by omega), if_pos (by omega)]; omega
    · rw [if_pos e1, if_neg e2, if_neg (by omega : ¬ one < n), if_pos (by omega : one < n + 1)]
      by_cases e3 : other < n
      · rw [if_pos e3, if_pos (by omega)]; omega
      · rw [if_neg e3, if_neg (by omega)]; omega
    · rw [if_neg e1, if_pos e2, if_neg (by omega : ¬ other < n), if_pos (by omega : other < n + 1)]
      by_cases e3 : one < n
      · rw [if_pos e3, if_pos (by omega)]; omega
      · rw [if_neg e3, if_neg (by omega)]; omega
    · rw [if_neg e1, if_neg e2]
      by_cases e3 : one < n <;> by_cases e4 : other < n
      · rw [if_pos e3, if_pos e4, if_pos (by omega), if_pos (by omega)]; omega
      · rw [if_pos e3, if_neg e4, if_pos (by omega), if_neg (by omega)]; omega
      · rw [if_neg e3, if_pos e4, if_neg (by omega), if_pos (by omega)]; omega
      · rw [if_neg e3, if_neg e4, if_neg (by omega), if_neg (by omega)]; omega
theorem edg_0 {b : BT} (h : ∀ j, 13 ≤ j → b j = 0) : edg b = 0 := by
  unfold edg edgeB
  have e : ∀ n, sumF (fun v => if (2 ^ b 0 - 1).testBit v = true then pop (b (13 + v) &&& (2 ^ b 0 - 1)) else 0) n = 0 := by
    intro n
    induction n with
    | zero => rfl
    | succ n ih =>
      rw [sumF, ih, h (13 + n) (by omega), Nat.zero_and, pop_zero]
      split <;> rfl
  rw [e]
theorem and_all {x n : Nat} (h : x < 2 ^ n) : x &&& (2 ^ n - 1) = x := by
  rw [Nat.and_two_pow_sub_one_eq_mod, Nat.mod_eq_of_lt h]
theorem link_at {b : BT} {one other : Nat} (hne : one ≠ other) : linkB b one other (13 + one) = b (13 + one) ||| 1 <<< other ∧ linkB b one other (13 + other) = b (13 + other) ||| 1 <<< one := by
  unfold linkB
  refine ⟨?_, ?_⟩
  · rw [updN_n (by omega), updN_s]
  · rw [updN_s, updN_n (by omega)]
theorem edg_link {b : BT} (hW : WB b) {one other : Nat} (h1 : one < b 0) (h2 : other < b 0) (hne : one ≠ other) (hl : (b (13 + one)).testBit other = false) (hs : (b (13 + other)).testBit one = false) : edg (linkB b one other) = edg b + 1 := by
  have h9 := hW.2.1
  have e0 : linkB b one other 0 = b 0 := link_n b one other (by omega) (by omega)
  obtain ⟨a1, a2⟩ := link_at (b := b) hne
  unfold edg edgeB
  rw [e0]
  have lt1 : ∀ v, v < 9 → b (13 + v) < 2 ^ b 0 := hW.2.2.2.2.2.1
  have k1 := sumF_two (f := fun v => if Nat.testBit (2 ^ b 0 - 1) v = true then pop (b (13 + v) &&& (2 ^ b 0 - 1)) else 0) (g := fun v => (if Nat.testBit (2 ^ b 0 - 1) v = true then pop (b (13 + v) &&& (2 ^ b 0 - 1)) else 0) + ((if v = one then 1 else 0) + if v = other then 1 else 0)) (one := one) (other := other) (fun v => rfl) (b 0)
  have k0 := sumF_congr (f := fun v => if Nat.testBit (2 ^ b 0 - 1) v = true then pop (linkB b one other (13 + v) &&& (2 ^ b 0 - 1)) else 0) (g := fun v => (if Nat.testBit (2 ^ b 0 - 1) v = true then pop (b (13 + v) &&& (2 ^ b 0 - 1)) else 0) + ((if v = one then 1 else 0) + if v = other then 1 else 0)) (b 0) (fun v hv => ?_)
  · rw [k0, k1, if_pos h1, if_pos h2]
    omega
  · show (if Nat.testBit (2 ^ b 0 - 1) v = true then pop (linkB b one other (13 + v) &&& (2 ^ b 0 - 1)) else 0) = (if Nat.testBit (2 ^ b 0 - 1) v = true then pop (b (13 + v) &&& (2 ^ b 0 - 1)) else 0) + ((if v = one then 1 else 0) + if v = other then 1 else 0)
    have hb : Nat.testBit (2 ^ b 0 - 1) v = true := by rw [Nat.testBit_two_pow_sub_one]; exact decide_eq_true hv
    rw [if_pos hb, if_pos hb]
    have l1 : linkB b one other (13 + v) < 2 ^ b 0 := by
      by_cases q1 : v = one
      · rw [q1, a1]; exact nb_lt_or (m := b 0) (lt1 _ (by omega)) (sh1_lt (m := b 0) (by omega))
      · by_cases q2 : v = other
        · rw [q2, a2]; exact nb_lt_or (m := b 0) (lt1 _ (by omega)) (sh1_lt (m := b 0) (by omega))
        · rw [link_n b one other (by omega) (by omega)]; exact lt1 _ (by omega)
    rw [and_all l1, and_all (lt1 _ (by omega))]
    by_cases q1 : v = one
    · rw [if_pos q1, if_neg (by omega), q1, a1, pop_or _ (hW.n9 (by omega)) _ (by omega) hl]
    · by_cases q2 : v = other
      · rw [if_neg q1, if_pos q2, q2, a2, pop_or _ (hW.n9 (by omega)) _ (by omega) hs]
      · rw [if_neg q1, if_neg q2, link_n b one other (by omega) (by omega)]; omega
/-- a graph that is being read: its cells from s0 -/
def GRW (h : AH) (s0 gr : Nat) (b : BT) : Prop := ∃ (gl gn : Nat) (fl fn : Nat → Int32), (s0 ≤ gr ∧ s0 ≤ gl ∧ s0 ≤ gn ∧ gl ≠ gn) ∧ h gr = some (.inr (3, [.int (nI (b 1)), .ref gl, .ref gn, .int (nI (b 0)), .int (nI (edg b))])) ∧ h gl = some (.inl (0, 9, .inl fl)) ∧ h gn = some (.inl (0, 9, .inl fn)) ∧ (∀ v, v < 9 → fl v = nI (b (4 + v))) ∧ ∀ v, v < 9 → fn v = nI (b (13 + v))
theorem GRW.g {h : AH} {s0 gr : Nat} {b : BT} (g : GRW h s0 gr b) : GRP h gr b := by
  obtain ⟨gl, gn, fl, fn, -, g1⟩ := g
  exact ⟨gl, gn, fl, fn, g1⟩
/-- the reader's cell alone changes -/
theorem GRW.fr {h h' : AH} {sz s0 gr r : Nat} {b : BT} {fs : List Value} (hD : Dm h sz) (er : h r = some (.inr (6, fs))) (F : ∀ q, q < sz → q ≠ r → h' q = h q) (g : GRW h s0 gr b) : GRW h' s0 gr b := by
  obtain ⟨gl, gn, fl, fn, g0, e1, e2, e3, g1⟩ := g
  exact ⟨gl, gn, fl, fn, g0, (F _ (hD.lt e1) (ne9 e1 er (by intro z; cases z))).trans e1, (F _ (hD.lt e2) (ne9 e2 er (by intro z; cases z))).trans e2, (F _ (hD.lt e3) (ne9 e3 er (by intro z; cases z))).trans e3, g1⟩
/-- thrown while a text is read, below s0 all is the same -/
def YQ (h : AH) (s0 sz : Nat) (c : Int32 × Nat) : Nat → AH → Nat → Prop := fun q h' sz' => ¬ c.1 = 0 ∧ sz ≤ q ∧ (∀ j, j < s0 → h' j = h j) ∧ h' q = some (TE c.1 c.2)
theorem YP.q {h h1 : AH} {s0 sz s1 r : Nat} {c d : Int32 × Nat} {q : Nat} {h' : AH} {sz' : Nat} (e : d = c) (hr : s0 ≤ r) (hs : s0 ≤ s1) (hle : sz ≤ s1) (F : ∀ j, j < s0 → h1 j = h j) (g : YP h1 s1 r c q h' sz') : YQ h s0 sz d q h' sz' := by
  obtain ⟨g1, g2, g3, g4⟩ := g
  rw [e]
  exact ⟨g1, Nat.le_trans hle g2, fun j hj => (g3 j (by omega) (by omega)).trans (F j hj), g4⟩
theorem v4_22 (m : Nat) (s : RS) : (vS4 m s).2.2 = s.2.2 := by unfold vS4; split <;> rfl
theorem v4_1 (m : Nat) (s : RS) : (vS4 m s).1 = s.1 := by unfold vS4; split <;> rfl
theorem v4_b {m : Nat} {s : RS} (h : s.2.2.1 = 0) : (vS4 m s).2.1 = updN (updN s.2.1 (4 + s.2.1 0) m) 0 (s.2.1 0 + 1) := by unfold vS4; rw [if_pos h]; rfl
abbrev rmv (b : BT) : Prop := b 0 = 9 ∨ 20000 < (b 1 + 1) ^ (b 0 + 1)
theorem v_no {bf : List Nat} {n : Nat} {s : RS} (hs : s.2.2.1 = 0) (h : rmv s.2.1) : (vS bf n s).2.2 = ((-6 : Int32), s.1) := by
  have e1 : vS1 s = (s.1, s.2.1, -6, s.1) := by unfold vS1; rw [if_pos h, fS_0 hs]
  have m6 : ¬ (-6 : Int32) = 0 := by decide
  have e2 : muS bf n true (vS1 s) = (s.1, s.2.1, -6, s.1) := by unfold muS; rw [if_pos rfl, e1, nS_x (by exact m6)]
  unfold vS
  rw [v4_22, e2]
  have e3 : vS2 bf n (s.1, s.2.1, -6, s.1) = (s.1, s.2.1, -6, s.1) := by unfold vS2; rw [if_neg (fun z => m6 z.1)]
  rw [e3, st_me (by exact m6)]
theorem v_mid {bf : List Nat} {n : Nat} {s : RS} (hs : s.2.2.1 = 0) (h : ¬ rmv s.2.1) : vS bf n s = vS4 (vSl bf n (nx bf n s.1, s.2)) (meS bf n (vS2 bf n (nx bf n s.1, s.2))) := by
  have e1 : vS1 s = s := by unfold vS1; rw [if_neg h]
  have e2 : muS bf n true (vS1 s) = (nx bf n s.1, s.2) := by unfold muS; rw [if_pos rfl, e1, nS_0 hs]
  unfold vS
  rw [e2]
theorem v_mid2 {bf : List Nat} {n P : Nat} {s : RS} (hs : s.2.2.1 = 0) (h : isLt bf n P = false) : vS2 bf n (P, s.2) = (P, s.2) ∧ vSl bf n (P, s.2) = (1 <<< s.2.1 1) - 1 := by
  have hk : ¬ kd bf n P = 0 := fun z => by rw [kd_0.mp z] at h; cases h
  unfold vS2 vSl
  exact ⟨if_neg (fun z => hk z.2), if_neg (fun z => hk z.2)⟩
theorem v_mid3 {bf : List Nat} {n P : Nat} {s : RS} (hs : s.2.2.1 = 0) (h : isLt bf n P = true) : vSl bf n (P, s.2) = letS bf n (s.2.1 1) P ∧ vS2 bf n (P, s.2) = if letS bf n (s.2.1 1) P = 0 then (P, s.2.1, -3, P) else (rn (isSp bf n) n (rn (isLt bf n) n P), s.2) := by
  have hk : kd bf n P = 0 := kd_0.mpr h
  unfold vS2 vSl
  rw [if_pos ⟨hs, hk⟩, if_pos ⟨hs, hk⟩]
  refine ⟨rfl, ?_⟩
  by_cases e : letS bf n (s.2.1 1) P = 0
  · rw [if_pos e, if_pos e, fS_0 (by exact hs), nS_x (by exact m3)]
  · rw [if_neg e, if_neg e, nS_0 (by exact hs)]
    unfold nx
    rw [en_lt h]
/-- what a vertex's letters answer -/
theorem v_lt {bf : List Nat} {n P : Nat} {s : RS} (hs : s.2.2.1 = 0) (h : ¬ rmv s.2.1) (hP : nx bf n s.1 = P) (h1 : s.2.1 1 ≤ 3) (hn : n ≤ 500) (hsm : semi bf n P = false) (hc : ¬ (ltC bf n (s.2.1 1) 3 P).1 = 0) : (vS bf n s).2.2 = ltC bf n (s.2.1 1) 3 P := by
  rw [v_mid hs h, hP, v4_22]
  cases e : isLt bf n P
  · rw [(v_mid2 hs e).1, me_0 (by exact hs) hsm, ltC_2 (by rw [rn_f e]; omega)]
  · have h0 := isLt_lt e
    have h2 := rn_le (P := isLt bf n) (n := n) (fun _ => isLt_lt) (p := P + 1) (by omega)
    rw [← rn_t e h0] at h2
    rw [(v_mid3 hs e).2]
    by_cases e2 : letS bf n (s.2.1 1) P = 0
    · rw [if_pos e2, st_me (by exact m3), ltC_3 (by omega) (Or.inl e2)]
    · exfalso
      have := letS_pop h1 hn e e2
      have := (pop_8 _ this.2).1
      refine hc ?_
      unfold ltC
      rw [if_neg (by omega), if_neg (fun z => z.elim e2 (fun z => by omega))]
/-- a vertex's letters, when there are none -/
theorem v_all {bf : List Nat} {n P : Nat} {s : RS} (hs : s.2.2.1 = 0) (h : ¬ rmv s.2.1) (hP : nx bf n s.1 = P) (hsm : semi bf n P = true) : vS bf n s = vS4 ((1 <<< s.2.1 1) - 1) (meS bf n (P, s.2)) := by
  have e : isLt bf n P = false := by
    obtain ⟨z1, z2⟩ := semi_i.mp hsm
    exact decide_eq_false (fun z => by omega)
  rw [v_mid hs h, hP, (v_mid2 hs e).1, (v_mid2 hs e).2]
theorem v_let {bf : List Nat} {n P : Nat} {s : RS} (hs : s.2.2.1 = 0) (h : ¬ rmv s.2.1) (hP : nx bf n s.1 = P) (e : isLt bf n P = true) (hl : ¬ letS bf n (s.2.1 1) P = 0) : vS bf n s = vS4 (letS bf n (s.2.1 1) P) (meS bf n (rn (isSp bf n) n (rn (isLt bf n) n P), s.2)) := by
  rw [v_mid hs h, hP, (v_mid3 hs e).1, (v_mid3 hs e).2, if_neg hl]
