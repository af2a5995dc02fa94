/-! the search's masks: three bits for each vertex of a set: the colours that can be laid there but for bans -/
def c0 (b : Nat → Nat) (u : Nat) : Nat := nd (b (4 + u)) (arn b u)
def mkF (b : Nat → Nat) (S : Nat) : Nat → Nat
  | 0 => 0
  | k + 1 => mkF b S k ||| (if S.testBit k = true then c0 b k <<< (3 * k) else 0)
def mkB (b : Nat → Nat) (S : Nat) : Nat := mkF b S (b 0)
def btF (S : Nat) : Nat → Nat
  | 0 => 0
  | k + 1 => btF S k ||| (if S.testBit k = true then 7 <<< (3 * k) else 0)
def btB (S : Nat) : Nat := btF S 9
def nrF (b : Nat → Nat) (v c : Nat) : Nat → Nat
  | 0 => 0
  | k + 1 => nrF b v c k ||| (if (b (13 + v)).testBit k = true then 1 <<< (3 * k + c) else 0)
def nrB (b : Nat → Nat) (v c : Nat) : Nat := nrF b v c (b 0)
theorem c0_lt {b : Nat → Nat} {u m : Nat} (h : b (4 + u) < m) : c0 b u < m := nd_lt h
theorem grp_bit {x k i : Nat} (hx : x < 8) : (x <<< (3 * k)).testBit i = (decide (i / 3 = k) && x.testBit (i % 3)) := by
  rw [Nat.testBit_shiftLeft]
  by_cases h : i / 3 = k
  · have h1 : 3 * k ≤ i := by omega
    have h2 : i - 3 * k = i % 3 := by omega
    simp [h, h1, h2]
  · by_cases h1 : 3 * k ≤ i
    · have h2 : x.testBit (i - 3 * k) = false := Nat.testBit_lt_two_pow (Nat.lt_of_lt_of_le hx (Nat.pow_le_pow_right (n := 2) (i := 3) (by omega) (by omega)))
      simp [h, h1, h2]
    · simp [h, h1]
theorem mkF_bit {b : Nat → Nat} (hW : ∀ u, u < 9 → b (4 + u) < 8) (S : Nat) : ∀ n, n ≤ 9 → ∀ i, (mkF b S n).testBit i = (decide (i / 3 < n) && (S.testBit (i / 3) && (c0 b (i / 3)).testBit (i % 3))) := by
  intro n
  induction n with
  | zero => intro _ i; simp [mkF]
  | succ n ih =>
    intro hn i
    rw [mkF, Nat.testBit_or, ih (by omega)]
    have h8 := c0_lt (hW n (by omega))
    by_cases h : i / 3 = n
    · have h1 : ¬ i / 3 < n := by omega
      have h2 : i / 3 < n + 1 := by omega
      rw [h] at h1 h2 ⊢
      by_cases hs : S.testBit n = true
      · rw [if_pos hs, grp_bit h8]
        simp [h, hs]
      · rw [if_neg hs]
        simp [hs]
    · have h2 : (i / 3 < n + 1) ↔ (i / 3 < n) := by omega
      by_cases hs : S.testBit n = true
      · rw [if_pos hs, grp_bit h8]
        simp [h, h2]
      · rw [if_neg hs]
        simp [h2]
theorem btF_bit (S : Nat) : ∀ n i, (btF S n).testBit i = (decide (i / 3 < n) && S.testBit (i / 3)) := by
  intro n
  induction n with
  | zero => intro i; simp [btF]
  | succ n ih =>
    intro i
    rw [btF, Nat.testBit_or, ih]
    have h7 : ∀ j, j < 3 → (7 : Nat).testBit j = true := by decide
    by_cases h : i / 3 = n
    · rw [h]
      by_cases hs : S.testBit n = true
      · rw [if_pos hs, grp_bit (by omega)]
        simp [h, hs, h7 (i % 3) (by omega)]
      · rw [if_neg hs]
        simp [hs]
    · have h2 : (i / 3 < n + 1) ↔ (i / 3 < n) := by omega
      by_cases hs : S.testBit n = true
      · rw [if_pos hs, grp_bit (by omega)]
        simp [h, h2]
      · rw [if_neg hs]
        simp [h2]
theorem nrF_bit (b : Nat → Nat) (v : Nat) {c : Nat} (hc : c < 3) : ∀ n i, (nrF b v c n).testBit i = (decide (i / 3 < n) && ((b (13 + v)).testBit (i / 3) && decide (i % 3 = c))) := by
  intro n
  induction n with
  | zero => intro i; simp [nrF]
  | succ n ih =>
    intro i
    rw [nrF, Nat.testBit_or, ih]
    by_cases h : i / 3 = n
    · rw [h]
      by_cases hs : (b (13 + v)).testBit n = true
      · rw [if_pos hs, sh1_bit]
        have : (i = 3 * n + c) ↔ (i % 3 = c) := by omega
        simp [hs, this]
      · rw [if_neg hs]
        simp [hs]
    · have h2 : (i / 3 < n + 1) ↔ (i / 3 < n) := by omega
      by_cases hs : (b (13 + v)).testBit n = true
      · rw [if_pos hs, sh1_bit]
        have : ¬ i = 3 * n + c := by omega
        simp [h2, this]
      · rw [if_neg hs]
        simp [h2]
theorem mkB_lt {b : Nat → Nat} (hW : WB b) (S : Nat) : mkB b S < 2 ^ 27 := by
  apply Nat.lt_pow_two_of_testBit
  intro i hi
  have h9 := hW.2.1
  rw [mkB, mkF_bit (fun u hu => hW.l8 hu) S _ h9]
  have : ¬ i / 3 < b 0 := by omega
  simp [this]
theorem arnF_lay {b : Nat → Nat} {u v c : Nat} (hu : u < 9) (hf : fr b v = true) (j : Nat) : ∀ n, (arnF (layO b v c) u n).testBit j = ((arnF b u n).testBit j || (decide (v < n) && ((b (13 + u)).testBit v && decide (j = c)))) := by
  intro n
  induction n with
  | zero => simp [arnF]
  | succ n ih =>
    rw [arnF, arnF, Nat.testBit_or, Nat.testBit_or, ih, layO_n b v c (by omega)]
    by_cases e : n = v
    · subst e
      have h1 : ¬ n < n := Nat.lt_irrefl n
      have h2 : layO b n c (22 + n) = c + 1 := if_pos rfl
      rw [fr_layS, hf, h2]
      cases (b (13 + u)).testBit n
      · simp
      · simp [sh1_bit, -Nat.testBit_shiftLeft]
    · have h2 : layO b v c (22 + n) = b (22 + n) := if_neg (by omega)
      rw [fr_lay e, h2]
      have h3 : (v < n + 1) ↔ (v < n) := by omega
      simp only [h3]
      cases (arnF b u n).testBit j <;> cases decide (v < n) <;> cases (b (13 + u)).testBit v <;> cases decide (j = c) <;> simp
theorem c0_lay {b : Nat → Nat} {u v c j : Nat} (hu : u < 9) (hf : fr b v = true) (hv : v < b 0) : (c0 (layO b v c) u).testBit j = ((c0 b u).testBit j && !((b (13 + u)).testBit v && decide (j = c))) := by
  unfold c0 arn
  rw [nd_bit, nd_bit, layO_n b v c (by omega), layO_n b v c (by omega), arnF_lay hu hf]
  simp only [hv, decide_true, Bool.true_and]
  cases (b (4 + u)).testBit j <;> cases (arnF b u (b 0)).testBit j <;> simp
/-- the masks behind a lay -/
theorem mk_lay {b : Nat → Nat} {S v c p : Nat} (hW : WB b) (hS : SY b) (hf : fr b v = true) (hv : v < b 0) (hc : c < 3) (hp : ∀ i, p.testBit i = true → S.testBit i = true) : nd (mkB b S) (nrB b v c) &&& btB p = mkB (layO b v c) p := by
  have h9 := hW.2.1
  apply Nat.eq_of_testBit_eq
  intro i
  have e0 : layO b v c 0 = b 0 := layO_n b v c (by omega)
  have hl : ∀ u, u < 9 → layO b v c (4 + u) < 8 := fun u hu => by rw [layO_n b v c (by omega)]; exact hW.l8 hu
  unfold mkB nrB btB
  rw [Nat.testBit_and, nd_bit, mkF_bit (fun u hu => hW.l8 hu) S _ h9, nrF_bit b v hc, btF_bit, e0, mkF_bit hl p _ h9]
  by_cases hu : i / 3 < b 0
  · rw [c0_lay (by omega) hf hv, hS (i / 3) v hu hv]
    have h3 : i / 3 < 9 := by omega
    simp only [hu, h3, decide_true, Bool.true_and]
    cases hpi : p.testBit (i / 3) with
    | false => simp
    | true =>
      rw [hp _ hpi]
      simp
  · simp [hu]
/-! the value of a part is told by the masks -/
def MKQ (b b' : Nat → Nat) (S : Nat) : Prop := ∀ u, S.testBit u = true → c0 b u = c0 b' u ∧ fr b u = true ∧ fr b' u = true
theorem mq_of {b b' : Nat → Nat} {S : Nat} (hT : ST b b') (hW : WB b) (hW' : WB b') (hS : S < 2 ^ b 0) (h1 : ∀ u, S.testBit u = true → fr b u = true) (h2 : ∀ u, S.testBit u = true → fr b' u = true) (e : mkB b S = mkB b' S) : MKQ b b' S := by
  intro u hu
  refine ⟨?_, h1 u hu, h2 u hu⟩
  have hub := bit_lt hS hu
  have h9 := hW.2.1
  apply Nat.eq_of_testBit_eq
  intro j
  by_cases hj : j < 3
  · have q1 := mkF_bit (fun u hu => hW.l8 hu) S _ h9 (3 * u + j)
    have q2 := mkF_bit (fun u hu => hW'.l8 hu) S _ hW'.2.1 (3 * u + j)
    have e1 : (3 * u + j) / 3 = u := by omega
    have e2 : (3 * u + j) % 3 = j := by omega
    rw [e1, e2, hu] at q1 q2
    unfold mkB at e
    rw [e, q2, hT.1] at q1
    simpa [hub] using q1.symm
  · rw [Nat.testBit_lt_two_pow (Nat.lt_of_lt_of_le (c0_lt (hW.l8 (v := u) (by omega))) (Nat.pow_le_pow_right (n := 2) (i := 3) (by omega) (by omega))), Nat.testBit_lt_two_pow (Nat.lt_of_lt_of_le (c0_lt (hW'.l8 (v := u) (by omega))) (Nat.pow_le_pow_right (n := 2) (i := 3) (by omega) (by omega)))]
theorem mq_lay {b b' : Nat → Nat} {S v c : Nat} (h : MKQ b b' S) (hT : ST b b') (h9 : b 0 ≤ 9) (hS : S < 2 ^ b 0) (hv : S.testBit v = true) : MKQ (layO b v c) (layO b' v c) (nd S (1 <<< v)) := by
  intro u hu
  rw [nd_bit, sh1_bit] at hu
  simp only [Bool.and_eq_true, Bool.not_eq_true', decide_eq_false_iff_not] at hu
  obtain ⟨g1, g2, g3⟩ := h u hu.1
  obtain ⟨k1, k2, k3⟩ := h v hv
  have hub := bit_lt hS hu.1
  have hvb := bit_lt hS hv
  refine ⟨?_, by rw [fr_lay hu.2]; exact g2, by rw [fr_lay hu.2]; exact g3⟩
  apply Nat.eq_of_testBit_eq
  intro j
  rw [c0_lay (by omega) k2 hvb, c0_lay (by omega) k3 (by rw [hT.1]; exact hvb), g1, hT.2.2.2 u (by omega)]
theorem mq_sub {b b' : Nat → Nat} {S p : Nat} (h : MKQ b b' S) (hs : ∀ i, p.testBit i = true → S.testBit i = true) : MKQ b b' p := fun u hu => h u (hs u hu)
theorem mq_clay {b b' : Nat → Nat} {S u m : Nat} (h : MKQ b b' S) (hu : S.testBit u = true) : clay b u S m = clay b' u S m := by
  have e : nd (b (4 + u)) (arn b u) = nd (b' (4 + u)) (arn b' u) := (h u hu).1
  unfold clay
  rw [e]
theorem gv_mq : ∀ f b b' part m, ST b b' → MKQ b b' part → b 0 ≤ 9 → part < 2 ^ b 0 → gv f b part m = gv f b' part m := by
  intro f
  induction f with
  | zero => intro b b' part m _ _ _ _; rfl
  | succ f ih =>
    intro b b' part m hT hC h9 hp
    have hp9 : part < 512 := Nat.lt_of_lt_of_le hp (Nat.pow_le_pow_right (by omega) h9)
    rw [gv_s, gv_s, hT.1]
    congr 1
    have key : ∀ n, n ≤ b 0 → scV (tog f) b part m n = scV (tog f) b' part m n := by
      intro n
      induction n with
      | zero => intro _; rfl
      | succ n ihn =>
        intro hn
        have hS : scS b part m n = scS b' part m n := by
          unfold scS
          by_cases hb : part.testBit n = true
          · rw [if_pos hb, if_pos hb]
            exact mq_clay hC hb
          · rw [if_neg hb, if_neg hb]
        rw [scV, scV, ihn (by omega), hS, hT.2.1]
        have k2 : ∀ c, scC (tog f) b part n (scS b' part m n) (scV (tog f) b' part m n) c = scC (tog f) b' part n (scS b' part m n) (scV (tog f) b' part m n) c := by
          intro c
          induction c with
          | zero => rfl
          | succ c ihc =>
            rw [scC, scC, ihc]
            by_cases hc : (scS b' part m n).testBit c = true
            · rw [if_pos hc, if_pos hc]
              congr 1
              have hvn : part.testBit n = true := scS_bit hc
              have hT2 := st_lay2 hT n c
              have hC2 := mq_lay (v := n) (c := c) hC hT h9 hp hvn
              have h92 : layO b n c 0 ≤ 9 := by rw [layO_n b n c (by omega)]; exact h9
              show tgA _ _ (pts (layO b n c) _ _) = tgA _ _ (pts (layO b' n c) _ _)
              rw [pts_congr (hT2.sg h92)]
              have hq : nd part (1 <<< n) < 2 ^ b 0 := nd_lt hp
              refine tgA_congr _ _ (fun p hpm => ?_)
              obtain ⟨q1, q2, q3⟩ := pts_mem (b := layO b n c) (nd_lt hp9) _ (nd_lt hp9) (fun _ h => h) p hpm
              exact ih _ _ p (c + 1) hT2 (mq_sub hC2 q1) h92 (by rw [layO_n b n c (by omega)]; exact lt_of_sub hq q1)
            · rw [if_neg hc, if_neg hc]
        exact k2 _
    exact key _ (Nat.le_refl _)
theorem G_mq {b b' : Nat → Nat} {S m : Nat} (hT : ST b b') (hC : MKQ b b' S) (h9 : b 0 ≤ 9) (hp : S < 2 ^ b 0) : G b S m = G b' S m := gv_mq 9 b b' S m hT hC h9 hp
/-- the ban that counts -/
def cnt (S m : Nat) : Nat := if pop S = 1 then 0 else m
theorem scV_cnt (t : (Nat → Nat) → Nat → Nat → G3) (b : Nat → Nat) (part m : Nat) : ∀ n, scV t b part (cnt part m) n = scV t b part m n := by
  intro n
  induction n with
  | zero => rfl
  | succ n ih =>
    have e : scS b part (cnt part m) n = scS b part m n := by
      unfold scS cnt
      split
      · by_cases h : pop part = 1
        · rw [if_pos h, clay_a (Or.inl rfl), clay_a (Or.inr h)]
        · rw [if_neg h]
      · rfl
    rw [scV, scV, ih, e]
theorem gv_cnt (f : Nat) (b : Nat → Nat) (part m : Nat) : gv f b part (cnt part m) = gv f b part m := by
  cases f with
  | zero => rfl
  | succ f => rw [gv_s, gv_s, scV_cnt]
theorem G_cnt (b : Nat → Nat) (part m : Nat) : G b part (cnt part m) = G b part m := gv_cnt 9 b part m
theorem cnt_le {S m n : Nat} (h : m ≤ n) : cnt S m ≤ n := by
  unfold cnt
  split <;> omega
/-! three numbers in one -/
def pq (i : G3) : Nat := (i.1 <<< 8 ||| i.2.1 <<< 4) ||| i.2.2
theorem or_shl2 {a x n : Nat} (h : a < 2 ^ n) : x <<< n ||| a = a + x * 2 ^ n := by
  rw [Nat.or_comm]
  exact or_shl h
theorem pq_n {i : G3} (h1 : i.2.1 < 16) (h2 : i.2.2 < 16) : pq i = i.1 * 256 + i.2.1 * 16 + i.2.2 := by
  unfold pq
  rw [or_shl2 (n := 8) (by rw [Nat.shiftLeft_eq]; omega), Nat.shiftLeft_eq]
  have e : i.2.1 * 2 ^ 4 + i.1 * 2 ^ 8 = (i.2.1 + i.1 * 16) <<< 4 := by rw [Nat.shiftLeft_eq]; omega
  rw [e, or_shl2 (n := 4) (by omega)]
  omega
theorem pq_v {i : G3} (h1 : i.2.1 < 16) (h2 : i.2.2 < 16) : pq i >>> 8 = i.1 := by
  rw [pq_n h1 h2, Nat.shiftRight_eq_div_pow]
  omega
theorem pq_l {i : G3} (h1 : i.2.1 < 16) (h2 : i.2.2 < 16) : (pq i >>> 4) &&& 15 = i.2.1 := by
  rw [pq_n h1 h2, Nat.shiftRight_eq_div_pow, show (15 : Nat) = 2 ^ 4 - 1 from rfl, Nat.and_two_pow_sub_one_eq_mod]
  omega
theorem pq_s {i : G3} (h1 : i.2.1 < 16) (h2 : i.2.2 < 16) : pq i &&& 15 = i.2.2 := by
  rw [pq_n h1 h2, show (15 : Nat) = 2 ^ 4 - 1 from rfl, Nat.and_two_pow_sub_one_eq_mod]
  omega
theorem pq_lt {i : G3} (h0 : i.1 < 32) (h1 : i.2.1 < 16) (h2 : i.2.2 < 16) : pq i < 2 ^ 13 := by
  rw [pq_n h1 h2]
  omega
/-! parts from what is left: within the rest as within the set -/
theorem bits_eq {a b : Nat} (h1 : ∀ i, a.testBit i = true → b.testBit i = true) (h2 : ∀ i, b.testBit i = true → a.testBit i = true) : a = b := by
  apply Nat.eq_of_testBit_eq
  intro i
  cases ha : a.testBit i with
  | true => rw [h1 i ha]
  | false =>
    cases hb : b.testBit i with
    | true => rw [h2 i hb] at ha; cases ha
    | false => rfl
theorem rch_rest {b : Nat → Nat} {set left v : Nat} (h : Rcl b set left) (h9 : b 0 ≤ 9) (hs : set < 2 ^ b 0) (hv : left.testBit v = true) : rch b v left = rch b v set := by
  have hs9 : set < 512 := Nat.lt_of_lt_of_le hs (Nat.pow_le_pow_right (by omega) h9)
  have hl9 : left < 512 := Nat.lt_of_le_of_lt (Nat.le_of_testBit fun i hi => h.1 i hi) hs9
  have hv9 : v < 9 := bit_lt (n := 9) hs9 (h.1 v hv)
  refine bits_eq (fun i hi => ?_) (fun i hi => ?_)
  · exact rch_min (rch_self b v set) (fun u w hu h1 h2 h3 => rch_closed hv9 hs9 hu h1 (h.1 w h2) h3) hi
  · exact rch_min (rch_self b v left) (fun u w hu h1 h2 h3 => rch_closed hv9 hl9 hu h1 (h.2 u w hu (rch_sub hv h1) h2 h3) h3) hi
