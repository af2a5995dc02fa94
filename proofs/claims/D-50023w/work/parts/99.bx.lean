/-! plain: values without a vertex -/
def xs (F : Nat → G3) : List Nat → Nat
  | [] => 0
  | p :: l => (F p).1 ^^^ xs F l
theorem tgA_xs (F : Nat → G3) : ∀ (l : List Nat) (a : G3), (tgA F a l).1 = a.1 ^^^ xs F l
  | [], a => by rw [xs, Nat.xor_zero]; rfl
  | p :: l, a => by
    show (tgA F (gadd a (F p)) l).1 = _
    rw [tgA_xs F l, xs]
    show (a.1 ^^^ (F p).1) ^^^ xs F l = _
    rw [Nat.xor_assoc]
theorem tgF_xs (F : Nat → G3) (l : List Nat) : (tgF F l).1 = xs F l := by
  unfold tgF
  rw [tgA_xs]
  exact Nat.zero_xor _
theorem xs_congr {F F' : Nat → G3} : ∀ (l : List Nat), (∀ p ∈ l, (F p).1 = (F' p).1) → xs F l = xs F' l
  | [], _ => rfl
  | p :: l, h => by
    rw [xs, xs, h p List.mem_cons_self, xs_congr l (fun q hq => h q (List.mem_cons_of_mem _ hq))]
theorem xlc (a b c : Nat) : a ^^^ (b ^^^ c) = b ^^^ (a ^^^ c) := by rw [← Nat.xor_assoc, Nat.xor_comm a b, Nat.xor_assoc]
theorem low_is {X x : Nat} (hX : X < 512) (h1 : X.testBit x = true) (h2 : ∀ j, j < x → X.testBit j = false) : low X = x := by
  have h0 : 0 < X := by
    rcases Nat.eq_zero_or_pos X with e | e
    · rw [e] at h1
      simp at h1
    · exact e
  obtain ⟨p1, p2, p3⟩ := low_bit X hX h0
  rcases Nat.lt_trichotomy (low X) x with q | q | q
  · rw [h2 _ q] at p1
    cases p1
  · exact q
  · rw [p3 _ q] at h1
    cases h1
theorem rcl_cmp {b : BT} {S R : Nat} (hY : SY b) (hS : S < 2 ^ b 0) (h : Rcl b S R) : Rcl b S (nd S R) := by
  refine ⟨fun i hi => ?_, fun u w hu h1 h2 h3 => ?_⟩
  · rw [nd_bit] at hi
    simp at hi
    exact hi.1
  · rw [nd_bit] at h1 ⊢
    simp at h1
    rw [h2]
    cases e : R.testBit w with
    | false => rfl
    | true =>
      have hw := bit_lt hS h2
      have h4 := h.2 w u hw e h1.1 (by rw [← hY u w hu hw]; exact h3)
      rw [h1.2] at h4
      cases h4
theorem xs_split {b : BT} {S R : Nat} (F : Nat → G3) (hY : SY b) (h9 : b 0 ≤ 9) (hS : S < 2 ^ b 0) (hR : Rcl b S R) : ∀ left, left < 512 → Rcl b S left → xs F (pts b S left) = xs F (pts b S (left &&& R)) ^^^ xs F (pts b S (nd left R)) := by
  have hS9 : S < 512 := Nat.lt_of_lt_of_le hS (Nat.pow_le_pow_right (by omega) h9)
  intro left
  induction left using Nat.strongRecOn with
  | ind left ih =>
    intro h hl
    by_cases h0 : left = 0
    · subst h0
      rw [Nat.zero_and, show nd 0 R = 0 by unfold nd; simp, pts_0]
      simp [xs]
    · obtain ⟨l1, l2, l3⟩ := low_bit left h (by omega)
      have hsub : ∀ i, (rch b (low left) S).testBit i = true → left.testBit i = true := fun i hi => rcl_rch hl l1 hi
      have hlt := nd_lt_of l1 (rch_self b (low left) S)
      have hself := rch_self b (low left) S
      have hcl := rcl_nd hl hY hS h9 l1
      have hmin := fun (i : Nat) (Y : Nat) (hv : Y.testBit (low left) = true) (hc : Rcl b S Y) (hi : (rch b (low left) S).testBit i = true) => rcl_rch hc hv hi
      rw [pts_s b S (by omega) h, xs]
      have hI := ih _ hlt (nd_lt h) hcl
      rw [hI]
      cases hx : R.testBit (low left) with
      | true =>
        have hp : ∀ i, (rch b (low left) S).testBit i = true → R.testBit i = true := fun i hi => hmin i R hx hR hi
        have e1 : low (left &&& R) = low left := low_is (Nat.lt_of_le_of_lt Nat.and_le_left h) (by rw [Nat.testBit_and, l1, hx]; rfl) (fun j hj => by rw [Nat.testBit_and, l3 j hj]; rfl)
        have e2 : 0 < left &&& R := by
          rcases Nat.eq_zero_or_pos (left &&& R) with e | e
          · have : (left &&& R).testBit (low left) = true := by rw [Nat.testBit_and, l1, hx]; rfl
            rw [e] at this
            simp at this
          · exact e
        rw [pts_s b S e2 (Nat.lt_of_le_of_lt Nat.and_le_left h), e1, xs, Nat.xor_assoc]
        have e3 : nd (left &&& R) (rch b (low left) S) = nd left (rch b (low left) S) &&& R := by
          apply Nat.eq_of_testBit_eq
          intro i
          rw [nd_bit, Nat.testBit_and, Nat.testBit_and, nd_bit]
          cases left.testBit i <;> cases R.testBit i <;> cases (rch b (low left) S).testBit i <;> rfl
        have e4 : nd left R = nd (nd left (rch b (low left) S)) R := by
          apply Nat.eq_of_testBit_eq
          intro i
          rw [nd_bit, nd_bit, nd_bit]
          have := hp i
          cases q : (rch b (low left) S).testBit i with
          | false => cases left.testBit i <;> cases R.testBit i <;> rfl
          | true => rw [this q]; cases left.testBit i <;> rfl
        rw [e3, e4]
      | false =>
        have hp : ∀ i, (rch b (low left) S).testBit i = true → R.testBit i = false := fun i hi => by
          have := hmin i (nd S R) (by rw [nd_bit, hl.1 _ l1, hx]; rfl) (rcl_cmp hY hS hR) hi
          rw [nd_bit] at this
          simp at this
          exact this.2
        have e1 : low (nd left R) = low left := low_is (nd_lt h) (by rw [nd_bit, l1, hx]; rfl) (fun j hj => by rw [nd_bit, l3 j hj]; rfl)
        have e2 : 0 < nd left R := by
          rcases Nat.eq_zero_or_pos (nd left R) with e | e
          · have : (nd left R).testBit (low left) = true := by rw [nd_bit, l1, hx]; rfl
            rw [e] at this
            simp at this
          · exact e
        rw [pts_s b S e2 (nd_lt h), e1, xs, xlc]
        have e3 : nd (nd left R) (rch b (low left) S) = nd (nd left (rch b (low left) S)) R := by
          apply Nat.eq_of_testBit_eq
          intro i
          rw [nd_bit, nd_bit, nd_bit, nd_bit]
          cases left.testBit i <;> cases R.testBit i <;> cases (rch b (low left) S).testBit i <;> rfl
        have e4 : left &&& R = nd left (rch b (low left) S) &&& R := by
          apply Nat.eq_of_testBit_eq
          intro i
          rw [Nat.testBit_and, Nat.testBit_and, nd_bit]
          have := hp i
          cases q : (rch b (low left) S).testBit i with
          | false => cases left.testBit i <;> cases R.testBit i <;> rfl
          | true => rw [this q]; cases left.testBit i <;> rfl
        rw [e3, ← e4]
theorem pts_in {b : BT} {S Q : Nat} (hY : SY b) (h9 : b 0 ≤ 9) (hS : S < 2 ^ b 0) (hQ : Rcl b S Q) : ∀ left, left < 512 → Rcl b S left → (∀ i, left.testBit i = true → Q.testBit i = true) → pts b S left = pts b Q left := by
  intro left
  induction left using Nat.strongRecOn with
  | ind left ih =>
    intro h hl hs
    by_cases h0 : left = 0
    · subst h0
      rw [pts_0, pts_0]
    · obtain ⟨l1, l2, l3⟩ := low_bit left h (by omega)
      have e := rch_rest hQ h9 hS (hs _ l1)
      rw [pts_s b S (by omega) h, pts_s b Q (by omega) h, e]
      rw [ih _ (nd_lt_of l1 (rch_self b (low left) S)) (nd_lt h) (rcl_nd hl hY hS h9 l1) (fun i hi => by
        rw [nd_bit] at hi
        simp at hi
        exact hs i hi.1)]
/-- within a set the neighbours are the same -/
def AJ (b b' : BT) (S : Nat) : Prop := b' 0 = b 0 ∧ b' 1 = b 1 ∧ ∀ u w, S.testBit u = true → S.testBit w = true → (b' (13 + u)).testBit w = (b (13 + u)).testBit w
theorem AJ.sub {b b' : BT} {S p : Nat} (h : AJ b b' S) (hs : ∀ i, p.testBit i = true → S.testBit i = true) : AJ b b' p := ⟨h.1, h.2.1, fun u w hu hw => h.2.2 u w (hs u hu) (hs w hw)⟩
theorem aj_lay {b b' : BT} {S : Nat} (h : AJ b b' S) (h9 : b 0 ≤ 9) (hS : S < 2 ^ b 0) (v c : Nat) : AJ (layO b v c) (layO b' v c) S := by
  refine ⟨by rw [layO_n _ _ _ (by omega), layO_n _ _ _ (by omega)]; exact h.1, by rw [layO_n _ _ _ (by omega), layO_n _ _ _ (by omega)]; exact h.2.1, fun u w hu hw => ?_⟩
  have := bit_lt hS hu
  rw [layO_n _ _ _ (by omega), layO_n _ _ _ (by omega)]
  exact h.2.2 u w hu hw
theorem rch_aj {b b' : BT} {S x : Nat} (h : AJ b b' S) (hS : S < 512) (hx : S.testBit x = true) : rch b' x S = rch b x S := by
  have hx9 : x < 9 := bit_lt (n := 9) hS hx
  refine bits_eq (fun i hi => ?_) (fun i hi => ?_)
  · exact rch_min (rch_self b x S) (fun u w hu h1 h2 h3 => rch_closed hx9 hS (by rw [← h.1]; exact hu) h1 h2 (by rw [← h.2.2 u w (rch_sub hx h1) h2]; exact h3)) hi
  · exact rch_min (rch_self b' x S) (fun u w hu h1 h2 h3 => rch_closed hx9 hS (by rw [h.1]; exact hu) h1 h2 (by rw [h.2.2 u w (rch_sub hx h1) h2]; exact h3)) hi
theorem pts_aj {b b' : BT} {S : Nat} (h : AJ b b' S) (hS : S < 512) : ∀ left, left < 512 → (∀ i, left.testBit i = true → S.testBit i = true) → pts b' S left = pts b S left := by
  intro left
  induction left using Nat.strongRecOn with
  | ind left ih =>
    intro hl hs
    by_cases h0 : left = 0
    · subst h0
      rw [pts_0, pts_0]
    · obtain ⟨l1, l2, l3⟩ := low_bit left hl (by omega)
      rw [pts_s b S (by omega) hl, pts_s b' S (by omega) hl, rch_aj h hS (hs _ l1)]
      rw [ih _ (nd_lt_of l1 (rch_self b (low left) S)) (nd_lt hl) (fun i hi => by
        rw [nd_bit] at hi
        simp at hi
        exact hs i hi.1)]
theorem mq_lay2 {b b' : BT} {S v c : Nat} (h : MKQ b b' S) (hT : AJ b b' S) (h9 : b 0 ≤ 9) (hS : S < 2 ^ b 0) (hv : S.testBit v = true) : MKQ (layO b v c) (layO b' v c) (nd S (1 <<< v)) := by
  intro u hu
  rw [nd_bit, sh1_bit] at hu
  simp only [Bool.and_eq_true, Bool.not_eq_true', decide_eq_false_iff_not] at hu
  obtain ⟨g1, g2, g3⟩ := h u hu.1
  obtain ⟨k1, k2, k3⟩ := h v hv
  have hub := bit_lt hS hu.1
  have hvb := bit_lt hS hv
  refine ⟨?_, by rw [fr_lay hu.2]; exact g2, by rw [fr_lay hu.2]; exact g3⟩
  apply Nat.eq_of_testBit_eq
  intro j
  rw [c0_lay (by omega) k2 hvb, c0_lay (by omega) k3 (by rw [hT.1]; exact hvb), g1, hT.2.2 u v hu.1 hv]
theorem gv_aj : ∀ f b b' part m, AJ b b' part → MKQ b b' part → b 0 ≤ 9 → part < 2 ^ b 0 → gv f b part m = gv f b' part m := by
  intro f
  induction f with
  | zero => intro b b' part m _ _ _ _; rfl
  | succ f ih =>
    intro b b' part m hT hC h9 hp
    have hp9 : part < 512 := Nat.lt_of_lt_of_le hp (Nat.pow_le_pow_right (by omega) h9)
    rw [gv_s, gv_s, hT.1]
    congr 1
    have key : ∀ n, n ≤ b 0 → scV (tog f) b part m n = scV (tog f) b' part m n := by
      intro n
      induction n with
      | zero => intro _; rfl
      | succ n ihn =>
        intro hn
        have hS : scS b part m n = scS b' part m n := by
          unfold scS
          by_cases hb : part.testBit n = true
          · rw [if_pos hb, if_pos hb]
            exact mq_clay hC hb
          · rw [if_neg hb, if_neg hb]
        rw [scV, scV, ihn (by omega), hS, hT.2.1]
        have k2 : ∀ c, scC (tog f) b part n (scS b' part m n) (scV (tog f) b' part m n) c = scC (tog f) b' part n (scS b' part m n) (scV (tog f) b' part m n) c := by
          intro c
          induction c with
          | zero => rfl
          | succ c ihc =>
            rw [scC, scC, ihc]
            by_cases hc : (scS b' part m n).testBit c = true
            · rw [if_pos hc, if_pos hc]
              congr 1
              have hvn : part.testBit n = true := scS_bit hc
              have hq : nd part (1 <<< n) < 2 ^ b 0 := nd_lt hp
              have hT2 : AJ (layO b n c) (layO b' n c) (nd part (1 <<< n)) := aj_lay (hT.sub (fun i hi => by
                rw [nd_bit] at hi
                simp at hi
                exact hi.1)) h9 hq n c
              have hC2 := mq_lay2 (v := n) (c := c) hC hT h9 hp hvn
              have h92 : layO b n c 0 ≤ 9 := by rw [layO_n b n c (by omega)]; exact h9
              show tgA _ _ (pts (layO b n c) _ _) = tgA _ _ (pts (layO b' n c) _ _)
              rw [pts_aj hT2 (nd_lt hp9) _ (nd_lt hp9) (fun _ h => h)]
              refine tgA_congr _ _ (fun p hpm => ?_)
              obtain ⟨q1, q2, q3⟩ := pts_mem (b := layO b n c) (nd_lt hp9) _ (nd_lt hp9) (fun _ h => h) p hpm
              exact ih _ _ p (c + 1) (hT2.sub q1) (mq_sub hC2 q1) h92 (by rw [layO_n b n c (by omega)]; exact lt_of_sub hq q1)
            · rw [if_neg hc, if_neg hc]
        exact k2 _
    exact key _ (Nat.le_refl _)
/-- the bans of neighbours are the same -/
def BI (b : BT) : Prop := ∀ x y, x < b 0 → y < b 0 → fr b x = true → fr b y = true → (b (13 + x)).testBit y = true → b (31 + x) = b (31 + y)
theorem bi_rch {b : BT} (h : BI b) {v : Nat} (hv : v < b 0) (hf : fr b v = true) {i : Nat} (hi : (rch b v (freeS b)).testBit i = true) : b (31 + i) = b (31 + v) := by
  have hY : ∀ j, (bset (fun j => fr b j && decide (b (31 + j) = b (31 + v))) (b 0)).testBit j = (decide (j < b 0) && (fr b j && decide (b (31 + j) = b (31 + v)))) := fun j => bset_bit _ _ _
  have := rch_min (Y := bset (fun j => fr b j && decide (b (31 + j) = b (31 + v))) (b 0)) (by rw [hY, hf]; simp [hv]) (fun u w hu h1 h2 h3 => by
    rw [hY] at h1 ⊢
    rw [freeS_bit] at h2
    simp at h1 h2 ⊢
    refine ⟨h2.1, h2.2, ?_⟩
    rw [← h1.2.2]
    exact (h u w hu h2.1 h1.2.1 h2.2 h3).symm) hi
  rw [hY] at this
  simp at this
  exact this.2.2
theorem rcl_of {b : BT} {S v : Nat} (h9 : b 0 ≤ 9) (hS : S < 2 ^ b 0) (hv : S.testBit v = true) : Rcl b S (rch b v S) :=
  ⟨fun _ hi => rch_sub hv hi, fun _ _ hu h1 h2 h3 => rch_closed (Nat.lt_of_lt_of_le (bit_lt hS hv) h9) (Nat.lt_of_lt_of_le hS (Nat.pow_le_pow_right (by omega) h9)) hu h1 h2 h3⟩
theorem rch_low {b : BT} {S v : Nat} (hY : SY b) (h9 : b 0 ≤ 9) (hS : S < 2 ^ b 0) (hv : S.testBit v = true) : rch b (low (rch b v S)) S = rch b v S := by
  have hS9 : S < 512 := Nat.lt_of_lt_of_le hS (Nat.pow_le_pow_right (by omega) h9)
  have hR : rch b v S < 512 := Nat.lt_of_le_of_lt (Nat.le_of_testBit fun i hi => rch_sub hv hi) hS9
  have h0 : 0 < rch b v S := rch_pos
  obtain ⟨l1, l2, l3⟩ := low_bit _ hR h0
  have c1 := rcl_of h9 hS hv
  have hlS := rch_sub hv l1
  have c2 := rcl_of h9 hS hlS
  refine bits_eq (fun i hi => rcl_rch c1 l1 hi) (fun i hi => ?_)
  have hvT : (rch b (low (rch b v S)) S).testBit v = true := by
    cases e : (rch b (low (rch b v S)) S).testBit v with
    | true => rfl
    | false =>
      have c3 := rcl_nd c1 hY hS h9 l1
      have := rcl_rch c3 (v := v) (by rw [nd_bit, rch_self, e]; rfl) l1
      rw [nd_bit, rch_self] at this
      simp at this
  exact rcl_rch c2 hvT hi
theorem arnF_rem {b : BT} (h9 : b 0 ≤ 9) {v u : Nat} (hv : v < b 0) (hf : fr b v = true) (hu : u < b 0) (hne : u ≠ v) : ∀ n, arnF (remW b v) u n = arnF b u n := by
  intro n
  induction n with
  | zero => rfl
  | succ n ih =>
    rw [arnF, arnF, ih]
    have e1 : fr (remW b v) n = fr b n := by unfold fr; rw [remW_n b h9 hv (by omega)]
    have e2 : remW b v (22 + n) = b (22 + n) := remW_n b h9 hv (by omega)
    rw [e1, e2, remW_bit b hu]
    by_cases e : n = v
    · rw [e, hf]
      simp
    · simp [hne, e]
theorem rem_aj {b : BT} (h9 : b 0 ≤ 9) {v S : Nat} (hv : v < b 0) (hS : S < 2 ^ b 0) (hn : S.testBit v = false) : AJ b (remW b v) S := by
  refine ⟨remW_n b h9 hv (by omega), remW_n b h9 hv (by omega), fun u w hu hw => ?_⟩
  have h1 : u ≠ v := fun e => by rw [e, hn] at hu; cases hu
  have h2 : w ≠ v := fun e => by rw [e, hn] at hw; cases hw
  rw [remW_bit b (bit_lt hS hu)]
  simp [h1, h2]
theorem rem_mq {b : BT} (h9 : b 0 ≤ 9) {v S : Nat} (hv : v < b 0) (hf : fr b v = true) (hS : S < 2 ^ b 0) (hn : S.testBit v = false) (hfr : ∀ u, S.testBit u = true → fr b u = true) : MKQ b (remW b v) S := by
  intro u hu
  have h1 : u ≠ v := fun e => by rw [e, hn] at hu; cases hu
  have hub := bit_lt hS hu
  refine ⟨?_, hfr u hu, by unfold fr; rw [remW_n b h9 hv (by omega)]; exact hfr u hu⟩
  unfold c0 arn
  rw [remW_n b h9 hv (k := 0) (by omega), remW_n b h9 hv (k := 4 + u) (by omega), arnF_rem h9 hv hf hub h1]
theorem xor_vw (c d x g : Nat) : (d ^^^ x) ^^^ c = (((g ^^^ x) ^^^ c) ^^^ g) ^^^ d := by
  apply Nat.eq_of_testBit_eq
  intro i
  simp only [Nat.testBit_xor]
  cases c.testBit i <;> cases d.testBit i <;> cases x.testBit i <;> cases g.testBit i <;> rfl
/-- the value without a vertex, the two ways -/
theorem vw_law {b : BT} (hA : WA b) (hB : BI b) {v : Nat} (hv : v < b 0) (hf : fr b v = true) : (tgF (fun p => G b p (b (31 + low p))) (pts b (nd (freeS b) (1 <<< v)) (nd (freeS b) (1 <<< v)))).1 ^^^ b 2 % 2 = valW b v := by
  have h9 := hA.1.2.1
  have hY := hA.2.2.1
  have hS := freeS_lt2 b
  have hS9 : freeS b < 512 := freeS_lt h9
  have hvS : (freeS b).testBit v = true := by rw [freeS_bit, hf]; simp [hv]
  obtain ⟨F, hF⟩ : ∃ F, F = fun p => G b p (b (31 + low p)) := ⟨_, rfl⟩
  obtain ⟨R, hR⟩ : ∃ R, R = rch b v (freeS b) := ⟨_, rfl⟩
  have hRS : Rcl b (freeS b) R := by rw [hR]; exact rcl_of h9 hS hvS
  have hR9 : R < 512 := Nat.lt_of_le_of_lt (Nat.le_of_testBit fun i hi => hRS.1 i hi) hS9
  have hR2 : R < 2 ^ b 0 := lt_of_sub hS hRS.1
  have hvR : R.testBit v = true := by rw [hR]; exact rch_self b v _
  have hR0 : 0 < R := by rw [hR]; exact rch_pos
  obtain ⟨l1, l2, l3⟩ := low_bit R hR9 hR0
  have hbi : ∀ i, R.testBit i = true → b (31 + i) = b (31 + v) := fun i hi => bi_rch hB hv hf (by rw [← hR]; exact hi)
  -- all together
  have t1 : (BB b).1 = (G b R (b (31 + v))).1 ^^^ xs F (pts b (freeS b) (nd (freeS b) R)) := by
    unfold BB
    rw [← hF, tgF_xs, xs_split F hY h9 hS hRS _ hS9 (rcl_self b _)]
    have e1 : freeS b &&& R = R := bits_eq (fun i hi => by rw [Nat.testBit_and] at hi; simp at hi; exact hi.2) (fun i hi => by rw [Nat.testBit_and, hRS.1 i hi, hi]; rfl)
    have e2 : rch b (low R) (freeS b) = R := by rw [hR]; exact rch_low hY h9 hS hvS
    have e3 : nd R R = 0 := by unfold nd; rw [Nat.and_self, Nat.xor_self]
    rw [e1, pts_s b _ hR0 hR9, e2, e3, pts_0, xs, xs, Nat.xor_zero, hF]
    show (G b R (b (31 + low R))).1 ^^^ _ = _
    rw [hbi _ l1]
  -- without v
  obtain ⟨S', hS'⟩ : ∃ S', S' = nd (freeS b) (1 <<< v) := ⟨_, rfl⟩
  obtain ⟨R', hR'⟩ : ∃ R', R' = nd R (1 <<< v) := ⟨_, rfl⟩
  have bS' : ∀ i, S'.testBit i = ((freeS b).testBit i && !decide (i = v)) := fun i => by rw [hS', nd_bit, sh1_bit]
  have bR' : ∀ i, R'.testBit i = (R.testBit i && !decide (i = v)) := fun i => by rw [hR', nd_bit, sh1_bit]
  have hS'2 : S' < 2 ^ b 0 := by rw [hS']; exact nd_lt hS
  have hS'9 : S' < 512 := by rw [hS']; exact nd_lt hS9
  have hR'2 : R' < 2 ^ b 0 := by rw [hR']; exact nd_lt hR2
  have hR'9 : R' < 512 := by rw [hR']; exact nd_lt hR9
  have hRS' : Rcl b S' R' := by
    refine ⟨fun i hi => ?_, fun u w hu h1 h2 h3 => ?_⟩
    · rw [bR'] at hi
      rw [bS']
      simp at hi ⊢
      exact ⟨hRS.1 i hi.1, hi.2⟩
    · rw [bR'] at h1 ⊢
      rw [bS'] at h2
      simp at h1 h2 ⊢
      exact ⟨hRS.2 u w hu h1.1 h2.1 h3, h2.2⟩
  obtain ⟨Q, hQ⟩ : ∃ Q, Q = nd (freeS b) R := ⟨_, rfl⟩
  have hQ9 : Q < 512 := by rw [hQ]; exact nd_lt hS9
  have hQS : Rcl b (freeS b) Q := by rw [hQ]; exact rcl_cmp hY hS hRS
  have eQ : nd S' R' = Q := by
    rw [hQ]
    apply Nat.eq_of_testBit_eq
    intro i
    rw [nd_bit, nd_bit, bS', bR']
    by_cases e : i = v
    · rw [e, hvR]
      simp
    · simp [e]
  have hQS' : Rcl b S' Q := by rw [← eQ]; exact rcl_cmp hY hS'2 hRS'
  have t2 : (tgF F (pts b S' S')).1 = xs F (pts b R' R') ^^^ xs F (pts b (freeS b) Q) := by
    rw [tgF_xs, xs_split F hY h9 hS'2 hRS' _ hS'9 (rcl_self b _), eQ]
    have e1 : S' &&& R' = R' := bits_eq (fun i hi => by rw [Nat.testBit_and] at hi; simp at hi; exact hi.2) (fun i hi => by rw [Nat.testBit_and, hRS'.1 i hi, hi]; rfl)
    rw [e1, pts_in hY h9 hS'2 hRS' R' hR'9 hRS' (fun _ h => h), pts_in hY h9 hS'2 hQS' Q hQ9 hQS' (fun _ h => h), pts_in hY h9 hS hQS Q hQ9 hQS (fun _ h => h)]
  -- the part's rest in the graph without v
  have hnv : R'.testBit v = false := by rw [bR']; simp
  have hfrR : ∀ u, R'.testBit u = true → fr b u = true := fun u hu => by
    rw [bR'] at hu
    simp at hu
    have := hRS.1 u hu.1
    rw [freeS_bit] at this
    simp at this
    exact this.2
  have t3 : (tog 9 (remW b v) R' (b (31 + v))).1 = xs F (pts b R' R') := by
    have haj := rem_aj h9 hv hR'2 hnv
    unfold tog
    rw [tgF_xs, pts_aj haj hR'9 R' hR'9 (fun _ h => h)]
    refine xs_congr _ (fun p hp => ?_)
    obtain ⟨q1, q2, q3⟩ := pts_mem hR'9 _ hR'9 (fun _ h => h) p hp
    rw [hF]
    show _ = (gv 9 b p (b (31 + low p))).1
    have hl := (low_bit p q2 q3).1
    have hlR := q1 _ hl
    rw [bR'] at hlR
    simp at hlR
    rw [hbi _ hlR.1, gv_aj 9 b (remW b v) p _ (haj.sub q1) (mq_sub (rem_mq h9 hv hf hR'2 hnv hfrR) q1) h9 (lt_of_sub hR'2 q1)]
  unfold valW
  rw [← hF, ← hS', ← hR, ← hR', t1, t2, t3, hQ]
  exact xor_vw _ _ _ _
