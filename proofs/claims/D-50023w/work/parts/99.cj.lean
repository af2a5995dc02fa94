/-! the reader against the twin's steps: plain laws -/
theorem kd_0 {bf : List Nat} {n a : Nat} : kd bf n a = 0 ↔ isLt bf n a = true := by
  unfold kd
  constructor
  · intro h
    split at h
    · cases h
    · split at h
      · assumption
      · split at h <;> cases h
  · intro h
    have := isLt_lt h
    rw [if_neg (by omega), if_pos h]
theorem dg_lt {bf : List Nat} {n a : Nat} (h : isDg bf n a = true) : isLt bf n a = false := by
  obtain ⟨h1, h2, h3⟩ := of_decide_eq_true h
  exact decide_eq_false (fun z => by omega)
theorem kd_1 {bf : List Nat} {n a : Nat} : kd bf n a = 1 ↔ isDg bf n a = true := by
  unfold kd
  constructor
  · intro h
    split at h
    · cases h
    · split at h
      · cases h
      · split at h
        · assumption
        · cases h
  · intro h
    have := isDg_lt h
    rw [if_neg (by omega), if_neg (by rw [dg_lt h]; decide), if_pos h]
theorem en_lt {bf : List Nat} {n a : Nat} (h : isLt bf n a = true) : en bf n a = rn (isLt bf n) n a := by
  have := isLt_lt h
  unfold en
  rw [if_neg (by omega), if_pos h]
theorem en_dg {bf : List Nat} {n a : Nat} (h : isDg bf n a = true) : en bf n a = rn (isDg bf n) n a := by
  have := isDg_lt h
  unfold en
  rw [if_neg (by omega), if_neg (by rw [dg_lt h]; decide), if_pos h]
theorem semi_i {bf : List Nat} {n a : Nat} : semi bf n a = true ↔ a < n ∧ bf.getD a 0 = 59 := by
  unfold semi
  rw [decide_eq_true_eq]
  unfold kd
  constructor
  · intro h
    refine ⟨Nat.not_le.mp (fun z => ?_), h.2⟩
    rw [if_pos z] at h
    exact absurd h.1 (by decide)
  · intro h
    rw [if_neg (by omega), if_neg (by unfold isLt; rw [decide_eq_true_eq]; omega), if_neg (by unfold isDg; rw [decide_eq_true_eq]; omega)]
    exact ⟨rfl, h.2⟩
theorem en_semi {bf : List Nat} {n a : Nat} (h : semi bf n a = true) : en bf n a = a + 1 := by
  obtain ⟨h1, h2⟩ := semi_i.mp h
  unfold en
  rw [if_neg (by omega), if_neg (by unfold isLt; rw [decide_eq_true_eq]; omega), if_neg (by unfold isDg; rw [decide_eq_true_eq]; omega)]
theorem see_59 {bf : List Nat} {n k : Nat} (hb : ∀ i, i < n → bf.getD i 0 < 256) : seeV bf n k = nI 59 ↔ semi bf n k = true := by
  rw [semi_i]
  unfold seeV
  by_cases h : k < n
  · rw [if_pos h, (see_c _ (hb k h)).2.2.2]
    exact ⟨fun z => ⟨h, z⟩, fun z => z.2⟩
  · rw [if_neg h]
    exact ⟨fun z => absurd z (by decide), fun z => absurd z.1 h⟩
/-- a word -/
theorem isW_ac {bf : List Nat} {n : Nat} {w : List Nat} {s : RS} (hs : s.2.2.1 = 0) (hw : 0 < w.length) : isW bf n w s = decide (wL bf n s.1 = w) := by
  by_cases h : isLt bf n s.1 = true
  · unfold isW
    rw [en_lt h]
    refine decide_eq_decide.mpr ⟨fun z => ?_, fun z => ?_⟩
    · obtain ⟨-, -, z3, z4⟩ := z
      refine txt_eq (by rw [wL_len]; exact z3) (fun i hi => ?_)
      rw [wL_len] at hi
      rw [wL_at hi]
      exact z4 i (by omega)
    · refine ⟨hs, kd_0.mpr h, by rw [← z, wL_len], fun k hk => ?_⟩
      rw [← z] at hk ⊢
      rw [wL_len] at hk
      rw [wL_at hk]
  · have h2 : isLt bf n s.1 = false := by cases e : isLt bf n s.1 <;> simp_all
    unfold isW
    refine decide_eq_decide.mpr ⟨fun z => absurd (kd_0.mp z.2.1) h, fun z => ?_⟩
    exfalso
    have : (wL bf n s.1).length = 0 := by rw [wL_len, rn_f h2]; omega
    rw [z] at this
    omega
theorem isW_en {bf : List Nat} {n : Nat} {w : List Nat} {s : RS} (h : isW bf n w s = true) : en bf n s.1 = s.1 + w.length ∧ nx bf n s.1 = rn (isSp bf n) n (s.1 + w.length) := by
  have h3 := (of_decide_eq_true h).2.2.1
  have h1 := isW_k h
  have h2 := en_le (bf := bf) (Nat.le_of_lt h1.2.2)
  have e : en bf n s.1 = s.1 + w.length := by omega
  exact ⟨e, by unfold nx; rw [e]⟩
/-- a step that goes on, and one that stops -/
theorem nS_0 {bf : List Nat} {n : Nat} {s : RS} (hs : s.2.2.1 = 0) : nS bf n s = (nx bf n s.1, s.2) := by
  unfold nS
  rw [if_pos hs]
theorem nS_x {bf : List Nat} {n : Nat} {s : RS} (hs : ¬ s.2.2.1 = 0) : nS bf n s = s := by
  unfold nS
  rw [if_neg hs]
theorem fS_0 {code : Int32} {s : RS} (hs : s.2.2.1 = 0) : fS code s = (s.1, s.2.1, code, s.1) := by
  unfold fS
  rw [if_pos hs]
theorem fS_x {code : Int32} {s : RS} (hs : ¬ s.2.2.1 = 0) : fS code s = s := by
  unfold fS
  rw [if_neg hs]
theorem m2 : ¬ (-2 : Int32) = 0 := by decide
theorem m3 : ¬ (-3 : Int32) = 0 := by decide
theorem tk_a {bf : List Nat} {n : Nat} {lo hi : Int32} {s : RS} (hs : s.2.2.1 = 0) (hd : isDg bf n s.1 = false) : (tkS bf n lo hi s).2.2 = ((-2 : Int32), s.1) := by
  have hk : ¬ kd bf n s.1 = 1 := fun z => by rw [kd_1.mp z] at hd; cases hd
  unfold tkS tk1
  rw [if_pos ⟨hs, hk⟩, fS_0 hs, nS_x (by first | exact m2 | exact m3)]
theorem tk_b {bf : List Nat} {n : Nat} {lo hi : Int32} {s : RS} (hs : s.2.2.1 = 0) (hd : isDg bf n s.1 = true) (hI : isI (nI (nm bf n s.1 0)) lo hi = false) : (tkS bf n lo hi s).2.2 = ((-3 : Int32), s.1) := by
  unfold tkS tk1
  rw [if_neg (fun z => z.2 (kd_1.mpr hd)), if_pos ⟨hs, hI⟩, fS_0 hs, nS_x (by first | exact m2 | exact m3)]
theorem tk_c {bf : List Nat} {n : Nat} {lo hi : Int32} {s : RS} (hs : s.2.2.1 = 0) (hd : isDg bf n s.1 = true) (hI : isI (nI (nm bf n s.1 0)) lo hi = true) : tkV bf n lo hi s = nm bf n s.1 0 ∧ tkS bf n lo hi s = (rn (isSp bf n) n (rn (isDg bf n) n s.1), s.2) := by
  have e : tk1 bf n lo hi s = s := by
    unfold tk1
    rw [if_neg (fun z => z.2 (kd_1.mpr hd)), if_neg (fun z => by rw [hI] at z; cases z.2)]
  unfold tkV tkS
  rw [e, if_pos hs, nS_0 hs]
  exact ⟨rfl, by unfold nx; rw [en_dg hd]⟩
theorem me_0 {bf : List Nat} {n : Nat} {s : RS} (hs : s.2.2.1 = 0) (h : semi bf n s.1 = false) : (meS bf n s).2.2 = ((-2 : Int32), s.1) := by
  unfold meS muS
  rw [h, if_neg (by decide), fS_0 hs, nS_x (by first | exact m2 | exact m3)]
theorem me_1 {bf : List Nat} {n : Nat} {s : RS} (hs : s.2.2.1 = 0) (h : semi bf n s.1 = true) : meS bf n s = (rn (isSp bf n) n (s.1 + 1), s.2) := by
  unfold meS muS
  rw [h, if_pos rfl, nS_0 hs]
  unfold nx
  rw [en_semi h]
/-- a fault stays -/
theorem st_fS {code : Int32} {s : RS} (h : ¬ s.2.2.1 = 0) : (fS code s).2.2 = s.2.2 := by rw [fS_x h]
theorem st_nS {bf : List Nat} {n : Nat} {s : RS} (h : ¬ s.2.2.1 = 0) : (nS bf n s).2.2 = s.2.2 := by rw [nS_x h]
theorem st_mu {bf : List Nat} {n : Nat} {t : Bool} {s : RS} (h : ¬ s.2.2.1 = 0) : (muS bf n t s).2.2 = s.2.2 := by
  unfold muS
  split
  · exact st_nS h
  · rw [fS_x h, nS_x h]
theorem st_me {bf : List Nat} {n : Nat} {s : RS} (h : ¬ s.2.2.1 = 0) : (meS bf n s).2.2 = s.2.2 := st_mu h
theorem st_tk {bf : List Nat} {n : Nat} {lo hi : Int32} {s : RS} (h : ¬ s.2.2.1 = 0) : (tkS bf n lo hi s).2.2 = s.2.2 := by
  unfold tkS tk1
  rw [if_neg (fun z => h z.1), if_neg (fun z => h z.1), nS_x h]
/-- the number that is read; the two counters -/
def nmR (vt vc : Nat) : Prop := vc ≤ 100000 ∧ vt < 100000 ∧ (vc = vt ∨ 10000 ≤ vt ∧ 10000 ≤ vc)
theorem nm_s {vt vc d : Nat} (h : nmR vt vc) (hd : d < 10) : nmR (if vt < 10000 then 10 * vt + d else vt) (if 10 * vc + d < 100000 then 10 * vc + d else 100000) := by
  unfold nmR at h ⊢
  split <;> split <;> omega
theorem nmR_i {vt vc ll hh : Nat} (h : nmR vt vc) (hl : hh ≤ 9) : isI (nI vc) (nI ll) (nI hh) = isI (nI vt) (nI ll) (nI hh) := by
  obtain ⟨h1, h2, rfl | ⟨h3, h4⟩⟩ := h
  · rfl
  · have e : ∀ v, 10000 ≤ v → v ≤ 100000 → isI (nI v) (nI ll) (nI hh) = false := fun v a b => by
      unfold isI
      refine decide_eq_false (fun z => ?_)
      have := (nI_leI (a := v) (b := hh) (by omega) (by omega)).mp z.2
      omega
    rw [e _ h4 h1, e _ h3 (by omega)]
theorem nmR_v {vt vc ll hh : Nat} (h : nmR vt vc) (hl : hh ≤ 9) (hi : isI (nI vc) (nI ll) (nI hh) = true) : vc = vt := by
  obtain ⟨h1, h2, h3 | ⟨h3, h4⟩⟩ := h
  · exact h3
  · have := (nI_leI (a := vc) (b := hh) (by omega) (by omega)).mp (of_decide_eq_true hi).2
    omega
theorem see_dgI {bf : List Nat} {n k : Nat} (hb : ∀ i, i < n → bf.getD i 0 < 256) : isI (seeV bf n k) (nI 48) (nI 57) = isDg bf n k := see_dg hb
/-- a set of letters -/
theorem pop_add : ∀ S, S < 8 → ∀ c, c < 3 → S.testBit c = false → pop (S ||| 1 <<< c) = pop S + 1 ∧ S ||| 1 <<< c < 8 := by decide +kernel
theorem lt_pop {bf : List Nat} {b1 e : Nat} (hb : b1 ≤ 3) : ∀ f k set, set < 8 → k ≤ e → e < k + f → ¬ ltF bf b1 e f k set = 0 → pop (ltF bf b1 e f k set) = pop set + (e - k) ∧ ltF bf b1 e f k set < 8 := by
  intro f
  induction f with
  | zero => intro k set h1 h2 h3; omega
  | succ f ih =>
    intro k set h1 h2 h3 h4
    rw [ltF] at h4 ⊢
    by_cases e1 : e ≤ k
    · rw [if_pos e1]
      exact ⟨by omega, h1⟩
    · rw [if_neg e1] at h4 ⊢
      by_cases e2 : b1 ≤ bf.getD k 0 - 97 ∨ set.testBit (bf.getD k 0 - 97) = true
      · rw [if_pos e2] at h4
        exact absurd rfl h4
      · rw [if_neg e2] at h4 ⊢
        have hc : bf.getD k 0 - 97 < 3 := by omega
        have ht : set.testBit (bf.getD k 0 - 97) = false := by
          cases z : set.testBit (bf.getD k 0 - 97)
          · rfl
          · exact absurd (Or.inr z) e2
        obtain ⟨a1, a2⟩ := pop_add set h1 _ hc ht
        obtain ⟨c1, c2⟩ := ih (k + 1) _ a2 (by omega) (by omega) h4
        exact ⟨by omega, c2⟩
theorem pop_8 : ∀ S, S < 8 → pop S ≤ 3 ∧ (pop S = 1 → S = 1 ∨ S = 2 ∨ S = 4) ∧ (¬ pop S = 1 → lSc S = 0) := by decide +kernel
/-- the letters' set in full -/
theorem letS_pop {bf : List Nat} {n b1 a : Nat} (hb : b1 ≤ 3) (hn : n ≤ 500) (ha : isLt bf n a = true) (h : ¬ letS bf n b1 a = 0) : pop (letS bf n b1 a) = rn (isLt bf n) n a - a ∧ letS bf n b1 a < 8 := by
  have h0 := isLt_lt ha
  have h1 := rn_le (P := isLt bf n) (n := n) (fun _ => isLt_lt) (p := a) (by omega)
  unfold letS at h ⊢
  rw [en_lt ha] at h ⊢
  have := lt_pop (bf := bf) (e := rn (isLt bf n) n a) hb 501 a 0 (by decide) h1.1 (by omega) h
  rw [pop_zero] at this
  exact ⟨by omega, this.2⟩
