/-! what is read lies in the board's array -/
def Zb (b : BT) : Prop := ∀ j, 4136 ≤ j → b j = 0
theorem zb_up {b : BT} (h : Zb b) {i x : Nat} (hi : i < 4136) : Zb (updN b i x) := fun j hj => by rw [updN_n (by omega)]; exact h j hj
theorem vS_z {bf : List Nat} {n : Nat} {s : RS} (h : Zb s.2.1) (h9 : s.2.1 0 ≤ 9) : Zb (vS bf n s).2.1 := by
  have hb : (meS bf n (vS2 bf n (muS bf n true (vS1 s)))).2.1 = s.2.1 := by rw [meS_b, vS2_b, muS_b, vS1_b]
  unfold vS vS4
  split
  · rw [setB_b, hb]
    exact zb_up (zb_up h (by omega)) (by omega)
  · rw [hb]; exact h
theorem eS_z {bf : List Nat} {n : Nat} {s : RS} (h : WA s.2.1) : Zb (eS bf n s).2.1 := by
  by_cases hc : (eS bf n s).2.2.1 = 0
  · exact fun j hj => (eS_ok h hc).1.z hj
  · have hb : (meS bf n (tkS bf n (nI 0) (nI (s.2.1 0) - nI 1) (eC bf n s))).2.1 = s.2.1 := by rw [meS_b, tkS_b, eC_b]
    unfold eS eS6 at hc ⊢
    split
    · rename_i q
      rw [if_pos q] at hc
      rw [setB_c] at hc
      exact absurd q hc
    · rw [hb]; exact fun j hj => h.z hj
theorem lS_z {bf : List Nat} {n : Nat} {s : RS} (h : WA s.2.1) (hm : s.2.1 3 < 4096) : Zb (lS bf n s).2.1 := by
  unfold lS
  rw [meS_b, muS_b]
  have hb : (lC bf n s).2.1 = s.2.1 := lC_b _ _ _
  have o1 := e1_lt (bf := bf) (n := n) (s := s) h.w
  unfold lS6
  split
  · rename_i c5
    obtain ⟨f1, f2⟩ := lS5_c c5
    rw [f1] at c5
    obtain ⟨f3, f4⟩ := lS4_c c5
    rw [f4, hb] at f2
    obtain ⟨f5, f6⟩ := why_ok h.w o1 f2
    rw [setB_b, f1, f4, hb]
    exact fun j hj => (wa_layM h hm o1 f6).z hj
  · rw [lS5_b, lS4_b, hb]
    exact fun j hj => h.z hj
theorem pS_z {bf : List Nat} {n : Nat} {s : RS} (h : WA s.2.1) (hm : s.2.1 3 < 4096) : Zb (pS bf n s).2.1 := by
  have hb : (pS1 s).2.1 = s.2.1 := by unfold pS1; split; exact fS_b _ _; rfl
  unfold pS
  rw [meS_b, muS_b]
  unfold pS2
  split
  · rw [setB_b, hb]
    exact fun j hj => (wa_passM h hm).z hj
  · rw [hb]
    exact fun j hj => h.z hj
theorem rF_b (bf : List Nat) (n : Nat) (s : RS) : (rF bf n s).2.1 = s.2.1 := by
  unfold rF
  split
  · exact fS_b _ _
  · rfl
theorem rL_z {bf : List Nat} {n : Nat} (hn : n ≤ 500) : ∀ f (s : RS), Zb s.2.1 → s.1 ≤ n → (s.2.2.1 = 0 → WA s.2.1 ∧ s.2.1 3 ≤ s.1) → Zb (rL bf n f s).2.1 ∧ ((rL bf n f s).2.2.1 = 0 → WA (rL bf n f s).2.1) := by
  intro f
  induction f with
  | zero => intro s hz ha h; exact ⟨hz, fun c => (h c).1⟩
  | succ f ih =>
    intro s hz ha h
    rw [rL]
    split
    · rename_i g
      obtain ⟨k1, k2, k3⟩ := isW_k g
      obtain ⟨w1, w2⟩ := h k1
      have hle : LE n s (lS bf n s) := (le_muS bf n true s).tr ((le_tkS bf n _ _ _).tr ((le_lS3 bf n _).tr ((le_lS4 n _ _).tr ((le_lS5 n _ _ _).tr ((le_lS6 n _ _ _).tr ((le_muS bf n true _).tr (le_meS bf n _)))))))
      refine ih _ (lS_z w1 (by omega)) (hle.2 ha).2 (fun c => ?_)
      obtain ⟨v1, v2⟩ := lS_ok w1 (by omega) c
      have v3 := lS_gt k3 c
      exact ⟨v1, by omega⟩
    · split
      · rename_i g
        obtain ⟨k1, k2, k3⟩ := isW_k g
        obtain ⟨w1, w2⟩ := h k1
        have hle : LE n s (pS bf n s) := (le_pS1 n s).tr ((le_pS2 n _).tr ((le_muS bf n true _).tr (le_meS bf n _)))
        refine ih _ (pS_z w1 (by omega)) (hle.2 ha).2 (fun c => ?_)
        obtain ⟨v1, v2⟩ := pS_ok w1 (by omega) c
        have v3 := pS_gt k3 c
        exact ⟨v1, by omega⟩
      · exact ⟨hz, fun c => (h c).1⟩
theorem rG_z {bf : List Nat} {n : Nat} : ∀ f (s : RS), Zb s.2.1 → s.1 ≤ n → (s.2.2.1 = 0 → WA s.2.1 ∧ s.2.1 3 = 0) → Zb (rG bf n f s).2.1 ∧ (rG bf n f s).1 ≤ n ∧ ((rG bf n f s).2.2.1 = 0 → WA (rG bf n f s).2.1 ∧ (rG bf n f s).2.1 3 = 0) := by
  intro f
  induction f with
  | zero => intro s hz ha h; exact ⟨hz, ha, h⟩
  | succ f ih =>
    intro s hz ha h
    rw [rG]
    split
    · rename_i g
      obtain ⟨k1, k2, k3⟩ := isW_k g
      obtain ⟨w1, w2⟩ := h k1
      have hle : LE n s (eS bf n s) := (le_muS bf n true s).tr ((le_tkS bf n _ _ _).tr ((le_eS3 bf n _ _).tr ((le_eS4 bf n _ _).tr ((le_tkS bf n _ _ _).tr ((le_meS bf n _).tr (le_eS6 n _ _ _))))))
      refine ih _ (eS_z w1) (hle.2 ha).2 (fun c => ?_)
      obtain ⟨v1, v2⟩ := eS_ok w1 c
      exact ⟨v1, by omega⟩
    · exact ⟨hz, ha, h⟩
theorem rV_z {bf : List Nat} {n : Nat} : ∀ f (s : RS), Zb s.2.1 → s.1 ≤ n → (s.2.2.1 = 0 → VB s.2.1 ∧ (isW bf n wVertex s = true ∨ 1 ≤ s.2.1 0) ∧ n + 1 ≤ s.1 + f) → Zb (rV bf n f s).2.1 ∧ (rV bf n f s).1 ≤ n ∧ ((rV bf n f s).2.2.1 = 0 → WA (rV bf n f s).2.1 ∧ (rV bf n f s).2.1 3 = 0) := by
  intro f
  induction f with
  | zero => intro s hz ha h; exact ⟨hz, ha, fun c => absurd (h c).2.2 (by omega)⟩
  | succ f ih =>
    intro s hz ha h
    rw [rV]
    split
    · rename_i g
      obtain ⟨k1, k2, k3⟩ := isW_k g
      obtain ⟨w1, w2, w3⟩ := h k1
      have hle : LE n s (vS bf n s) := (le_vS1 n s).tr ((le_muS bf n true _).tr ((le_vS2 bf n _).tr ((le_meS bf n _).tr (le_vS4 n _ _))))
      refine ih _ (vS_z hz w1.2.2.1) (hle.2 ha).2 (fun c => ?_)
      obtain ⟨v1, v2⟩ := vS_ok w1 c
      have v3 := vS_gt k3 c
      exact ⟨v1, Or.inr (by omega), by omega⟩
    · rename_i g
      refine ⟨hz, ha, fun c => ?_⟩
      obtain ⟨w1, w2, w3⟩ := h c
      exact ⟨wa_vb w1 (w2.resolve_left g), w1.2.2.2.2.1⟩
theorem le_rB (bf : List Nat) (n : Nat) (s : RS) : LE n s (rB bf n s) := (le_tkS bf n _ _ _).tr (le_setB n _ _)
theorem le_rC (bf : List Nat) (n : Nat) (s : RS) : LE n s (rC bf n s) := by
  unfold rC
  split
  · exact (le_nS bf n _).tr ((le_tkS bf n _ _ _).tr (le_setB n _ _))
  · exact LE.rf n s
theorem zb_rC {bf : List Nat} {n : Nat} {s : RS} (h : Zb s.2.1) : Zb (rC bf n s).2.1 := by
  unfold rC
  split
  · rw [setB_b]; exact zb_up h (by decide)
  · exact h
/-- what is read: a board of a run, if there is no fault; within the array in any case -/
theorem rS_z {bf : List Nat} {n : Nat} (hn : n ≤ 500) {s : RS} (hs : s.2.1 = kzero) (ha : s.1 ≤ n) : Zb (rS bf n s).2.1 ∧ ((rS bf n s).2.2.1 = 0 → WA (rS bf n s).2.1) := by
  have hz0 : Zb (rA bf n s).2.1 := by rw [rA_b, hs]; exact fun _ _ => rfl
  have hz1 : Zb (rB bf n (rA bf n s)).2.1 := by unfold rB; rw [setB_b]; exact zb_up hz0 (by decide)
  have hz2 := zb_rC (bf := bf) (n := n) hz1
  have l3 : LE n s (rC bf n (rB bf n (rA bf n s))) := (le_muS bf n _ s).tr ((le_rB bf n _).tr (le_rC bf n _))
  have hV : (rC bf n (rB bf n (rA bf n s))).2.2.1 = 0 → VB (rC bf n (rB bf n (rA bf n s))).2.1 := fun c => by
    cases g : isW bf n wPasses (rB bf n (rA bf n s))
    · exact vbr_d hs g c
    · exact vbr_c hs g c
  unfold rS
  generalize rC bf n (rB bf n (rA bf n s)) = s3 at hz2 l3 hV ⊢
  have l4 := le_meS bf n s3
  have hb4 := meS_b bf n s3
  generalize meS bf n s3 = s4 at l4 hb4 ⊢
  have hz4 : Zb s4.2.1 := by rw [hb4]; exact hz2
  have a4 := ((l3.tr l4).2 ha).2
  have e5 : Zb (rE bf n s4).2.1 ∧ (rE bf n s4).1 ≤ n ∧ ((rE bf n s4).2.2.1 = 0 → VB (rE bf n s4).2.1 ∧ (isW bf n wVertex (rE bf n s4) = true ∨ 1 ≤ (rE bf n s4).2.1 0) ∧ n + 1 ≤ (rE bf n s4).1 + 501) := by
    unfold rE
    split
    · rename_i g
      exact ⟨hz4, a4, fun c => ⟨by rw [hb4]; exact hV (l4.1 c), Or.inl g, by omega⟩⟩
    · refine ⟨by rw [fS_b]; exact hz4, ((le_fS (n := n) (-2) s4 (by decide)).2 a4).2, fun c => ?_⟩
      by_cases e : s4.2.2.1 = 0
      · exact absurd c (fS_c e)
      · unfold fS at c
        rw [if_neg e] at c
        exact absurd c e
  obtain ⟨q1, q2, q3⟩ := rV_z 501 _ e5.1 e5.2.1 e5.2.2
  obtain ⟨p1, p2, p3⟩ := rG_z 501 _ q1 q2 q3
  obtain ⟨o1, o2⟩ := rL_z hn 501 _ p1 p2 (fun c => ⟨(p3 c).1, by rw [(p3 c).2]; exact Nat.zero_le _⟩)
  refine ⟨by rw [rF_b]; exact o1, fun c => ?_⟩
  rw [rF_b]
  refine o2 ?_
  unfold rF at c
  split at c
  · rename_i g
    exact absurd c (fS_c g.1)
  · exact c
