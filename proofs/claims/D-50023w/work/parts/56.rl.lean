/-! reading a whole text -/
def wColours : List Nat := [99, 111, 108, 111, 117, 114, 115]
def wPasses : List Nat := [112, 97, 115, 115, 101, 115]
def wVertex : List Nat := [118, 101, 114, 116, 101, 120]
def wEdge : List Nat := [101, 100, 103, 101]
def wLay : List Nat := [108, 97, 121]
def wPass : List Nat := [112, 97, 115, 115]
section RLd
variable (bf : List Nat) (n : Nat)
def rA (s : RS) : RS := muS bf n (isW bf n wColours s) s
def rB (s : RS) : RS := setB (tkS bf n (nI 1) (nI 3) s) (updN s.2.1 1 (tkV bf n (nI 1) (nI 3) s))
def rC (s : RS) : RS := if isW bf n wPasses s = true then setB (tkS bf n (nI 0) (nI 9) (nS bf n s)) (updN s.2.1 2 (tkV bf n (nI 0) (nI 9) (nS bf n s))) else s
def rE (s : RS) : RS := if isW bf n wVertex s = true then s else fS (-2) s
def rV : Nat → RS → RS
  | 0, s => s
  | f + 1, s => if isW bf n wVertex s = true then rV f (vS bf n s) else s
def rG : Nat → RS → RS
  | 0, s => s
  | f + 1, s => if isW bf n wEdge s = true then rG f (eS bf n s) else s
def rL : Nat → RS → RS
  | 0, s => s
  | f + 1, s => if isW bf n wLay s = true then rL f (lS bf n s) else if isW bf n wPass s = true then rL f (pS bf n s) else s
def rF (s : RS) : RS := if s.2.2.1 = 0 ∧ ¬ kd bf n s.1 = 3 then fS (-2) s else s
def rS (s : RS) : RS := rF bf n (rL bf n 501 (rG bf n 501 (rV bf n 501 (rE bf n (meS bf n (rC bf n (rB bf n (rA bf n s))))))))
def r0 : RS := (rn (isSp bf n) n 0, kzero, 0, 0)
end RLd
def spLdR (s : SS) (r : RS) : AS := if r.2.2.1 = 0 then ((0, nI (r.2.1 0)), (r.2.1, keepS s.1 s.2.1, s.2.2.1, [], -1, s.2.2.2.2.2)) else ((0, r.2.2.1), (s.1, s.2.1, s.2.2.1, [], nI r.2.2.2, s.2.2.2.2.2))
theorem spLdR_t {s : SS} {r : RS} (h : r.2.2.1 = 0) : spLdR s r = ((0, nI (r.2.1 0)), (r.2.1, keepS s.1 s.2.1, s.2.2.1, [], -1, s.2.2.2.2.2)) := if_pos h
theorem spLdR_f {s : SS} {r : RS} (h : ¬ r.2.2.1 = 0) : spLdR s r = ((0, r.2.2.1), (s.1, s.2.1, s.2.2.1, [], nI r.2.2.2, s.2.2.2.2.2)) := if_neg h
def spLoad (s : SS) (len : Int32) : AS := if isI len (nI 0) (nI s.2.2.2.1.length) = false then ((1, nI 0), s) else spLdR s (rS s.2.2.2.1 (nt len) (r0 s.2.2.2.1 (nt len)))
theorem spLoad_n {s : SS} {k : Nat} (hI : isI (nI k) (nI 0) (nI s.2.2.2.1.length) = true) (en : nt (nI k) = k) : spLoad s (nI k) = spLdR s (rS s.2.2.2.1 k (r0 s.2.2.2.1 k)) := by
  unfold spLoad
  rw [if_neg (by rw [hI]; decide), en]
/-- a step goes on, and forgets no fault -/
def LE (n : Nat) (s t : RS) : Prop := (t.2.2.1 = 0 → s.2.2.1 = 0) ∧ (s.1 ≤ n → s.1 ≤ t.1 ∧ t.1 ≤ n)
theorem LE.rf (n : Nat) (s : RS) : LE n s s := ⟨fun h => h, fun h => ⟨Nat.le_refl _, h⟩⟩
theorem LE.tr {n : Nat} {s t r : RS} (h : LE n s t) (g : LE n t r) : LE n s r := ⟨fun z => h.1 (g.1 z), fun z => ⟨Nat.le_trans (h.2 z).1 (g.2 (h.2 z).2).1, (g.2 (h.2 z).2).2⟩⟩
theorem le_fS {n : Nat} (code : Int32) (s : RS) (hc : ¬ code = 0) : LE n s (fS code s) := by
  unfold fS
  by_cases e : s.2.2.1 = 0
  · rw [if_pos e]
    exact ⟨fun z => absurd z hc, fun h => ⟨Nat.le_refl _, h⟩⟩
  · rw [if_neg e]
    exact LE.rf n s
theorem le_nS (bf : List Nat) (n : Nat) (s : RS) : LE n s (nS bf n s) := by
  unfold nS
  by_cases e : s.2.2.1 = 0
  · rw [if_pos e]
    exact ⟨fun _ => e, fun h => nx_le h⟩
  · rw [if_neg e]
    exact LE.rf n s
theorem le_muS (bf : List Nat) (n : Nat) (r : Bool) (s : RS) : LE n s (muS bf n r s) := by
  unfold muS
  split
  · exact le_nS bf n s
  · exact (le_fS (-2) s (by decide)).tr (le_nS bf n _)
theorem le_meS (bf : List Nat) (n : Nat) (s : RS) : LE n s (meS bf n s) := le_muS _ _ _ _
theorem le_tkS (bf : List Nat) (n : Nat) (lo hi : Int32) (s : RS) : LE n s (tkS bf n lo hi s) := by
  unfold tkS tk1
  split
  · exact (le_fS (-2) s (by decide)).tr (le_nS bf n _)
  · split
    · exact (le_fS (-3) s (by decide)).tr (le_nS bf n _)
    · exact le_nS bf n _
theorem le_setB (n : Nat) (s : RS) (b : BT) : LE n s (setB s b) := ⟨fun h => h, fun h => ⟨Nat.le_refl _, h⟩⟩
theorem le_vS1 (n : Nat) (s : RS) : LE n s (vS1 s) := by
  unfold vS1
  split
  · exact le_fS (-6) s (by decide)
  · exact LE.rf n s
theorem le_vS2 (bf : List Nat) (n : Nat) (s : RS) : LE n s (vS2 bf n s) := by
  unfold vS2
  split
  · split
    · exact (le_fS (-3) s (by decide)).tr (le_nS bf n _)
    · exact le_nS bf n _
  · exact LE.rf n s
theorem le_vS4 (n m : Nat) (s : RS) : LE n s (vS4 m s) := by
  unfold vS4
  split
  · exact le_setB n s _
  · exact LE.rf n s
theorem le_eS3 (bf : List Nat) (n one : Nat) (s : RS) : LE n s (eS3 bf n one s) := by
  unfold eS3
  split
  · exact le_fS (-3) s (by decide)
  · exact LE.rf n s
theorem le_eS4 (bf : List Nat) (n one : Nat) (s : RS) : LE n s (eS4 bf n one s) := by
  unfold eS4
  split
  · exact le_fS (-4) s (by decide)
  · exact LE.rf n s
theorem le_eS6 (n one other : Nat) (s : RS) : LE n s (eS6 one other s) := by
  unfold eS6
  split
  · exact le_setB n s _
  · exact LE.rf n s
theorem le_lS3 (bf : List Nat) (n : Nat) (s : RS) : LE n s (lS3 bf n s) := by
  unfold lS3
  split
  · exact le_fS (-2) s (by decide)
  · exact LE.rf n s
theorem le_lS4 (n c : Nat) (s : RS) : LE n s (lS4 c s) := by
  unfold lS4
  split
  · exact le_fS (-3) s (by decide)
  · exact LE.rf n s
theorem le_lS5 (n v c : Nat) (s : RS) : LE n s (lS5 v c s) := by
  unfold lS5
  split
  · exact le_fS (-5) s (by decide)
  · exact LE.rf n s
theorem le_lS6 (n v c : Nat) (s : RS) : LE n s (lS6 v c s) := by
  unfold lS6
  split
  · exact le_setB n s _
  · exact LE.rf n s
theorem le_pS1 (n : Nat) (s : RS) : LE n s (pS1 s) := by
  unfold pS1
  split
  · exact le_fS (-5) s (by decide)
  · exact LE.rf n s
theorem le_pS2 (n : Nat) (s : RS) : LE n s (pS2 s) := by
  unfold pS2
  split
  · exact le_setB n s _
  · exact LE.rf n s
theorem en_gt {bf : List Nat} {n a : Nat} (h : a < n) : a + 1 ≤ en bf n a := by
  unfold en
  rw [if_neg (by omega)]
  split
  · rename_i q
    rw [rn_t q h]
    exact (rn_le (fun _ => isLt_lt) (by omega)).1
  · split
    · rename_i q
      rw [rn_t q h]
      exact (rn_le (fun _ => isDg_lt) (by omega)).1
    · exact Nat.le_refl _
theorem nx_gt {bf : List Nat} {n a : Nat} (h : a < n) : a + 1 ≤ nx bf n a := by
  have h1 := en_gt (bf := bf) h
  have h2 := rn_le (P := isSp bf n) (fun _ => isSp_lt) (en_le (bf := bf) (Nat.le_of_lt h)).2
  unfold nx
  omega
theorem mu_gt {bf : List Nat} {n : Nat} {s : RS} (h : s.1 < n) (hc : (muS bf n true s).2.2.1 = 0) : s.1 + 1 ≤ (muS bf n true s).1 := by
  have h0 := (le_muS bf n true s).1 hc
  unfold muS nS
  rw [if_pos rfl, if_pos h0]
  exact nx_gt h
theorem vS_gt {bf : List Nat} {n : Nat} {s : RS} (h : s.1 < n) (hc : (vS bf n s).2.2.1 = 0) : s.1 + 1 ≤ (vS bf n s).1 ∧ (vS bf n s).1 ≤ n := by
  unfold vS at hc ⊢
  have l1 := (le_vS2 bf n (muS bf n true (vS1 s))).tr ((le_meS bf n _).tr (le_vS4 n (vSl bf n (muS bf n true (vS1 s))) _))
  have c1 := l1.1 hc
  have c2 := (le_muS bf n true (vS1 s)).1 c1
  have e1 : (vS1 s).1 = s.1 := by unfold vS1 fS; split; split; rfl; rfl; rfl
  have g1 := mu_gt (bf := bf) (s := vS1 s) (by rw [e1]; exact h) c1
  have g2 := l1.2 ((le_muS bf n true (vS1 s)).2 (by rw [e1]; omega)).2
  rw [e1] at g1
  omega
theorem eS_gt {bf : List Nat} {n : Nat} {s : RS} (h : s.1 < n) (hc : (eS bf n s).2.2.1 = 0) : s.1 + 1 ≤ (eS bf n s).1 ∧ (eS bf n s).1 ≤ n := by
  have l1 : LE n (eA bf n s) (eS bf n s) := (le_tkS bf n _ _ _).tr ((le_eS3 bf n _ _).tr ((le_eS4 bf n _ _).tr ((le_tkS bf n _ _ _).tr ((le_meS bf n _).tr (le_eS6 n _ _ _)))))
  have c1 := l1.1 hc
  have g1 := mu_gt (bf := bf) (s := s) h c1
  have g2 := l1.2 ((le_muS bf n true s).2 (by omega)).2
  have g3 : (eA bf n s).1 = (muS bf n true s).1 := rfl
  omega
theorem lS_gt {bf : List Nat} {n : Nat} {s : RS} (h : s.1 < n) (hc : (lS bf n s).2.2.1 = 0) : s.1 + 1 ≤ (lS bf n s).1 ∧ (lS bf n s).1 ≤ n := by
  have l1 : LE n (eA bf n s) (lS bf n s) := (le_tkS bf n _ _ _).tr ((le_lS3 bf n _).tr ((le_lS4 n _ _).tr ((le_lS5 n _ _ _).tr ((le_lS6 n _ _ _).tr ((le_muS bf n true _).tr (le_meS bf n _))))))
  have c1 := l1.1 hc
  have g1 := mu_gt (bf := bf) (s := s) h c1
  have g2 := l1.2 ((le_muS bf n true s).2 (by omega)).2
  have g3 : (eA bf n s).1 = (muS bf n true s).1 := rfl
  omega
theorem pS_gt {bf : List Nat} {n : Nat} {s : RS} (h : s.1 < n) (hc : (pS bf n s).2.2.1 = 0) : s.1 + 1 ≤ (pS bf n s).1 ∧ (pS bf n s).1 ≤ n := by
  unfold pS at hc ⊢
  have l0 : LE n s (pS2 (pS1 s)) := (le_pS1 n s).tr (le_pS2 n _)
  have l1 := le_meS bf n (muS bf n true (pS2 (pS1 s)))
  have c1 := l1.1 hc
  have e1 : (pS2 (pS1 s)).1 = s.1 := by
    unfold pS2 pS1 fS setB
    (repeat' split) <;> rfl
  have g1 := mu_gt (bf := bf) (s := pS2 (pS1 s)) (by rw [e1]; exact h) c1
  have g2 := l1.2 ((le_muS bf n true (pS2 (pS1 s))).2 (by rw [e1]; omega)).2
  rw [e1] at g1
  omega
theorem isW_k {bf : List Nat} {n : Nat} {w : List Nat} {s : RS} (h : isW bf n w s = true) : s.2.2.1 = 0 ∧ kd bf n s.1 = 0 ∧ s.1 < n := by
  obtain ⟨h1, h2, _⟩ := of_decide_eq_true h
  refine ⟨h1, h2, Nat.not_le.mp (fun z => ?_)⟩
  unfold kd at h2
  rw [if_pos z] at h2
  exact absurd h2 (by decide)
theorem isW_no {bf : List Nat} {n : Nat} {w : List Nat} {s : RS} (h : ¬ s.2.2.1 = 0) : isW bf n w s = false := by
  cases e : isW bf n w s
  · rfl
  · exact absurd (isW_k e).1 h
