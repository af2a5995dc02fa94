/-! the twin: reading a whole text -/
theorem rV_no {bf : List Nat} {n : Nat} {s : RS} (h : ¬ s.2.2.1 = 0) (f : Nat) : rV bf n f s = s := by
  cases f with
  | zero => rfl
  | succ f => rw [rV, if_neg (by rw [isW_no h]; decide)]
theorem rG_no {bf : List Nat} {n : Nat} {s : RS} (h : ¬ s.2.2.1 = 0) (f : Nat) : rG bf n f s = s := by
  cases f with
  | zero => rfl
  | succ f => rw [rG, if_neg (by rw [isW_no h]; decide)]
theorem rL_no {bf : List Nat} {n : Nat} {s : RS} (h : ¬ s.2.2.1 = 0) (f : Nat) : rL bf n f s = s := by
  cases f with
  | zero => rfl
  | succ f => rw [rL, if_neg (by rw [isW_no h]; decide), if_neg (by rw [isW_no h]; decide)]
theorem tk_ok {bf : List Nat} {n lo hi : Nat} {s : RS} (hl : lo ≤ hi) (hh : hi < 1000) (hc : (tkS bf n (nI lo) (nI hi) s).2.2.1 = 0) : lo ≤ tkV bf n (nI lo) (nI hi) s ∧ tkV bf n (nI lo) (nI hi) s ≤ hi := by
  unfold tkS at hc
  have c1 := (le_nS bf n (tk1 bf n (nI lo) (nI hi) s)).1 hc
  unfold tkV
  rw [if_pos c1]
  unfold tk1 at c1
  by_cases e1 : s.2.2.1 = 0 ∧ ¬ kd bf n s.1 = 1
  · rw [if_pos e1] at c1
    exact absurd c1 (fS_c e1.1)
  · rw [if_neg e1] at c1
    by_cases e2 : s.2.2.1 = 0 ∧ isI (nI (nm bf n s.1 0)) (nI lo) (nI hi) = false
    · rw [if_pos e2] at c1
      exact absurd c1 (fS_c e2.1)
    · rw [if_neg e2] at c1
      have hi2 : isI (nI (nm bf n s.1 0)) (nI lo) (nI hi) = true := by
        cases z : isI (nI (nm bf n s.1 0)) (nI lo) (nI hi)
        · exact absurd ⟨c1, z⟩ e2
        · rfl
      obtain ⟨k, hk, hk1, hk2⟩ := isI_ex (by omega) hl hi2
      have h1 := nm_lt bf n s.1
      have h2 := nt_n (k := nm bf n s.1 0) (by omega)
      rw [hk, nt_n (by omega)] at h2
      omega

def TXT (γ : Gm) (σ : Nat → Nat) : Prop := GT γ ∧ SCr γ "ColourDuelModel" 137 "colours" (σ 0) wColours ∧ SCr γ "ColourDuelModel" 143 "passes" (σ 1) wPasses ∧ SCr γ "ColourDuelModel" 144 "vertex" (σ 2) wVertex ∧ SCr γ "ColourDuelModel" 149 "edge" (σ 3) wEdge ∧ SCr γ "ColourDuelModel" 154 "lay" (σ 4) wLay ∧ SCr γ "ColourDuelModel" 156 "pass" (σ 5) wPass
theorem setB_c (s : RS) (b : BT) : (setB s b).2.2.1 = s.2.2.1 := rfl
theorem PR.st {u : TU} {bf : List Nat} {n : Nat} {s : RS} (hp : PR u bf n s) (i x : Nat) : PR (tsa u 0 (upd (u.2 0) i (nI x))) bf n (setB s (updN s.2.1 i x)) ∧ RJ u (tsa u 0 (upd (u.2 0) i (nI x))) :=
  hp.board rfl (fun j hj => if_neg hj) (bd_upd hp.2.1 i x)
theorem rA_b (bf : List Nat) (n : Nat) (s : RS) : (rA bf n s).2.1 = s.2.1 := muS_b _ _ _ _
theorem vb_0 {V P : Nat} (h1 : 1 ≤ V) (h2 : V ≤ 3) (hP : P ≤ 9) : VB (updN (updN kzero 1 V) 2 P) ∧ VB (updN kzero 1 V) := by
  have e : ∀ j, ¬ j = 1 → updN kzero 1 V j = 0 := fun j hj => if_neg hj
  have e1 : updN kzero 1 V 1 = V := if_pos rfl
  have d : ∀ j, ¬ j = 1 → ¬ j = 2 → updN (updN kzero 1 V) 2 P j = 0 := fun j hj hk => (if_neg hk).trans (e j hj)
  have d1 : updN (updN kzero 1 V) 2 P 1 = V := (if_neg (by decide)).trans e1
  have d2 : updN (updN kzero 1 V) 2 P 2 = P := if_pos rfl
  refine ⟨⟨by omega, by omega, by rw [d 0 (by omega) (by omega)]; omega, by omega, d 3 (by omega) (by omega), fun v _ => ?_, fun j hj => d j (by omega) (by omega), ?_⟩, by omega, by omega, by rw [e 0 (by omega)]; omega, by rw [e 2 (by omega)]; omega, e 3 (by omega), fun v _ => ?_, fun j hj => e j (by omega), ?_⟩
  · rw [d _ (by omega) (by omega)]; exact Nat.two_pow_pos _
  · rw [d 0 (by omega) (by omega)]; simp
  · rw [e _ (by omega)]; exact Nat.two_pow_pos _
  · rw [e 0 (by omega)]; simp
theorem vbr_c {bf : List Nat} {n : Nat} {s : RS} (hs : s.2.1 = kzero) (g1 : isW bf n wPasses (rB bf n (rA bf n s)) = true) (hc : (rC bf n (rB bf n (rA bf n s))).2.2.1 = 0) : VB (rC bf n (rB bf n (rA bf n s))).2.1 := by
  unfold rC at hc ⊢
  rw [if_pos g1] at hc ⊢
  have hb : (rB bf n (rA bf n s)).2.1 = updN kzero 1 (tkV bf n (nI 1) (nI 3) (rA bf n s)) := by
    show updN (rA bf n s).2.1 1 _ = _
    rw [rA_b, hs]
  rw [setB_b, hb]
  have c0 : (tkS bf n (nI 1) (nI 3) (rA bf n s)).2.2.1 = 0 := by
    have := (isW_k g1).1
    unfold rB at this
    rw [setB_c] at this
    exact this
  rw [setB_c] at hc
  obtain ⟨o1, o2⟩ := tk_ok (bf := bf) (n := n) (s := rA bf n s) (lo := 1) (hi := 3) (by decide) (by decide) c0
  obtain ⟨o3, o4⟩ := tk_ok (bf := bf) (n := n) (s := nS bf n (rB bf n (rA bf n s))) (lo := 0) (hi := 9) (by decide) (by decide) hc
  exact (vb_0 o1 o2 o4).1
theorem vbr_d {bf : List Nat} {n : Nat} {s : RS} (hs : s.2.1 = kzero) (g1 : isW bf n wPasses (rB bf n (rA bf n s)) = false) (hc : (rC bf n (rB bf n (rA bf n s))).2.2.1 = 0) : VB (rC bf n (rB bf n (rA bf n s))).2.1 := by
  unfold rC at hc ⊢
  rw [if_neg (by rw [g1]; decide)] at hc ⊢
  have hb : (rB bf n (rA bf n s)).2.1 = updN kzero 1 (tkV bf n (nI 1) (nI 3) (rA bf n s)) := by
    show updN (rA bf n s).2.1 1 _ = _
    rw [rA_b, hs]
  rw [hb]
  obtain ⟨o1, o2⟩ := tk_ok (bf := bf) (n := n) (s := rA bf n s) (lo := 1) (hi := 3) (by decide) (by decide) (by unfold rB at hc; rw [setB_c] at hc; exact hc)
  exact (vb_0 o1 o2 (Nat.zero_le 9)).2
set_option maxRecDepth 100000 in
theorem t6_reads {γ : Gm} (hG : GF γ) (l : Launch) (o sz : Nat) (u : TU)  {bf : List Nat} {n : Nat} {s : RS} (hp : PR u bf n s) (hs : s.2.1 = kzero) {σ : Nat → Nat} (hS : TXT γ σ) : MX γ l yX6_reads cX6_reads 1 none 6 222 0 0 [.ref o] (th o u) sz (RUv o sz (fun u' => RJ u u' ∧ PR u' bf n (rS bf n s))) NX := by
  refine mx_start hG (by decide) (Nat.le_of_ble_eq_true rfl) (fun x C => ?_)
  have key140 : ∀ u1 s1, PR u1 bf n s1 → RJ u u1 → rS bf n s = rF bf n s1 → AW γ l x (QX γ x 0 0 (RUv o sz (fun u' => RJ u u' ∧ PR u' bf n (rS bf n s))) NX) 1 (th o u1) sz 0 0 140 [(0, .ref o)] [] := by
    intro u1 s1 hp hj he
    have hk4 := kd_lt (bf := bf) (n := n) (a := s1.1)
    refine aw_aload_n C rfl rfl dX6_reads_140 ?_
    refine tw_get C 15 (by decide) q1833 rfl dX6_reads_141 ?_
    refine aw_top (hp.2.2.2.1) ?_
    refine aw_if_ne C (tgt := 161) dX6_reads_144 (by decide) (fun g0 => ?_) (fun g0 => ?_)
    · refine aw_vret C rfl dX6_reads_161 (Nat.le_refl _) (Nat.le_refl _) ?_
      rw [he, rF]
      first
        | (rw [if_neg (fun z => g0 z.1)]; exact ⟨rfl, rfl, _, rfl, hj, hp⟩)
        | (rw [if_neg (fun z => z.2 (by omega))]; exact ⟨rfl, rfl, _, rfl, hj, hp⟩)
        | (rw [if_pos ⟨g0, by omega⟩]; exact ⟨rfl, rfl, _, rfl, hj, hp⟩)
    · refine aw_aload_n C rfl rfl dX6_reads_147 ?_
      refine tw_get C 13 (by decide) q1831 rfl dX6_reads_148 ?_
      refine aw_top (hp.2.2.1.2.2.1) ?_
      refine aw_iconst C (v := nI 3) (by decide) dX6_reads_151 ?_
      refine aw_icmpN_eq C (tgt := 161) (by omega) (by omega) dX6_reads_152 (by decide) (fun gk => ?_) (fun gk => ?_)
      · refine aw_vret C rfl dX6_reads_161 (Nat.le_refl _) (Nat.le_refl _) ?_
        rw [he, rF]
        first
          | (rw [if_neg (fun z => g0 z.1)]; exact ⟨rfl, rfl, _, rfl, hj, hp⟩)
          | (rw [if_neg (fun z => z.2 (by omega))]; exact ⟨rfl, rfl, _, rfl, hj, hp⟩)
          | (rw [if_pos ⟨g0, by omega⟩]; exact ⟨rfl, rfl, _, rfl, hj, hp⟩)
      · refine aw_aload_n C rfl rfl dX6_reads_155 ?_
        refine aw_bipush C (v := -2) (by decide) dX6_reads_156 ?_
        refine tw_callV C (t6_fails hG l o sz _ hp (-2)) q1931 q1933 qs46 q120 q1934 (n9 := 1) (by decide +kernel) rfl (Nat.le_of_ble_eq_true rfl) (Nat.le_of_ble_eq_true rfl) (Nat.zero_le _) (Nat.zero_le _) rfl (Nat.le_of_ble_eq_true rfl) dX6_reads_158 (fun u2 hq => ?_)
        obtain ⟨hj2, hp⟩ := hq
        have hj := hj.tr hj2
        refine aw_vret C rfl dX6_reads_161 (Nat.le_refl _) (Nat.le_refl _) ?_
        rw [he, rF]
        first
          | (rw [if_neg (fun z => g0 z.1)]; exact ⟨rfl, rfl, _, rfl, hj, hp⟩)
          | (rw [if_neg (fun z => z.2 (by omega))]; exact ⟨rfl, rfl, _, rfl, hj, hp⟩)
          | (rw [if_pos ⟨g0, by omega⟩]; exact ⟨rfl, rfl, _, rfl, hj, hp⟩)
  have keyX99 : ∀ u1 s1, PR u1 bf n s1 → RJ u u1 → ¬ s1.2.2.1 = 0 → rS bf n s = rF bf n s1 → AW γ l x (QX γ x 0 0 (RUv o sz (fun u' => RJ u u' ∧ PR u' bf n (rS bf n s))) NX) 1 (th o u1) sz 0 0 99 [(0, .ref o)] [] := by
    intro u1 s1 hp hj hc he
    refine aw_aload_n C rfl rfl dX6_reads_99 ?_
    refine aw_ldcS C hS.2.2.2.2.2.1.1 dX6_reads_100 ?_
    refine tw_callR C (t6_isWord hG l o sz _ hp hS.1 hS.2.2.2.2.2.1.2) q1921 q1923 qs44 q120 q1924 (n9 := 1) (by decide +kernel) rfl (Nat.le_of_ble_eq_true rfl) (Nat.le_of_ble_eq_true rfl) (Nat.zero_le _) (Nat.zero_le _) rfl (Nat.le_of_ble_eq_true rfl) dX6_reads_102 ?_
    refine aw_bit_ne0 C (tgt := 117) dX6_reads_105 (by decide) (fun g1 => ?_) (fun g1 => ?_)
    · exact absurd g1 (by rw [isW_no hc]; decide)
    · refine aw_aload_n C rfl rfl dX6_reads_108 ?_
      refine aw_ldcS C hS.2.2.2.2.2.2.1 dX6_reads_109 ?_
      refine tw_callR C (t6_isWord hG l o sz _ hp hS.1 hS.2.2.2.2.2.2.2) q1921 q1923 qs44 q120 q1924 (n9 := 1) (by decide +kernel) rfl (Nat.le_of_ble_eq_true rfl) (Nat.le_of_ble_eq_true rfl) (Nat.zero_le _) (Nat.zero_le _) rfl (Nat.le_of_ble_eq_true rfl) dX6_reads_111 ?_
      refine aw_bit_eq0 C (tgt := 140) dX6_reads_114 (by decide) (fun g2 => ?_) (fun g2 => ?_)
      · exact aw_lo (key140 u1 s1 hp hj he) ⟨rfl, trivial⟩
      · exact absurd g2 (by rw [isW_no hc]; decide)
  have key99 : ∀ f u1 s1, PR u1 bf n s1 → RJ u u1 → s1.2.2.1 = 0 → WA s1.2.1 → s1.2.1 3 ≤ s1.1 → n + 1 ≤ s1.1 + f → rS bf n s = rF bf n (rL bf n f s1) → AW γ l x (QX γ x 0 0 (RUv o sz (fun u' => RJ u u' ∧ PR u' bf n (rS bf n s))) NX) 1 (th o u1) sz 0 0 99 [(0, .ref o)] [] := by
    intro f
    induction f with
    | zero => intro u1 s1 hp hj hc hA hm hf he; have := hp.2.2.2.2.2; omega
    | succ f ih =>
      intro u1 s1 hp hj hc hA hm hf he
      have hn5 := hp.1.2.1
      have han := hp.2.2.2.2.2
      refine aw_aload_n C rfl rfl dX6_reads_99 ?_
      refine aw_ldcS C hS.2.2.2.2.2.1.1 dX6_reads_100 ?_
      refine tw_callR C (t6_isWord hG l o sz _ hp hS.1 hS.2.2.2.2.2.1.2) q1921 q1923 qs44 q120 q1924 (n9 := 1) (by decide +kernel) rfl (Nat.le_of_ble_eq_true rfl) (Nat.le_of_ble_eq_true rfl) (Nat.zero_le _) (Nat.zero_le _) rfl (Nat.le_of_ble_eq_true rfl) dX6_reads_102 ?_
      refine aw_bit_ne0 C (tgt := 117) dX6_reads_105 (by decide) (fun g1 => ?_) (fun g1 => ?_)
      · refine aw_aload_n C rfl rfl dX6_reads_117 ?_
        refine aw_ldcS C hS.2.2.2.2.2.1.1 dX6_reads_118 ?_
        refine tw_callR C (t6_isWord hG l o sz _ hp hS.1 hS.2.2.2.2.2.1.2) q1921 q1923 qs44 q120 q1924 (n9 := 1) (by decide +kernel) rfl (Nat.le_of_ble_eq_true rfl) (Nat.le_of_ble_eq_true rfl) (Nat.zero_le _) (Nat.zero_le _) rfl (Nat.le_of_ble_eq_true rfl) dX6_reads_120 ?_
        refine aw_bit_eq0 C (tgt := 133) dX6_reads_123 (by decide) (fun g3 => ?_) (fun g3 => ?_)
        · exact absurd g3 (by rw [g1]; decide)
        · refine aw_aload_n C rfl rfl dX6_reads_126 ?_
          refine tw_callV C (t6_readsLay hG l o sz _ hp hA (by omega)) q1968 q1970 qs54 q120 q1971 (n9 := 0) (by decide +kernel) rfl (Nat.le_of_ble_eq_true rfl) (Nat.le_of_ble_eq_true rfl) (Nat.zero_le _) (Nat.zero_le _) rfl (Nat.le_of_ble_eq_true rfl) dX6_reads_127 (fun u2 hq => ?_)
          obtain ⟨hj2, hp⟩ := hq
          have hj := hj.tr hj2
          refine aw_goto C (tgt := 99) dX6_reads_130 (by decide) ?_
          have hE : rS bf n s = rF bf n (rL bf n f (lS bf n s1)) := by rw [he, rL, if_pos g1]
          by_cases hc2 : (lS bf n s1).2.2.1 = 0
          · obtain ⟨w1, w2⟩ := lS_ok hA (by omega) hc2
            obtain ⟨w3, w4⟩ := lS_gt (isW_k g1).2.2 hc2
            exact aw_lo (ih _ _ hp hj hc2 w1 (by omega) (by omega) hE) ⟨rfl, trivial⟩
          · exact aw_lo (keyX99 _ _ hp hj hc2 (by rw [hE, rL_no hc2])) ⟨rfl, trivial⟩
      · refine aw_aload_n C rfl rfl dX6_reads_108 ?_
        refine aw_ldcS C hS.2.2.2.2.2.2.1 dX6_reads_109 ?_
        refine tw_callR C (t6_isWord hG l o sz _ hp hS.1 hS.2.2.2.2.2.2.2) q1921 q1923 qs44 q120 q1924 (n9 := 1) (by decide +kernel) rfl (Nat.le_of_ble_eq_true rfl) (Nat.le_of_ble_eq_true rfl) (Nat.zero_le _) (Nat.zero_le _) rfl (Nat.le_of_ble_eq_true rfl) dX6_reads_111 ?_
        refine aw_bit_eq0 C (tgt := 140) dX6_reads_114 (by decide) (fun g2 => ?_) (fun g2 => ?_)
        · exact aw_lo (key140 u1 s1 hp hj (by rw [he, rL, if_neg (by rw [g1]; decide), if_neg (by rw [g2]; decide)])) ⟨rfl, trivial⟩
        · refine aw_aload_n C rfl rfl dX6_reads_117 ?_
          refine aw_ldcS C hS.2.2.2.2.2.1.1 dX6_reads_118 ?_
          refine tw_callR C (t6_isWord hG l o sz _ hp hS.1 hS.2.2.2.2.2.1.2) q1921 q1923 qs44 q120 q1924 (n9 := 1) (by decide +kernel) rfl (Nat.le_of_ble_eq_true rfl) (Nat.le_of_ble_eq_true rfl) (Nat.zero_le _) (Nat.zero_le _) rfl (Nat.le_of_ble_eq_true rfl) dX6_reads_120 ?_
          refine aw_bit_eq0 C (tgt := 133) dX6_reads_123 (by decide) (fun g3 => ?_) (fun g3 => ?_)
          · refine aw_aload_n C rfl rfl dX6_reads_133 ?_
            refine tw_callV C (t6_readsPass hG l o sz _ hp hA (by omega) hc) q2030 q2032 qs68 q120 q2033 (n9 := 0) (by decide +kernel) rfl (Nat.le_of_ble_eq_true rfl) (Nat.le_of_ble_eq_true rfl) (Nat.zero_le _) (Nat.zero_le _) rfl (Nat.le_of_ble_eq_true rfl) dX6_reads_134 (fun u2 hq => ?_)
            obtain ⟨hj2, hp⟩ := hq
            have hj := hj.tr hj2
            refine aw_goto C (tgt := 99) dX6_reads_137 (by decide) ?_
            have hE : rS bf n s = rF bf n (rL bf n f (pS bf n s1)) := by rw [he, rL, if_neg (by rw [g1]; decide), if_pos g2]
            by_cases hc2 : (pS bf n s1).2.2.1 = 0
            · obtain ⟨w1, w2⟩ := pS_ok hA (by omega) hc2
              obtain ⟨w3, w4⟩ := pS_gt (isW_k g2).2.2 hc2
              exact aw_lo (ih _ _ hp hj hc2 w1 (by omega) (by omega) hE) ⟨rfl, trivial⟩
            · exact aw_lo (keyX99 _ _ hp hj hc2 (by rw [hE, rL_no hc2])) ⟨rfl, trivial⟩
          · exact absurd g3 (by rw [g1]; decide)
  have keyX83 : ∀ u1 s1, PR u1 bf n s1 → RJ u u1 → ¬ s1.2.2.1 = 0 → rS bf n s = rF bf n s1 → AW γ l x (QX γ x 0 0 (RUv o sz (fun u' => RJ u u' ∧ PR u' bf n (rS bf n s))) NX) 1 (th o u1) sz 0 0 83 [(0, .ref o)] [] := by
    intro u1 s1 hp hj hc he
    refine aw_aload_n C rfl rfl dX6_reads_83 ?_
    refine aw_ldcS C hS.2.2.2.2.1.1 dX6_reads_84 ?_
    refine tw_callR C (t6_isWord hG l o sz _ hp hS.1 hS.2.2.2.2.1.2) q1921 q1923 qs44 q120 q1924 (n9 := 1) (by decide +kernel) rfl (Nat.le_of_ble_eq_true rfl) (Nat.le_of_ble_eq_true rfl) (Nat.zero_le _) (Nat.zero_le _) rfl (Nat.le_of_ble_eq_true rfl) dX6_reads_86 ?_
    refine aw_bit_eq0 C (tgt := 99) dX6_reads_89 (by decide) (fun g1 => ?_) (fun g1 => ?_)
    · exact aw_lo (keyX99 u1 s1 hp hj hc he) ⟨rfl, trivial⟩
    · exact absurd g1 (by rw [isW_no hc]; decide)
  have key83 : ∀ f u1 s1, PR u1 bf n s1 → RJ u u1 → s1.2.2.1 = 0 → WA s1.2.1 → s1.2.1 3 = 0 → n + 1 ≤ s1.1 + f → rS bf n s = rF bf n (rL bf n 501 (rG bf n f s1)) → AW γ l x (QX γ x 0 0 (RUv o sz (fun u' => RJ u u' ∧ PR u' bf n (rS bf n s))) NX) 1 (th o u1) sz 0 0 83 [(0, .ref o)] [] := by
    intro f
    induction f with
    | zero => intro u1 s1 hp hj hc hA hm hf he; have := hp.2.2.2.2.2; omega
    | succ f ih =>
      intro u1 s1 hp hj hc hA hm hf he
      have hn5 := hp.1.2.1
      have han := hp.2.2.2.2.2
      refine aw_aload_n C rfl rfl dX6_reads_83 ?_
      refine aw_ldcS C hS.2.2.2.2.1.1 dX6_reads_84 ?_
      refine tw_callR C (t6_isWord hG l o sz _ hp hS.1 hS.2.2.2.2.1.2) q1921 q1923 qs44 q120 q1924 (n9 := 1) (by decide +kernel) rfl (Nat.le_of_ble_eq_true rfl) (Nat.le_of_ble_eq_true rfl) (Nat.zero_le _) (Nat.zero_le _) rfl (Nat.le_of_ble_eq_true rfl) dX6_reads_86 ?_
      refine aw_bit_eq0 C (tgt := 99) dX6_reads_89 (by decide) (fun g1 => ?_) (fun g1 => ?_)
      · exact aw_lo (key99 501 u1 s1 hp hj hc hA (by omega) (by omega) (by rw [he, rG, if_neg (by rw [g1]; decide)])) ⟨rfl, trivial⟩
      · refine aw_aload_n C rfl rfl dX6_reads_92 ?_
        refine tw_callV C (t6_readsEdge hG l o sz _ hp hA) q1958 q1960 qs52 q120 q1961 (n9 := 0) (by decide +kernel) rfl (Nat.le_of_ble_eq_true rfl) (Nat.le_of_ble_eq_true rfl) (Nat.zero_le _) (Nat.zero_le _) rfl (Nat.le_of_ble_eq_true rfl) dX6_reads_93 (fun u2 hq => ?_)
        obtain ⟨hj2, hp⟩ := hq
        have hj := hj.tr hj2
        refine aw_goto C (tgt := 83) dX6_reads_96 (by decide) ?_
        have hE : rS bf n s = rF bf n (rL bf n 501 (rG bf n f (eS bf n s1))) := by rw [he, rG, if_pos g1]
        by_cases hc2 : (eS bf n s1).2.2.1 = 0
        · obtain ⟨w1, w2⟩ := eS_ok hA hc2
          obtain ⟨w3, w4⟩ := eS_gt (isW_k g1).2.2 hc2
          exact aw_lo (ih _ _ hp hj hc2 w1 (by omega) (by omega) hE) ⟨rfl, trivial⟩
        · exact aw_lo (keyX83 _ _ hp hj hc2 (by rw [hE, rG_no hc2, rL_no hc2])) ⟨rfl, trivial⟩
  have keyX67 : ∀ u1 s1, PR u1 bf n s1 → RJ u u1 → ¬ s1.2.2.1 = 0 → rS bf n s = rF bf n s1 → AW γ l x (QX γ x 0 0 (RUv o sz (fun u' => RJ u u' ∧ PR u' bf n (rS bf n s))) NX) 1 (th o u1) sz 0 0 67 [(0, .ref o)] [] := by
    intro u1 s1 hp hj hc he
    refine aw_aload_n C rfl rfl dX6_reads_67 ?_
    refine aw_ldcS C hS.2.2.2.1.1 dX6_reads_68 ?_
    refine tw_callR C (t6_isWord hG l o sz _ hp hS.1 hS.2.2.2.1.2) q1921 q1923 qs44 q120 q1924 (n9 := 1) (by decide +kernel) rfl (Nat.le_of_ble_eq_true rfl) (Nat.le_of_ble_eq_true rfl) (Nat.zero_le _) (Nat.zero_le _) rfl (Nat.le_of_ble_eq_true rfl) dX6_reads_70 ?_
    refine aw_bit_eq0 C (tgt := 83) dX6_reads_73 (by decide) (fun g1 => ?_) (fun g1 => ?_)
    · exact aw_lo (keyX83 u1 s1 hp hj hc he) ⟨rfl, trivial⟩
    · exact absurd g1 (by rw [isW_no hc]; decide)
  have key67 : ∀ f u1 s1, PR u1 bf n s1 → RJ u u1 → s1.2.2.1 = 0 → VB s1.2.1 → (isW bf n wVertex s1 = true ∨ 1 ≤ s1.2.1 0) → n + 1 ≤ s1.1 + f → rS bf n s = rF bf n (rL bf n 501 (rG bf n 501 (rV bf n f s1))) → AW γ l x (QX γ x 0 0 (RUv o sz (fun u' => RJ u u' ∧ PR u' bf n (rS bf n s))) NX) 1 (th o u1) sz 0 0 67 [(0, .ref o)] [] := by
    intro f
    induction f with
    | zero => intro u1 s1 hp hj hc hV h1 hf he; have := hp.2.2.2.2.2; omega
    | succ f ih =>
      intro u1 s1 hp hj hc hV h1 hf he
      have hn5 := hp.1.2.1
      have han := hp.2.2.2.2.2
      refine aw_aload_n C rfl rfl dX6_reads_67 ?_
      refine aw_ldcS C hS.2.2.2.1.1 dX6_reads_68 ?_
      refine tw_callR C (t6_isWord hG l o sz _ hp hS.1 hS.2.2.2.1.2) q1921 q1923 qs44 q120 q1924 (n9 := 1) (by decide +kernel) rfl (Nat.le_of_ble_eq_true rfl) (Nat.le_of_ble_eq_true rfl) (Nat.zero_le _) (Nat.zero_le _) rfl (Nat.le_of_ble_eq_true rfl) dX6_reads_70 ?_
      refine aw_bit_eq0 C (tgt := 83) dX6_reads_73 (by decide) (fun g1 => ?_) (fun g1 => ?_)
      · have h1' : 1 ≤ s1.2.1 0 := h1.resolve_left (by rw [g1]; decide)
        exact aw_lo (key83 501 u1 s1 hp hj hc (wa_vb hV h1') hV.2.2.2.2.1 (by omega) (by rw [he, rV, if_neg (by rw [g1]; decide)])) ⟨rfl, trivial⟩
      · refine aw_aload_n C rfl rfl dX6_reads_76 ?_
        refine tw_callV C (t6_readsVertex hG l o sz _ hp hV.2.2.1 hV.2.1) q1945 q1947 qs49 q120 q1948 (n9 := 0) (by decide +kernel) rfl (Nat.le_of_ble_eq_true rfl) (Nat.le_of_ble_eq_true rfl) (Nat.zero_le _) (Nat.zero_le _) rfl (Nat.le_of_ble_eq_true rfl) dX6_reads_77 (fun u2 hq => ?_)
        obtain ⟨hj2, hp⟩ := hq
        have hj := hj.tr hj2
        refine aw_goto C (tgt := 67) dX6_reads_80 (by decide) ?_
        have hE : rS bf n s = rF bf n (rL bf n 501 (rG bf n 501 (rV bf n f (vS bf n s1)))) := by rw [he, rV, if_pos g1]
        by_cases hc2 : (vS bf n s1).2.2.1 = 0
        · obtain ⟨w1, w2⟩ := vS_ok hV hc2
          obtain ⟨w3, w4⟩ := vS_gt (isW_k g1).2.2 hc2
          exact aw_lo (ih _ _ hp hj hc2 w1 (Or.inr (by omega)) (by omega) hE) ⟨rfl, trivial⟩
        · exact aw_lo (keyX67 _ _ hp hj hc2 (by rw [hE, rV_no hc2, rG_no hc2, rL_no hc2])) ⟨rfl, trivial⟩
  have key48 : ∀ u1, PR u1 bf n (rC bf n (rB bf n (rA bf n s))) → RJ u u1 → ((rC bf n (rB bf n (rA bf n s))).2.2.1 = 0 → VB (rC bf n (rB bf n (rA bf n s))).2.1) → AW γ l x (QX γ x 0 0 (RUv o sz (fun u' => RJ u u' ∧ PR u' bf n (rS bf n s))) NX) 1 (th o u1) sz 0 0 48 [(0, .ref o)] [] := by
    intro u1 hp hj hV
    generalize hs3 : rC bf n (rB bf n (rA bf n s)) = s3 at *
    refine aw_aload_n C rfl rfl dX6_reads_48 ?_
    refine tw_callV C (t6_mustEnd hG l o sz _ hp) q1940 q1942 qs48 q120 q1943 (n9 := 0) (by decide +kernel) rfl (Nat.le_of_ble_eq_true rfl) (Nat.le_of_ble_eq_true rfl) (Nat.zero_le _) (Nat.zero_le _) rfl (Nat.le_of_ble_eq_true rfl) dX6_reads_49 (fun u2 hq => ?_)
    obtain ⟨hj2, hp⟩ := hq
    have hj := hj.tr hj2
    have hb4 := meS_b bf n s3
    have l4 := le_meS bf n s3
    generalize hs4 : meS bf n s3 = s4 at *
    refine aw_aload_n C rfl rfl dX6_reads_52 ?_
    refine aw_ldcS C hS.2.2.2.1.1 dX6_reads_53 ?_
    refine tw_callR C (t6_isWord hG l o sz _ hp hS.1 hS.2.2.2.1.2) q1921 q1923 qs44 q120 q1924 (n9 := 1) (by decide +kernel) rfl (Nat.le_of_ble_eq_true rfl) (Nat.le_of_ble_eq_true rfl) (Nat.zero_le _) (Nat.zero_le _) rfl (Nat.le_of_ble_eq_true rfl) dX6_reads_55 ?_
    refine aw_bit_ne0 C (tgt := 67) dX6_reads_58 (by decide) (fun g1 => ?_) (fun g1 => ?_)
    · have hc4 := (isW_k g1).1
      have hn5 := hp.1.2.1
      exact aw_lo (key67 501 _ s4 hp hj hc4 (by rw [hb4]; exact hV (l4.1 hc4)) (Or.inl g1) (by omega) (by unfold rS rE; rw [hs3, hs4, if_pos g1])) ⟨rfl, trivial⟩
    · refine aw_aload_n C rfl rfl dX6_reads_61 ?_
      refine aw_bipush C (v := -2) (by decide) dX6_reads_62 ?_
      refine tw_callV C (t6_fails hG l o sz _ hp (-2)) q1931 q1933 qs46 q120 q1934 (n9 := 1) (by decide +kernel) rfl (Nat.le_of_ble_eq_true rfl) (Nat.le_of_ble_eq_true rfl) (Nat.zero_le _) (Nat.zero_le _) rfl (Nat.le_of_ble_eq_true rfl) dX6_reads_64 (fun u2 hq => ?_)
      obtain ⟨hj2, hp⟩ := hq
      have hj := hj.tr hj2
      have hcF : ¬ (fS (-2) s4).2.2.1 = 0 := by
        by_cases e : s4.2.2.1 = 0
        · exact fS_c e
        · unfold fS
          rw [if_neg e]
          exact e
      exact aw_lo (keyX67 _ _ hp hj hcF (by unfold rS rE; rw [hs3, hs4, if_neg (by rw [g1]; decide), rV_no hcF, rG_no hcF, rL_no hcF])) ⟨rfl, trivial⟩
  have hj := RJ.rf u
  refine aw_aload_n C rfl rfl dX6_reads_0 ?_
  refine aw_aload_n C rfl rfl dX6_reads_1 ?_
  refine aw_ldcS C hS.2.1.1 dX6_reads_2 ?_
  refine tw_callR C (t6_isWord hG l o sz _ hp hS.1 hS.2.1.2) q1921 q1923 qs44 q120 q1924 (n9 := 1) (by decide +kernel) rfl (Nat.le_of_ble_eq_true rfl) (Nat.le_of_ble_eq_true rfl) (Nat.zero_le _) (Nat.zero_le _) rfl (Nat.le_of_ble_eq_true rfl) dX6_reads_4 ?_
  refine tw_callV C (t6_must hG l o sz _ hp (isW bf n wColours s)) q1927 q1929 qs45 q120 q1930 (n9 := 1) (by decide +kernel) rfl (Nat.le_of_ble_eq_true rfl) (Nat.le_of_ble_eq_true rfl) (Nat.zero_le _) (Nat.zero_le _) rfl (Nat.le_of_ble_eq_true rfl) dX6_reads_7 (fun u2 hq => ?_)
  obtain ⟨hj2, hp⟩ := hq
  have hj := hj.tr hj2
  have hp : PR u2 bf n (rA bf n s) := hp
  refine aw_aload_n C rfl rfl dX6_reads_10 ?_
  refine tw_get C 0 (by decide) q1818 rfl dX6_reads_11 ?_
  refine aw_iconst C (v := nI 1) (by decide) dX6_reads_14 ?_
  refine aw_aload_n C rfl rfl dX6_reads_15 ?_
  refine aw_iconst C (v := nI 1) (by decide) dX6_reads_16 ?_
  refine aw_iconst C (v := nI 3) (by decide) dX6_reads_17 ?_
  refine tw_callI C (t6_takes hG l o sz _ hp (nI 1) (nI 3)) q1935 q1937 qs47 q120 q1938 (n9 := 2) (by decide +kernel) rfl (Nat.le_of_ble_eq_true rfl) (Nat.le_of_ble_eq_true rfl) (Nat.zero_le _) (Nat.zero_le _) rfl (Nat.le_of_ble_eq_true rfl) dX6_reads_18 (fun r u2 hq => ?_)
  obtain ⟨rfl, hj2, hp⟩ := hq
  have hj := hj.tr hj2
  refine tw_st0 C (by omega) dX6_reads_21 ?_
  obtain ⟨hp, hj2⟩ := hp.st 1 (tkV bf n (nI 1) (nI 3) (rA bf n s))
  have hj := hj.tr hj2
  rw [tkS_b] at hp
  change PR _ bf n (rB bf n (rA bf n s)) at hp
  refine aw_aload_n C rfl rfl dX6_reads_22 ?_
  refine aw_ldcS C hS.2.2.1.1 dX6_reads_23 ?_
  refine tw_callR C (t6_isWord hG l o sz _ hp hS.1 hS.2.2.1.2) q1921 q1923 qs44 q120 q1924 (n9 := 1) (by decide +kernel) rfl (Nat.le_of_ble_eq_true rfl) (Nat.le_of_ble_eq_true rfl) (Nat.zero_le _) (Nat.zero_le _) rfl (Nat.le_of_ble_eq_true rfl) dX6_reads_25 ?_
  refine aw_bit_eq0 C (tgt := 48) dX6_reads_28 (by decide) (fun g1 => ?_) (fun g1 => ?_)
  · exact aw_lo (key48 _ (by unfold rC; rw [if_neg (by rw [g1]; decide)]; exact hp) hj (fun hc => vbr_d hs g1 hc)) ⟨rfl, trivial⟩
  · refine aw_aload_n C rfl rfl dX6_reads_31 ?_
    refine tw_callV C (t6_next hG l o sz _ hp.1 hp.2.2.1.2.1 (en_le hp.2.2.2.2.2).2) q1908 q1910 qs41 q120 q1911 (n9 := 0) (by decide +kernel) rfl (Nat.le_of_ble_eq_true rfl) (Nat.le_of_ble_eq_true rfl) (Nat.zero_le _) (Nat.zero_le _) rfl (Nat.le_of_ble_eq_true rfl) dX6_reads_32 (fun u2 hq => ?_)
    obtain ⟨q1, q2, q3⟩ := hq
    obtain ⟨hp, hj2⟩ := hp.next (isW_k g1).1 q1 q2 q3
    have hj := hj.tr hj2
    refine aw_aload_n C rfl rfl dX6_reads_35 ?_
    refine tw_get C 0 (by decide) q1818 rfl dX6_reads_36 ?_
    refine aw_iconst C (v := nI 2) (by decide) dX6_reads_39 ?_
    refine aw_aload_n C rfl rfl dX6_reads_40 ?_
    refine aw_iconst C (v := nI 0) (by decide) dX6_reads_41 ?_
    refine aw_bipush C (v := nI 9) (by decide) dX6_reads_42 ?_
    refine tw_callI C (t6_takes hG l o sz _ hp (nI 0) (nI 9)) q1935 q1937 qs47 q120 q1938 (n9 := 2) (by decide +kernel) rfl (Nat.le_of_ble_eq_true rfl) (Nat.le_of_ble_eq_true rfl) (Nat.zero_le _) (Nat.zero_le _) rfl (Nat.le_of_ble_eq_true rfl) dX6_reads_44 (fun r u2 hq => ?_)
    obtain ⟨rfl, hj2, hp⟩ := hq
    have hj := hj.tr hj2
    refine tw_st0 C (by omega) dX6_reads_47 ?_
    obtain ⟨hp, hj2⟩ := hp.st 2 (tkV bf n (nI 0) (nI 9) (nS bf n (rB bf n (rA bf n s))))
    have hj := hj.tr hj2
    rw [tkS_b, nS_b] at hp
    exact aw_lo (key48 _ (by unfold rC; rw [if_pos g1]; exact hp) hj (fun hc => vbr_c hs g1 hc)) ⟨rfl, trivial⟩
