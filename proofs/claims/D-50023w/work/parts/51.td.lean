/-! the twin: reading, plain steps -/
theorem PR.fail {u : TU} {bf : List Nat} {n : Nat} {s : RS} (hp : PR u bf n s) (h0 : s.2.2.1 = 0) (code : Int32) : PR (tsf (tsf u 15 code) 16 (nI s.1)) bf n (fS code s) ∧ RJ u (tsf (tsf u 15 code) 16 (nI s.1)) := by
  obtain ⟨h1, h2, h3, h4, h5, h6⟩ := hp
  unfold fS
  rw [if_pos h0]
  refine ⟨⟨h1, h2, h3, (tsf_ne (by decide)).trans (tsf_at u 15 code), fun _ => tsf_at _ _ _, h6⟩, fun i hi => ?_, fun _ _ => rfl⟩
  rw [tsf_ne (by omega), tsf_ne (by omega)]
theorem PR.stay {u : TU} {bf : List Nat} {n : Nat} {s : RS} (hp : PR u bf n s) (h0 : ¬ s.2.2.1 = 0) (code : Int32) : PR u bf n (fS code s) := by
  unfold fS
  rw [if_neg h0]
  exact hp
theorem PR.next {u u' : TU} {bf : List Nat} {n : Nat} {s : RS} (hp : PR u bf n s) (h0 : s.2.2.1 = 0) (hf : ∀ i, i < 11 ∨ 14 < i → u'.1 i = u.1 i) (ha : u'.2 = u.2) (hk : TKn u' bf n (rn (isSp bf n) n (en bf n s.1))) : PR u' bf n (nS bf n s) ∧ RJ u u' := by
  obtain ⟨h1, h2, h3, h4, h5, h6⟩ := hp
  unfold nS
  rw [if_pos h0]
  refine ⟨⟨⟨(hf 10 (by omega)).trans h1.1, h1.2.1, by rw [ha]; exact h1.2.2⟩, bd_of h2 (by rw [ha]), hk, (hf 15 (by omega)).trans h4, fun z => absurd h0 z, (nx_le h6).2⟩, fun i hi => hf i (by omega), fun i _ => by rw [ha]⟩
theorem PR.rest {u : TU} {bf : List Nat} {n : Nat} {s : RS} (hp : PR u bf n s) (h0 : ¬ s.2.2.1 = 0) : PR u bf n (nS bf n s) := by
  unfold nS
  rw [if_neg h0]
  exact hp
theorem rn_all {P : Nat → Bool} {n : Nat} (hP : ∀ p, P p = true → p < n) : ∀ j p, n + 1 ≤ p + j → ∀ k, p ≤ k → k < rn P n p → P k = true := by
  intro j
  induction j with
  | zero =>
    intro p h k h1 h2
    cases e : P p
    · rw [rn_f e] at h2; omega
    · have := hP p e; omega
  | succ j ih =>
    intro p h k h1 h2
    cases e : P p
    · rw [rn_f e] at h2; omega
    · rw [rn_t e (hP p e)] at h2
      by_cases q : k = p
      · rw [q]; exact e
      · exact ih (p + 1) (by omega) k (by omega) h2
theorem word_let {bf : List Nat} {n a : Nat} (hk : kd bf n a = 0) {k : Nat} (h1 : a ≤ k) (h2 : k < en bf n a) : isLt bf n k = true := by
  unfold kd at hk
  by_cases e1 : n ≤ a
  · rw [if_pos e1] at hk; exact absurd hk (by decide)
  · by_cases e2 : isLt bf n a = true
    · unfold en at h2
      rw [if_neg e1, if_pos e2] at h2
      exact rn_all (fun _ => isLt_lt) (n + 1) a (by omega) k h1 h2
    · rw [if_neg e1, if_neg e2] at hk
      split at hk <;> exact absurd hk (by decide)
theorem tkV_lt {bf : List Nat} {n m : Nat} {s : RS} (hm : 1 ≤ m) (h9 : m ≤ 9) : tkV bf n (nI 0) (nI m - nI 1) s < m := by
  unfold tkV tk1
  by_cases e1 : s.2.2.1 = 0 ∧ ¬ kd bf n s.1 = 1
  · rw [if_pos e1]
    unfold fS
    rw [if_pos e1.1, if_neg (show ¬ (-2 : Int32) = 0 from by decide)]
    omega
  · rw [if_neg e1]
    by_cases e2 : s.2.2.1 = 0 ∧ isI (nI (nm bf n s.1 0)) (nI 0) (nI m - nI 1) = false
    · rw [if_pos e2]
      unfold fS
      rw [if_pos e2.1, if_neg (show ¬ (-3 : Int32) = 0 from by decide)]
      omega
    · rw [if_neg e2]
      by_cases e3 : s.2.2.1 = 0
      · rw [if_pos e3]
        have hi : isI (nI (nm bf n s.1 0)) (nI 0) (nI m - nI 1) = true := by
          cases z : isI (nI (nm bf n s.1 0)) (nI 0) (nI m - nI 1)
          · exact absurd ⟨e3, z⟩ e2
          · rfl
        obtain ⟨k, hk, hkm⟩ := isM_ex (by omega) hi
        have h1 := nm_lt bf n s.1
        have h2 := nt_n (k := nm bf n s.1 0) (by omega)
        rw [hk, nt_n (by omega)] at h2
        omega
      · rw [if_neg e3]
        omega
/-- a constant text that is carried -/
def SCr (γ : Gm) (own : String) (idx : Nat) (txt : String) (a : Nat) (tx : List Nat) : Prop := (∀ U : State, γ.X U → vk_R own idx txt a U) ∧ ∀ h : AH, STR γ h a tx

set_option maxRecDepth 100000 in
theorem t6_fails {γ : Gm} (hG : GF γ) (l : Launch) (o sz : Nat) (u : TU)  {bf : List Nat} {n : Nat} {s : RS} (hp : PR u bf n s) (code : Int32) : MX γ l yX6_fails cX6_fails 2 none 0 0 0 0 [.ref o, .int code] (th o u) sz (RUv o sz (fun u' => RJ u u' ∧ PR u' bf n (fS code s))) NX := by
  refine mx_start hG (by decide) (Nat.le_of_ble_eq_true rfl) (fun x C => ?_)
  refine aw_aload_n C rfl rfl dX6_fails_0 ?_
  refine tw_get C 15 (by decide) q1833 rfl dX6_fails_1 ?_
  refine aw_top (hp.2.2.2.1) ?_
  refine aw_if_eq C (tgt := 8) dX6_fails_4 (by decide) (fun g0 => ?_) (fun g0 => ?_)
  · refine aw_aload_n C rfl rfl dX6_fails_8 ?_
    refine aw_iload_n C rfl rfl dX6_fails_9 ?_
    refine tw_put C 15 (by decide) q1833 rfl rfl rfl dX6_fails_10 ?_
    refine aw_aload_n C rfl rfl dX6_fails_13 ?_
    refine aw_aload_n C rfl rfl dX6_fails_14 ?_
    refine tw_get C 11 (by decide) q1829 rfl dX6_fails_15 ?_
    refine aw_top (hp.2.2.1.1) ?_
    refine tw_put C 16 (by decide) q1834 rfl rfl rfl dX6_fails_18 ?_
    exact aw_vret C rfl dX6_fails_21 (Nat.le_refl _) (Nat.le_refl _) ⟨rfl, rfl, _, rfl, (hp.fail g0 code).2, (hp.fail g0 code).1⟩
  · exact aw_vret C rfl dX6_fails_7 (Nat.le_refl _) (Nat.le_refl _) ⟨rfl, rfl, _, rfl, RJ.rf u, hp.stay g0 code⟩
set_option maxRecDepth 100000 in
theorem t6_must {γ : Gm} (hG : GF γ) (l : Launch) (o sz : Nat) (u : TU)  {bf : List Nat} {n : Nat} {s : RS} (hp : PR u bf n s) (r : Bool) : MX γ l yX6_must cX6_must 2 none 2 42 0 0 [.ref o, .int (nI (if r = true then 1 else 0))] (th o u) sz (RUv o sz (fun u' => RJ u u' ∧ PR u' bf n (muS bf n r s))) NX := by
  refine mx_start hG (by decide) (Nat.le_of_ble_eq_true rfl) (fun x C => ?_)
  have key : ∀ u1 s1, PR u1 bf n s1 → RJ u u1 → AW γ l x (QX γ x 0 0 (RUv o sz (fun u' => RJ u u' ∧ PR u' bf n (nS bf n s1))) NX) 2 (th o u1) sz 0 0 10 [(0, .ref o)] [] := by
    intro u1 s1 hp hj
    refine aw_aload_n C rfl rfl dX6_must_10 ?_
    refine tw_get C 15 (by decide) q1833 rfl dX6_must_11 ?_
    refine aw_top (hp.2.2.2.1) ?_
    refine aw_if_ne C (tgt := 21) dX6_must_14 (by decide) (fun g0 => ?_) (fun g0 => ?_)
    · refine aw_vret C rfl dX6_must_21 (Nat.le_refl _) (Nat.le_refl _) ?_
      first
        | exact ⟨rfl, rfl, _, rfl, hj, hp2⟩
        | exact ⟨rfl, rfl, _, rfl, hj, hp.rest g0⟩
    · refine aw_aload_n C rfl rfl dX6_must_17 ?_
      refine tw_callV C (t6_next hG l o sz _ hp.1 hp.2.2.1.2.1 (en_le hp.2.2.2.2.2).2) q1908 q1910 qs41 q120 q1911 (n9 := 0) (by decide +kernel) rfl (Nat.le_of_ble_eq_true rfl) (Nat.le_of_ble_eq_true rfl) (Nat.zero_le _) (Nat.zero_le _) rfl (Nat.le_of_ble_eq_true rfl) dX6_must_18 (fun u2 hq => ?_)
      obtain ⟨q1, q2, q3⟩ := hq
      obtain ⟨hp2, hj2⟩ := hp.next g0 q1 q2 q3
      have hj := hj.tr hj2
      refine aw_vret C rfl dX6_must_21 (Nat.le_refl _) (Nat.le_refl _) ?_
      first
        | exact ⟨rfl, rfl, _, rfl, hj, hp2⟩
        | exact ⟨rfl, rfl, _, rfl, hj, hp.rest g0⟩
  have hj := RJ.rf u
  unfold muS
  refine aw_iload_n C rfl rfl dX6_must_0 ?_
  refine aw_bit_ne0 C (tgt := 10) dX6_must_1 (by decide) (fun gr => ?_) (fun gr => ?_)
  · rw [if_pos gr]
    exact aw_lo (key _ s hp hj) ⟨rfl, trivial⟩
  · rw [if_neg (by rw [gr]; decide)]
    refine aw_aload_n C rfl rfl dX6_must_4 ?_
    refine aw_bipush C (v := -2) (by decide) dX6_must_5 ?_
    refine tw_callV C (t6_fails hG l o sz _ hp (-2)) q1931 q1933 qs46 q120 q1934 (n9 := 1) (by decide +kernel) rfl (Nat.le_of_ble_eq_true rfl) (Nat.le_of_ble_eq_true rfl) (Nat.zero_le _) (Nat.zero_le _) rfl (Nat.le_of_ble_eq_true rfl) dX6_must_7 (fun u2 hq => ?_)
    obtain ⟨hj2, hp⟩ := hq
    have hj := hj.tr hj2
    exact aw_lo (key _ (fS (-2) s) hp hj) ⟨rfl, trivial⟩
set_option maxRecDepth 100000 in
theorem t6_takes {γ : Gm} (hG : GF γ) (l : Launch) (o sz : Nat) (u : TU)  {bf : List Nat} {n : Nat} {s : RS} (hp : PR u bf n s) (lo hi : Int32) : MX γ l yX6_takes cX6_takes 4 (some .int) 2 42 0 0 [.ref o, .int lo, .int hi] (th o u) sz (RUi o sz (fun z u' => z = nI (tkV bf n lo hi s) ∧ RJ u u' ∧ PR u' bf n (tkS bf n lo hi s))) NX := by
  refine mx_start hG (by decide) (Nat.le_of_ble_eq_true rfl) (fun x C => ?_)
  have key : ∀ u1 s1, PR u1 bf n s1 → RJ u u1 → tk1 bf n lo hi s = s1 → (s1.2.2.1 = 0 → s1 = s ∧ kd bf n s.1 = 1) → AW γ l x (QX γ x 0 0 (RUi o sz (fun z u' => z = nI (tkV bf n lo hi s) ∧ RJ u u' ∧ PR u' bf n (tkS bf n lo hi s))) NX) 4 (th o u1) sz 0 0 49 [(0, .ref o)] [] := by
    intro u1 s1 hp1 hj he hs
    refine aw_aload_n C rfl rfl dX6_takes_49 ?_
    refine tw_get C 15 (by decide) q1833 rfl dX6_takes_50 ?_
    refine aw_top (hp1.2.2.2.1) ?_
    refine aw_if_ne C (tgt := 63) dX6_takes_53 (by decide) (fun g0 => ?_) (fun g0 => ?_)
    · refine aw_iconst C (v := nI 0) (by decide) dX6_takes_63 ?_
      refine aw_istore_n C rfl (by decide) rfl dX6_takes_64 ?_
      refine aw_aload_n C rfl rfl dX6_takes_65 ?_
      refine tw_get C 15 (by decide) q1833 rfl dX6_takes_66 ?_
      refine aw_top (hp1.2.2.2.1) ?_
      refine aw_if_ne C (tgt := 76) dX6_takes_69 (by decide) (fun g1 => ?_) (fun g1 => ?_)
      · refine aw_iload_n C rfl rfl dX6_takes_76 ?_
        refine aw_iret C rfl dX6_takes_77 (Nat.le_refl _) (Nat.le_refl _) ?_
        refine ⟨rfl, _, _, rfl, rfl, ?_, hj, ?_⟩
        · unfold tkV
          rw [he]
          first
            | (rw [if_pos g0]; done)
            | (rw [if_neg g0]; done)
        · unfold tkS
          rw [he]
          first
            | exact hp2
            | exact hp1.rest g0
      · exact absurd g1 g0
    · refine aw_aload_n C rfl rfl dX6_takes_56 ?_
      refine tw_get C 14 (by decide) q1832 rfl dX6_takes_57 ?_
      refine aw_top ((by obtain ⟨e1, hk⟩ := hs g0; rw [← e1] at hk ⊢; exact hp1.2.2.1.2.2.2 hk : u1.1 14 = nI (nm bf n s.1 0))) ?_
      refine aw_goto C (tgt := 64) dX6_takes_60 (by decide) ?_
      refine aw_istore_n C rfl (by decide) rfl dX6_takes_64 ?_
      refine aw_aload_n C rfl rfl dX6_takes_65 ?_
      refine tw_get C 15 (by decide) q1833 rfl dX6_takes_66 ?_
      refine aw_top (hp1.2.2.2.1) ?_
      refine aw_if_ne C (tgt := 76) dX6_takes_69 (by decide) (fun g1 => ?_) (fun g1 => ?_)
      · exact absurd g0 g1
      · refine aw_aload_n C rfl rfl dX6_takes_72 ?_
        refine tw_callV C (t6_next hG l o sz _ hp1.1 hp1.2.2.1.2.1 (en_le hp1.2.2.2.2.2).2) q1908 q1910 qs41 q120 q1911 (n9 := 0) (by decide +kernel) rfl (Nat.le_of_ble_eq_true rfl) (Nat.le_of_ble_eq_true rfl) (Nat.zero_le _) (Nat.zero_le _) rfl (Nat.le_of_ble_eq_true rfl) dX6_takes_73 (fun u2 hq => ?_)
        obtain ⟨q1, q2, q3⟩ := hq
        obtain ⟨hp2, hj2⟩ := hp1.next g0 q1 q2 q3
        have hj := hj.tr hj2
        refine aw_iload_n C rfl rfl dX6_takes_76 ?_
        refine aw_iret C rfl dX6_takes_77 (Nat.le_refl _) (Nat.le_refl _) ?_
        refine ⟨rfl, _, _, rfl, rfl, ?_, hj, ?_⟩
        · unfold tkV
          rw [he]
          first
            | (rw [if_pos g0]; done)
            | (rw [if_neg g0]; done)
        · unfold tkS
          rw [he]
          first
            | exact hp2
            | exact hp1.rest g0
  have hj := RJ.rf u
  have hk4 := kd_lt (bf := bf) (n := n) (a := s.1)
  refine aw_aload_n C rfl rfl dX6_takes_0 ?_
  refine tw_get C 15 (by decide) q1833 rfl dX6_takes_1 ?_
  refine aw_top (hp.2.2.2.1) ?_
  refine aw_if_ne C (tgt := 24) dX6_takes_4 (by decide) (fun g0 => ?_) (fun g0 => ?_)
  · refine aw_aload_n C rfl rfl dX6_takes_24 ?_
    refine tw_get C 15 (by decide) q1833 rfl dX6_takes_25 ?_
    refine aw_top (hp.2.2.2.1) ?_
    refine aw_if_ne C (tgt := 49) dX6_takes_28 (by decide) (fun g0b => ?_) (fun g0b => ?_)
    · exact aw_lo (key _ s hp hj (by unfold tk1; rw [if_neg (fun z => g0 z.1), if_neg (fun z => g0 z.1)]) (fun z => absurd z g0)) ⟨rfl, trivial⟩
    · exact absurd g0b g0
  · refine aw_aload_n C rfl rfl dX6_takes_7 ?_
    refine tw_get C 13 (by decide) q1831 rfl dX6_takes_8 ?_
    refine aw_top (hp.2.2.1.2.2.1) ?_
    refine aw_iconst C (v := nI 1) (by decide) dX6_takes_11 ?_
    refine aw_icmpN_eq C (tgt := 24) (by omega) (by omega) dX6_takes_12 (by decide) (fun gk => ?_) (fun gk => ?_)
    · refine aw_aload_n C rfl rfl dX6_takes_24 ?_
      refine tw_get C 15 (by decide) q1833 rfl dX6_takes_25 ?_
      refine aw_top (hp.2.2.2.1) ?_
      refine aw_if_ne C (tgt := 49) dX6_takes_28 (by decide) (fun g0b => ?_) (fun g0b => ?_)
      · exact absurd g0 g0b
      · refine aw_aload_n C rfl rfl dX6_takes_31 ?_
        refine tw_get C 14 (by decide) q1832 rfl dX6_takes_32 ?_
        refine aw_top (hp.2.2.1.2.2.2 (by omega)) ?_
        refine aw_iload_n C rfl rfl dX6_takes_35 ?_
        refine aw_iload_n C rfl rfl dX6_takes_36 ?_
        refine tw_callSR C (t6_isIn hG l o sz _ _ _ _) q1905 q1906 q120 q1907 (n9 := 3) (by decide +kernel) rfl (Nat.le_of_ble_eq_true rfl) (Nat.le_of_ble_eq_true rfl) (Nat.zero_le _) (Nat.zero_le _) rfl (Nat.le_of_ble_eq_true rfl) dX6_takes_37 ?_
        refine aw_bit_ne0 C (tgt := 49) dX6_takes_40 (by decide) (fun gi => ?_) (fun gi => ?_)
        · exact aw_lo (key _ s hp hj (by unfold tk1; rw [if_neg (fun z => z.2 (by omega)), if_neg (fun z => by have := z.2; rw [show isI (nI (nm bf n s.1 0)) lo hi = true from gi] at this; exact absurd this (by decide))]) (fun _ => ⟨rfl, by omega⟩)) ⟨rfl, trivial⟩
        · refine aw_aload_n C rfl rfl dX6_takes_43 ?_
          refine aw_bipush C (v := -3) (by decide) dX6_takes_44 ?_
          refine tw_callV C (t6_fails hG l o sz _ hp (-3)) q1931 q1933 qs46 q120 q1934 (n9 := 1) (by decide +kernel) rfl (Nat.le_of_ble_eq_true rfl) (Nat.le_of_ble_eq_true rfl) (Nat.zero_le _) (Nat.zero_le _) rfl (Nat.le_of_ble_eq_true rfl) dX6_takes_46 (fun u2 hq => ?_)
          obtain ⟨hj2, hp⟩ := hq
          have hj := hj.tr hj2
          exact aw_lo (key _ _ hp hj (by unfold tk1; rw [if_neg (fun z => z.2 (by omega)), if_pos ⟨g0, gi⟩]) (fun z => by unfold fS at z; rw [if_pos g0] at z; exact absurd z (show ¬ (-3 : Int32) = 0 from by decide))) ⟨rfl, trivial⟩
    · refine aw_aload_n C rfl rfl dX6_takes_15 ?_
      refine aw_bipush C (v := -2) (by decide) dX6_takes_16 ?_
      refine tw_callV C (t6_fails hG l o sz _ hp (-2)) q1931 q1933 qs46 q120 q1934 (n9 := 1) (by decide +kernel) rfl (Nat.le_of_ble_eq_true rfl) (Nat.le_of_ble_eq_true rfl) (Nat.zero_le _) (Nat.zero_le _) rfl (Nat.le_of_ble_eq_true rfl) dX6_takes_18 (fun u2 hq => ?_)
      obtain ⟨hj2, hp⟩ := hq
      have hj := hj.tr hj2
      refine aw_goto C (tgt := 49) dX6_takes_21 (by decide) ?_
      exact aw_lo (key _ _ hp hj (by unfold tk1; rw [if_pos ⟨g0, by omega⟩]) (fun z => by unfold fS at z; rw [if_pos g0] at z; exact absurd z (show ¬ (-2 : Int32) = 0 from by decide))) ⟨rfl, trivial⟩
set_option maxRecDepth 100000 in
theorem t6_mustEnd {γ : Gm} (hG : GF γ) (l : Launch) (o sz : Nat) (u : TU)  {bf : List Nat} {n : Nat} {s : RS} (hp : PR u bf n s) : MX γ l yX6_mustEnd cX6_mustEnd 1 none 3 63 0 0 [.ref o] (th o u) sz (RUv o sz (fun u' => RJ u u' ∧ PR u' bf n (meS bf n s))) NX := by
  refine mx_start hG (by decide) (Nat.le_of_ble_eq_true rfl) (fun x C => ?_)
  have hby : ∀ i, i < n → bf.getD i 0 < 256 := fun i hi => (hp.1.2.2 i hi).2
  have hk4 := kd_lt (bf := bf) (n := n) (a := s.1)
  have hn5 := hp.1.2.1
  have han := hp.2.2.2.2.2
  unfold meS
  refine aw_aload_n C rfl rfl dX6_mustEnd_0 ?_
  refine aw_aload_n C rfl rfl dX6_mustEnd_1 ?_
  refine tw_get C 13 (by decide) q1831 rfl dX6_mustEnd_2 ?_
  refine aw_top (hp.2.2.1.2.2.1) ?_
  refine aw_iconst C (v := nI 2) (by decide) dX6_mustEnd_5 ?_
  refine aw_icmpN_ne C (tgt := 26) (by omega) (by omega) dX6_mustEnd_6 (by decide) (fun gk => ?_) (fun gk => ?_)
  · refine aw_iconst C (v := nI 0) (by decide) dX6_mustEnd_26 ?_
    refine aw_top (show _ = nI (if semi bf n s.1 = true then 1 else 0) from ?_) ?_
    · unfold semi
      first
        | (rw [if_neg (show ¬ decide (kd bf n s.1 = 2 ∧ bf.getD s.1 0 = 59) = true from fun z => absurd (of_decide_eq_true z).1 (by omega))]; done)
        | (rw [if_neg (show ¬ decide (kd bf n s.1 = 2 ∧ bf.getD s.1 0 = 59) = true from fun z => gs ((see_semi hby (by omega)).mpr (of_decide_eq_true z).2))]; done)
        | (rw [if_pos (show decide (kd bf n s.1 = 2 ∧ bf.getD s.1 0 = 59) = true from decide_eq_true ⟨by omega, (see_semi hby (by omega)).mp gs⟩)]; done)
    refine tw_callV C (t6_must hG l o sz _ hp (semi bf n s.1)) q1927 q1929 qs45 q120 q1930 (n9 := 1) (by decide +kernel) rfl (Nat.le_of_ble_eq_true rfl) (Nat.le_of_ble_eq_true rfl) (Nat.zero_le _) (Nat.zero_le _) rfl (Nat.le_of_ble_eq_true rfl) dX6_mustEnd_27 (fun u2 hq => ?_)
    obtain ⟨hj2, hp2⟩ := hq
    exact aw_vret C rfl dX6_mustEnd_30 (Nat.le_refl _) (Nat.le_refl _) ⟨rfl, rfl, _, rfl, hj2, hp2⟩
  · refine aw_aload_n C rfl rfl dX6_mustEnd_9 ?_
    refine aw_aload_n C rfl rfl dX6_mustEnd_10 ?_
    refine tw_get C 11 (by decide) q1829 rfl dX6_mustEnd_11 ?_
    refine aw_top (hp.2.2.1.1) ?_
    refine tw_callR C (t6_see hG l o sz _ (k := s.1) hp.1 (by omega)) q1912 q1914 qs42 q120 q1915 (n9 := 1) (by decide +kernel) rfl (Nat.le_of_ble_eq_true rfl) (Nat.le_of_ble_eq_true rfl) (Nat.zero_le _) (Nat.zero_le _) rfl (Nat.le_of_ble_eq_true rfl) dX6_mustEnd_14 ?_
    refine aw_bipush C (v := nI 59) (by decide) dX6_mustEnd_17 ?_
    refine aw_icmp_ne C (tgt := 26) dX6_mustEnd_19 (by decide) (fun gs => ?_) (fun gs => ?_)
    · refine aw_iconst C (v := nI 0) (by decide) dX6_mustEnd_26 ?_
      refine aw_top (show _ = nI (if semi bf n s.1 = true then 1 else 0) from ?_) ?_
      · unfold semi
        first
          | (rw [if_neg (show ¬ decide (kd bf n s.1 = 2 ∧ bf.getD s.1 0 = 59) = true from fun z => absurd (of_decide_eq_true z).1 (by omega))]; done)
          | (rw [if_neg (show ¬ decide (kd bf n s.1 = 2 ∧ bf.getD s.1 0 = 59) = true from fun z => gs ((see_semi hby (by omega)).mpr (of_decide_eq_true z).2))]; done)
          | (rw [if_pos (show decide (kd bf n s.1 = 2 ∧ bf.getD s.1 0 = 59) = true from decide_eq_true ⟨by omega, (see_semi hby (by omega)).mp gs⟩)]; done)
      refine tw_callV C (t6_must hG l o sz _ hp (semi bf n s.1)) q1927 q1929 qs45 q120 q1930 (n9 := 1) (by decide +kernel) rfl (Nat.le_of_ble_eq_true rfl) (Nat.le_of_ble_eq_true rfl) (Nat.zero_le _) (Nat.zero_le _) rfl (Nat.le_of_ble_eq_true rfl) dX6_mustEnd_27 (fun u2 hq => ?_)
      obtain ⟨hj2, hp2⟩ := hq
      exact aw_vret C rfl dX6_mustEnd_30 (Nat.le_refl _) (Nat.le_refl _) ⟨rfl, rfl, _, rfl, hj2, hp2⟩
    · refine aw_iconst C (v := nI 1) (by decide) dX6_mustEnd_22 ?_
      refine aw_goto C (tgt := 27) dX6_mustEnd_23 (by decide) ?_
      refine aw_top (show _ = nI (if semi bf n s.1 = true then 1 else 0) from ?_) ?_
      · unfold semi
        first
          | (rw [if_neg (show ¬ decide (kd bf n s.1 = 2 ∧ bf.getD s.1 0 = 59) = true from fun z => absurd (of_decide_eq_true z).1 (by omega))]; done)
          | (rw [if_neg (show ¬ decide (kd bf n s.1 = 2 ∧ bf.getD s.1 0 = 59) = true from fun z => gs ((see_semi hby (by omega)).mpr (of_decide_eq_true z).2))]; done)
          | (rw [if_pos (show decide (kd bf n s.1 = 2 ∧ bf.getD s.1 0 = 59) = true from decide_eq_true ⟨by omega, (see_semi hby (by omega)).mp gs⟩)]; done)
      refine tw_callV C (t6_must hG l o sz _ hp (semi bf n s.1)) q1927 q1929 qs45 q120 q1930 (n9 := 1) (by decide +kernel) rfl (Nat.le_of_ble_eq_true rfl) (Nat.le_of_ble_eq_true rfl) (Nat.zero_le _) (Nat.zero_le _) rfl (Nat.le_of_ble_eq_true rfl) dX6_mustEnd_27 (fun u2 hq => ?_)
      obtain ⟨hj2, hp2⟩ := hq
      exact aw_vret C rfl dX6_mustEnd_30 (Nat.le_refl _) (Nat.le_refl _) ⟨rfl, rfl, _, rfl, hj2, hp2⟩
