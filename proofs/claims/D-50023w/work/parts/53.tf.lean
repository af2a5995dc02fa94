/-! the twin: statements -/
theorem fS_b (code : Int32) (s : RS) : (fS code s).2.1 = s.2.1 := by unfold fS; split <;> rfl
theorem nS_b (bf : List Nat) (n : Nat) (s : RS) : (nS bf n s).2.1 = s.2.1 := by unfold nS; split <;> rfl
theorem muS_b (bf : List Nat) (n : Nat) (r : Bool) (s : RS) : (muS bf n r s).2.1 = s.2.1 := by
  unfold muS
  rw [nS_b]
  split
  · rfl
  · exact fS_b _ _
theorem meS_b (bf : List Nat) (n : Nat) (s : RS) : (meS bf n s).2.1 = s.2.1 := muS_b _ _ _ _
theorem tkS_b (bf : List Nat) (n : Nat) (lo hi : Int32) (s : RS) : (tkS bf n lo hi s).2.1 = s.2.1 := by
  unfold tkS tk1
  rw [nS_b]
  split
  · exact fS_b _ _
  · split
    · exact fS_b _ _
    · rfl
theorem vS1_b (s : RS) : (vS1 s).2.1 = s.2.1 := by
  unfold vS1
  split
  · exact fS_b _ _
  · rfl
theorem vS2_b (bf : List Nat) (n : Nat) (s : RS) : (vS2 bf n s).2.1 = s.2.1 := by
  unfold vS2
  split
  · rw [nS_b]
    split
    · exact fS_b _ _
    · rfl
  · rfl
theorem PR.board {u u' : TU} {bf : List Nat} {n : Nat} {s : RS} {b : BT} (hp : PR u bf n s) (hf : u'.1 = u.1) (ha : ∀ i, i ≠ 0 → u'.2 i = u.2 i) (hb : BD u' b) : PR u' bf n (setB s b) ∧ RJ u u' := by
  obtain ⟨h1, h2, h3, h4, h5, h6⟩ := hp
  refine ⟨⟨⟨by rw [hf]; exact h1.1, h1.2.1, by rw [ha 8 (by decide)]; exact h1.2.2⟩, hb, ?_, by rw [hf]; exact h4, by rw [hf]; exact h5, h6⟩, fun i _ => by rw [hf], ha⟩
  unfold TKn
  rw [hf]
  exact h3
theorem fS_c {code : Int32} {s : RS} (h : s.2.2.1 = 0) (hc : ¬ code = 0 := by decide) : ¬ (fS code s).2.2.1 = 0 := by
  unfold fS
  rw [if_pos h]
  exact hc
theorem nS_n {bf : List Nat} {n : Nat} {s : RS} (h : ¬ s.2.2.1 = 0) : nS bf n s = s := if_neg h
theorem updN_s (b : BT) (i x : Nat) : updN b i x i = x := if_pos rfl

set_option maxRecDepth 100000 in
theorem t6_readsVertex {γ : Gm} (hG : GF γ) (l : Launch) (o sz : Nat) (u : TU)  {bf : List Nat} {n : Nat} {s : RS} (hp : PR u bf n s) (h0 : s.2.1 0 ≤ 9) (h1 : s.2.1 1 ≤ 3) : MX γ l yX6_readsVertex cX6_readsVertex 2 none 4 83 0 0 [.ref o] (th o u) sz (RUv o sz (fun u' => RJ u u' ∧ PR u' bf n (vS bf n s))) NX := by
  refine mx_start hG (by decide) (Nat.le_of_ble_eq_true rfl) (fun x C => ?_)
  have key83 : ∀ u1 s3 m, PR u1 bf n s3 → RJ u u1 → s3.2.1 0 ≤ 9 → vS bf n s = vS4 m (meS bf n s3) → AW γ l x (QX γ x 0 0 (RUv o sz (fun u' => RJ u u' ∧ PR u' bf n (vS bf n s))) NX) 2 (th o u1) sz 0 0 83 [(0, .ref o), (1, .int (nI m))] [] := by
    intro u1 s3 m hp hj hb0 he
    refine aw_aload_n C rfl rfl dX6_readsVertex_83 ?_
    refine tw_callV C (t6_mustEnd hG l o sz _ hp) q1940 q1942 qs48 q120 q1943 (n9 := 0) (by decide +kernel) rfl (Nat.le_of_ble_eq_true rfl) (Nat.le_of_ble_eq_true rfl) (Nat.zero_le _) (Nat.zero_le _) rfl (Nat.le_of_ble_eq_true rfl) dX6_readsVertex_84 (fun u2 hq => ?_)
    obtain ⟨hj2, hp⟩ := hq
    have hj := hj.tr hj2
    have hb0 : (meS bf n s3).2.1 0 ≤ 9 := by rw [meS_b]; exact hb0
    generalize meS bf n s3 = s4 at hp he hb0
    refine aw_aload_n C rfl rfl dX6_readsVertex_87 ?_
    refine tw_get C 15 (by decide) q1833 rfl dX6_readsVertex_88 ?_
    refine aw_top (hp.2.2.2.1) ?_
    refine aw_if_eq C (tgt := 95) dX6_readsVertex_91 (by decide) (fun g0 => ?_) (fun g0 => ?_)
    · refine aw_aload_n C rfl rfl dX6_readsVertex_95 ?_
      refine tw_get C 0 (by decide) q1818 rfl dX6_readsVertex_96 ?_
      refine aw_iconst C (v := nI 4) (by decide) dX6_readsVertex_99 ?_
      refine aw_aload_n C rfl rfl dX6_readsVertex_100 ?_
      refine tw_get C 0 (by decide) q1818 rfl dX6_readsVertex_101 ?_
      refine aw_iconst C (v := nI 0) (by decide) dX6_readsVertex_104 ?_
      refine tw_ld0 C (by omega) dX6_readsVertex_105 ?_
      refine aw_top (hp.2.1 _) ?_
      refine aw_iaddN C dX6_readsVertex_106 ?_
      refine aw_iload_n C rfl rfl dX6_readsVertex_107 ?_
      refine tw_st0 C (by omega) dX6_readsVertex_108 ?_
      have hbd := bd_upd hp.2.1 (4 + s4.2.1 0) m
      have e3 : updN s4.2.1 (4 + s4.2.1 0) m 0 = s4.2.1 0 := updN_n (by omega)
      refine aw_aload_n C rfl rfl dX6_readsVertex_109 ?_
      refine tw_get C 0 (by decide) q1818 rfl dX6_readsVertex_110 ?_
      refine aw_iconst C (v := nI 0) (by decide) dX6_readsVertex_113 ?_
      refine aw_dup2 C rfl rfl dX6_readsVertex_114 ?_
      refine tw_ld0 C (by omega) dX6_readsVertex_115 ?_
      refine aw_top ((hbd 0).trans (congrArg nI e3)) ?_
      refine aw_iconst C (v := nI 1) (by decide) dX6_readsVertex_116 ?_
      refine aw_iaddN C dX6_readsVertex_117 ?_
      refine tw_st0 C (by omega) dX6_readsVertex_118 ?_
      refine aw_vret C rfl dX6_readsVertex_119 (Nat.le_refl _) (Nat.le_refl _) ?_
      rw [he, vS4, if_pos g0]
      obtain ⟨hp9, hj9⟩ := hp.board (b := updN (updN s4.2.1 (4 + s4.2.1 0) m) 0 (s4.2.1 0 + 1)) (u' := tsa (tsa u2 0 (upd (u2.2 0) (4 + s4.2.1 0) (nI m))) 0 (upd ((tsa u2 0 (upd (u2.2 0) (4 + s4.2.1 0) (nI m))).2 0) 0 (nI (s4.2.1 0 + 1)))) rfl (fun i hi => by show (if i = 0 then _ else (if i = 0 then _ else u2.2 i)) = u2.2 i; rw [if_neg hi, if_neg hi]) (bd_upd hbd 0 (s4.2.1 0 + 1))
      exact ⟨rfl, rfl, _, rfl, hj.tr hj9, hp9⟩
    · refine aw_vret C rfl dX6_readsVertex_94 (Nat.le_refl _) (Nat.le_refl _) ?_
      rw [he, vS4, if_neg g0]
      exact ⟨rfl, rfl, _, rfl, hj, hp⟩
  have key27 : ∀ u1 s1, PR u1 bf n s1 → RJ u u1 → vS1 s = s1 → AW γ l x (QX γ x 0 0 (RUv o sz (fun u' => RJ u u' ∧ PR u' bf n (vS bf n s))) NX) 2 (th o u1) sz 0 0 27 [(0, .ref o)] [] := by
    intro u1 s1 hp hj he
    have hb1 : s1.2.1 = s.2.1 := by rw [← he]; exact vS1_b s
    have h31 : s1.2.1 1 ≤ 3 := by rw [hb1]; exact h1
    have h90 : s1.2.1 0 ≤ 9 := by rw [hb1]; exact h0
    refine aw_aload_n C rfl rfl dX6_readsVertex_27 ?_
    refine aw_iconst C (v := nI 1) (by decide) dX6_readsVertex_28 ?_
    refine tw_callV C (t6_must hG l o sz _ hp true) q1927 q1929 qs45 q120 q1930 (n9 := 1) (by decide +kernel) rfl (Nat.le_of_ble_eq_true rfl) (Nat.le_of_ble_eq_true rfl) (Nat.zero_le _) (Nat.zero_le _) rfl (Nat.le_of_ble_eq_true rfl) dX6_readsVertex_29 (fun u2 hq => ?_)
    obtain ⟨hj2, hp⟩ := hq
    have hj := hj.tr hj2
    have hb2 := muS_b bf n true s1
    generalize hs2 : muS bf n true s1 = s2 at hp hb2
    rw [← hb2] at h31 h90
    have hsh := one_shl (s2.2.1 1) (by omega)
    have hk4 := kd_lt (bf := bf) (n := n) (a := s2.1)
    refine aw_iconst C (v := nI 1) (by decide) dX6_readsVertex_32 ?_
    refine aw_aload_n C rfl rfl dX6_readsVertex_33 ?_
    refine tw_get C 0 (by decide) q1818 rfl dX6_readsVertex_34 ?_
    refine aw_iconst C (v := nI 1) (by decide) dX6_readsVertex_37 ?_
    refine tw_ld0 C (by omega) dX6_readsVertex_38 ?_
    refine aw_top ((hp.2.1 _)) ?_
    refine aw_ishlN C (by omega) dX6_readsVertex_39 ?_
    refine aw_iconst C (v := nI 1) (by decide) dX6_readsVertex_40 ?_
    refine aw_isubN C (by omega) dX6_readsVertex_41 ?_
    refine aw_istore_n C rfl (by decide) rfl dX6_readsVertex_42 ?_
    refine aw_aload_n C rfl rfl dX6_readsVertex_43 ?_
    refine tw_get C 15 (by decide) q1833 rfl dX6_readsVertex_44 ?_
    refine aw_top (hp.2.2.2.1) ?_
    refine aw_if_ne C (tgt := 83) dX6_readsVertex_47 (by decide) (fun g0 => ?_) (fun g0 => ?_)
    · exact aw_lo (key83 _ s2 _ hp hj h90 (by unfold vS; rw [he, hs2]; unfold vSl vS2; rw [if_neg (fun z => g0 z.1), if_neg (fun z => g0 z.1)])) ⟨rfl, rfl, trivial⟩
    · refine aw_aload_n C rfl rfl dX6_readsVertex_50 ?_
      refine tw_get C 13 (by decide) q1831 rfl dX6_readsVertex_51 ?_
      refine aw_top (hp.2.2.1.2.2.1) ?_
      refine aw_ifN_ne C (tgt := 83) (by omega) dX6_readsVertex_54 (by decide) (fun gk => ?_) (fun gk => ?_)
      · exact aw_lo (key83 _ s2 _ hp hj h90 (by unfold vS; rw [he, hs2]; unfold vSl vS2; rw [if_neg (fun z => by have := z.2; omega), if_neg (fun z => by have := z.2; omega)])) ⟨rfl, rfl, trivial⟩
      · have hs8 := letS_lt (bf := bf) (n := n) (a := s2.1) h31
        refine aw_aload_n C rfl rfl dX6_readsVertex_57 ?_
        refine tw_callR C (t6_lettersHere hG l o sz _ hp (by omega) h31) q1953 q1955 qs51 q120 q1956 (n9 := 0) (by decide +kernel) rfl (Nat.le_of_ble_eq_true rfl) (Nat.le_of_ble_eq_true rfl) (Nat.zero_le _) (Nat.zero_le _) rfl (Nat.le_of_ble_eq_true rfl) dX6_readsVertex_58 ?_
        refine aw_istore_n C rfl (by decide) rfl dX6_readsVertex_61 ?_
        refine aw_iload_n C rfl rfl dX6_readsVertex_62 ?_
        refine aw_ifN_ne C (tgt := 72) (by omega) dX6_readsVertex_63 (by decide) (fun gz => ?_) (fun gz => ?_)
        · refine aw_aload_n C rfl rfl dX6_readsVertex_72 ?_
          refine tw_get C 15 (by decide) q1833 rfl dX6_readsVertex_73 ?_
          refine aw_top (hp.2.2.2.1) ?_
          refine aw_if_ne C (tgt := 83) dX6_readsVertex_76 (by decide) (fun gw => ?_) (fun gw => ?_)
          · exact absurd g0 gw
          · refine aw_aload_n C rfl rfl dX6_readsVertex_79 ?_
            refine tw_callV C (t6_next hG l o sz _ hp.1 hp.2.2.1.2.1 (en_le hp.2.2.2.2.2).2) q1908 q1910 qs41 q120 q1911 (n9 := 0) (by decide +kernel) rfl (Nat.le_of_ble_eq_true rfl) (Nat.le_of_ble_eq_true rfl) (Nat.zero_le _) (Nat.zero_le _) rfl (Nat.le_of_ble_eq_true rfl) dX6_readsVertex_80 (fun u2 hq => ?_)
            obtain ⟨q1, q2, q3⟩ := hq
            obtain ⟨hp, hj2⟩ := hp.next gw q1 q2 q3
            have hj := hj.tr hj2
            exact aw_lo (key83 _ (nS bf n s2) _ hp hj (by rw [nS_b]; exact h90) (by unfold vS; rw [he, hs2]; unfold vSl vS2; rw [if_pos ⟨g0, by omega⟩, if_pos ⟨g0, by omega⟩, if_neg (by omega)])) ⟨rfl, rfl, trivial⟩
        · refine aw_aload_n C rfl rfl dX6_readsVertex_66 ?_
          refine aw_bipush C (v := -3) (by decide) dX6_readsVertex_67 ?_
          refine tw_callV C (t6_fails hG l o sz _ hp (-3)) q1931 q1933 qs46 q120 q1934 (n9 := 1) (by decide +kernel) rfl (Nat.le_of_ble_eq_true rfl) (Nat.le_of_ble_eq_true rfl) (Nat.zero_le _) (Nat.zero_le _) rfl (Nat.le_of_ble_eq_true rfl) dX6_readsVertex_69 (fun u3 hq => ?_)
          obtain ⟨hj2, hp⟩ := hq
          have hj := hj.tr hj2
          refine aw_aload_n C rfl rfl dX6_readsVertex_72 ?_
          refine tw_get C 15 (by decide) q1833 rfl dX6_readsVertex_73 ?_
          refine aw_top (hp.2.2.2.1) ?_
          refine aw_if_ne C (tgt := 83) dX6_readsVertex_76 (by decide) (fun gw => ?_) (fun gw => ?_)
          · exact aw_lo (key83 _ (fS (-3) s2) _ hp hj (by rw [fS_b]; exact h90) (by unfold vS; rw [he, hs2]; unfold vSl vS2; rw [if_pos ⟨g0, by omega⟩, if_pos ⟨g0, by omega⟩, if_pos (by omega), nS_n (fS_c g0)])) ⟨rfl, rfl, trivial⟩
          · exact absurd gw (fS_c g0)
  have hj := RJ.rf u
  have hpw : (s.2.1 1 + 1) ^ (s.2.1 0 + 1) ≤ 4 ^ 10 := Nat.le_trans (Nat.pow_le_pow_left (by omega) _) (Nat.pow_le_pow_right (by decide) (by omega))
  refine aw_aload_n C rfl rfl dX6_readsVertex_0 ?_
  refine tw_get C 0 (by decide) q1818 rfl dX6_readsVertex_1 ?_
  refine aw_iconst C (v := nI 0) (by decide) dX6_readsVertex_4 ?_
  refine tw_ld0 C (by omega) dX6_readsVertex_5 ?_
  refine aw_top ((hp.2.1 _)) ?_
  refine aw_bipush C (v := nI 9) (by decide) dX6_readsVertex_6 ?_
  refine aw_icmpN_eq C (tgt := 21) (by omega) (by omega) dX6_readsVertex_8 (by decide) (fun g9 => ?_) (fun g9 => ?_)
  · refine aw_aload_n C rfl rfl dX6_readsVertex_21 ?_
    refine aw_bipush C (v := -6) (by decide) dX6_readsVertex_22 ?_
    refine tw_callV C (t6_fails hG l o sz _ hp (-6)) q1931 q1933 qs46 q120 q1934 (n9 := 1) (by decide +kernel) rfl (Nat.le_of_ble_eq_true rfl) (Nat.le_of_ble_eq_true rfl) (Nat.zero_le _) (Nat.zero_le _) rfl (Nat.le_of_ble_eq_true rfl) dX6_readsVertex_24 (fun u2 hq => ?_)
    obtain ⟨hj2, hp⟩ := hq
    have hj := hj.tr hj2
    exact aw_lo (key27 _ _ hp hj (by unfold vS1; rw [if_pos (Or.inl (by omega))])) ⟨rfl, trivial⟩
  · refine aw_aload_n C rfl rfl dX6_readsVertex_11 ?_
    refine tw_callR C (t6_colouringsNext hG l o sz _ hp.2.1 h0) q1949 q1951 qs50 q120 q1952 (n9 := 0) (by decide +kernel) rfl (Nat.le_of_ble_eq_true rfl) (Nat.le_of_ble_eq_true rfl) (Nat.zero_le _) (Nat.zero_le _) rfl (Nat.le_of_ble_eq_true rfl) dX6_readsVertex_12 ?_
    refine aw_sipush C (v := nI 20000) (by decide) dX6_readsVertex_15 ?_
    refine aw_icmpN_le C (tgt := 27) (by omega) (by omega) dX6_readsVertex_18 (by decide) (fun gP => ?_) (fun gP => ?_)
    · exact aw_lo (key27 _ s hp hj (by unfold vS1; rw [if_neg (fun z => z.elim (fun z => by omega) (fun z => by omega))])) ⟨rfl, trivial⟩
    · refine aw_aload_n C rfl rfl dX6_readsVertex_21 ?_
      refine aw_bipush C (v := -6) (by decide) dX6_readsVertex_22 ?_
      refine tw_callV C (t6_fails hG l o sz _ hp (-6)) q1931 q1933 qs46 q120 q1934 (n9 := 1) (by decide +kernel) rfl (Nat.le_of_ble_eq_true rfl) (Nat.le_of_ble_eq_true rfl) (Nat.zero_le _) (Nat.zero_le _) rfl (Nat.le_of_ble_eq_true rfl) dX6_readsVertex_24 (fun u2 hq => ?_)
      obtain ⟨hj2, hp⟩ := hq
      have hj := hj.tr hj2
      exact aw_lo (key27 _ _ hp hj (by unfold vS1; rw [if_pos (Or.inr (by omega))])) ⟨rfl, trivial⟩
