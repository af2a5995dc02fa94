/-! the twin: reading a lay -/
theorem lS4_c {c : Nat} {s : RS} (h : (lS4 c s).2.2.1 = 0) : 1 ≤ c ∧ lS4 c s = s := by
  unfold lS4 at h ⊢
  by_cases e : c = 0
  · rw [if_pos e] at h
    by_cases g : s.2.2.1 = 0
    · exact absurd h (fS_c g)
    · unfold fS at h
      rw [if_neg g] at h
      exact absurd h g
  · rw [if_neg e]
    exact ⟨by omega, rfl⟩
theorem lS5_c {v c : Nat} {s : RS} (h : (lS5 v c s).2.2.1 = 0) : lS5 v c s = s ∧ ¬ 0 < why s.2.1 v (c - 1) := by
  unfold lS5 at h ⊢
  by_cases e : s.2.2.1 = 0 ∧ 0 < why s.2.1 v (c - 1)
  · rw [if_pos e] at h
    exact absurd h (fS_c e.1)
  · rw [if_neg e] at h ⊢
    exact ⟨rfl, fun z => e ⟨h, z⟩⟩
theorem lS4_b (c : Nat) (s : RS) : (lS4 c s).2.1 = s.2.1 := by
  unfold lS4
  split
  · exact fS_b _ _
  · rfl
theorem lS5_b (v c : Nat) (s : RS) : (lS5 v c s).2.1 = s.2.1 := by
  unfold lS5
  split
  · exact fS_b _ _
  · rfl
theorem lC_k {bf : List Nat} {n : Nat} {s : RS} (h : (lC bf n s).2.2.1 = 0) : kd bf n (lC bf n s).1 = 0 := by
  unfold lC lS3 at h ⊢
  by_cases e : (eB bf n s).2.2.1 = 0 ∧ ¬ kd bf n (eB bf n s).1 = 0
  · rw [if_pos e] at h
    exact absurd h (fS_c e.1)
  · rw [if_neg e] at h ⊢
    by_cases g : kd bf n (eB bf n s).1 = 0
    · exact g
    · exact absurd ⟨h, g⟩ e

set_option maxRecDepth 100000 in
theorem t6_readsLay {γ : Gm} (hG : GF γ) (l : Launch) (o sz : Nat) (u : TU)  {bf : List Nat} {n : Nat} {s : RS} (hp : PR u bf n s) (hA : WA s.2.1) (hm : s.2.1 3 < 4096) : MX γ l yX6_readsLay cX6_readsLay 4 none 5 112 0 0 [.ref o] (th o u) sz (RUv o sz (fun u' => RJ u u' ∧ PR u' bf n (lS bf n s))) NX := by
  refine mx_start hG (by decide) (Nat.le_of_ble_eq_true rfl) (fun x C => ?_)
  have hW := hA.w
  have hN := hW.2.1
  have hC3 := hW.2.2.2.1
  have hol := e1_lt (bf := bf) (n := n) (s := s) hW
  have hld := lSc_le (lSs bf n (lC bf n s))
  have hlD : lD bf n s ≤ 3 := hld
  have key130 : ∀ u1, PR u1 bf n (lS6 (e1 bf n s) (lD bf n s) (lS5 (e1 bf n s) (lD bf n s) (lS4 (lD bf n s) (lC bf n s)))) → RJ u u1 → AW γ l x (QX γ x 0 0 (RUv o sz (fun u' => RJ u u' ∧ PR u' bf n (lS bf n s))) NX) 4 (th o u1) sz 0 0 130 [(0, .ref o), (1, .int (nI (e1 bf n s)))] [] := by
    intro u1 hp hj
    refine aw_aload_n C rfl rfl dX6_readsLay_130 ?_
    refine aw_iconst C (v := nI 1) (by decide) dX6_readsLay_131 ?_
    refine tw_callV C (t6_must hG l o sz _ hp true) q1927 q1929 qs45 q120 q1930 (n9 := 1) (by decide +kernel) rfl (Nat.le_of_ble_eq_true rfl) (Nat.le_of_ble_eq_true rfl) (Nat.zero_le _) (Nat.zero_le _) rfl (Nat.le_of_ble_eq_true rfl) dX6_readsLay_132 (fun u2 hq => ?_)
    obtain ⟨hj2, hp⟩ := hq
    have hj := hj.tr hj2
    refine aw_aload_n C rfl rfl dX6_readsLay_135 ?_
    refine tw_callV C (t6_mustEnd hG l o sz _ hp) q1940 q1942 qs48 q120 q1943 (n9 := 0) (by decide +kernel) rfl (Nat.le_of_ble_eq_true rfl) (Nat.le_of_ble_eq_true rfl) (Nat.zero_le _) (Nat.zero_le _) rfl (Nat.le_of_ble_eq_true rfl) dX6_readsLay_136 (fun u2 hq => ?_)
    obtain ⟨hj2, hp⟩ := hq
    have hj := hj.tr hj2
    exact aw_vret C rfl dX6_readsLay_139 (Nat.le_refl _) (Nat.le_refl _) ⟨rfl, rfl, _, rfl, hj, hp⟩
  have key117 : ∀ u1, PR u1 bf n (lS5 (e1 bf n s) (lD bf n s) (lS4 (lD bf n s) (lC bf n s))) → RJ u u1 → AW γ l x (QX γ x 0 0 (RUv o sz (fun u' => RJ u u' ∧ PR u' bf n (lS bf n s))) NX) 4 (th o u1) sz 0 0 117 [(0, .ref o), (1, .int (nI (e1 bf n s))), (3, .int (nI (lD bf n s) - nI 1))] [] := by
    intro u1 hp hj
    refine aw_aload_n C rfl rfl dX6_readsLay_117 ?_
    refine tw_get C 15 (by decide) q1833 rfl dX6_readsLay_118 ?_
    refine aw_top (hp.2.2.2.1) ?_
    refine aw_if_ne C (tgt := 130) dX6_readsLay_121 (by decide) (fun g0 => ?_) (fun g0 => ?_)
    · exact aw_lo (key130 _ (by unfold lS6; rw [if_neg g0]; exact hp) hj) ⟨rfl, rfl, trivial⟩
    · obtain ⟨f1, f2⟩ := lS5_c g0
      rw [f1] at g0 hp
      obtain ⟨f3, f4⟩ := lS4_c g0
      rw [f4, lC_b] at f2
      obtain ⟨f5, f6⟩ := why_ok hW hol f2
      have hb4 : (lS4 (lD bf n s) (lC bf n s)).2.1 = s.2.1 := (lS4_b _ _).trans (lC_b _ _ _)
      have hbd : BD u1 s.2.1 := by rw [← hb4]; exact hp.2.1
      refine aw_aload_n C rfl rfl dX6_readsLay_124 ?_
      refine aw_iload_n C rfl rfl dX6_readsLay_125 ?_
      refine aw_iload_n C rfl rfl dX6_readsLay_126 ?_
      refine aw_top (pk_sub f3) ?_
      refine tw_callV C (t6_lays hG l o sz _ hbd hA hol f6 hm) q2011 q2013 qs64 q120 q2014 (n9 := 2) (by decide +kernel) rfl (Nat.le_of_ble_eq_true rfl) (Nat.le_of_ble_eq_true rfl) (Nat.zero_le _) (Nat.zero_le _) rfl (Nat.le_of_ble_eq_true rfl) dX6_readsLay_127 (fun u2 hq => ?_)
      obtain ⟨q1, q2, q3, q4⟩ := hq
      obtain ⟨hp9, hj9⟩ := hp.board q1.1 (fun i hi => by
        by_cases e : i = 18
        · rw [e]; exact q3
        · by_cases e2 : i = 19
          · rw [e2]; exact q4
          · exact q1.2 i hi e e2) q2
      exact aw_lo (key130 _ (by unfold lS6; rw [f1, if_pos g0, hb4]; exact hp9) (hj.tr hj9)) ⟨rfl, rfl, trivial⟩
  have key95 : ∀ u1, PR u1 bf n (lS4 (lD bf n s) (lC bf n s)) → RJ u u1 → AW γ l x (QX γ x 0 0 (RUv o sz (fun u' => RJ u u' ∧ PR u' bf n (lS bf n s))) NX) 4 (th o u1) sz 0 0 95 [(0, .ref o), (1, .int (nI (e1 bf n s))), (3, .int (nI (lD bf n s) - nI 1))] [] := by
    intro u1 hp hj
    have hb4 : (lS4 (lD bf n s) (lC bf n s)).2.1 = s.2.1 := (lS4_b _ _).trans (lC_b _ _ _)
    have hbd : BD u1 s.2.1 := by rw [← hb4]; exact hp.2.1
    refine aw_aload_n C rfl rfl dX6_readsLay_95 ?_
    refine tw_get C 15 (by decide) q1833 rfl dX6_readsLay_96 ?_
    refine aw_top (hp.2.2.2.1) ?_
    refine aw_if_ne C (tgt := 117) dX6_readsLay_99 (by decide) (fun g0 => ?_) (fun g0 => ?_)
    · exact aw_lo (key117 _ (by unfold lS5; rw [if_neg (fun z => g0 z.1)]; exact hp) hj) ⟨rfl, rfl, rfl, trivial⟩
    · obtain ⟨f3, f4⟩ := lS4_c g0
      have hwl : why s.2.1 (e1 bf n s) (lD bf n s - 1) < 5 := by unfold why; (repeat' split) <;> decide
      refine aw_aload_n C rfl rfl dX6_readsLay_102 ?_
      refine aw_iload_n C rfl rfl dX6_readsLay_103 ?_
      refine aw_iload_n C rfl rfl dX6_readsLay_104 ?_
      refine aw_top (pk_sub f3) ?_
      refine tw_callR C (t6_whyNot hG l o sz _ hbd hW (by omega) (by omega)) q1972 q1974 qs55 q120 q1975 (n9 := 2) (by decide +kernel) rfl (Nat.le_of_ble_eq_true rfl) (Nat.le_of_ble_eq_true rfl) (Nat.zero_le _) (Nat.zero_le _) rfl (Nat.le_of_ble_eq_true rfl) dX6_readsLay_105 ?_
      refine aw_ifN_le C (tgt := 117) (by omega) dX6_readsLay_108 (by decide) (fun gw => ?_) (fun gw => ?_)
      · exact aw_lo (key117 _ (by unfold lS5; rw [if_neg (fun z => by have := z.2; rw [hb4] at this; omega)]; exact hp) hj) ⟨rfl, rfl, rfl, trivial⟩
      · refine aw_aload_n C rfl rfl dX6_readsLay_111 ?_
        refine aw_bipush C (v := -5) (by decide) dX6_readsLay_112 ?_
        refine tw_callV C (t6_fails hG l o sz _ hp (-5)) q1931 q1933 qs46 q120 q1934 (n9 := 1) (by decide +kernel) rfl (Nat.le_of_ble_eq_true rfl) (Nat.le_of_ble_eq_true rfl) (Nat.zero_le _) (Nat.zero_le _) rfl (Nat.le_of_ble_eq_true rfl) dX6_readsLay_114 (fun u2 hq => ?_)
        obtain ⟨hj2, hp⟩ := hq
        have hj := hj.tr hj2
        exact aw_lo (key117 _ (by unfold lS5; rw [if_pos ⟨g0, by rw [hb4]; omega⟩]; exact hp) hj) ⟨rfl, rfl, rfl, trivial⟩
  have key84 : ∀ u1, PR u1 bf n (lC bf n s) → RJ u u1 → AW γ l x (QX γ x 0 0 (RUv o sz (fun u' => RJ u u' ∧ PR u' bf n (lS bf n s))) NX) 4 (th o u1) sz 0 0 84 [(0, .ref o), (1, .int (nI (e1 bf n s))), (3, .int (nI (lD bf n s) - nI 1))] [] := by
    intro u1 hp hj
    refine aw_iload_n C rfl rfl dX6_readsLay_84 ?_
    refine aw_iconst C (v := -1) (by decide) dX6_readsLay_85 ?_
    refine aw_icmp_ne C (tgt := 95) dX6_readsLay_86 (by decide) (fun gc => ?_) (fun gc => ?_)
    · exact aw_lo (key95 _ (by unfold lS4; rw [if_neg (mt (m1_p (by omega)).mpr gc)]; exact hp) hj) ⟨rfl, rfl, rfl, trivial⟩
    · refine aw_aload_n C rfl rfl dX6_readsLay_89 ?_
      refine aw_bipush C (v := -3) (by decide) dX6_readsLay_90 ?_
      refine tw_callV C (t6_fails hG l o sz _ hp (-3)) q1931 q1933 qs46 q120 q1934 (n9 := 1) (by decide +kernel) rfl (Nat.le_of_ble_eq_true rfl) (Nat.le_of_ble_eq_true rfl) (Nat.zero_le _) (Nat.zero_le _) rfl (Nat.le_of_ble_eq_true rfl) dX6_readsLay_92 (fun u2 hq => ?_)
      obtain ⟨hj2, hp⟩ := hq
      have hj := hj.tr hj2
      exact aw_lo (key95 _ (by unfold lS4; rw [if_pos ((m1_p (by omega)).mp gc)]; exact hp) hj) ⟨rfl, rfl, rfl, trivial⟩
  have key54 : ∀ u1, PR u1 bf n (lC bf n s) → RJ u u1 → AW γ l x (QX γ x 0 0 (RUv o sz (fun u' => RJ u u' ∧ PR u' bf n (lS bf n s))) NX) 4 (th o u1) sz 0 0 54 [(0, .ref o), (1, .int (nI (e1 bf n s)))] [.int (nI (lSs bf n (lC bf n s)))] := by
    intro u1 hp hj
    have hls : lSs bf n (lC bf n s) < 8 := by
      unfold lSs
      split
      · exact letS_lt (by rw [lC_b]; exact hC3)
      · decide
    refine aw_istore_n C rfl (by decide) rfl dX6_readsLay_54 ?_
    refine aw_iload_n C rfl rfl dX6_readsLay_55 ?_
    refine aw_iconst C (v := nI 1) (by decide) dX6_readsLay_56 ?_
    refine aw_icmpN_ne C (tgt := 64) (by omega) (by omega) dX6_readsLay_57 (by decide) (fun c1 => ?_) (fun c1 => ?_)
    · refine aw_iload_n C rfl rfl dX6_readsLay_64 ?_
      refine aw_iconst C (v := nI 2) (by decide) dX6_readsLay_65 ?_
      refine aw_icmpN_ne C (tgt := 73) (by omega) (by omega) dX6_readsLay_66 (by decide) (fun c2 => ?_) (fun c2 => ?_)
      · refine aw_iload_n C rfl rfl dX6_readsLay_73 ?_
        refine aw_iconst C (v := nI 4) (by decide) dX6_readsLay_74 ?_
        refine aw_icmpN_ne C (tgt := 82) (by omega) (by omega) dX6_readsLay_75 (by decide) (fun c4 => ?_) (fun c4 => ?_)
        · refine aw_iconst C (v := -1) (by decide) dX6_readsLay_82 ?_
          refine aw_top (show _ = nI (lD bf n s) - nI 1 from ?_) ?_
          · unfold lD lSc
            first
              | (rw [if_pos (by omega)]; rfl)
              | (rw [if_neg (by omega), if_pos (by omega)]; rfl)
              | (rw [if_neg (by omega), if_neg (by omega), if_pos (by omega)]; rfl)
              | (rw [if_neg (by omega), if_neg (by omega), if_neg (by omega)]; rfl)
          refine aw_istore_n C rfl (by decide) rfl dX6_readsLay_83 ?_
          exact aw_lo (key84 _ hp hj) ⟨rfl, rfl, rfl, trivial⟩
        · refine aw_iconst C (v := nI 2) (by decide) dX6_readsLay_78 ?_
          refine aw_goto C (tgt := 83) dX6_readsLay_79 (by decide) ?_
          refine aw_top (show _ = nI (lD bf n s) - nI 1 from ?_) ?_
          · unfold lD lSc
            first
              | (rw [if_pos (by omega)]; rfl)
              | (rw [if_neg (by omega), if_pos (by omega)]; rfl)
              | (rw [if_neg (by omega), if_neg (by omega), if_pos (by omega)]; rfl)
              | (rw [if_neg (by omega), if_neg (by omega), if_neg (by omega)]; rfl)
          refine aw_istore_n C rfl (by decide) rfl dX6_readsLay_83 ?_
          exact aw_lo (key84 _ hp hj) ⟨rfl, rfl, rfl, trivial⟩
      · refine aw_iconst C (v := nI 1) (by decide) dX6_readsLay_69 ?_
        refine aw_goto C (tgt := 83) dX6_readsLay_70 (by decide) ?_
        refine aw_top (show _ = nI (lD bf n s) - nI 1 from ?_) ?_
        · unfold lD lSc
          first
            | (rw [if_pos (by omega)]; rfl)
            | (rw [if_neg (by omega), if_pos (by omega)]; rfl)
            | (rw [if_neg (by omega), if_neg (by omega), if_pos (by omega)]; rfl)
            | (rw [if_neg (by omega), if_neg (by omega), if_neg (by omega)]; rfl)
        refine aw_istore_n C rfl (by decide) rfl dX6_readsLay_83 ?_
        exact aw_lo (key84 _ hp hj) ⟨rfl, rfl, rfl, trivial⟩
    · refine aw_iconst C (v := nI 0) (by decide) dX6_readsLay_60 ?_
      refine aw_goto C (tgt := 83) dX6_readsLay_61 (by decide) ?_
      refine aw_top (show _ = nI (lD bf n s) - nI 1 from ?_) ?_
      · unfold lD lSc
        first
          | (rw [if_pos (by omega)]; rfl)
          | (rw [if_neg (by omega), if_pos (by omega)]; rfl)
          | (rw [if_neg (by omega), if_neg (by omega), if_pos (by omega)]; rfl)
          | (rw [if_neg (by omega), if_neg (by omega), if_neg (by omega)]; rfl)
      refine aw_istore_n C rfl (by decide) rfl dX6_readsLay_83 ?_
      exact aw_lo (key84 _ hp hj) ⟨rfl, rfl, rfl, trivial⟩
  have key39 : ∀ u1, PR u1 bf n (lC bf n s) → RJ u u1 → AW γ l x (QX γ x 0 0 (RUv o sz (fun u' => RJ u u' ∧ PR u' bf n (lS bf n s))) NX) 4 (th o u1) sz 0 0 39 [(0, .ref o), (1, .int (nI (e1 bf n s)))] [] := by
    intro u1 hp hj
    refine aw_aload_n C rfl rfl dX6_readsLay_39 ?_
    refine tw_get C 15 (by decide) q1833 rfl dX6_readsLay_40 ?_
    refine aw_top (hp.2.2.2.1) ?_
    refine aw_if_ne C (tgt := 53) dX6_readsLay_43 (by decide) (fun g0 => ?_) (fun g0 => ?_)
    · refine aw_iconst C (v := nI 0) (by decide) dX6_readsLay_53 ?_
      refine aw_top (show _ = nI (lSs bf n (lC bf n s)) from by unfold lSs; rw [if_neg g0]) ?_
      exact aw_lo (key54 _ hp hj) ⟨rfl, rfl, trivial⟩
    · refine aw_aload_n C rfl rfl dX6_readsLay_46 ?_
      refine tw_callR C (t6_lettersHere hG l o sz _ hp (lC_k g0) (by rw [lC_b]; exact hC3)) q1953 q1955 qs51 q120 q1956 (n9 := 0) (by decide +kernel) rfl (Nat.le_of_ble_eq_true rfl) (Nat.le_of_ble_eq_true rfl) (Nat.zero_le _) (Nat.zero_le _) rfl (Nat.le_of_ble_eq_true rfl) dX6_readsLay_47 ?_
      refine aw_goto C (tgt := 54) dX6_readsLay_50 (by decide) ?_
      refine aw_top (show _ = nI (lSs bf n (lC bf n s)) from by unfold lSs; rw [if_pos g0]) ?_
      exact aw_lo (key54 _ hp hj) ⟨rfl, rfl, trivial⟩
  have hj := RJ.rf u
  refine aw_aload_n C rfl rfl dX6_readsLay_0 ?_
  refine aw_iconst C (v := nI 1) (by decide) dX6_readsLay_1 ?_
  refine tw_callV C (t6_must hG l o sz _ hp true) q1927 q1929 qs45 q120 q1930 (n9 := 1) (by decide +kernel) rfl (Nat.le_of_ble_eq_true rfl) (Nat.le_of_ble_eq_true rfl) (Nat.zero_le _) (Nat.zero_le _) rfl (Nat.le_of_ble_eq_true rfl) dX6_readsLay_2 (fun u2 hq => ?_)
  obtain ⟨hj2, hp⟩ := hq
  have hj := hj.tr hj2
  have hb : (eA bf n s).2.1 = s.2.1 := eA_b _ _ _
  have hp : PR u2 bf n (eA bf n s) := hp
  refine aw_aload_n C rfl rfl dX6_readsLay_5 ?_
  refine aw_iconst C (v := nI 0) (by decide) dX6_readsLay_6 ?_
  refine aw_aload_n C rfl rfl dX6_readsLay_7 ?_
  refine tw_get C 0 (by decide) q1818 rfl dX6_readsLay_8 ?_
  refine aw_iconst C (v := nI 0) (by decide) dX6_readsLay_11 ?_
  refine tw_ld0 C (by omega) dX6_readsLay_12 ?_
  refine aw_top ((hp.2.1 _).trans (congrArg nI (congrFun hb _))) ?_
  refine aw_iconst C (v := nI 1) (by decide) dX6_readsLay_13 ?_
  refine aw_isub C dX6_readsLay_14 ?_
  refine tw_callI C (t6_takes hG l o sz _ hp (nI 0) (nI (s.2.1 0) - nI 1)) q1935 q1937 qs47 q120 q1938 (n9 := 2) (by decide +kernel) rfl (Nat.le_of_ble_eq_true rfl) (Nat.le_of_ble_eq_true rfl) (Nat.zero_le _) (Nat.zero_le _) rfl (Nat.le_of_ble_eq_true rfl) dX6_readsLay_15 (fun r u2 hq => ?_)
  obtain ⟨rfl, hj2, hp⟩ := hq
  have hj := hj.tr hj2
  refine aw_top (show _ = nI (e1 bf n s) from rfl) ?_
  have hb : (eB bf n s).2.1 = s.2.1 := eB_b _ _ _
  have hp : PR u2 bf n (eB bf n s) := hp
  have hk4 := kd_lt (bf := bf) (n := n) (a := (eB bf n s).1)
  refine aw_istore_n C rfl (by decide) rfl dX6_readsLay_18 ?_
  refine aw_aload_n C rfl rfl dX6_readsLay_19 ?_
  refine tw_get C 15 (by decide) q1833 rfl dX6_readsLay_20 ?_
  refine aw_top (hp.2.2.2.1) ?_
  refine aw_if_ne C (tgt := 39) dX6_readsLay_23 (by decide) (fun g0 => ?_) (fun g0 => ?_)
  · exact aw_lo (key39 _ (by unfold lC lS3; rw [if_neg (fun z => g0 z.1)]; exact hp) hj) ⟨rfl, rfl, trivial⟩
  · refine aw_aload_n C rfl rfl dX6_readsLay_26 ?_
    refine tw_get C 13 (by decide) q1831 rfl dX6_readsLay_27 ?_
    refine aw_top (hp.2.2.1.2.2.1) ?_
    refine aw_ifN_eq C (tgt := 39) (by omega) dX6_readsLay_30 (by decide) (fun gk => ?_) (fun gk => ?_)
    · exact aw_lo (key39 _ (by unfold lC lS3; rw [if_neg (fun z => z.2 (by omega))]; exact hp) hj) ⟨rfl, rfl, trivial⟩
    · refine aw_aload_n C rfl rfl dX6_readsLay_33 ?_
      refine aw_bipush C (v := -2) (by decide) dX6_readsLay_34 ?_
      refine tw_callV C (t6_fails hG l o sz _ hp (-2)) q1931 q1933 qs46 q120 q1934 (n9 := 1) (by decide +kernel) rfl (Nat.le_of_ble_eq_true rfl) (Nat.le_of_ble_eq_true rfl) (Nat.zero_le _) (Nat.zero_le _) rfl (Nat.le_of_ble_eq_true rfl) dX6_readsLay_36 (fun u2 hq => ?_)
      obtain ⟨hj2, hp⟩ := hq
      have hj := hj.tr hj2
      exact aw_lo (key39 _ (by unfold lC lS3; rw [if_pos ⟨g0, by omega⟩]; exact hp) hj) ⟨rfl, rfl, trivial⟩
