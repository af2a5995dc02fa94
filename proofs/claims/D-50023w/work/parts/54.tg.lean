/-! the twin: statements, on -/
theorem eA_b (bf : List Nat) (n : Nat) (s : RS) : (eA bf n s).2.1 = s.2.1 := muS_b _ _ _ _
theorem eB_b (bf : List Nat) (n : Nat) (s : RS) : (eB bf n s).2.1 = s.2.1 := (tkS_b _ _ _ _ _).trans (eA_b _ _ _)
theorem eS3_b (bf : List Nat) (n one : Nat) (s : RS) : (eS3 bf n one s).2.1 = s.2.1 := by
  unfold eS3
  split
  · exact fS_b _ _
  · rfl
theorem eS4_b (bf : List Nat) (n one : Nat) (s : RS) : (eS4 bf n one s).2.1 = s.2.1 := by
  unfold eS4
  split
  · exact fS_b _ _
  · rfl
theorem eC_b (bf : List Nat) (n : Nat) (s : RS) : (eC bf n s).2.1 = s.2.1 := (eS4_b _ _ _ _).trans ((eS3_b _ _ _ _).trans (eB_b _ _ _))
theorem lC_b (bf : List Nat) (n : Nat) (s : RS) : (lC bf n s).2.1 = s.2.1 := by
  unfold lC lS3
  split
  · exact (fS_b _ _).trans (eB_b _ _ _)
  · exact eB_b _ _ _
theorem e1_lt {bf : List Nat} {n : Nat} {s : RS} (hW : WB s.2.1) : e1 bf n s < s.2.1 0 := tkV_lt hW.1 hW.2.1
theorem lSc_le (S : Nat) : lSc S ≤ 3 := by
  unfold lSc
  (repeat' split) <;> decide
theorem link_bd {u : TU} {b : BT} (hu : BD u b) (one other : Nat) : BD (tsa (tsa u 0 (upd (u.2 0) (13 + one) (nI (b (13 + one) ||| 1 <<< other)))) 0 (upd ((tsa u 0 (upd (u.2 0) (13 + one) (nI (b (13 + one) ||| 1 <<< other)))).2 0) (13 + other) (nI (updN b (13 + one) (b (13 + one) ||| 1 <<< other) (13 + other) ||| 1 <<< one)))) (linkB b one other) := bd_upd (bd_upd hu _ _) _ _
theorem why_ok {b : BT} (hW : WB b) {v c : Nat} (hv : v < b 0) (h : ¬ 0 < why b v c) : (cols b v).testBit c = true ∧ c < b 1 := by
  have hc : (cols b v).testBit c = true := by
    unfold why at h
    split at h
    · exact absurd (by decide) h
    · split at h
      · exact absurd (by decide) h
      · split at h
        · exact absurd (by decide) h
        · split at h
          · assumption
          · exact absurd (by decide) h
  exact ⟨hc, cols_b1 hW (by have := hW.2.1; omega) hc⟩

set_option maxRecDepth 100000 in
theorem t6_readsEdge {γ : Gm} (hG : GF γ) (l : Launch) (o sz : Nat) (u : TU)  {bf : List Nat} {n : Nat} {s : RS} (hp : PR u bf n s) (hA : WA s.2.1) : MX γ l yX6_readsEdge cX6_readsEdge 3 none 4 83 0 0 [.ref o] (th o u) sz (RUv o sz (fun u' => RJ u u' ∧ PR u' bf n (eS bf n s))) NX := by
  refine mx_start hG (by decide) (Nat.le_of_ble_eq_true rfl) (fun x C => ?_)
  have hW := hA.w
  have hN := hW.2.1
  have hC3 := hW.2.2.2.1
  have hol := e1_lt (bf := bf) (n := n) (s := s) hW
  have key94 : ∀ u1, PR u1 bf n (eC bf n s) → RJ u u1 → AW γ l x (QX γ x 0 0 (RUv o sz (fun u' => RJ u u' ∧ PR u' bf n (eS bf n s))) NX) 3 (th o u1) sz 0 0 94 [(0, .ref o), (1, .int (nI (e1 bf n s)))] [] := by
    intro u1 hp hj
    have hb : (eC bf n s).2.1 = s.2.1 := eC_b _ _ _
    refine aw_aload_n C rfl rfl dX6_readsEdge_94 ?_
    refine aw_iconst C (v := nI 0) (by decide) dX6_readsEdge_95 ?_
    refine aw_aload_n C rfl rfl dX6_readsEdge_96 ?_
    refine tw_get C 0 (by decide) q1818 rfl dX6_readsEdge_97 ?_
    refine aw_iconst C (v := nI 0) (by decide) dX6_readsEdge_100 ?_
    refine tw_ld0 C (by omega) dX6_readsEdge_101 ?_
    refine aw_top ((hp.2.1 _).trans (congrArg nI (congrFun hb _))) ?_
    refine aw_iconst C (v := nI 1) (by decide) dX6_readsEdge_102 ?_
    refine aw_isub C dX6_readsEdge_103 ?_
    refine tw_callI C (t6_takes hG l o sz _ hp (nI 0) (nI (s.2.1 0) - nI 1)) q1935 q1937 qs47 q120 q1938 (n9 := 2) (by decide +kernel) rfl (Nat.le_of_ble_eq_true rfl) (Nat.le_of_ble_eq_true rfl) (Nat.zero_le _) (Nat.zero_le _) rfl (Nat.le_of_ble_eq_true rfl) dX6_readsEdge_104 (fun r u2 hq => ?_)
    obtain ⟨rfl, hj2, hp⟩ := hq
    have hj := hj.tr hj2
    have hot := tkV_lt (bf := bf) (n := n) (s := eC bf n s) hW.1 hN
    refine aw_istore_n C rfl (by decide) rfl dX6_readsEdge_107 ?_
    refine aw_aload_n C rfl rfl dX6_readsEdge_108 ?_
    refine tw_callV C (t6_mustEnd hG l o sz _ hp) q1940 q1942 qs48 q120 q1943 (n9 := 0) (by decide +kernel) rfl (Nat.le_of_ble_eq_true rfl) (Nat.le_of_ble_eq_true rfl) (Nat.zero_le _) (Nat.zero_le _) rfl (Nat.le_of_ble_eq_true rfl) dX6_readsEdge_109 (fun u2 hq => ?_)
    obtain ⟨hj2, hp⟩ := hq
    have hj := hj.tr hj2
    have hb : (meS bf n (tkS bf n (nI 0) (nI (s.2.1 0) - nI 1) (eC bf n s))).2.1 = s.2.1 := by rw [meS_b, tkS_b]; exact eC_b _ _ _
    generalize ho : tkV bf n (nI 0) (nI (s.2.1 0) - nI 1) (eC bf n s) = other at *
    generalize hs6 : meS bf n (tkS bf n (nI 0) (nI (s.2.1 0) - nI 1) (eC bf n s)) = s6 at *
    refine aw_aload_n C rfl rfl dX6_readsEdge_112 ?_
    refine tw_get C 15 (by decide) q1833 rfl dX6_readsEdge_113 ?_
    refine aw_top (hp.2.2.2.1) ?_
    refine aw_if_eq C (tgt := 120) dX6_readsEdge_116 (by decide) (fun g0 => ?_) (fun g0 => ?_)
    · have hbd : BD u2 s.2.1 := by rw [← hb]; exact hp.2.1
      have h91 := hW.n9 (v := e1 bf n s) (by omega)
      refine aw_aload_n C rfl rfl dX6_readsEdge_120 ?_
      refine tw_get C 0 (by decide) q1818 rfl dX6_readsEdge_121 ?_
      refine aw_bipush C (v := nI 13) (by decide) dX6_readsEdge_124 ?_
      refine aw_iload_n C rfl rfl dX6_readsEdge_126 ?_
      refine aw_iaddN C dX6_readsEdge_127 ?_
      refine aw_dup2 C rfl rfl dX6_readsEdge_128 ?_
      refine tw_ld0 C (by omega) dX6_readsEdge_129 ?_
      refine aw_top (hbd _) ?_
      refine aw_iconst C (v := nI 1) (by decide) dX6_readsEdge_130 ?_
      refine aw_iload_n C rfl rfl dX6_readsEdge_131 ?_
      refine aw_ishlN C (by omega) dX6_readsEdge_132 ?_
      refine aw_iorN C dX6_readsEdge_133 ?_
      refine tw_st0 C (by omega) dX6_readsEdge_134 ?_
      refine aw_aload_n C rfl rfl dX6_readsEdge_135 ?_
      refine tw_get C 0 (by decide) q1818 rfl dX6_readsEdge_136 ?_
      refine aw_bipush C (v := nI 13) (by decide) dX6_readsEdge_139 ?_
      refine aw_iload_n C rfl rfl dX6_readsEdge_141 ?_
      refine aw_iaddN C dX6_readsEdge_142 ?_
      refine aw_dup2 C rfl rfl dX6_readsEdge_143 ?_
      refine tw_ld0 C (by omega) dX6_readsEdge_144 ?_
      refine aw_top (bd_upd hbd (13 + e1 bf n s) (s.2.1 (13 + e1 bf n s) ||| 1 <<< other) _) ?_
      refine aw_iconst C (v := nI 1) (by decide) dX6_readsEdge_145 ?_
      refine aw_iload_n C rfl rfl dX6_readsEdge_146 ?_
      refine aw_ishlN C (by omega) dX6_readsEdge_147 ?_
      refine aw_iorN C dX6_readsEdge_148 ?_
      refine tw_st0 C (by omega) dX6_readsEdge_149 ?_
      refine aw_vret C rfl dX6_readsEdge_150 (Nat.le_refl _) (Nat.le_refl _) ?_
      unfold eS eS6
      rw [ho, hs6, if_pos g0, hb]
      obtain ⟨hp9, hj9⟩ := hp.board (b := linkB s.2.1 (e1 bf n s) other) (u' := tsa (tsa u2 0 (upd (u2.2 0) (13 + e1 bf n s) (nI (s.2.1 (13 + e1 bf n s) ||| 1 <<< other)))) 0 (upd ((tsa u2 0 (upd (u2.2 0) (13 + e1 bf n s) (nI (s.2.1 (13 + e1 bf n s) ||| 1 <<< other)))).2 0) (13 + other) (nI (updN s.2.1 (13 + e1 bf n s) (s.2.1 (13 + e1 bf n s) ||| 1 <<< other) (13 + other) ||| 1 <<< e1 bf n s)))) rfl (fun i hi => by show (if i = 0 then _ else (if i = 0 then _ else u2.2 i)) = u2.2 i; rw [if_neg hi, if_neg hi]) (link_bd hbd _ _)
      exact ⟨rfl, rfl, _, rfl, hj.tr hj9, hp9⟩
    · refine aw_vret C rfl dX6_readsEdge_119 (Nat.le_refl _) (Nat.le_refl _) ?_
      unfold eS eS6
      rw [ho, hs6, if_neg g0]
      exact ⟨rfl, rfl, _, rfl, hj, hp⟩
  have key48 : ∀ u1 s3, PR u1 bf n s3 → RJ u u1 → eS3 bf n (e1 bf n s) (eB bf n s) = s3 → AW γ l x (QX γ x 0 0 (RUv o sz (fun u' => RJ u u' ∧ PR u' bf n (eS bf n s))) NX) 3 (th o u1) sz 0 0 48 [(0, .ref o), (1, .int (nI (e1 bf n s)))] [] := by
    intro u1 s3 hp hj he
    have hb : s3.2.1 = s.2.1 := by rw [← he]; exact (eS3_b _ _ _ _).trans (eB_b _ _ _)
    have hk4 := kd_lt (bf := bf) (n := n) (a := s3.1)
    have hnm := nm_lt bf n s3.1
    have hbd : BD u1 s.2.1 := by rw [← hb]; exact hp.2.1
    have h91 := hW.n9 (v := e1 bf n s) (by omega)
    refine aw_aload_n C rfl rfl dX6_readsEdge_48 ?_
    refine tw_get C 15 (by decide) q1833 rfl dX6_readsEdge_49 ?_
    refine aw_top (hp.2.2.2.1) ?_
    refine aw_if_ne C (tgt := 94) dX6_readsEdge_52 (by decide) (fun g0 => ?_) (fun g0 => ?_)
    · exact aw_lo (key94 _ (by unfold eC eS4; rw [he, if_neg (fun z => g0 z.1)]; exact hp) hj) ⟨rfl, rfl, trivial⟩
    · refine aw_aload_n C rfl rfl dX6_readsEdge_55 ?_
      refine tw_get C 13 (by decide) q1831 rfl dX6_readsEdge_56 ?_
      refine aw_top (hp.2.2.1.2.2.1) ?_
      refine aw_iconst C (v := nI 1) (by decide) dX6_readsEdge_59 ?_
      refine aw_icmpN_ne C (tgt := 94) (by omega) (by omega) dX6_readsEdge_60 (by decide) (fun gk => ?_) (fun gk => ?_)
      · exact aw_lo (key94 _ (by unfold eC eS4; rw [he, if_neg (fun z => by have := z.2.1; omega)]; exact hp) hj) ⟨rfl, rfl, trivial⟩
      · refine aw_aload_n C rfl rfl dX6_readsEdge_63 ?_
        refine tw_get C 14 (by decide) q1832 rfl dX6_readsEdge_64 ?_
        refine aw_top (hp.2.2.1.2.2.2 (by omega)) ?_
        refine aw_aload_n C rfl rfl dX6_readsEdge_67 ?_
        refine tw_get C 0 (by decide) q1818 rfl dX6_readsEdge_68 ?_
        refine aw_iconst C (v := nI 0) (by decide) dX6_readsEdge_71 ?_
        refine tw_ld0 C (by omega) dX6_readsEdge_72 ?_
        refine aw_top ((hp.2.1 _).trans (congrArg nI (congrFun hb _))) ?_
        refine aw_icmpN_ge C (tgt := 94) (by omega) (by omega) dX6_readsEdge_73 (by decide) (fun gn => ?_) (fun gn => ?_)
        · exact aw_lo (key94 _ (by unfold eC eS4; rw [he, if_neg (fun z => by have := z.2.2.1; rw [hb] at this; omega)]; exact hp) hj) ⟨rfl, rfl, trivial⟩
        · refine aw_aload_n C rfl rfl dX6_readsEdge_76 ?_
          refine aw_iload_n C rfl rfl dX6_readsEdge_77 ?_
          refine aw_aload_n C rfl rfl dX6_readsEdge_78 ?_
          refine tw_get C 14 (by decide) q1832 rfl dX6_readsEdge_79 ?_
          refine aw_top (hp.2.2.1.2.2.2 (by omega)) ?_
          refine tw_callR C (t6_areNext hG l o sz _ hbd (by omega) (by omega) h91) q1962 q1964 qs53 q120 q1965 (n9 := 2) (by decide +kernel) rfl (Nat.le_of_ble_eq_true rfl) (Nat.le_of_ble_eq_true rfl) (Nat.zero_le _) (Nat.zero_le _) rfl (Nat.le_of_ble_eq_true rfl) dX6_readsEdge_82 ?_
          refine aw_bit_eq0 C (tgt := 94) dX6_readsEdge_85 (by decide) (fun ga => ?_) (fun ga => ?_)
          · exact aw_lo (key94 _ (by unfold eC eS4; rw [he, if_neg (fun z => by have := z.2.2.2; rw [hb, ga] at this; exact absurd this (by decide))]; exact hp) hj) ⟨rfl, rfl, trivial⟩
          · refine aw_aload_n C rfl rfl dX6_readsEdge_88 ?_
            refine aw_bipush C (v := -4) (by decide) dX6_readsEdge_89 ?_
            refine tw_callV C (t6_fails hG l o sz _ hp (-4)) q1931 q1933 qs46 q120 q1934 (n9 := 1) (by decide +kernel) rfl (Nat.le_of_ble_eq_true rfl) (Nat.le_of_ble_eq_true rfl) (Nat.zero_le _) (Nat.zero_le _) rfl (Nat.le_of_ble_eq_true rfl) dX6_readsEdge_91 (fun u2 hq => ?_)
            obtain ⟨hj2, hp⟩ := hq
            have hj := hj.tr hj2
            exact aw_lo (key94 _ (by unfold eC eS4; rw [he, if_pos ⟨g0, by omega, by rw [hb]; exact gn, by rw [hb]; exact ga⟩]; exact hp) hj) ⟨rfl, rfl, trivial⟩
  have hj := RJ.rf u
  refine aw_aload_n C rfl rfl dX6_readsEdge_0 ?_
  refine aw_iconst C (v := nI 1) (by decide) dX6_readsEdge_1 ?_
  refine tw_callV C (t6_must hG l o sz _ hp true) q1927 q1929 qs45 q120 q1930 (n9 := 1) (by decide +kernel) rfl (Nat.le_of_ble_eq_true rfl) (Nat.le_of_ble_eq_true rfl) (Nat.zero_le _) (Nat.zero_le _) rfl (Nat.le_of_ble_eq_true rfl) dX6_readsEdge_2 (fun u2 hq => ?_)
  obtain ⟨hj2, hp⟩ := hq
  have hj := hj.tr hj2
  have hb : (eA bf n s).2.1 = s.2.1 := eA_b _ _ _
  have hp : PR u2 bf n (eA bf n s) := hp
  refine aw_aload_n C rfl rfl dX6_readsEdge_5 ?_
  refine aw_iconst C (v := nI 0) (by decide) dX6_readsEdge_6 ?_
  refine aw_aload_n C rfl rfl dX6_readsEdge_7 ?_
  refine tw_get C 0 (by decide) q1818 rfl dX6_readsEdge_8 ?_
  refine aw_iconst C (v := nI 0) (by decide) dX6_readsEdge_11 ?_
  refine tw_ld0 C (by omega) dX6_readsEdge_12 ?_
  refine aw_top ((hp.2.1 _).trans (congrArg nI (congrFun hb _))) ?_
  refine aw_iconst C (v := nI 1) (by decide) dX6_readsEdge_13 ?_
  refine aw_isub C dX6_readsEdge_14 ?_
  refine tw_callI C (t6_takes hG l o sz _ hp (nI 0) (nI (s.2.1 0) - nI 1)) q1935 q1937 qs47 q120 q1938 (n9 := 2) (by decide +kernel) rfl (Nat.le_of_ble_eq_true rfl) (Nat.le_of_ble_eq_true rfl) (Nat.zero_le _) (Nat.zero_le _) rfl (Nat.le_of_ble_eq_true rfl) dX6_readsEdge_15 (fun r u2 hq => ?_)
  obtain ⟨rfl, hj2, hp⟩ := hq
  have hj := hj.tr hj2
  refine aw_top (show _ = nI (e1 bf n s) from rfl) ?_
  have hb : (eB bf n s).2.1 = s.2.1 := eB_b _ _ _
  have hp : PR u2 bf n (eB bf n s) := hp
  have hk4 := kd_lt (bf := bf) (n := n) (a := (eB bf n s).1)
  have hnm := nm_lt bf n (eB bf n s).1
  refine aw_istore_n C rfl (by decide) rfl dX6_readsEdge_18 ?_
  refine aw_aload_n C rfl rfl dX6_readsEdge_19 ?_
  refine tw_get C 15 (by decide) q1833 rfl dX6_readsEdge_20 ?_
  refine aw_top (hp.2.2.2.1) ?_
  refine aw_if_ne C (tgt := 48) dX6_readsEdge_23 (by decide) (fun g0 => ?_) (fun g0 => ?_)
  · exact aw_lo (key48 _ (eB bf n s) hp hj (by unfold eS3; rw [if_neg (fun z => g0 z.1)])) ⟨rfl, rfl, trivial⟩
  · refine aw_aload_n C rfl rfl dX6_readsEdge_26 ?_
    refine tw_get C 13 (by decide) q1831 rfl dX6_readsEdge_27 ?_
    refine aw_top (hp.2.2.1.2.2.1) ?_
    refine aw_iconst C (v := nI 1) (by decide) dX6_readsEdge_30 ?_
    refine aw_icmpN_ne C (tgt := 48) (by omega) (by omega) dX6_readsEdge_31 (by decide) (fun gk => ?_) (fun gk => ?_)
    · exact aw_lo (key48 _ (eB bf n s) hp hj (by unfold eS3; rw [if_neg (fun z => by have := z.2.1; omega)])) ⟨rfl, rfl, trivial⟩
    · refine aw_aload_n C rfl rfl dX6_readsEdge_34 ?_
      refine tw_get C 14 (by decide) q1832 rfl dX6_readsEdge_35 ?_
      refine aw_top (hp.2.2.1.2.2.2 (by omega)) ?_
      refine aw_iload_n C rfl rfl dX6_readsEdge_38 ?_
      refine aw_icmpN_ne C (tgt := 48) (by omega) (by omega) dX6_readsEdge_39 (by decide) (fun gn => ?_) (fun gn => ?_)
      · exact aw_lo (key48 _ (eB bf n s) hp hj (by unfold eS3; rw [if_neg (fun z => by have := z.2.2; omega)])) ⟨rfl, rfl, trivial⟩
      · refine aw_aload_n C rfl rfl dX6_readsEdge_42 ?_
        refine aw_bipush C (v := -3) (by decide) dX6_readsEdge_43 ?_
        refine tw_callV C (t6_fails hG l o sz _ hp (-3)) q1931 q1933 qs46 q120 q1934 (n9 := 1) (by decide +kernel) rfl (Nat.le_of_ble_eq_true rfl) (Nat.le_of_ble_eq_true rfl) (Nat.zero_le _) (Nat.zero_le _) rfl (Nat.le_of_ble_eq_true rfl) dX6_readsEdge_45 (fun u2 hq => ?_)
        obtain ⟨hj2, hp⟩ := hq
        have hj := hj.tr hj2
        exact aw_lo (key48 _ _ hp hj (by unfold eS3; rw [if_pos ⟨g0, by omega, by omega⟩])) ⟨rfl, rfl, trivial⟩
set_option maxRecDepth 100000 in
theorem t6_readsPass {γ : Gm} (hG : GF γ) (l : Launch) (o sz : Nat) (u : TU)  {bf : List Nat} {n : Nat} {s : RS} (hp : PR u bf n s) (hA : WA s.2.1) (hm : s.2.1 3 < 4096) (h0 : s.2.2.1 = 0) : MX γ l yX6_readsPass cX6_readsPass 1 none 4 92 0 0 [.ref o] (th o u) sz (RUv o sz (fun u' => RJ u u' ∧ PR u' bf n (pS bf n s))) NX := by
  refine mx_start hG (by decide) (Nat.le_of_ble_eq_true rfl) (fun x C => ?_)
  have key26 : ∀ u1, PR u1 bf n (pS2 (pS1 s)) → RJ u u1 → AW γ l x (QX γ x 0 0 (RUv o sz (fun u' => RJ u u' ∧ PR u' bf n (pS bf n s))) NX) 1 (th o u1) sz 0 0 26 [(0, .ref o)] [] := by
    intro u1 hp hj
    refine aw_aload_n C rfl rfl dX6_readsPass_26 ?_
    refine aw_iconst C (v := nI 1) (by decide) dX6_readsPass_27 ?_
    refine tw_callV C (t6_must hG l o sz _ hp true) q1927 q1929 qs45 q120 q1930 (n9 := 1) (by decide +kernel) rfl (Nat.le_of_ble_eq_true rfl) (Nat.le_of_ble_eq_true rfl) (Nat.zero_le _) (Nat.zero_le _) rfl (Nat.le_of_ble_eq_true rfl) dX6_readsPass_28 (fun u2 hq => ?_)
    obtain ⟨hj2, hp⟩ := hq
    have hj := hj.tr hj2
    refine aw_aload_n C rfl rfl dX6_readsPass_31 ?_
    refine tw_callV C (t6_mustEnd hG l o sz _ hp) q1940 q1942 qs48 q120 q1943 (n9 := 0) (by decide +kernel) rfl (Nat.le_of_ble_eq_true rfl) (Nat.le_of_ble_eq_true rfl) (Nat.zero_le _) (Nat.zero_le _) rfl (Nat.le_of_ble_eq_true rfl) dX6_readsPass_32 (fun u2 hq => ?_)
    obtain ⟨hj2, hp⟩ := hq
    have hj := hj.tr hj2
    exact aw_vret C rfl dX6_readsPass_35 (Nat.le_refl _) (Nat.le_refl _) ⟨rfl, rfl, _, rfl, hj, hp⟩
  have key15 : ∀ u1 s1, PR u1 bf n s1 → RJ u u1 → pS1 s = s1 → (s1.2.2.1 = 0 → s1 = s ∧ 0 < s.2.1 2) → AW γ l x (QX γ x 0 0 (RUv o sz (fun u' => RJ u u' ∧ PR u' bf n (pS bf n s))) NX) 1 (th o u1) sz 0 0 15 [(0, .ref o)] [] := by
    intro u1 s1 hp1 hj he h2
    refine aw_aload_n C rfl rfl dX6_readsPass_15 ?_
    refine tw_get C 15 (by decide) q1833 rfl dX6_readsPass_16 ?_
    refine aw_top (hp1.2.2.2.1) ?_
    refine aw_if_ne C (tgt := 26) dX6_readsPass_19 (by decide) (fun g0 => ?_) (fun g0 => ?_)
    · exact aw_lo (key26 _ (by rw [he]; unfold pS2; rw [if_neg g0]; exact hp1) hj) ⟨rfl, trivial⟩
    · obtain ⟨e1, hl2⟩ := h2 g0
      have hbd : BD u1 s.2.1 := by rw [← e1]; exact hp1.2.1
      refine aw_aload_n C rfl rfl dX6_readsPass_22 ?_
      refine tw_callV C (t6_passes hG l o sz _ hbd hA hl2 hm) q2034 q2036 qs69 q120 q2037 (n9 := 0) (by decide +kernel) rfl (Nat.le_of_ble_eq_true rfl) (Nat.le_of_ble_eq_true rfl) (Nat.zero_le _) (Nat.zero_le _) rfl (Nat.le_of_ble_eq_true rfl) dX6_readsPass_23 (fun u2 hq => ?_)
      obtain ⟨q1, q2, q3, q4⟩ := hq
      obtain ⟨hp9, hj9⟩ := hp1.board q1.1 (fun i hi => by
        by_cases e : i = 18
        · rw [e]; exact q3
        · by_cases e2 : i = 19
          · rw [e2]; exact q4
          · exact q1.2 i hi e e2) q2
      exact aw_lo (key26 _ (by rw [he]; unfold pS2; rw [if_pos g0, e1]; rw [e1] at hp9; exact hp9) (hj.tr hj9)) ⟨rfl, trivial⟩
  have hj := RJ.rf u
  have hl9 := hA.l
  refine aw_aload_n C rfl rfl dX6_readsPass_0 ?_
  refine tw_get C 0 (by decide) q1818 rfl dX6_readsPass_1 ?_
  refine aw_iconst C (v := nI 2) (by decide) dX6_readsPass_4 ?_
  refine tw_ld0 C (by omega) dX6_readsPass_5 ?_
  refine aw_top ((hp.2.1 _)) ?_
  refine aw_ifN_ne C (tgt := 15) (by omega) dX6_readsPass_6 (by decide) (fun gl => ?_) (fun gl => ?_)
  · exact aw_lo (key15 _ s hp hj (by unfold pS1; rw [if_neg (by omega)]) (fun _ => ⟨rfl, by omega⟩)) ⟨rfl, trivial⟩
  · refine aw_aload_n C rfl rfl dX6_readsPass_9 ?_
    refine aw_bipush C (v := -5) (by decide) dX6_readsPass_10 ?_
    refine tw_callV C (t6_fails hG l o sz _ hp (-5)) q1931 q1933 qs46 q120 q1934 (n9 := 1) (by decide +kernel) rfl (Nat.le_of_ble_eq_true rfl) (Nat.le_of_ble_eq_true rfl) (Nat.zero_le _) (Nat.zero_le _) rfl (Nat.le_of_ble_eq_true rfl) dX6_readsPass_12 (fun u2 hq => ?_)
    obtain ⟨hj2, hp⟩ := hq
    have hj := hj.tr hj2
    exact aw_lo (key15 _ _ hp hj (by unfold pS1; rw [if_pos (by omega)]) (fun z => absurd z (fS_c h0))) ⟨rfl, trivial⟩
